set_option maxRecDepth 100000
/-- an answer that is true or false, and the state behind it -/
def xRLB (w0 : xW) (Y : xY) (F : Bool × aA) (tk x0 g0 : Nat) : Value → xT → xO → xO → Nat → Nat → Prop := fun v T2 O2 R2 kl sl => v = .int (bI F.1) ∧ xRL w0 Y F.2 tk x0 g0 T2 O2 R2 kl sl
theorem barI_n {q : Option Nat} (h : barI q = -1000000001) (hq : ∀ j, q = some j → j < 2 ^ 31) : q = none := by
  cases q with
  | none => rfl
  | some j => exact absurd (congrArg Int32.toInt (show nI j = -1000000001 from h)) (by rw [nI_toInt (hq j rfl)]; show ¬ (j : Int) = -1000000001; omega)
theorem bar_lt {a : aA} {o i j : Nat} (h : a.bar o i = some j) : j < a.p (o + 1) := by
  unfold aA.bar at h
  exact List.mem_range.mp (List.mem_of_find?_eq_some h)
theorem c_X9_flush {G : xG} {T : xT} {O R : xO} {Y : xY} {V : xVV} {I : xII} {J : xJJ} {A : xVV} {w0 : xW} {a : aA} {tk x0 g0 fi ps : Nat} {Bd : Nat} {o i x : Nat} (P : PX Y V I J A w0 T O R) (H : RepX a tk x0 g0 fi ps Y V I J A) (W : WF Bd a) (hB : Bd < 2000000) (hbg : a.nm 4 ≠ 0) (ho : o < a.n) (hi : i < a.p o) (hx : yAt Y 9 (3 * o + i) x) : xCtrL G yX9_flush cX9_flush 1 (some Jvm.ClassFile.FieldType.boolean) 6 128 (4 * fi + ps) (18 * fi + ps) [.ref x] (T, O, R) (xAL (xRLB w0 Y (a.flush o i) tk x0 g0)) := by
  refine xCtrL.of (by decide +kernel) (Nat.le_of_ble_eq_true rfl) ?_
  intro Z B E hz hnm
  change xV Z (T, O, R) 0 [(0, .ref x)] [] (4 * fi + ps) (18 * fi + ps)
  have L : ∀ (d : Nat) (b : aA) (fi1 ps1 : Nat) (Y1 : xY) (V1 : xVV) (I1 : xII) (J1 : xJJ) (A1 : xVV) (T1 : xT) (O1 R1 : xO), d = (b.ls o i).length → PX Y1 V1 I1 J1 A1 w0 T1 O1 R1 → (RepX b tk x0 g0 fi1 ps1 Y1 V1 I1 J1 A1) → (WF Bd b) → (sSt b a) → (aA.sendL o i (b.ls o i) b = aA.sendL o i (a.ls o i) a) → (yLe Y Y1) → xV Z (T1, O1, R1) 0 [(0, .ref x)] [] (4 * fi1 + ps1) (18 * fi1 + ps1) := by
    intro d
    induction d using Nat.strongRecOn with
    | _ d ih =>
      intro b fi1 ps1 Y1 V1 I1 J1 A1 T1 O1 R1 hd P1 H1 W1 s1_ hF le1
      have hx1 := le1.at hx
      have bn : b.n = a.n := s1_.n
      have bpp : b.p = a.p := funext s1_.p
      have bcf : b.cf = a.cf := s1_.2.1
      have ho1 : o < b.n := by rw [bn]; exact ho
      have hi1 : i < b.p o := by rw [bpp]; exact hi
      obtain ⟨h0, ⟨⟨pa0, pb0, pc0⟩, ⟨pa5, pb5, pc5⟩, ⟨pa6, pb6, pc6⟩, ⟨pa8, pb8, pc8⟩, ⟨pa9, pb9, pc9⟩, ⟨pa10, pb10, pc10⟩, ⟨pa11, pb11, pc11⟩, ⟨pa12, pb12, pc12⟩, ⟨pa13, pb13, pc13⟩, ⟨pa20, pb20, pc20⟩, ⟨pa21, pb21, pc21⟩, ⟨pa22, pb22, pc22⟩⟩, ⟨nq1, nq2, nq3, nq4⟩, nq7, nq14, nq15, nq16, nq17, nq18, nq19⟩ := H1.Si
      obtain ⟨xi, ki⟩ := H1.In o ho1 i hi1
      have ei : xi = x := P1.fn ki.1 hx1
      rw [ei] at ki
      have ⟨i0, ⟨i1, i2⟩, ⟨⟨y1, i3, i4⟩, i5⟩, ⟨⟨y2, i6, i7⟩, i8⟩, ⟨⟨y3, i9, i10⟩, i11⟩, ⟨fm, i12, i13, i14, i15⟩, ⟨bt, i16⟩, i17, ⟨yb, i18, i19⟩, i20, ⟨yv, i21, i22⟩, yz, i23, i24⟩ := ki
      have i25 : V1 9 (3 * o + i) 12 = .ref x0 := i23.trans (congrArg Value.ref (P1.fn i24 h0))
      have hll := (W1.ls o i).1
      refine g_aload_n B 0 dX9_flush_0 rfl ?_
      refine x_get B P1 hx1 (by decide) rfl F_X9_67_9 (by decide) i12 dX9_flush_1 ?_
      refine g_aload_n B 0 dX9_flush_4 rfl ?_
      refine x_get B P1 hx1 (by decide) rfl F_X9_64_9 (by decide) i13 dX9_flush_5 ?_
      refine g_icmp_geN (tgt := 27) B (by omega) (by omega) dX9_flush_8 (by decide) (fun c101 => ?_) (fun c101 => ?_)
      · refine g_aload_n B 0 dX9_flush_27 rfl ?_
        refine x_get B P1 hx1 (by decide) rfl F_X9_128_9 (by decide) i17 dX9_flush_28 ?_
        refine g_if_neB (tgt := 36) B dX9_flush_31 (by decide) (fun c102 => ?_) (fun c102 => ?_)
        · have hhd := c102
          have hon1 : o + 1 < b.n := by
            rcases Nat.lt_or_ge (o + 1) b.n with q | q
            · exact q
            · have q2 := W1.hdu o i (by omega); rw [q2] at hhd; cases hhd
          have hp1 := W1.p1 (o + 1) hon1
          refine g_aload_n B 0 dX9_flush_36 rfl ?_
          obtain ⟨n103, u103, ty103⟩ := P1.ty hx1 (by decide) rfl
          refine g_callV (kc2 := (4 * fi1 + ps1)) (ks2 := (18 * fi1 + ps1)) (rest := []) B M_X9_barred q1374 q1376 qs24 ty103 rfl (c_X9_barred P1 H1 W1 ho1 hi1 hx1 hon1) rfl rfl (Nat.le_of_ble_eq_true rfl) (Nat.le_of_ble_eq_true rfl) (Nat.le_of_ble_eq_true rfl) (Nat.le_refl _) (Nat.le_refl _) dX9_flush_37 (xkA (fun v103 T103 O103 R103 le103 p103 => ?_))
          obtain ⟨rfl, eT103, eO103, eR103⟩ := p103
          obtain rfl := eT103.symm
          obtain rfl := eO103.symm
          obtain rfl := eR103.symm
          refine g_ldc (v := (-1000000001)) B q1382 dX9_flush_40 ?_
          refine g_icmp_eq (tgt := 47) B dX9_flush_42 (by decide) (fun c104 => ?_) (fun c104 => ?_)
          · refine g_aload_n B 0 dX9_flush_47 rfl ?_
            obtain ⟨n105, u105, ty105⟩ := P1.ty hx1 (by decide) rfl
            have hbar : b.bar o i = none := barI_n c104 (fun j hj => by have := bar_lt hj; omega)
            refine g_callVL (kc2 := 0) (ks2 := 0) (rest := []) B M_X9_sendBarrier q1383 q1385 qs25 ty105 rfl (c_X9_sendBarrier P1 H1 W1 (by rw [s1_.2.2.2.2.2.1]; exact hbg) ho1 hi1 hx1 hon1 hbar) rfl rfl (Nat.le_of_ble_eq_true rfl) (Nat.le_of_ble_eq_true rfl) (Nat.le_of_ble_eq_true rfl) (Nat.le_of_eq (Nat.zero_add _)) (Nat.le_of_eq (Nat.zero_add _)) dX9_flush_48 (xkNL (fun T105 O105 R105 kl105 sl105 le105 p105 => ?_))
            obtain ⟨Y105, V105, I105, J105, A105, fi105, ps105, P105, le2105, H105, kle105, sle105⟩ := p105
            refine xV.room (kc' := 4 * fi105 + ps105) (ks' := 18 * fi105 + ps105) (by omega) (by omega) ?_
            refine g_iconst (v := nI 1) B dX9_flush_51 (by decide) ?_
            refine g_iretL B E rfl rfl dX9_flush_52 ?_
            have he : b.ls o i = [] := by
              cases hq : b.ls o i with
              | nil => rfl
              | cons r rest => rw [hq] at c101; simp at c101; omega
            have hs : aA.sendL o i (a.ls o i) a = (true, b) := by rw [← hF, he]; rfl
            exact ⟨_, rfl, by rw [flush_go hs hhd hbar]; rfl, _, _, _, _, _, fi105, ps105, P105, le1.tr le2105, by rw [flush_go hs hhd hbar]; exact H105, Nat.le_refl _, Nat.le_refl _⟩
          · refine g_iconst (v := nI 0) B dX9_flush_45 (by decide) ?_
            refine g_iretL B E rfl rfl dX9_flush_46 ?_
            have he : b.ls o i = [] := by
              cases hq : b.ls o i with
              | nil => rfl
              | cons r rest => rw [hq] at c101; simp at c101; omega
            have hs : aA.sendL o i (a.ls o i) a = (true, b) := by rw [← hF, he]; rfl
            obtain ⟨jb, hjb⟩ : ∃ jb, b.bar o i = some jb := by
              cases hq : b.bar o i with
              | none => exact absurd (by rw [hq]; rfl) c104
              | some jb => exact ⟨jb, rfl⟩
            exact ⟨_, rfl, by rw [flush_bar hs hhd hjb]; rfl, _, _, _, _, _, fi1, ps1, P1, le1, by rw [flush_bar hs hhd hjb]; exact H1, Nat.le_refl _, Nat.le_refl _⟩
        · refine g_iconst (v := nI 1) B dX9_flush_34 (by decide) ?_
          refine g_iretL B E rfl rfl dX9_flush_35 ?_
          have he : b.ls o i = [] := by
            cases hq : b.ls o i with
            | nil => rfl
            | cons r rest => rw [hq] at c101; simp at c101; omega
          have hs : aA.sendL o i (a.ls o i) a = (true, b) := by rw [← hF, he]; rfl
          exact ⟨_, rfl, by rw [flush_hd hs c102]; rfl, _, _, _, _, _, fi1, ps1, P1, le1, by rw [flush_hd hs c102]; exact H1, Nat.le_refl _, Nat.le_refl _⟩
      · obtain ⟨r, rest, hl⟩ : ∃ r rest, b.ls o i = r :: rest := by
          cases hq : b.ls o i with
          | nil => rw [hq] at c101; simp at c101
          | cons r rest => exact ⟨r, rest, rfl⟩
        have hon1 : o + 1 < b.n := by
          rcases Nat.lt_or_ge (o + 1) b.n with q | q
          · exact q
          · rw [W1.lsu o i (by omega)] at hl; cases hl
        refine g_aload_n B 0 dX9_flush_11 rfl ?_
        obtain ⟨n106, u106, ty106⟩ := P1.ty hx1 (by decide) rfl
        refine g_callV (kc2 := (4 * fi1 + ps1)) (ks2 := (18 * fi1 + ps1)) (rest := []) B M_X9_canSend q1321 q1323 qs19 ty106 rfl (c_X9_canSend P1 H1 W1 hB ho1 hi1 hx1 hon1 hl) rfl rfl (Nat.le_of_ble_eq_true rfl) (Nat.le_of_ble_eq_true rfl) (Nat.le_of_ble_eq_true rfl) (Nat.le_refl _) (Nat.le_refl _) dX9_flush_12 (xkA (fun v106 T106 O106 R106 le106 p106 => ?_))
        obtain ⟨rfl, eT106, eO106, eR106⟩ := p106
        obtain rfl := eT106.symm
        obtain rfl := eO106.symm
        obtain rfl := eR106.symm
        refine g_if_neB (tgt := 20) B dX9_flush_15 (by decide) (fun c107 => ?_) (fun c107 => ?_)
        · refine g_aload_n B 0 dX9_flush_20 rfl ?_
          obtain ⟨n108, u108, ty108⟩ := P1.ty hx1 (by decide) rfl
          refine g_callVL (kc2 := 0) (ks2 := 0) (rest := []) B M_X9_send q1362 q1364 qs23 ty108 rfl (c_X9_send P1 H1 W1 hB ho1 hi1 hx1 hon1 hl c107) rfl rfl (Nat.le_of_ble_eq_true rfl) (Nat.le_of_ble_eq_true rfl) (Nat.le_of_ble_eq_true rfl) (Nat.le_of_eq (Nat.zero_add _)) (Nat.le_of_eq (Nat.zero_add _)) dX9_flush_21 (xkNL (fun T108 O108 R108 kl108 sl108 le108 p108 => ?_))
          obtain ⟨Y108, V108, I108, J108, A108, fi108, ps108, P108, le2108, H108, kle108, sle108⟩ := p108
          refine xV.room (kc' := 4 * fi108 + ps108) (ks' := 18 * fi108 + ps108) (by omega) (by omega) ?_
          refine g_goto (tgt := 0) B dX9_flush_24 (by decide) ?_
          have hfit := c107
          have W2 := W1.send (by rw [s1_.2.2.2.2.2.1]; exact hbg) hon1 hi1 hl hfit
          have hls2 : (b.send o i r rest).ls o i = rest := up2_s
          exact ih (((b.send o i r rest).ls o i).length) ((by rw [hd, hls2, hl]; simp)) (b.send o i r rest) fi108 ps108 _ _ _ _ _ _ _ _ rfl P108 H108 W2 (sSt.tr sSt.rf s1_) (by rw [hls2, ← hF, hl, aA.sendL_cons, if_pos hfit]) (le1.tr le2108)
        · refine g_iconst (v := nI 0) B dX9_flush_18 (by decide) ?_
          refine g_iretL B E rfl rfl dX9_flush_19 ?_
          have hs : aA.sendL o i (a.ls o i) a = (false, b) := by rw [← hF, hl, aA.sendL_cons, if_neg (by rw [c107]; decide)]
          exact ⟨_, rfl, by rw [flush_no hs]; rfl, _, _, _, _, _, fi1, ps1, P1, le1, by rw [flush_no hs]; exact H1, Nat.le_refl _, Nat.le_refl _⟩
  exact L _ a fi ps _ _ _ _ _ _ _ _ rfl P H W sSt.rf rfl yLe.rf
