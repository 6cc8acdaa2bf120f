set_option maxRecDepth 100000
theorem c_X9_take0 {G : xG} {T : xT} {O R : xO} {Y : xY} {V : xVV} {I : xII} {J : xJJ} {A : xVV} {w0 : xW} {a : aA} {tk x0 g0 fi ps : Nat} {Bd : Nat} {x : Nat} (P : PX Y V I J A w0 T O R) (H : RepX a tk x0 g0 fi ps Y V I J A) (W : WF Bd a) (hx : yAt Y 9 (3 * 0 + 0) x) (hls : a.ls 0 0 = []) (hB : Bd < 2000000) (hbg : a.nm 4 ≠ 0) (htke : tk = a.tk - 1) (htk : tk ≤ 5000) : xCtrL G yX9_take cX9_take 1 (some Jvm.ClassFile.FieldType.boolean) 12 263 (4 * fi + ps + 2) (18 * fi + ps + 7) [.ref x] (T, O, R) (xAL (xRLB w0 Y (a.take 0 0) tk x0 g0)) := by
  refine xCtrL.of (by decide +kernel) (Nat.le_of_ble_eq_true rfl) ?_
  intro Z B E hz hnm
  change xV Z (T, O, R) 0 [(0, .ref x)] [] (4 * fi + ps + 2) (18 * fi + ps + 7)
  have ho : 0 < a.n := by have := W.n2; omega
  have hi : 0 < a.p 0 := by have := W.p0; omega
  obtain ⟨h0, ⟨⟨pa0, pb0, pc0⟩, ⟨pa5, pb5, pc5⟩, ⟨pa6, pb6, pc6⟩, ⟨pa8, pb8, pc8⟩, ⟨pa9, pb9, pc9⟩, ⟨pa10, pb10, pc10⟩, ⟨pa11, pb11, pc11⟩, ⟨pa12, pb12, pc12⟩, ⟨pa13, pb13, pc13⟩, ⟨pa20, pb20, pc20⟩, ⟨pa21, pb21, pc21⟩, ⟨pa22, pb22, pc22⟩⟩, ⟨nq1, nq2, nq3, nq4⟩, nq7, nq14, nq15, nq16, nq17, nq18, nq19⟩ := H.Si
  obtain ⟨xi, ki⟩ := H.In 0 ho 0 hi
  have ei : xi = x := P.fn ki.1 hx
  rw [ei] at ki
  have ⟨i0, ⟨i1, i2⟩, ⟨⟨y1, i3, i4⟩, i5⟩, ⟨⟨y2, i6, i7⟩, i8⟩, ⟨⟨y3, i9, i10⟩, i11⟩, ⟨fm, i12, i13, i14, i15⟩, ⟨bt, i16⟩, i17, ⟨yb, i18, i19⟩, i20, ⟨yv, i21, i22⟩, yz, i23, i24⟩ := ki
  have i25 : V 9 (3 * 0 + 0) 12 = .ref x0 := i23.trans (congrArg Value.ref (P.fn i24 h0))
  refine g_aload_n B 0 dX9_take_0 rfl ?_
  refine x_get B P hx (by decide) rfl F_X9_41_9 (by decide) i1 dX9_take_1 ?_
  refine g_if_neN (tgt := 14) B (by omega) dX9_take_4 (by decide) (fun e => absurd e (by decide)) (fun _ => ?_)
  refine g_aload_n B 0 dX9_take_7 rfl ?_
  obtain ⟨n2, u2, ty2⟩ := P.ty hx (by decide) rfl
  refine g_callVL (kc2 := 0) (ks2 := 0) (rest := []) B M_X9_takeInput q1399 q1401 qs28 ty2 rfl (c_X9_takeInput P H W hx hls htke htk) rfl rfl (Nat.le_of_ble_eq_true rfl) (Nat.le_of_ble_eq_true rfl) (Nat.le_of_ble_eq_true rfl) (by omega) (by omega) dX9_take_8 (xkAL (fun v2 T2 O2 R2 kl2 sl2 le2 p2 => ?_))
  obtain ⟨rfl, Y2, V2, I2, J2, A2, fi2, ps2, P2, le22, H2, kle2, sle2⟩ := p2
  refine g_goto (tgt := 18) B dX9_take_11 (by decide) ?_
  refine g_iretL B E rfl (bI_nar _) dX9_take_18 ?_
  exact ⟨_, rfl, rfl, _, _, _, _, _, fi2, ps2, P2, le22, H2, by omega, by omega⟩
theorem c_X9_take1 {G : xG} {T : xT} {O R : xO} {Y : xY} {V : xVV} {I : xII} {J : xJJ} {A : xVV} {w0 : xW} {a : aA} {tk x0 g0 fi ps : Nat} {Bd : Nat} {o i x : Nat} (P : PX Y V I J A w0 T O R) (H : RepX a tk x0 g0 fi ps Y V I J A) (W : WF Bd a) (ho : o + 1 < a.n) (hi : i < a.p (o + 1)) (hx : yAt Y 9 (3 * (o + 1) + i) x) (hls : a.ls (o + 1) i = []) (hB : Bd < 2000000) (hbg : a.nm 4 ≠ 0) (htke : tk = a.tk - 1) (htk : tk ≤ 5000) (htk2 : tOk a (o + 1) i) : xCtrL G yX9_take cX9_take 1 (some Jvm.ClassFile.FieldType.boolean) 12 263 (4 * fi + ps + 2) (18 * fi + ps + 7) [.ref x] (T, O, R) (xAL (xRLB w0 Y (a.take (o + 1) i) tk x0 g0)) := by
  refine xCtrL.of (by decide +kernel) (Nat.le_of_ble_eq_true rfl) ?_
  intro Z B E hz hnm
  change xV Z (T, O, R) 0 [(0, .ref x)] [] (4 * fi + ps + 2) (18 * fi + ps + 7)
  obtain ⟨h0, ⟨⟨pa0, pb0, pc0⟩, ⟨pa5, pb5, pc5⟩, ⟨pa6, pb6, pc6⟩, ⟨pa8, pb8, pc8⟩, ⟨pa9, pb9, pc9⟩, ⟨pa10, pb10, pc10⟩, ⟨pa11, pb11, pc11⟩, ⟨pa12, pb12, pc12⟩, ⟨pa13, pb13, pc13⟩, ⟨pa20, pb20, pc20⟩, ⟨pa21, pb21, pc21⟩, ⟨pa22, pb22, pc22⟩⟩, ⟨nq1, nq2, nq3, nq4⟩, nq7, nq14, nq15, nq16, nq17, nq18, nq19⟩ := H.Si
  obtain ⟨xi, ki⟩ := H.In (o + 1) ho i hi
  have ei : xi = x := P.fn ki.1 hx
  rw [ei] at ki
  have ⟨i0, ⟨i1, i2⟩, ⟨⟨y1, i3, i4⟩, i5⟩, ⟨⟨y2, i6, i7⟩, i8⟩, ⟨⟨y3, i9, i10⟩, i11⟩, ⟨fm, i12, i13, i14, i15⟩, ⟨bt, i16⟩, i17, ⟨yb, i18, i19⟩, i20, ⟨yv, i21, i22⟩, yz, i23, i24⟩ := ki
  have i25 : V 9 (3 * (o + 1) + i) 12 = .ref x0 := i23.trans (congrArg Value.ref (P.fn i24 h0))
  have hn6 := W.n6
  refine g_aload_n B 0 dX9_take_0 rfl ?_
  refine x_get B P hx (by decide) rfl F_X9_41_9 (by decide) i1 dX9_take_1 ?_
  refine g_if_neN (tgt := 14) B (by omega) dX9_take_4 (by decide) (fun _ => ?_) (fun e => absurd e (by omega))
  refine g_aload_n B 0 dX9_take_14 rfl ?_
  obtain ⟨n1, u1, ty1⟩ := P.ty hx (by decide) rfl
  refine g_callVL (kc2 := 0) (ks2 := 0) (rest := []) B M_X9_takeItem q1558 q1560 qs35 ty1 rfl (c_X9_takeItem P H W ho hi hx hB hbg hls htke htk htk2) rfl rfl (Nat.le_of_ble_eq_true rfl) (Nat.le_of_ble_eq_true rfl) (Nat.le_of_ble_eq_true rfl) (by omega) (by omega) dX9_take_15 (xkAL (fun v1 T1 O1 R1 kl1 sl1 le1 p1 => ?_))
  obtain ⟨rfl, Y1, V1, I1, J1, A1, fi1, ps1, P1, le21, H1, kle1, sle1⟩ := p1
  refine g_iretL B E rfl (bI_nar _) dX9_take_18 ?_
  exact ⟨_, rfl, rfl, _, _, _, _, _, fi1, ps1, P1, le21, H1, by omega, by omega⟩
theorem c_X9_take {G : xG} {T : xT} {O R : xO} {Y : xY} {V : xVV} {I : xII} {J : xJJ} {A : xVV} {w0 : xW} {a : aA} {tk x0 g0 fi ps : Nat} {Bd : Nat} {o i x : Nat} (P : PX Y V I J A w0 T O R) (H : RepX a tk x0 g0 fi ps Y V I J A) (W : WF Bd a) (ho : o < a.n) (hi : i < a.p o) (hx : yAt Y 9 (3 * o + i) x) (hA : AInv a) (hls : a.ls o i = []) (hB : Bd < 2000000) (hbg : a.nm 4 ≠ 0) (htke : tk = a.tk - 1) (htk : tk ≤ 5000) : xCtrL G yX9_take cX9_take 1 (some Jvm.ClassFile.FieldType.boolean) 12 263 (4 * fi + ps + 2) (18 * fi + ps + 7) [.ref x] (T, O, R) (xAL (xRLB w0 Y (a.take o i) tk x0 g0)) := by
  cases o with
  | zero =>
    obtain rfl : i = 0 := by have := W.p0; omega
    exact c_X9_take0 P H W hx hls hB hbg htke htk
  | succ o => exact c_X9_take1 P H W ho hi hx hls hB hbg htke htk (hA.tok W ho hi)
theorem nI_prd2 (k : Nat) : nI (k + 1) + (-1) = nI k := nI_prd (Nat.succ_ne_zero k)
theorem c_X9_work {G : xG} {T : xT} {O R : xO} {Y : xY} {V : xVV} {I : xII} {J : xJJ} {A : xVV} {w0 : xW} {a : aA} {tk x0 g0 fi ps : Nat} {Bd : Nat} {o i x : Nat} (P : PX Y V I J A w0 T O R) (H : RepX a tk x0 g0 fi ps Y V I J A) (W : WF Bd a) (ho : o < a.n) (hi : i < a.p o) (hx : yAt Y 9 (3 * o + i) x) (hA : AInv a) (hB : Bd < 1900000) (hbg : a.nm 4 ≠ 0) (ht0 : 0 < a.tk) (htke : tk = a.tk - 1) (htk : tk ≤ 5000) : xCtrL G yX9_work cX9_work 2 none 13 283 (4 * fi + ps + 2 * a.cf 3) (18 * fi + ps + 7 * a.cf 3) [.ref x] (T, O, R) (xNL (xRL w0 Y (aA.work o i (a.cf 3) a) tk x0 g0)) := by
  refine xCtrL.of (by decide +kernel) (Nat.le_of_ble_eq_true rfl) ?_
  intro Z B E hz hnm
  change xV Z (T, O, R) 0 [(0, .ref x)] [] (4 * fi + ps + 2 * a.cf 3) (18 * fi + ps + 7 * a.cf 3)
  have hn6 := W.n6
  have hcf := W.cf
  obtain ⟨h0, ⟨⟨pa0, pb0, pc0⟩, ⟨pa5, pb5, pc5⟩, ⟨pa6, pb6, pc6⟩, ⟨pa8, pb8, pc8⟩, ⟨pa9, pb9, pc9⟩, ⟨pa10, pb10, pc10⟩, ⟨pa11, pb11, pc11⟩, ⟨pa12, pb12, pc12⟩, ⟨pa13, pb13, pc13⟩, ⟨pa20, pb20, pc20⟩, ⟨pa21, pb21, pc21⟩, ⟨pa22, pb22, pc22⟩⟩, ⟨nq1, nq2, nq3, nq4⟩, nq7, nq14, nq15, nq16, nq17, nq18, nq19⟩ := H.Si
  obtain ⟨xi, ki⟩ := H.In o ho i hi
  have ei : xi = x := P.fn ki.1 hx
  rw [ei] at ki
  have ⟨i0, ⟨i1, i2⟩, ⟨⟨y1, i3, i4⟩, i5⟩, ⟨⟨y2, i6, i7⟩, i8⟩, ⟨⟨y3, i9, i10⟩, i11⟩, ⟨fm, i12, i13, i14, i15⟩, ⟨bt, i16⟩, i17, ⟨yb, i18, i19⟩, i20, ⟨yv, i21, i22⟩, yz, i23, i24⟩ := ki
  have i25 : V 9 (3 * o + i) 12 = .ref x0 := i23.trans (congrArg Value.ref (P.fn i24 h0))
  refine g_aload_n B 0 dX9_work_0 rfl ?_
  refine x_get B P hx (by decide) rfl F_X9_3_9 (by decide) i25 dX9_work_1 ?_
  refine x_get B P h0 (by decide) rfl F_X9_254_0 (by decide) nq4 dX9_work_4 ?_
  refine g_istore_n (lv2 := [(1, _), (0, _)]) B dX9_work_7 (by decide) rfl ?_
  have L : ∀ (d : Nat) (k Bd1 : Nat) (b : aA) (fi1 ps1 : Nat) (Y1 : xY) (V1 : xVV) (I1 : xII) (J1 : xJJ) (A1 : xVV) (T1 : xT) (O1 R1 : xO), d = k → PX Y1 V1 I1 J1 A1 w0 T1 O1 R1 → (k ≤ 5) → (Bd1 + 3 * k < 2000000) → (RepX b tk x0 g0 fi1 ps1 Y1 V1 I1 J1 A1) → (WF Bd1 b) → (sSt b a) → (AInv b) → (aA.work o i k b = aA.work o i (a.cf 3) a) → (yLe Y Y1) → xV Z (T1, O1, R1) 8 [(1, .int (nI k)), (0, .ref x)] [] (4 * fi1 + ps1 + 2 * k) (18 * fi1 + ps1 + 7 * k) := by
    intro d
    induction d using Nat.strongRecOn with
    | _ d ih =>
      intro k Bd1 b fi1 ps1 Y1 V1 I1 J1 A1 T1 O1 R1 hd P1 hk5 hB1 H1 W1 s1_ A1_ hF le1
      have bn : b.n = a.n := s1_.n
      have bpp : b.p = a.p := funext s1_.p
      have bcf : b.cf = a.cf := s1_.2.1
      have ho1 : o < b.n := by rw [bn]; exact ho
      have hi1 : i < b.p o := by rw [bpp]; exact hi
      have hbg1 : b.nm 4 ≠ 0 := by rw [s1_.2.2.2.2.2.1]; exact hbg
      have hx1 := le1.at hx
      have htk1 : 0 < b.tk := by rw [s1_.tk]; exact ht0
      obtain ⟨f1_, f2_, f3_⟩ := W1.flush hbg1 ho1 hi1
      have fA := A1_.flush W1 hbg1 ho1 hi1
      refine g_aload_n B 1 dX9_work_8 rfl ?_
      obtain ⟨n101, u101, ty101⟩ := P1.ty hx1 (by decide) rfl
      refine g_callVL (kc2 := 2 * k) (ks2 := 7 * k) (rest := []) B M_X9_flush q1317 q1319 qs18 ty101 rfl (c_X9_flush P1 H1 W1 (by omega) hbg1 ho1 hi1 hx1) rfl rfl (Nat.le_of_ble_eq_true rfl) (Nat.le_of_ble_eq_true rfl) (Nat.le_of_ble_eq_true rfl) (by omega) (by omega) dX9_work_9 (xkAL (fun v101 T101 O101 R101 kl101 sl101 le101 p101 => ?_))
      obtain ⟨rfl, Y101, V101, I101, J101, A101, fi101, ps101, P101, le2101, H101, kle101, sle101⟩ := p101
      obtain ⟨g, hg⟩ : ∃ g, g = b.flush o i := ⟨_, rfl⟩
      rw [← hg] at H101 f1_ f2_ f3_ fA ⊢
      refine xV.room (kc' := 4 * fi101 + ps101 + 2 * k) (ks' := 18 * fi101 + ps101 + 7 * k) (by omega) (by omega) ?_
      have hx2 := le2101.at hx1
      have ho2 : o < g.2.n := by rw [show g.2.n = b.n from f2_.n]; exact ho1
      have hi2 : i < g.2.p o := by rw [show g.2.p o = b.p o from f2_.p o]; exact hi1
      refine g_if_neB (tgt := 29) B dX9_work_12 (by decide) (fun c102 => ?_) (fun c102 => ?_)
      · refine g_iload_n B 0 dX9_work_29 rfl ?_
        refine g_if_neN (tgt := 34) B (by omega) dX9_work_30 (by decide) (fun c103 => ?_) (fun c103 => ?_)
        · refine g_aload_n B 1 dX9_work_34 rfl ?_
          obtain ⟨n104, u104, ty104⟩ := P101.ty hx2 (by decide) rfl
          have hgt : g.1 = true := c102
          obtain ⟨t1_, t2_⟩ := f1_.take (by rw [f2_.2.2.2.2.2.1]; exact hbg1) (by rw [f2_.tk]; exact htk1) ho2 hi2 (f3_ hgt)
          have tA := fA.take f1_ (by rw [f2_.2.2.2.2.2.1]; exact hbg1) ho2 hi2
          obtain ⟨k2, hk2⟩ : ∃ k2, k = k2 + 1 := ⟨k - 1, by omega⟩
          refine g_callVL (kc2 := 2 * k2) (ks2 := 7 * k2) (rest := []) B M_X9_take q1395 q1397 qs27 ty104 rfl (c_X9_take P101 H101 f1_ ho2 hi2 hx2 fA (f3_ hgt) (by omega) (by rw [f2_.2.2.2.2.2.1]; exact hbg1) (by rw [f2_.tk, s1_.tk]; exact htke) htk) rfl rfl (Nat.le_of_ble_eq_true rfl) (Nat.le_of_ble_eq_true rfl) (Nat.le_of_ble_eq_true rfl) (by omega) (by omega) dX9_work_35 (xkAL (fun v104 T104 O104 R104 kl104 sl104 le104 p104 => ?_))
          obtain ⟨rfl, Y104, V104, I104, J104, A104, fi104, ps104, P104, le2104, H104, kle104, sle104⟩ := p104
          obtain ⟨t, ht⟩ : ∃ t, t = g.2.take o i := ⟨_, rfl⟩
          rw [← ht] at H104 t1_ t2_ tA ⊢
          refine xV.room (kc' := 4 * fi104 + ps104 + 2 * k2) (ks' := 18 * fi104 + ps104 + 7 * k2) (by omega) (by omega) ?_
          have hx3 := le2104.at hx2
          have ho3 : o < t.2.n := by rw [show t.2.n = g.2.n from t2_.n]; exact ho2
          have hi3 : i < t.2.p o := by rw [show t.2.p o = g.2.p o from t2_.p o]; exact hi2
          refine g_if_neB (tgt := 55) B dX9_work_38 (by decide) (fun c105 => ?_) (fun c105 => ?_)
          · refine g_iinc (v := nI k2) (lv2 := [(1, _), (0, _)]) B 0 dX9_work_55 rfl (by rw [hk2]; exact nI_prd2 k2) (by decide) rfl ?_
            refine g_goto (tgt := 8) B dX9_work_58 (by decide) ?_
            have hF2 : aA.work o i k2 t.2 = aA.work o i (a.cf 3) a := by
              rw [← hF, hk2, aA.work_eq o i (k2 + 1) b, ← hg, if_neg (by rw [hgt]; decide)]
              dsimp only
              rw [← ht, if_neg (by rw [c105]; decide)]
            exact ih (k2) ((by omega)) k2 (Bd1 + 3) t.2 fi104 ps104 _ _ _ _ _ _ _ _ rfl P104 (by omega) (by omega) H104 t1_ (t2_.tr (f2_.tr s1_)) tA hF2 ((le1.tr le2101).tr le2104)
          · refine g_aload_n B 1 dX9_work_41 rfl ?_
            obtain ⟨n106, u106, ty106⟩ := P104.ty hx3 (by decide) rfl
            obtain ⟨xsu, kou⟩ := H104.Op o ho3
            refine g_callV (kc2 := (4 * fi104 + ps104 + 2 * k2)) (ks2 := (18 * fi104 + ps104 + 7 * k2)) (rest := []) B M_X9_self q1391 q1393 qs26 ty106 rfl (c_X9_self P104 H104 ho3 hi3 hx3 kou.1) rfl rfl (Nat.le_of_ble_eq_true rfl) (Nat.le_of_ble_eq_true rfl) (Nat.le_of_ble_eq_true rfl) (Nat.le_refl _) (Nat.le_refl _) dX9_work_42 (xkA (fun v106 T106 O106 R106 le106 p106 => ?_))
            obtain ⟨rfl, eT106, eO106, eR106⟩ := p106
            obtain rfl := eT106.symm
            obtain rfl := eO106.symm
            obtain rfl := eR106.symm
            refine g_dup B dX9_work_45 rfl ?_
            refine x_get B P104 kou.1 (by decide) rfl (FO_X9_266 _) (by decide) kou.2.2.2.2.2.2.2.2.2.2 dX9_work_46 ?_
            refine g_iconst (v := nI 1) B dX9_work_49 (by decide) ?_
            refine g_iadd B dX9_work_50 ?_
            obtain ⟨q107, hq107, hf107, ht107⟩ := opQ (yK Y104 4 o) 8 (by decide)
            refine x_put B P104 kou.1 (by decide) rfl (FO_X9_266 _) hq107 hf107 ht107 rfl rfl dX9_work_51 (fun O107 V107 hs107 hk107 P107 => ?_)
            refine g_vretL B E rfl dX9_work_54 ?_
            have hw : aA.work o i (a.cf 3) a = t.2.inc 3 o := by
              rw [← hF, hk2, aA.work_eq, ← hg, if_neg (by rw [hgt]; decide)]
              dsimp only
              rw [← ht, if_pos c105]
            have Hn := H104.incr (k := 3) (xo := xsu) (by decide) kou hs107 hk107
            exact ⟨rfl, _, _, _, _, _, fi104, ps104, P107, (le1.tr le2101).tr le2104, by rw [hw]; exact Hn, by omega, by omega⟩
        · refine g_vretL B E rfl dX9_work_33 ?_
          obtain rfl : k = 0 := by omega
          have hw : aA.work o i (a.cf 3) a = g.2 := by rw [← hF, aA.work_eq, ← hg, if_neg (by rw [c102]; decide)]
          exact ⟨rfl, _, _, _, _, _, fi101, ps101, P101, le1.tr le2101, by rw [hw]; exact H101, by omega, by omega⟩
      · refine g_aload_n B 1 dX9_work_15 rfl ?_
        obtain ⟨n108, u108, ty108⟩ := P101.ty hx2 (by decide) rfl
        obtain ⟨xsv, kov⟩ := H101.Op o ho2
        refine g_callV (kc2 := (4 * fi101 + ps101 + 2 * k)) (ks2 := (18 * fi101 + ps101 + 7 * k)) (rest := []) B M_X9_self q1391 q1393 qs26 ty108 rfl (c_X9_self P101 H101 ho2 hi2 hx2 kov.1) rfl rfl (Nat.le_of_ble_eq_true rfl) (Nat.le_of_ble_eq_true rfl) (Nat.le_of_ble_eq_true rfl) (Nat.le_refl _) (Nat.le_refl _) dX9_work_16 (xkA (fun v108 T108 O108 R108 le108 p108 => ?_))
        obtain ⟨rfl, eT108, eO108, eR108⟩ := p108
        obtain rfl := eT108.symm
        obtain rfl := eO108.symm
        obtain rfl := eR108.symm
        refine g_dup B dX9_work_19 rfl ?_
        refine x_get B P101 kov.1 (by decide) rfl (FO_X9_260 _) (by decide) kov.2.2.2.2.2.2.2.2.2.1 dX9_work_20 ?_
        refine g_iconst (v := nI 1) B dX9_work_23 (by decide) ?_
        refine g_iadd B dX9_work_24 ?_
        obtain ⟨q109, hq109, hf109, ht109⟩ := opQ (yK Y101 4 o) 7 (by decide)
        refine x_put B P101 kov.1 (by decide) rfl (FO_X9_260 _) hq109 hf109 ht109 rfl rfl dX9_work_25 (fun O109 V109 hs109 hk109 P109 => ?_)
        refine g_vretL B E rfl dX9_work_28 ?_
        have hw : aA.work o i (a.cf 3) a = g.2.inc 2 o := by rw [← hF, aA.work_eq, ← hg, if_pos c102]
        have Hn := H101.incr (k := 2) (xo := xsv) (by decide) kov hs109 hk109
        exact ⟨rfl, _, _, _, _, _, fi101, ps101, P109, le1.tr le2101, by rw [hw]; exact Hn, by omega, by omega⟩
  exact L _ (a.cf 3) Bd a fi ps _ _ _ _ _ _ _ _ rfl P (by omega) (by omega) H W sSt.rf hA rfl yLe.rf
