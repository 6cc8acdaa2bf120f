set_option maxRecDepth 100000
theorem aBits_test {s : Nat → Bool} {f : Nat} (hf : f < 3) : (aBits s).testBit f = s f := by
  rcases (show f = 0 ∨ f = 1 ∨ f = 2 by omega) with rfl | rfl | rfl
  · unfold aBits
    generalize s 0 = x; generalize s 1 = y; generalize s 2 = z
    revert x y z; decide
  · unfold aBits
    generalize s 0 = x; generalize s 1 = y; generalize s 2 = z
    revert x y z; decide
  · unfold aBits
    generalize s 0 = x; generalize s 1 = y; generalize s 2 = z
    revert x y z; decide
theorem c_get_sp {G : xG} {T : xT} {O R : xO} {Y : xY} {V : xVV} {I : xII} {J : xJJ} {A : xVV} {w0 : xW} {c x f : Nat} {s : Nat → Bool} (P : PX Y V I J A w0 T O R) (S : xBs Y V J 135 4002 c x (aBits s)) (hf : f < 3) : xCtr G yJ5_get cJ5_get 3 (some Jvm.ClassFile.FieldType.boolean) 1 20 0 0 [.ref x, .int (nI f)] (T, O, R) (xA (fun v T2 O2 R2 => v = .int (bI (s f)) ∧ T2 = T ∧ O2 = O ∧ R2 = R)) := by
  rw [← aBits_test (s := s) hf]
  exact c_J5_get P (by decide) (by decide) (by decide) S (by omega)
theorem c_X9_inputs1 {G : xG} {T : xT} {O R : xO} {Y : xY} {V : xVV} {I : xII} {J : xJJ} {A : xVV} {w0 : xW} {a : aA} {tk x0 g0 fi ps o i x : Nat} (P : PX Y V I J A w0 T O R) (H : RepX a tk x0 g0 fi ps Y V I J A) (ho : o + 1 < a.n) (hi : i < a.p (o + 1)) (hx : yAt Y 9 (3 * (o + 1) + i) x) : xCtr G yX9_inputs cX9_inputs 1 (some Jvm.ClassFile.FieldType.int) 3 64 0 0 [.ref x] (T, O, R) (xA (fun v T2 O2 R2 => v = .int (nI (a.p o)) ∧ T2 = T ∧ O2 = O ∧ R2 = R)) := c_X9_inputs P H ho hi hx (by omega)
theorem c_X9_input {G : xG} {T : xT} {O R : xO} {Y : xY} {V : xVV} {I : xII} {J : xJJ} {A : xVV} {w0 : xW} {a : aA} {tk x0 g0 fi ps : Nat} {Bd : Nat} {o i x : Nat} (P : PX Y V I J A w0 T O R) (H : RepX a tk x0 g0 fi ps Y V I J A) (W : WF Bd a) (ho : o + 1 < a.n) (hi : i < a.p (o + 1)) (hx : yAt Y 9 (3 * (o + 1) + i) x) : xCtr G yX9_input cX9_input 3 (some Jvm.ClassFile.FieldType.int) 4 84 0 0 [.ref x] (T, O, R) (xA (fun v T2 O2 R2 => v = .int (barI (a.ready (o + 1) i)) ∧ T2 = T ∧ O2 = O ∧ R2 = R)) := by
  refine xCtr.of (by decide +kernel) (Nat.le_of_ble_eq_true rfl) ?_
  intro Z B E hz hnm
  change xV Z (T, O, R) 0 [(0, .ref x)] [] 0 0
  obtain ⟨h0, ⟨⟨pa0, pb0, pc0⟩, ⟨pa5, pb5, pc5⟩, ⟨pa6, pb6, pc6⟩, ⟨pa8, pb8, pc8⟩, ⟨pa9, pb9, pc9⟩, ⟨pa10, pb10, pc10⟩, ⟨pa11, pb11, pc11⟩, ⟨pa12, pb12, pc12⟩, ⟨pa13, pb13, pc13⟩, ⟨pa20, pb20, pc20⟩, ⟨pa21, pb21, pc21⟩, ⟨pa22, pb22, pc22⟩⟩, ⟨nq1, nq2, nq3, nq4⟩, nq7, nq14, nq15, nq16, nq17, nq18, nq19⟩ := H.Si
  obtain ⟨xi, ki⟩ := H.In (o + 1) ho i hi
  have ei : xi = x := P.fn ki.1 hx
  rw [ei] at ki
  have ⟨i0, ⟨i1, i2⟩, ⟨⟨y1, i3, i4⟩, i5⟩, ⟨⟨y2, i6, i7⟩, i8⟩, ⟨⟨y3, i9, i10⟩, i11⟩, ⟨fm, i12, i13, i14, i15⟩, ⟨bt, i16⟩, i17, ⟨yb, i18, i19⟩, i20, ⟨yv, i21, i22⟩, yz, i23, i24⟩ := ki
  have i25 : V 9 (3 * (o + 1) + i) 12 = .ref x0 := i23.trans (congrArg Value.ref (P.fn i24 h0))
  obtain ⟨bo, bq, sp, lc, xl, HC, dsp, dsb, hls, hfi⟩ := H.Ch
  have hpl : pa0 = xl := P.fn pc0 dsp.1
  have hsm : xSm Y V x0 xl (a.cf 0) (a.cf 1) (a.cf 2) := ⟨h0, pb0.trans (congrArg Value.ref hpl), nq1, nq2, nq3⟩
  have hp1 := W.p1 o (by omega)
  have hpt := W.pt (o + 1) i
  have hp1i := W.p1 (o + 1) ho
  refine g_iconst (v := nI 0) B dX9_input_0 (by decide) ?_
  refine g_istore_n (lv2 := [(1, _), (0, _)]) B dX9_input_1 (by decide) rfl ?_
  have L : ∀ (d : Nat) (k : Nat), d = a.p o - k → (k ≤ a.p o) → (∀ j, j < k → a.rd (o + 1) i ((a.pt (o + 1) i + j) % a.p o) = false) → xV Z (T, O, R) 2 [(1, .int (nI k)), (0, .ref x)] [] 0 0 := by
    intro d
    induction d using Nat.strongRecOn with
    | _ d ih =>
      intro k hd hkp hN
      refine g_iload_n B 0 dX9_input_2 rfl ?_
      refine g_aload_n B 1 dX9_input_3 rfl ?_
      obtain ⟨n101, u101, ty101⟩ := P.ty hx (by decide) rfl
      refine g_callV (rest := [_]) B M_X9_inputs q1566 q1568 qs37 ty101 rfl (c_X9_inputs1 P H ho hi hx) rfl rfl (Nat.le_of_ble_eq_true rfl) (Nat.le_of_ble_eq_true rfl) (Nat.le_of_ble_eq_true rfl) (Nat.le_refl _) (Nat.le_refl _) dX9_input_4 (xkA (fun v101 T101 O101 R101 le101 p101 => ?_))
      obtain ⟨rfl, eT101, eO101, eR101⟩ := p101
      obtain rfl := eT101.symm
      obtain rfl := eO101.symm
      obtain rfl := eR101.symm
      refine g_icmp_geN (tgt := 65) B (by omega) (by omega) dX9_input_7 (by decide) (fun c102 => ?_) (fun c102 => ?_)
      · refine g_ldc (v := (-1000000001)) B q1382 dX9_input_65 ?_
        refine g_iret B E rfl rfl dX9_input_67 ?_
        exact ⟨_, rfl, by rw [aA.ready_no (o := o + 1) (fun j hj => hN j (Nat.lt_of_lt_of_le hj (show a.p o ≤ k by omega)))]; rfl, rfl, rfl, rfl⟩
      · refine g_aload_n B 1 dX9_input_10 rfl ?_
        refine x_get B P hx (by decide) rfl F_X9_135_9 (by decide) i20 dX9_input_11 ?_
        refine g_iload_n B 0 dX9_input_14 rfl ?_
        refine g_iaddN B dX9_input_15 ?_
        refine g_aload_n B 1 dX9_input_16 rfl ?_
        obtain ⟨n103, u103, ty103⟩ := P.ty hx (by decide) rfl
        refine g_callV (rest := [_]) B M_X9_inputs q1566 q1568 qs37 ty103 rfl (c_X9_inputs1 P H ho hi hx) rfl rfl (Nat.le_of_ble_eq_true rfl) (Nat.le_of_ble_eq_true rfl) (Nat.le_of_ble_eq_true rfl) (Nat.le_refl _) (Nat.le_refl _) dX9_input_17 (xkA (fun v103 T103 O103 R103 le103 p103 => ?_))
        obtain ⟨rfl, eT103, eO103, eR103⟩ := p103
        obtain rfl := eT103.symm
        obtain rfl := eO103.symm
        obtain rfl := eR103.symm
        refine g_iremN B (by omega) (by omega) (by omega) dX9_input_20 ?_
        obtain ⟨f, hf⟩ : ∃ f, f = (a.pt (o + 1) i + k) % a.p o := ⟨_, rfl⟩
        rw [← hf]
        have hfl : f < a.p o := by rw [hf]; exact Nat.mod_lt _ (by omega)
        have hkp2 : k < a.p o := by omega
        refine g_istore_n (lv2 := [(2, _), (1, _), (0, _)]) B dX9_input_21 (by decide) rfl ?_
        refine g_aload_n B 2 dX9_input_22 rfl ?_
        refine x_get B P hx (by decide) rfl F_X9_30_9 (by decide) i18 dX9_input_23 ?_
        refine g_iload_n B 0 dX9_input_26 rfl ?_
        obtain ⟨n104, u104, ty104⟩ := P.ty i19.1 (by decide) rfl
        refine g_callV (rest := []) B M_J5_get q1570 q1430 q1431 ty104 rfl (c_get_sp P i19 (by omega)) rfl rfl (Nat.le_of_ble_eq_true rfl) (Nat.le_of_ble_eq_true rfl) (Nat.le_of_ble_eq_true rfl) (Nat.le_refl _) (Nat.le_refl _) dX9_input_27 (xkA (fun v104 T104 O104 R104 le104 p104 => ?_))
        obtain ⟨rfl, eT104, eO104, eR104⟩ := p104
        obtain rfl := eT104.symm
        obtain rfl := eO104.symm
        obtain rfl := eR104.symm
        refine g_if_neB (tgt := 59) B dX9_input_30 (by decide) (fun c105 => ?_) (fun c105 => ?_)
        · refine g_iinc (v := nI (k + 1)) (lv2 := [(1, _), (2, _), (0, _)]) B 1 dX9_input_59 rfl (nI_1 _) (by decide) rfl ?_
          refine g_goto (tgt := 2) B dX9_input_62 (by decide) ?_
          refine g_pick [0, 2] rfl ?_
          exact ih (a.p o - (k + 1)) (by omega) (k + 1) rfl (by omega) (fun j hj => by rcases Nat.lt_succ_iff_lt_or_eq.mp hj with e | e; exact hN j e; rw [e]; show a.rd (o + 1) i ((a.pt (o + 1) i + k) % a.p o) = false; rw [← hf]; show (!a.sp (o + 1) i f && !(a.ch o f i).1.isEmpty) = false; rw [c105]; rfl)
        · obtain ⟨⟨xh, Cg⟩, nd, lch⟩ := HC o f i ho hfl hi
          have hxh := Cg.1
          have hbl := xQs.len _ _ Cg.2.2.2.2.2.2
          refine g_aload_n B 2 dX9_input_33 rfl ?_
          refine x_get B P hx (by decide) rfl F_X9_3_9 (by decide) i25 dX9_input_34 ?_
          refine g_aload_n B 2 dX9_input_37 rfl ?_
          refine x_get B P hx (by decide) rfl F_X9_41_9 (by decide) i1 dX9_input_38 ?_
          refine g_iconst (v := nI 1) B dX9_input_41 (by decide) ?_
          refine g_isubN B (by omega) dX9_input_42 ?_
          refine g_top (show Value.int (nI (o + 1 - 1)) = .int (nI o) from rfl) ?_
          refine g_iload_n B 0 dX9_input_43 rfl ?_
          refine g_aload_n B 2 dX9_input_44 rfl ?_
          refine x_get B P hx (by decide) rfl F_X9_45_9 (by decide) i2 dX9_input_45 ?_
          obtain ⟨n106, u106, ty106⟩ := P.ty h0 (by decide) rfl
          refine g_callVN (rest := []) B M_X0_channel q1354 q1356 qs22 ty106 rfl (c_X0_channel (o := o) (i := f) (j := i) P H W.n6 (fun o ho => (W.p1 o ho).2) h0 ho hfl hi hxh) rfl rfl (Nat.le_of_ble_eq_true rfl) (Nat.le_of_ble_eq_true rfl) (Nat.le_of_ble_eq_true rfl) (Nat.le_refl _) (Nat.le_refl _) dX9_input_48 (xkA (fun v106 T106 O106 R106 le106 p106 => ?_))
          obtain ⟨rfl, eT106, eO106, eR106⟩ := p106
          obtain rfl := eT106.symm
          obtain rfl := eO106.symm
          obtain rfl := eR106.symm
          obtain ⟨n107, u107, ty107⟩ := P.ty Cg.1 (by decide) rfl
          refine g_callV (rest := []) B M_X10_first q1571 q1572 q1573 ty107 rfl (c_X10_first P Cg.cr) rfl rfl (Nat.le_of_ble_eq_true rfl) (Nat.le_of_ble_eq_true rfl) (Nat.le_of_ble_eq_true rfl) (Nat.le_refl _) (Nat.le_refl _) dX9_input_51 (xkA (fun v107 T107 O107 R107 le107 p107 => ?_))
          obtain ⟨rfl, eT107, eO107, eR107⟩ := p107
          obtain rfl := eT107.symm
          obtain rfl := eO107.symm
          obtain rfl := eR107.symm
          by_cases hch : (a.ch o f i).1 = []
          · have hbs : bq (mLn o f i) = [] := List.eq_nil_of_length_eq_zero (by rw [hbl, hch]; rfl)
            refine g_top (show qv (bq (mLn o f i)) 0 = .null from by rw [hbs]; rfl) ?_
            refine g_ifnullN (tgt := 59) B dX9_input_54 (by decide) ?_
            refine g_iinc (v := nI (k + 1)) (lv2 := [(1, _), (2, _), (0, _)]) B 1 dX9_input_59 rfl (nI_1 _) (by decide) rfl ?_
            refine g_goto (tgt := 2) B dX9_input_62 (by decide) ?_
            refine g_pick [0, 2] rfl ?_
            exact ih (a.p o - (k + 1)) (by omega) (k + 1) rfl (by omega) (fun j hj => by rcases Nat.lt_succ_iff_lt_or_eq.mp hj with e | e; exact hN j e; rw [e]; show a.rd (o + 1) i ((a.pt (o + 1) i + k) % a.p o) = false; rw [← hf]; show (!a.sp (o + 1) i f && !(a.ch o f i).1.isEmpty) = false; rw [hch]; simp)
          · obtain ⟨b, bs, hbs⟩ : ∃ b bs, bq (mLn o f i) = b :: bs := by
              cases hq : bq (mLn o f i) with
              | nil => rw [hq] at hbl; exact absurd (List.eq_nil_of_length_eq_zero hbl.symm) hch
              | cons b bs => exact ⟨b, bs, rfl⟩
            refine g_top (show qv (bq (mLn o f i)) 0 = .ref b from by rw [hbs]; rfl) ?_
            refine g_ifnull B dX9_input_54 ?_
            refine g_iload_n B 0 dX9_input_57 rfl ?_
            refine g_iret B E rfl rfl dX9_input_58 ?_
            have hrd : a.rd (o + 1) i ((a.pt (o + 1) i + k) % a.p o) = true := by rw [← hf]; show (!a.sp (o + 1) i f && !(a.ch o f i).1.isEmpty) = true; rw [c105]; cases hq : (a.ch o f i).1 with | nil => exact absurd hq hch | cons _ _ => rfl
            exact ⟨_, rfl, by rw [aA.ready_yes (o := o + 1) (x := k) hkp2 hN hrd, hf]; rfl, rfl, rfl, rfl⟩
  exact L _ 0 rfl (Nat.zero_le _) (fun j hj => absurd hj (Nat.not_lt_zero j))
