set_option maxRecDepth 100000

theorem c_J5_wordIndex {G : xG} {T : xT} {O R : xO} {Y : xY} {V : xVV} {I : xII} {J : xJJ} {A : xVV} {w0 : xW} {k : Nat} (P : PX Y V I J A w0 T O R) (hk : k < 64) : xCtr G yJ5_wordIndex cJ5_wordIndex 1 (some Jvm.ClassFile.FieldType.int) 0 0 0 0 [.int (nI k)] (T, O, R) (xA (fun v T2 O2 R2 => v = .int (nI 0) ∧ T2 = T ∧ O2 = O ∧ R2 = R)) := by
  refine xCtr.of (by decide +kernel) (Nat.le_of_ble_eq_true rfl) ?_
  intro Z B E hz hnm
  change xV Z (T, O, R) 0 [(0, .int (nI k))] [] 0 0
  refine g_iload_n B 0 dJ5_wordIndex_0 rfl ?_
  refine g_bipush (v := nI 6) B dJ5_wordIndex_1 (by decide) ?_
  refine g_ishr B dJ5_wordIndex_3 ?_
  refine g_iret B E rfl rfl dJ5_wordIndex_4 ?_
  exact ⟨_, rfl, (congrArg Value.int (xwi k hk)), rfl, rfl, rfl⟩
theorem c_J5_inv {G : xG} {T : xT} {O R : xO} {Y : xY} {V : xVV} {I : xII} {J : xJJ} {A : xVV} {w0 : xW} {r rw o x w : Nat} (P : PX Y V I J A w0 T O R) (hr : r < 1000) (hx : r % 100 = 35) (hw : rw / 1000 = 4) (S : xBs Y V J r rw o x w) : xCtr G yJ5_checkInvariants cJ5_checkInvariants 1 none 0 0 0 0 [.ref x] (T, O, R) (xN (fun T2 O2 R2 => T2 = T ∧ O2 = O ∧ R2 = R)) := by
  have hS := S
  obtain ⟨hat, hlt, ⟨xw, hxw, hv0⟩, hn, hj, hv1, b2, hv2⟩ := S
  refine xCtr.of (by decide +kernel) (Nat.le_of_ble_eq_true rfl) ?_
  intro Z B E hz hnm
  have hSt := by have h := B.st.2.2.2; rw [B.g] at h; exact h
  change xV Z (T, O, R) 0 [(0, .ref x)] [] 0 0
  refine g_gets B hSt.2.2.2.2.1 q1437 dJ5_checkInvariants_0 ?_
  refine g_top (show Value.int 1 = .int (nI 1) from rfl) ?_
  refine g_if_neN (tgt := 37) B (by omega) dJ5_checkInvariants_3 (by decide) (fun _ => ?_) (fun e => absurd e (by decide))
  refine g_gets B hSt.2.2.2.2.1 q1437 dJ5_checkInvariants_37 ?_
  refine g_top (show Value.int 1 = .int (nI 1) from rfl) ?_
  refine g_if_neN (tgt := 70) B (by omega) dJ5_checkInvariants_40 (by decide) (fun _ => ?_) (fun e => absurd e (by decide))
  refine g_gets B hSt.2.2.2.2.1 q1437 dJ5_checkInvariants_70 ?_
  refine g_top (show Value.int 1 = .int (nI 1) from rfl) ?_
  refine g_if_neN (tgt := 110) B (by omega) dJ5_checkInvariants_73 (by decide) (fun _ => ?_) (fun e => absurd e (by decide))
  refine g_vret B E rfl dJ5_checkInvariants_110 ?_
  exact ⟨rfl, rfl, rfl, rfl⟩
theorem c_J5_isEmpty {G : xG} {T : xT} {O R : xO} {Y : xY} {V : xVV} {I : xII} {J : xJJ} {A : xVV} {w0 : xW} {r rw o x w : Nat} (P : PX Y V I J A w0 T O R) (hr : r < 1000) (hx : r % 100 = 35) (hw : rw / 1000 = 4) (S : xBs Y V J r rw o x w) : xCtr G yJ5_isEmpty cJ5_isEmpty 1 (some Jvm.ClassFile.FieldType.boolean) 0 0 0 0 [.ref x] (T, O, R) (xA (fun v T2 O2 R2 => v = .int (bI (decide (w = 0))) ∧ T2 = T ∧ O2 = O ∧ R2 = R)) := by
  have hS := S
  obtain ⟨hat, hlt, ⟨xw, hxw, hv0⟩, hn, hj, hv1, b2, hv2⟩ := S
  refine xCtr.of (by decide +kernel) (Nat.le_of_ble_eq_true rfl) ?_
  intro Z B E hz hnm
  change xV Z (T, O, R) 0 [(0, .ref x)] [] 0 0
  rcases Nat.eq_zero_or_pos w with hw0 | hw0
  · subst hw0
    refine g_aload_n B 0 dJ5_isEmpty_0 rfl ?_
    refine x_get B P hat hr (xrTv hx (by decide)) F_J5_7_35 (by decide) (hv1.trans (congrArg (fun z => Value.int (nI z)) bUse_0)) dJ5_isEmpty_1 ?_
    refine g_if_neN (tgt := 11) B (by omega) dJ5_isEmpty_4 (by decide) (fun e => absurd e (by decide)) (fun _ => ?_)
    refine g_iconst (v := nI 1) B dJ5_isEmpty_7 (by decide) ?_
    refine g_goto (tgt := 12) B dJ5_isEmpty_8 (by decide) ?_
    refine g_iret B E rfl rfl dJ5_isEmpty_12 ?_
    exact ⟨_, rfl, by first | rfl | (rw [show decide (w = 0) = false from by simp; omega]; rfl), rfl, rfl, rfl⟩
  · have hw1 : w ≠ 0 := by omega
    refine g_aload_n B 0 dJ5_isEmpty_0 rfl ?_
    refine x_get B P hat hr (xrTv hx (by decide)) F_J5_7_35 (by decide) (hv1.trans (congrArg (fun z => Value.int (nI z)) (bUse_p hw1))) dJ5_isEmpty_1 ?_
    refine g_if_neN (tgt := 11) B (by omega) dJ5_isEmpty_4 (by decide) (fun _ => ?_) (fun e => absurd e (by decide))
    refine g_iconst (v := nI 0) B dJ5_isEmpty_11 (by decide) ?_
    refine g_iret B E rfl rfl dJ5_isEmpty_12 ?_
    exact ⟨_, rfl, by first | rfl | (rw [show decide (w = 0) = false from by simp; omega]; rfl), rfl, rfl, rfl⟩
theorem c_J5_get {G : xG} {T : xT} {O R : xO} {Y : xY} {V : xVV} {I : xII} {J : xJJ} {A : xVV} {w0 : xW} {r rw o x w k : Nat} (P : PX Y V I J A w0 T O R) (hr : r < 1000) (hx : r % 100 = 35) (hw : rw / 1000 = 4) (S : xBs Y V J r rw o x w) (hk : k < 16) : xCtr G yJ5_get cJ5_get 3 (some Jvm.ClassFile.FieldType.boolean) 1 20 0 0 [.ref x, .int (nI k)] (T, O, R) (xA (fun v T2 O2 R2 => v = .int (bI (w.testBit k)) ∧ T2 = T ∧ O2 = O ∧ R2 = R)) := by
  have hS := S
  obtain ⟨hat, hlt, ⟨xw, hxw, hv0⟩, hn, hj, hv1, b2, hv2⟩ := S
  refine xCtr.of (by decide +kernel) (Nat.le_of_ble_eq_true rfl) ?_
  intro Z B E hz hnm
  change xV Z (T, O, R) 0 [(0, .ref x), (1, .int (nI k))] [] 0 0
  rcases Nat.eq_zero_or_pos w with hw0 | hw0
  · subst hw0
    refine g_iload_n B 1 dJ5_get_0 rfl ?_
    refine g_if_geN (tgt := 31) B (by omega) dJ5_get_1 (by decide) ?_
    refine g_aload_n B 0 dJ5_get_31 rfl ?_
    obtain ⟨n2, u2, ty2⟩ := P.ty hat hr (xrTv hx (by decide))
    refine g_callV (rest := []) B M_J5_checkInvariants q1433 q1435 qs31 ty2 rfl (c_J5_inv P hr hx hw hS) rfl rfl (Nat.le_of_ble_eq_true rfl) (Nat.le_of_ble_eq_true rfl) (Nat.le_of_ble_eq_true rfl) (Nat.le_refl _) (Nat.le_refl _) dJ5_get_32 (xkN (fun T2 O2 R2 le2 p2 => ?_))
    obtain ⟨eT2, eO2, eR2⟩ := p2
    obtain rfl := eT2.symm
    obtain rfl := eO2.symm
    obtain rfl := eR2.symm
    refine g_iload_n B 1 dJ5_get_35 rfl ?_
    refine g_callS (rest := []) B M_J5_wordIndex q308 q309 (c_J5_wordIndex (k := k) P (by omega)) rfl rfl (Nat.le_of_ble_eq_true rfl) (Nat.le_of_ble_eq_true rfl) (Nat.le_of_ble_eq_true rfl) (Nat.le_refl _) (Nat.le_refl _) dJ5_get_36 (xkA (fun v3 T3 O3 R3 le3 p3 => ?_))
    obtain ⟨rfl, eT3, eO3, eR3⟩ := p3
    obtain rfl := eT3.symm
    obtain rfl := eO3.symm
    obtain rfl := eR3.symm
    refine g_istore_n (lv2 := [(2, _), (0, _), (1, _)]) B dJ5_get_39 (by decide) rfl ?_
    refine g_iload_n B 0 dJ5_get_40 rfl ?_
    refine g_aload_n B 1 dJ5_get_41 rfl ?_
    refine x_get B P hat hr (xrTv hx (by decide)) F_J5_7_35 (by decide) (hv1.trans (congrArg (fun z => Value.int (nI z)) bUse_0)) dJ5_get_42 ?_
    refine g_icmp_geN (tgt := 67) B (by omega) (by omega) dJ5_get_45 (by decide) (fun _ => ?_) (fun e => absurd e (by decide))
    refine g_iconst (v := nI 0) B dJ5_get_67 (by decide) ?_
    refine g_iret B E rfl rfl dJ5_get_68 ?_
    exact ⟨_, rfl, by rw [Nat.zero_testBit]; rfl, rfl, rfl, rfl⟩
  · have hw1 : w ≠ 0 := by omega
    refine g_iload_n B 1 dJ5_get_0 rfl ?_
    refine g_if_geN (tgt := 31) B (by omega) dJ5_get_1 (by decide) ?_
    refine g_aload_n B 0 dJ5_get_31 rfl ?_
    obtain ⟨n6, u6, ty6⟩ := P.ty hat hr (xrTv hx (by decide))
    refine g_callV (rest := []) B M_J5_checkInvariants q1433 q1435 qs31 ty6 rfl (c_J5_inv P hr hx hw hS) rfl rfl (Nat.le_of_ble_eq_true rfl) (Nat.le_of_ble_eq_true rfl) (Nat.le_of_ble_eq_true rfl) (Nat.le_refl _) (Nat.le_refl _) dJ5_get_32 (xkN (fun T6 O6 R6 le6 p6 => ?_))
    obtain ⟨eT6, eO6, eR6⟩ := p6
    obtain rfl := eT6.symm
    obtain rfl := eO6.symm
    obtain rfl := eR6.symm
    refine g_iload_n B 1 dJ5_get_35 rfl ?_
    refine g_callS (rest := []) B M_J5_wordIndex q308 q309 (c_J5_wordIndex (k := k) P (by omega)) rfl rfl (Nat.le_of_ble_eq_true rfl) (Nat.le_of_ble_eq_true rfl) (Nat.le_of_ble_eq_true rfl) (Nat.le_refl _) (Nat.le_refl _) dJ5_get_36 (xkA (fun v7 T7 O7 R7 le7 p7 => ?_))
    obtain ⟨rfl, eT7, eO7, eR7⟩ := p7
    obtain rfl := eT7.symm
    obtain rfl := eO7.symm
    obtain rfl := eR7.symm
    refine g_istore_n (lv2 := [(2, _), (0, _), (1, _)]) B dJ5_get_39 (by decide) rfl ?_
    refine g_iload_n B 0 dJ5_get_40 rfl ?_
    refine g_aload_n B 1 dJ5_get_41 rfl ?_
    refine x_get B P hat hr (xrTv hx (by decide)) F_J5_7_35 (by decide) (hv1.trans (congrArg (fun z => Value.int (nI z)) (bUse_p hw1))) dJ5_get_42 ?_
    refine g_icmp_geN (tgt := 67) B (by omega) (by omega) dJ5_get_45 (by decide) (fun e => absurd e (by decide)) (fun _ => ?_)
    refine g_aload_n B 1 dJ5_get_48 rfl ?_
    refine x_get B P hat hr (xrTv hx (by decide)) F_J5_11_35 (by decide) hv0 dJ5_get_49 ?_
    refine g_iload_n B 0 dJ5_get_52 rfl ?_
    refine x_ldJ B P hxw hw rfl hn (by omega) (by omega) hj dJ5_get_53 ?_
    refine g_lconst (v := 1) B dJ5_get_54 (by decide) ?_
    refine g_iload_n B 2 dJ5_get_55 rfl ?_
    refine g_lshl B dJ5_get_56 rfl ?_
    refine g_land B dJ5_get_57 ?_
    refine g_lconst (v := 0) B dJ5_get_58 (by decide) ?_
    refine g_lcmp B dJ5_get_59 ?_
    refine g_if_eq (tgt := 67) B dJ5_get_60 (by decide) (fun c9 => ?_) (fun c9 => ?_)
    · refine g_iconst (v := nI 0) B dJ5_get_67 (by decide) ?_
      refine g_iret B E rfl rfl dJ5_get_68 ?_
      exact ⟨_, rfl, by rw [(xB_get hlt hk).mp c9]; rfl, rfl, rfl, rfl⟩
    · refine g_iconst (v := nI 1) B dJ5_get_63 (by decide) ?_
      refine g_goto (tgt := 68) B dJ5_get_64 (by decide) ?_
      refine g_iret B E rfl rfl dJ5_get_68 ?_
      exact ⟨_, rfl, by rw [show w.testBit k = true from by cases hb : w.testBit k; exact absurd ((xB_get hlt hk).mpr hb) c9; rfl]; rfl, rfl, rfl, rfl⟩
theorem c_J5_ensure {G : xG} {T : xT} {O R : xO} {Y : xY} {V : xVV} {I : xII} {J : xJJ} {A : xVV} {w0 : xW} {r rw o x w : Nat} (P : PX Y V I J A w0 T O R) (hr : r < 1000) (hx : r % 100 = 35) (hw : rw / 1000 = 4) (S : xBs Y V J r rw o x w) : xCtr G yJ5_ensureCapacity cJ5_ensureCapacity 3 none 0 0 0 0 [.ref x, .int (nI 1)] (T, O, R) (xN (fun T2 O2 R2 => T2 = T ∧ O2 = O ∧ R2 = R)) := by
  have hS := S
  obtain ⟨hat, hlt, ⟨xw, hxw, hv0⟩, hn, hj, hv1, b2, hv2⟩ := S
  refine xCtr.of (by decide +kernel) (Nat.le_of_ble_eq_true rfl) ?_
  intro Z B E hz hnm
  change xV Z (T, O, R) 0 [(0, .ref x), (1, .int (nI 1))] [] 0 0
  refine g_aload_n B 0 dJ5_ensureCapacity_0 rfl ?_
  refine x_get B P hat hr (xrTv hx (by decide)) F_J5_11_35 (by decide) hv0 dJ5_ensureCapacity_1 ?_
  refine x_alen B P hxw (by omega) (by rw [hw]; rfl) hn dJ5_ensureCapacity_4 ?_
  refine g_iload_n B 1 dJ5_ensureCapacity_5 rfl ?_
  refine g_icmp_geN (tgt := 38) B (by omega) (by omega) dJ5_ensureCapacity_6 (by decide) (fun _ => ?_) (fun e => absurd e (by decide))
  refine g_vret B E rfl dJ5_ensureCapacity_38 ?_
  exact ⟨rfl, rfl, rfl, rfl⟩
theorem c_J5_expand {G : xG} {T : xT} {O R : xO} {Y : xY} {V : xVV} {I : xII} {J : xJJ} {A : xVV} {w0 : xW} {r rw o x w : Nat} (P : PX Y V I J A w0 T O R) (hr : r < 1000) (hx : r % 100 = 35) (hw : rw / 1000 = 4) (S : xBs Y V J r rw o x w) : xCtr G yJ5_expandTo cJ5_expandTo 3 none 1 22 0 0 [.ref x, .int (nI 0)] (T, O, R) (xN (xPN w0 (fun Y2 V2 I2 J2 A2 => Y = Y2 ∧ I = I2 ∧ J = J2 ∧ A = A2 ∧ V2 r o 0 = V r o 0 ∧ V2 r o 1 = .int (nI 1) ∧ V2 r o 2 = V r o 2 ∧ ∀ r2 o2, ¬ (r2 = r ∧ o2 = o) → V2 r2 o2 = V r2 o2))) := by
  have hS := S
  obtain ⟨hat, hlt, ⟨xw, hxw, hv0⟩, hn, hj, hv1, b2, hv2⟩ := S
  refine xCtr.of (by decide +kernel) (Nat.le_of_ble_eq_true rfl) ?_
  intro Z B E hz hnm
  change xV Z (T, O, R) 0 [(0, .ref x), (1, .int (nI 0))] [] 0 0
  rcases Nat.eq_zero_or_pos w with hw0 | hw0
  · subst hw0
    refine g_iload_n B 1 dJ5_expandTo_0 rfl ?_
    refine g_iconst (v := nI 1) B dJ5_expandTo_1 (by decide) ?_
    refine g_iaddN B dJ5_expandTo_2 ?_
    refine g_top (show Value.int (nI (0 + 1)) = .int (nI 1) from rfl) ?_
    refine g_istore_n (lv2 := [(2, _), (0, _), (1, _)]) B dJ5_expandTo_3 (by decide) rfl ?_
    refine g_aload_n B 1 dJ5_expandTo_4 rfl ?_
    refine x_get B P hat hr (xrTv hx (by decide)) F_J5_7_35 (by decide) (hv1.trans (congrArg (fun z => Value.int (nI z)) bUse_0)) dJ5_expandTo_5 ?_
    refine g_iload_n B 0 dJ5_expandTo_8 rfl ?_
    refine g_icmp_geN (tgt := 22) B (by omega) (by omega) dJ5_expandTo_9 (by decide) (fun e => absurd e (by decide)) (fun _ => ?_)
    refine g_aload_n B 1 dJ5_expandTo_12 rfl ?_
    refine g_iload_n B 0 dJ5_expandTo_13 rfl ?_
    obtain ⟨n2, u2, ty2⟩ := P.ty hat hr (xrTv hx (by decide))
    refine g_callV (rest := []) B M_J5_ensureCapacity q1456 q1458 qs33 ty2 rfl (c_J5_ensure P hr hx hw hS) rfl rfl (Nat.le_of_ble_eq_true rfl) (Nat.le_of_ble_eq_true rfl) (Nat.le_of_ble_eq_true rfl) (Nat.le_refl _) (Nat.le_refl _) dJ5_expandTo_14 (xkN (fun T2 O2 R2 le2 p2 => ?_))
    obtain ⟨eT2, eO2, eR2⟩ := p2
    obtain rfl := eT2.symm
    obtain rfl := eO2.symm
    obtain rfl := eR2.symm
    refine g_aload_n B 1 dJ5_expandTo_17 rfl ?_
    refine g_iload_n B 0 dJ5_expandTo_18 rfl ?_
    refine x_put (q := (RJ5, TJ5, 3)) B P hat hr (xrTv hx (by decide)) F_J5_7_35 rfl rfl (tyJ5_ok 1 (by decide)) rfl rfl dJ5_expandTo_19 (fun O3 V3 hs3 hk3 P3 => ?_)
    refine g_vret B E rfl dJ5_expandTo_22 ?_
    exact ⟨rfl, _, _, _, _, _, P3, rfl, rfl, rfl, rfl, rdK hs3 (by decide) rfl, rdS hs3, rdK hs3 (by decide) rfl, fun r2 o2 hn2 => upO hs3 hk3 hn2⟩
  · have hw1 : w ≠ 0 := by omega
    refine g_iload_n B 1 dJ5_expandTo_0 rfl ?_
    refine g_iconst (v := nI 1) B dJ5_expandTo_1 (by decide) ?_
    refine g_iaddN B dJ5_expandTo_2 ?_
    refine g_top (show Value.int (nI (0 + 1)) = .int (nI 1) from rfl) ?_
    refine g_istore_n (lv2 := [(2, _), (0, _), (1, _)]) B dJ5_expandTo_3 (by decide) rfl ?_
    refine g_aload_n B 1 dJ5_expandTo_4 rfl ?_
    refine x_get B P hat hr (xrTv hx (by decide)) F_J5_7_35 (by decide) (hv1.trans (congrArg (fun z => Value.int (nI z)) (bUse_p hw1))) dJ5_expandTo_5 ?_
    refine g_iload_n B 0 dJ5_expandTo_8 rfl ?_
    refine g_icmp_geN (tgt := 22) B (by omega) (by omega) dJ5_expandTo_9 (by decide) (fun _ => ?_) (fun e => absurd e (by decide))
    refine g_vret B E rfl dJ5_expandTo_22 ?_
    exact ⟨rfl, _, _, _, _, _, P, rfl, rfl, rfl, rfl, rfl, hv1.trans (congrArg (fun z => Value.int (nI z)) (bUse_p hw1)), rfl, fun _ _ _ => rfl⟩
theorem c_J5_set {G : xG} {T : xT} {O R : xO} {Y : xY} {V : xVV} {I : xII} {J : xJJ} {A : xVV} {w0 : xW} {r rw o x w k : Nat} (P : PX Y V I J A w0 T O R) (hr : r < 1000) (hx : r % 100 = 35) (hw : rw / 1000 = 4) (S : xBs Y V J r rw o x w) (hk : k < 16) : xCtr G yJ5_set cJ5_set 3 none 2 44 0 0 [.ref x, .int (nI k)] (T, O, R) (xN (xPN w0 (fun Y2 V2 I2 J2 A2 => Y = Y2 ∧ I = I2 ∧ A = A2 ∧ xBs Y V2 J2 r rw o x (w ||| 2 ^ k) ∧ xFr (sBs r rw o) Y V I J A Y2 V2 I2 J2 A2))) := by
  have hS := S
  obtain ⟨hat, hlt, ⟨xw, hxw, hv0⟩, hn, hj, hv1, b2, hv2⟩ := S
  refine xCtr.of (by decide +kernel) (Nat.le_of_ble_eq_true rfl) ?_
  intro Z B E hz hnm
  change xV Z (T, O, R) 0 [(0, .ref x), (1, .int (nI k))] [] 0 0
  refine g_iload_n B 1 dJ5_set_0 rfl ?_
  refine g_if_geN (tgt := 31) B (by omega) dJ5_set_1 (by decide) ?_
  refine g_iload_n B 1 dJ5_set_31 rfl ?_
  refine g_callS (rest := []) B M_J5_wordIndex q308 q309 (c_J5_wordIndex (k := k) P (by omega)) rfl rfl (Nat.le_of_ble_eq_true rfl) (Nat.le_of_ble_eq_true rfl) (Nat.le_of_ble_eq_true rfl) (Nat.le_refl _) (Nat.le_refl _) dJ5_set_32 (xkA (fun v2 T2 O2 R2 le2 p2 => ?_))
  obtain ⟨rfl, eT2, eO2, eR2⟩ := p2
  obtain rfl := eT2.symm
  obtain rfl := eO2.symm
  obtain rfl := eR2.symm
  refine g_istore_n (lv2 := [(2, _), (0, _), (1, _)]) B dJ5_set_35 (by decide) rfl ?_
  refine g_aload_n B 1 dJ5_set_36 rfl ?_
  refine g_iload_n B 0 dJ5_set_37 rfl ?_
  obtain ⟨n3, u3, ty3⟩ := P.ty hat hr (xrTv hx (by decide))
  refine g_callV (rest := []) B M_J5_expandTo q1452 q1454 qs32 ty3 rfl (c_J5_expand P hr hx hw hS) rfl rfl (Nat.le_of_ble_eq_true rfl) (Nat.le_of_ble_eq_true rfl) (Nat.le_of_ble_eq_true rfl) (Nat.le_refl _) (Nat.le_refl _) dJ5_set_38 (xkN (fun T3 O3 R3 le3 p3 => ?_))
  obtain ⟨Y3, V3, I3, J3, A3, P3, rfl, rfl, rfl, rfl, v03, v13, v23, vn3⟩ := p3
  refine g_aload_n B 1 dJ5_set_41 rfl ?_
  refine x_get B P3 hat hr (xrTv hx (by decide)) F_J5_11_35 (by decide) (v03.trans hv0) dJ5_set_42 ?_
  refine g_iload_n B 0 dJ5_set_45 rfl ?_
  refine g_dup2 B dJ5_set_46 rfl rfl ?_
  refine x_ldJ B P3 hxw hw rfl hn (by omega) (by omega) hj dJ5_set_47 ?_
  refine g_lconst (v := 1) B dJ5_set_48 (by decide) ?_
  refine g_iload_n B 2 dJ5_set_49 rfl ?_
  refine g_lshl B dJ5_set_50 rfl ?_
  refine g_lor B dJ5_set_51 ?_
  refine x_stJ B P3 hxw hw rfl hn (by omega) (by omega) dJ5_set_52 (fun R4 J4 hs4 hk4 P4 => ?_)
  refine g_aload_n B 1 dJ5_set_53 rfl ?_
  obtain ⟨n5, u5, ty5⟩ := P4.ty hat hr (xrTv hx (by decide))
  have S2 : xBs Y V3 J4 r rw o x (w ||| 2 ^ k) := ⟨hat, bSet_lt hlt hk, ⟨xw, hxw, v03.trans hv0⟩, hn, (rdS hs4).trans (xB_set hlt hk), v13.trans (congrArg (fun z => Value.int (nI z)) (bUse_p bSet_ne).symm), b2, v23.trans hv2⟩
  refine g_callV (rest := []) B M_J5_checkInvariants q1433 q1435 qs31 ty5 rfl (c_J5_inv P4 hr hx hw S2) rfl rfl (Nat.le_of_ble_eq_true rfl) (Nat.le_of_ble_eq_true rfl) (Nat.le_of_ble_eq_true rfl) (Nat.le_refl _) (Nat.le_refl _) dJ5_set_54 (xkN (fun T5 O5 R5 le5 p5 => ?_))
  obtain ⟨eT5, eO5, eR5⟩ := p5
  obtain rfl := eT5.symm
  obtain rfl := eO5.symm
  obtain rfl := eR5.symm
  refine g_vret B E rfl dJ5_set_57 ?_
  exact ⟨rfl, _, _, _, _, _, P4, rfl, rfl, rfl, S2, yLs.rf, fun r2 o2 x2 _ hs2 => ⟨vn3 r2 o2 (fun e => hs2 ⟨e.2, Or.inl e.1⟩), rfl, upO hs4 hk4 (fun e => hs2 ⟨e.2, Or.inr e.1⟩), rfl⟩⟩
theorem c_J5_recalc {G : xG} {T : xT} {O R : xO} {Y : xY} {V : xVV} {I : xII} {J : xJJ} {A : xVV} {w0 : xW} {r rw o x w : Nat} (P : PX Y V I J A w0 T O R) (hr : r < 1000) (hx : r % 100 = 35) (hw : rw / 1000 = 4) (hat : yAt Y r o x) (hlt : w < 65536) (hxe : ∃ xw, yAt Y rw o xw ∧ V r o 0 = .ref xw) (hn : yN Y rw o = 1) (hj : J rw o 0 = lN w) (hv1 : V r o 1 = .int (nI 1)) : xCtr G yJ5_recalculateWordsInUse cJ5_recalculateWordsInUse 2 none 0 0 0 0 [.ref x] (T, O, R) (xN (xPN w0 (fun Y2 V2 I2 J2 A2 => Y = Y2 ∧ I = I2 ∧ J = J2 ∧ A = A2 ∧ V2 r o 0 = V r o 0 ∧ V2 r o 1 = .int (nI (bUse w)) ∧ V2 r o 2 = V r o 2 ∧ ∀ r2 o2, ¬ (r2 = r ∧ o2 = o) → V2 r2 o2 = V r2 o2))) := by
  obtain ⟨xw, hxw, hv0⟩ := hxe
  refine xCtr.of (by decide +kernel) (Nat.le_of_ble_eq_true rfl) ?_
  intro Z B E hz hnm
  change xV Z (T, O, R) 0 [(0, .ref x)] [] 0 0
  refine g_aload_n B 0 dJ5_recalculateWordsInUse_0 rfl ?_
  refine x_get B P hat hr (xrTv hx (by decide)) F_J5_7_35 (by decide) hv1 dJ5_recalculateWordsInUse_1 ?_
  refine g_iconst (v := nI 1) B dJ5_recalculateWordsInUse_4 (by decide) ?_
  refine g_isubN B (by decide) dJ5_recalculateWordsInUse_5 ?_
  refine g_top (show Value.int (nI (1 - 1)) = .int (nI 0) from rfl) ?_
  refine g_istore_n (lv2 := [(1, _), (0, _)]) B dJ5_recalculateWordsInUse_6 (by decide) rfl ?_
  refine g_iload_n B 0 dJ5_recalculateWordsInUse_7 rfl ?_
  refine g_if_ltN (tgt := 31) B (by omega) dJ5_recalculateWordsInUse_8 (by decide) ?_
  refine g_aload_n B 1 dJ5_recalculateWordsInUse_11 rfl ?_
  refine x_get B P hat hr (xrTv hx (by decide)) F_J5_11_35 (by decide) hv0 dJ5_recalculateWordsInUse_12 ?_
  refine g_iload_n B 0 dJ5_recalculateWordsInUse_15 rfl ?_
  refine x_ldJ B P hxw hw rfl hn (by omega) (by omega) hj dJ5_recalculateWordsInUse_16 ?_
  refine g_lconst (v := 0) B dJ5_recalculateWordsInUse_17 (by decide) ?_
  refine g_lcmp B dJ5_recalculateWordsInUse_18 ?_
  refine g_if_eq (tgt := 25) B dJ5_recalculateWordsInUse_19 (by decide) (fun c2 => ?_) (fun c2 => ?_)
  · refine g_iinc (v := (-1)) (lv2 := [(1, _), (0, _)]) B 0 dJ5_recalculateWordsInUse_25 rfl rfl (by decide) rfl ?_
    refine g_goto (tgt := 7) B dJ5_recalculateWordsInUse_28 (by decide) ?_
    refine g_iload_n B 0 dJ5_recalculateWordsInUse_7 rfl ?_
    refine g_if_lt (tgt := 31) B dJ5_recalculateWordsInUse_8 (by decide) (fun _ => ?_) (fun e => absurd (by decide) e)
    refine g_aload_n B 1 dJ5_recalculateWordsInUse_31 rfl ?_
    refine g_iload_n B 0 dJ5_recalculateWordsInUse_32 rfl ?_
    refine g_iconst (v := nI 1) B dJ5_recalculateWordsInUse_33 (by decide) ?_
    refine g_iadd B dJ5_recalculateWordsInUse_34 ?_
    refine g_top (show Value.int ((-1) + nI 1) = .int (nI 0) from by decide) ?_
    refine x_put (q := (RJ5, TJ5, 3)) B P hat hr (xrTv hx (by decide)) F_J5_7_35 rfl rfl (tyJ5_ok 1 (by decide)) rfl rfl dJ5_recalculateWordsInUse_35 (fun O3 V3 hs3 hk3 P3 => ?_)
    refine g_vret B E rfl dJ5_recalculateWordsInUse_38 ?_
    exact ⟨rfl, _, _, _, _, _, P3, rfl, rfl, rfl, rfl, rdK hs3 (by decide) rfl, (by have h0 := (xB_z hlt).mp ((lg_cmp_eq _ _).mp c2); rw [h0]; exact rdS hs3), rdK hs3 (by decide) rfl, fun r2 o2 hn2 => upO hs3 hk3 hn2⟩
  · refine g_goto (tgt := 31) B dJ5_recalculateWordsInUse_22 (by decide) ?_
    refine g_aload_n B 1 dJ5_recalculateWordsInUse_31 rfl ?_
    refine g_iload_n B 0 dJ5_recalculateWordsInUse_32 rfl ?_
    refine g_iconst (v := nI 1) B dJ5_recalculateWordsInUse_33 (by decide) ?_
    refine g_iaddN B dJ5_recalculateWordsInUse_34 ?_
    refine g_top (show Value.int (nI (0 + 1)) = .int (nI 1) from rfl) ?_
    refine x_put (q := (RJ5, TJ5, 3)) B P hat hr (xrTv hx (by decide)) F_J5_7_35 rfl rfl (tyJ5_ok 1 (by decide)) rfl rfl dJ5_recalculateWordsInUse_35 (fun O4 V4 hs4 hk4 P4 => ?_)
    refine g_vret B E rfl dJ5_recalculateWordsInUse_38 ?_
    exact ⟨rfl, _, _, _, _, _, P4, rfl, rfl, rfl, rfl, rdK hs4 (by decide) rfl, (by rw [bUse_p (fun h0 => c2 ((lg_cmp_eq _ _).mpr ((xB_z hlt).mpr h0)))]; exact rdS hs4), rdK hs4 (by decide) rfl, fun r2 o2 hn2 => upO hs4 hk4 hn2⟩
theorem c_J5_clr {G : xG} {T : xT} {O R : xO} {Y : xY} {V : xVV} {I : xII} {J : xJJ} {A : xVV} {w0 : xW} {r rw o x w k : Nat} (P : PX Y V I J A w0 T O R) (hr : r < 1000) (hx : r % 100 = 35) (hw : rw / 1000 = 4) (S : xBs Y V J r rw o x w) (hk : k < 16) : xCtr G yJ5_clear_2 cJ5_clear_2 3 none 1 21 0 0 [.ref x, .int (nI k)] (T, O, R) (xN (xPN w0 (fun Y2 V2 I2 J2 A2 => Y = Y2 ∧ I = I2 ∧ A = A2 ∧ xBs Y V2 J2 r rw o x (bClr w k) ∧ xFr (sBs r rw o) Y V I J A Y2 V2 I2 J2 A2))) := by
  have hS := S
  obtain ⟨hat, hlt, ⟨xw, hxw, hv0⟩, hn, hj, hv1, b2, hv2⟩ := S
  refine xCtr.of (by decide +kernel) (Nat.le_of_ble_eq_true rfl) ?_
  intro Z B E hz hnm
  change xV Z (T, O, R) 0 [(0, .ref x), (1, .int (nI k))] [] 0 0
  rcases Nat.eq_zero_or_pos w with hw0 | hw0
  · subst hw0
    refine g_iload_n B 1 dJ5_clear_2_0 rfl ?_
    refine g_if_geN (tgt := 31) B (by omega) dJ5_clear_2_1 (by decide) ?_
    refine g_iload_n B 1 dJ5_clear_2_31 rfl ?_
    refine g_callS (rest := []) B M_J5_wordIndex q308 q309 (c_J5_wordIndex (k := k) P (by omega)) rfl rfl (Nat.le_of_ble_eq_true rfl) (Nat.le_of_ble_eq_true rfl) (Nat.le_of_ble_eq_true rfl) (Nat.le_refl _) (Nat.le_refl _) dJ5_clear_2_32 (xkA (fun v2 T2 O2 R2 le2 p2 => ?_))
    obtain ⟨rfl, eT2, eO2, eR2⟩ := p2
    obtain rfl := eT2.symm
    obtain rfl := eO2.symm
    obtain rfl := eR2.symm
    refine g_istore_n (lv2 := [(2, _), (0, _), (1, _)]) B dJ5_clear_2_35 (by decide) rfl ?_
    refine g_iload_n B 0 dJ5_clear_2_36 rfl ?_
    refine g_aload_n B 1 dJ5_clear_2_37 rfl ?_
    refine x_get B P hat hr (xrTv hx (by decide)) F_J5_7_35 (by decide) (hv1.trans (congrArg (fun z => Value.int (nI z)) bUse_0)) dJ5_clear_2_38 ?_
    refine g_icmp_ltN (tgt := 45) B (by omega) (by omega) dJ5_clear_2_41 (by decide) (fun e => absurd e (by decide)) (fun _ => ?_)
    refine g_vret B E rfl dJ5_clear_2_44 ?_
    exact ⟨rfl, _, _, _, _, _, P, rfl, rfl, rfl, by rw [show bClr 0 k = 0 from by simp [bClr]]; exact hS, xFr.rf⟩
  · have hw1 : w ≠ 0 := by omega
    refine g_iload_n B 1 dJ5_clear_2_0 rfl ?_
    refine g_if_geN (tgt := 31) B (by omega) dJ5_clear_2_1 (by decide) ?_
    refine g_iload_n B 1 dJ5_clear_2_31 rfl ?_
    refine g_callS (rest := []) B M_J5_wordIndex q308 q309 (c_J5_wordIndex (k := k) P (by omega)) rfl rfl (Nat.le_of_ble_eq_true rfl) (Nat.le_of_ble_eq_true rfl) (Nat.le_of_ble_eq_true rfl) (Nat.le_refl _) (Nat.le_refl _) dJ5_clear_2_32 (xkA (fun v5 T5 O5 R5 le5 p5 => ?_))
    obtain ⟨rfl, eT5, eO5, eR5⟩ := p5
    obtain rfl := eT5.symm
    obtain rfl := eO5.symm
    obtain rfl := eR5.symm
    refine g_istore_n (lv2 := [(2, _), (0, _), (1, _)]) B dJ5_clear_2_35 (by decide) rfl ?_
    refine g_iload_n B 0 dJ5_clear_2_36 rfl ?_
    refine g_aload_n B 1 dJ5_clear_2_37 rfl ?_
    refine x_get B P hat hr (xrTv hx (by decide)) F_J5_7_35 (by decide) (hv1.trans (congrArg (fun z => Value.int (nI z)) (bUse_p hw1))) dJ5_clear_2_38 ?_
    refine g_icmp_ltN (tgt := 45) B (by omega) (by omega) dJ5_clear_2_41 (by decide) (fun _ => ?_) (fun e => absurd e (by decide))
    refine g_aload_n B 1 dJ5_clear_2_45 rfl ?_
    refine x_get B P hat hr (xrTv hx (by decide)) F_J5_11_35 (by decide) hv0 dJ5_clear_2_46 ?_
    refine g_iload_n B 0 dJ5_clear_2_49 rfl ?_
    refine g_dup2 B dJ5_clear_2_50 rfl rfl ?_
    refine x_ldJ B P hxw hw rfl hn (by omega) (by omega) hj dJ5_clear_2_51 ?_
    refine g_lconst (v := 1) B dJ5_clear_2_52 (by decide) ?_
    refine g_iload_n B 2 dJ5_clear_2_53 rfl ?_
    refine g_lshl B dJ5_clear_2_54 rfl ?_
    refine g_ldc2 (v := (-1)) B q1543 dJ5_clear_2_55 ?_
    refine g_lxor B dJ5_clear_2_58 ?_
    refine g_land B dJ5_clear_2_59 ?_
    refine x_stJ B P hxw hw rfl hn (by omega) (by omega) dJ5_clear_2_60 (fun R7 J7 hs7 hk7 P7 => ?_)
    refine g_aload_n B 1 dJ5_clear_2_61 rfl ?_
    obtain ⟨n8, u8, ty8⟩ := P7.ty hat hr (xrTv hx (by decide))
    have hj2 : J7 rw o 0 = lN (bClr w k) := (rdS hs7).trans (xB_clr hlt hk)
    refine g_callV (rest := []) B M_J5_recalculateWordsInUse q1544 q1546 qs34 ty8 rfl (c_J5_recalc P7 hr hx hw hat (bClr_lt hlt hk) ⟨xw, hxw, hv0⟩ hn hj2 (hv1.trans (congrArg (fun z => Value.int (nI z)) (bUse_p hw1)))) rfl rfl (Nat.le_of_ble_eq_true rfl) (Nat.le_of_ble_eq_true rfl) (Nat.le_of_ble_eq_true rfl) (Nat.le_refl _) (Nat.le_refl _) dJ5_clear_2_62 (xkN (fun T8 O8 R8 le8 p8 => ?_))
    obtain ⟨Y8, V8, I8, J8, A8, P8, rfl, rfl, rfl, rfl, v08, v18, v28, vn8⟩ := p8
    refine g_aload_n B 1 dJ5_clear_2_65 rfl ?_
    obtain ⟨n9, u9, ty9⟩ := P8.ty hat hr (xrTv hx (by decide))
    have S2 : xBs Y V8 J7 r rw o x (bClr w k) := ⟨hat, bClr_lt hlt hk, ⟨xw, hxw, v08.trans hv0⟩, hn, hj2, v18, b2, v28.trans hv2⟩
    refine g_callV (rest := []) B M_J5_checkInvariants q1433 q1435 qs31 ty9 rfl (c_J5_inv P8 hr hx hw S2) rfl rfl (Nat.le_of_ble_eq_true rfl) (Nat.le_of_ble_eq_true rfl) (Nat.le_of_ble_eq_true rfl) (Nat.le_refl _) (Nat.le_refl _) dJ5_clear_2_66 (xkN (fun T9 O9 R9 le9 p9 => ?_))
    obtain ⟨eT9, eO9, eR9⟩ := p9
    obtain rfl := eT9.symm
    obtain rfl := eO9.symm
    obtain rfl := eR9.symm
    refine g_vret B E rfl dJ5_clear_2_69 ?_
    exact ⟨rfl, _, _, _, _, _, P8, rfl, rfl, rfl, S2, yLs.rf, fun r2 o2 x2 _ hs2 => ⟨vn8 r2 o2 (fun e => hs2 ⟨e.2, Or.inl e.1⟩), rfl, upO hs7 hk7 (fun e => hs2 ⟨e.2, Or.inr e.1⟩), rfl⟩⟩
theorem c_J5_clear {G : xG} {T : xT} {O R : xO} {Y : xY} {V : xVV} {I : xII} {J : xJJ} {A : xVV} {w0 : xW} {r rw o x w : Nat} (P : PX Y V I J A w0 T O R) (hr : r < 1000) (hx : r % 100 = 35) (hw : rw / 1000 = 4) (S : xBs Y V J r rw o x w) : xCtr G yJ5_clear cJ5_clear 1 none 0 0 0 0 [.ref x] (T, O, R) (xN (xPN w0 (fun Y2 V2 I2 J2 A2 => Y = Y2 ∧ I = I2 ∧ A = A2 ∧ xBs Y V2 J2 r rw o x (0) ∧ xFr (sBs r rw o) Y V I J A Y2 V2 I2 J2 A2))) := by
  have hS := S
  obtain ⟨hat, hlt, ⟨xw, hxw, hv0⟩, hn, hj, hv1, b2, hv2⟩ := S
  refine xCtr.of (by decide +kernel) (Nat.le_of_ble_eq_true rfl) ?_
  intro Z B E hz hnm
  change xV Z (T, O, R) 0 [(0, .ref x)] [] 0 0
  rcases Nat.eq_zero_or_pos w with hw0 | hw0
  · subst hw0
    refine g_aload_n B 0 dJ5_clear_0 rfl ?_
    refine x_get B P hat hr (xrTv hx (by decide)) F_J5_7_35 (by decide) (hv1.trans (congrArg (fun z => Value.int (nI z)) bUse_0)) dJ5_clear_1 ?_
    refine g_if_leN (tgt := 27) B (by omega) dJ5_clear_4 (by decide) (fun _ => ?_) (fun e => absurd e (by decide))
    refine g_vret B E rfl dJ5_clear_27 ?_
    exact ⟨rfl, _, _, _, _, _, P, rfl, rfl, rfl, hS, xFr.rf⟩
  · have hw1 : w ≠ 0 := by omega
    refine g_aload_n B 0 dJ5_clear_0 rfl ?_
    refine x_get B P hat hr (xrTv hx (by decide)) F_J5_7_35 (by decide) (hv1.trans (congrArg (fun z => Value.int (nI z)) (bUse_p hw1))) dJ5_clear_1 ?_
    refine g_if_leN (tgt := 27) B (by omega) dJ5_clear_4 (by decide) (fun e => absurd e (by decide)) (fun _ => ?_)
    refine g_aload_n B 0 dJ5_clear_7 rfl ?_
    refine x_get B P hat hr (xrTv hx (by decide)) F_J5_11_35 (by decide) hv0 dJ5_clear_8 ?_
    refine g_aload_n B 0 dJ5_clear_11 rfl ?_
    refine g_dup B dJ5_clear_12 rfl ?_
    refine x_get B P hat hr (xrTv hx (by decide)) F_J5_7_35 (by decide) (hv1.trans (congrArg (fun z => Value.int (nI z)) (bUse_p hw1))) dJ5_clear_13 ?_
    refine g_iconst (v := nI 1) B dJ5_clear_16 (by decide) ?_
    refine g_isubN B (by decide) dJ5_clear_17 ?_
    refine g_top (show Value.int (nI (1 - 1)) = .int (nI 0) from rfl) ?_
    refine g_dup_x1 B dJ5_clear_18 rfl rfl ?_
    refine x_put (q := (RJ5, TJ5, 3)) B P hat hr (xrTv hx (by decide)) F_J5_7_35 rfl rfl (tyJ5_ok 1 (by decide)) rfl rfl dJ5_clear_19 (fun O3 V3 hs3 hk3 P3 => ?_)
    refine g_lconst (v := 0) B dJ5_clear_22 (by decide) ?_
    refine x_stJ B P3 hxw hw rfl hn (by omega) (by omega) dJ5_clear_23 (fun R4 J4 hs4 hk4 P4 => ?_)
    refine g_goto (tgt := 0) B dJ5_clear_24 (by decide) ?_
    refine g_aload_n B 0 dJ5_clear_0 rfl ?_
    refine x_get B P4 hat hr (xrTv hx (by decide)) F_J5_7_35 (by decide) (rdS hs3) dJ5_clear_1 ?_
    refine g_if_leN (tgt := 27) B (by omega) dJ5_clear_4 (by decide) (fun _ => ?_) (fun e => absurd e (by decide))
    refine g_vret B E rfl dJ5_clear_27 ?_
    exact ⟨rfl, _, _, _, _, _, P4, rfl, rfl, rfl, ⟨hat, by decide, ⟨xw, hxw, rdK hs3 (by decide) hv0⟩, hn, rdS hs4, rdS hs3, b2, rdK hs3 (by decide) hv2⟩, yLs.rf, fun r2 o2 x2 _ hs2 => ⟨upO hs3 hk3 (fun e => hs2 ⟨e.2, Or.inl e.1⟩), rfl, upO hs4 hk4 (fun e => hs2 ⟨e.2, Or.inr e.1⟩), rfl⟩⟩
