set_option maxRecDepth 100000
theorem sbR_43 : sbR 43 3001 := ⟨by decide, by decide, by decide, by unfold idR; decide, by unfold okA; decide⟩
theorem sbR_143 : sbR 143 3002 := ⟨by decide, by decide, by decide, by unfold idR; decide, by unfold okA; decide⟩
def wOq (kd : Nat) (pa pb : Int32) (p : Nat) : List Nat := [wLet kd] ++ (if kd < 5 then [40] ++ wNum pa ++ (if kd < 3 then [44] ++ wNum pb else []) ++ [41] else []) ++ (if 1 < p then [48 + p] else [])
theorem aA.wOp_q (a : aA) (o : Nat) : a.wOp o = (if 1 < o then [124] else []) ++ wOq (a.kd o) (a.pa o) (a.pb o) (a.p o) := by
  unfold aA.wOp wOq
  simp only [List.append_assoc]
def wOs (p : Nat) : List Nat := if 1 < p then [36, 48 + p] else []
theorem wDig_s {p : Nat} (h : p ≤ 9) : wDig p = [48 + p] := by rw [wDig_9 h, Nat.mod_eq_of_lt (by omega)]
theorem wNum_s {p : Nat} (h : p ≤ 9) : wNum (nI p) = [48 + p] := by rw [wNum_p (by omega), wDig_s h]
theorem wOq_len (kd : Nat) (pa pb : Int32) (p : Nat) : (wOq kd pa pb p).length ≤ 11 := by
  have h1 := wNum_len pa
  have h2 := wNum_len pb
  unfold wOq
  simp only [List.length_append, List.length_singleton]
  split <;> split <;> (try split) <;> simp only [List.length_append, List.length_singleton, List.length_nil] <;> omega
theorem c_X4_write {G : xG} {T : xT} {O R : xO} {Y : xY} {V : xVV} {I : xII} {J : xJJ} {A : xVV} {w0 : xW} {o xo x id xv kd p : Nat} {pa pb : Int32} {l : List Nat} (P : PX Y V I J A w0 T O R) (k0 : yAt Y 4 o xo) (k2 : V 4 o 0 = .int (nI kd)) (k3 : V 4 o 1 = .int pa) (k4 : V 4 o 2 = .int pb) (k5 : V 4 o 3 = .int (nI p)) (S : xSe Y V I 143 3002 x l id xv) (hl : l.length ≤ 70) (hp : p ≤ 9) (ha1 : -99 ≤ pa.toInt) (ha2 : pa.toInt ≤ 99) (hb1 : -99 ≤ pb.toInt) (hb2 : pb.toInt ≤ 99) (hk : kd ≤ 6) : xCtr G yX4_write cX4_write 2 none 6 148 8 3200 [.ref xo, .ref x] (T, O, R) (xN (xPN w0 (fun Y2 V2 I2 J2 A2 => J2 = J ∧ A2 = A ∧ (∃ id2 xv2, xSe Y2 V2 I2 143 3002 x (l ++ wOq kd pa pb p) id2 xv2) ∧ xFr (sSbf 143 3002) Y V I J A Y2 V2 I2 J2 A2))) := by
  refine xCtr.of (by decide +kernel) (Nat.le_of_ble_eq_true rfl) ?_
  intro Z B E hz hnm
  have hSt := by have h := B.st.2.2.2; rw [B.g] at h; exact h
  change xV Z (T, O, R) 0 [(0, .ref xo), (1, .ref x)] [] 8 3200
  have hwa := wNum_len pa
  have hwb := wNum_len pb
  have hwp := wNum_len (nI p)
  obtain ⟨hl1, hl2, hl3⟩ := lw_let (show kd < 7 by omega)
  rw [hl1] at hl2
  refine g_aload_n B 1 dX4_write_0 rfl ?_
  refine g_ldcS B hSt.2.2.2.2.2.1.2.1 dX4_write_1 ?_
  refine g_aload_n B 0 dX4_write_3 rfl ?_
  refine x_get B P k0 (by decide) rfl (FO_X4_19 _) (by decide) k2 dX4_write_4 ?_
  refine g_callK (rest := [_]) B M_J14_charAt q2389 q2390 q2391 (hSt.2.2.2.2.2.1.2.2.1 0 (by decide)).1 (c_J14_charAtK (i := kd) P (by omega)) rfl rfl (Nat.le_of_ble_eq_true rfl) (Nat.le_of_ble_eq_true rfl) (Nat.le_of_ble_eq_true rfl) (Nat.le_refl _) (Nat.le_refl _) dX4_write_7 (xkA (fun v1 T1 O1 R1 le1 p1 => ?_))
  obtain ⟨rfl, eT1, eO1, eR1⟩ := p1
  obtain rfl := eT1.symm
  obtain rfl := eO1.symm
  obtain rfl := eR1.symm
  refine g_top (show Value.int (nI (lwT.getD kd 0)) = Value.int (nI (wLet kd)) from congrArg (fun z => Value.int (nI z)) hl1) ?_
  obtain ⟨n2, u2, ty2⟩ := P.ty S.1 (by decide) rfl
  refine g_callV (kc2 := 7) (ks2 := 2800) (rest := []) B M_J13_append_2 q2400 q2046 q2047 ty2 rfl (c_J13_appendC (l := l) P sbR_143 S (by first | omega | (simp only [List.length_append, List.length_singleton]; omega)) (by omega)) rfl rfl (Nat.le_of_ble_eq_true rfl) (Nat.le_of_ble_eq_true rfl) (Nat.le_of_ble_eq_true rfl) (by decide) (by decide) dX4_write_10 (xkA (fun v2 T2 O2 R2 le2 p2 => ?_))
  obtain ⟨Y2, V2, I2, J2, A2, P2, rfl, eJ2, eA2, ss2, f2⟩ := p2
  obtain rfl := eJ2.symm
  obtain rfl := eA2.symm
  obtain ⟨id2, xv2, S2⟩ := ss2
  have fc2 := f2
  refine g_pop B dX4_write_13 rfl ?_
  refine g_aload_n B 0 dX4_write_14 rfl ?_
  refine x_get B P2 (f2.1.at k0) (by decide) rfl (FO_X4_19 _) (by decide) ((congrFun (fc2.2 _ _ _ k0 (fun e => by unfold sSbf at e; omega)).1 0).trans k2) dX4_write_15 ?_
  refine g_iconst (v := nI 2) B dX4_write_18 (by decide) ?_
  refine g_icmp_gtN (tgt := 56) B (by omega) (by omega) dX4_write_19 (by decide) (fun c3 => ?_) (fun c3 => ?_)
  · refine g_aload_n B 0 dX4_write_56 rfl ?_
    refine x_get B P2 (f2.1.at k0) (by decide) rfl (FO_X4_19 _) (by decide) ((congrFun (fc2.2 _ _ _ k0 (fun e => by unfold sSbf at e; omega)).1 0).trans k2) dX4_write_57 ?_
    refine g_iconst (v := nI 4) B dX4_write_60 (by decide) ?_
    refine g_icmp_gtN (tgt := 83) B (by omega) (by omega) dX4_write_61 (by decide) (fun c4 => ?_) (fun c4 => ?_)
    · refine g_aload_n B 0 dX4_write_83 rfl ?_
      refine x_get B P2 (f2.1.at k0) (by decide) rfl (FO_X4_29 _) (by decide) ((congrFun (fc2.2 _ _ _ k0 (fun e => by unfold sSbf at e; omega)).1 3).trans k5) dX4_write_84 ?_
      refine g_iconst (v := nI 1) B dX4_write_87 (by decide) ?_
      refine g_icmp_leN (tgt := 100) B (by omega) (by omega) dX4_write_88 (by decide) (fun c5 => ?_) (fun c5 => ?_)
      · refine g_vret B E rfl dX4_write_100 ?_
        have hw : l ++ wOq kd pa pb p = (l ++ [(wLet kd)]) := by unfold wOq; rw [if_neg (by omega : ¬ kd < 5), if_neg (by omega : ¬ 1 < p)]; simp only [List.append_assoc, List.append_nil, List.nil_append]
        exact ⟨rfl, _, _, _, _, _, P2, rfl, rfl, ⟨_, _, by rw [hw]; exact S2⟩, fc2⟩
      · refine g_aload_n B 1 dX4_write_91 rfl ?_
        refine g_aload_n B 0 dX4_write_92 rfl ?_
        refine x_get B P2 (f2.1.at k0) (by decide) rfl (FO_X4_29 _) (by decide) ((congrFun (fc2.2 _ _ _ k0 (fun e => by unfold sSbf at e; omega)).1 3).trans k5) dX4_write_93 ?_
        obtain ⟨n6, u6, ty6⟩ := P2.ty (S2).1 (by decide) rfl
        refine g_callV (kc2 := 6) (ks2 := 2400) (rest := []) B M_J13_append_3 q2401 q2361 q2362 ty6 rfl (c_J13_appendI (l := (l ++ [(wLet kd)])) P2 sbR_143 S2 (by first | omega | (simp only [List.length_append, List.length_singleton]; omega)) (by rw [nI_toInt (by omega)]; omega) (by rw [nI_toInt (by omega)]; omega)) rfl rfl (Nat.le_of_ble_eq_true rfl) (Nat.le_of_ble_eq_true rfl) (Nat.le_of_ble_eq_true rfl) (by decide) (by decide) dX4_write_96 (xkA (fun v6 T6 O6 R6 le6 p6 => ?_))
        obtain ⟨Y6, V6, I6, J6, A6, P6, rfl, eJ6, eA6, ss6, f6⟩ := p6
        obtain rfl := eJ6.symm
        obtain rfl := eA6.symm
        obtain ⟨id6, xv6, S6⟩ := ss6
        have fc6 : xFr (sSbf 143 3002) Y V I J A Y6 V6 I6 J A := fc2.tr f6
        refine g_pop B dX4_write_99 rfl ?_
        refine g_vret B E rfl dX4_write_100 ?_
        have hw : l ++ wOq kd pa pb p = ((l ++ [(wLet kd)]) ++ wNum (nI p)) := by unfold wOq; rw [if_neg (by omega : ¬ kd < 5), if_pos (by omega : 1 < p), ← wNum_s hp]; simp only [List.append_assoc, List.append_nil, List.nil_append]
        exact ⟨rfl, _, _, _, _, _, P6, rfl, rfl, ⟨_, _, by rw [hw]; exact S6⟩, fc6⟩
    · refine g_aload_n B 1 dX4_write_64 rfl ?_
      refine g_bipush (v := nI 40) B dX4_write_65 (by decide) ?_
      obtain ⟨n7, u7, ty7⟩ := P2.ty (S2).1 (by decide) rfl
      refine g_callV (kc2 := 6) (ks2 := 2400) (rest := []) B M_J13_append_2 q2400 q2046 q2047 ty7 rfl (c_J13_appendC (l := (l ++ [(wLet kd)])) P2 sbR_143 S2 (by first | omega | (simp only [List.length_append, List.length_singleton]; omega)) (by decide)) rfl rfl (Nat.le_of_ble_eq_true rfl) (Nat.le_of_ble_eq_true rfl) (Nat.le_of_ble_eq_true rfl) (by decide) (by decide) dX4_write_67 (xkA (fun v7 T7 O7 R7 le7 p7 => ?_))
      obtain ⟨Y7, V7, I7, J7, A7, P7, rfl, eJ7, eA7, ss7, f7⟩ := p7
      obtain rfl := eJ7.symm
      obtain rfl := eA7.symm
      obtain ⟨id7, xv7, S7⟩ := ss7
      have fc7 : xFr (sSbf 143 3002) Y V I J A Y7 V7 I7 J A := fc2.tr f7
      refine g_aload_n B 0 dX4_write_70 rfl ?_
      refine x_get B P7 (f7.1.at (f2.1.at k0)) (by decide) rfl (FO_X4_23 _) (by decide) ((congrFun (fc7.2 _ _ _ k0 (fun e => by unfold sSbf at e; omega)).1 1).trans k3) dX4_write_71 ?_
      obtain ⟨n8, u8, ty8⟩ := P7.ty (S7).1 (by decide) rfl
      refine g_callV (kc2 := 5) (ks2 := 2000) (rest := []) B M_J13_append_3 q2401 q2361 q2362 ty8 rfl (c_J13_appendI (l := ((l ++ [(wLet kd)]) ++ [40])) P7 sbR_143 S7 (by first | omega | (simp only [List.length_append, List.length_singleton]; omega)) (by omega) (by omega)) rfl rfl (Nat.le_of_ble_eq_true rfl) (Nat.le_of_ble_eq_true rfl) (Nat.le_of_ble_eq_true rfl) (by decide) (by decide) dX4_write_74 (xkA (fun v8 T8 O8 R8 le8 p8 => ?_))
      obtain ⟨Y8, V8, I8, J8, A8, P8, rfl, eJ8, eA8, ss8, f8⟩ := p8
      obtain rfl := eJ8.symm
      obtain rfl := eA8.symm
      obtain ⟨id8, xv8, S8⟩ := ss8
      have fc8 : xFr (sSbf 143 3002) Y V I J A Y8 V8 I8 J A := fc7.tr f8
      refine g_bipush (v := nI 41) B dX4_write_77 (by decide) ?_
      obtain ⟨n9, u9, ty9⟩ := P8.ty (S8).1 (by decide) rfl
      refine g_callV (kc2 := 4) (ks2 := 1600) (rest := []) B M_J13_append_2 q2400 q2046 q2047 ty9 rfl (c_J13_appendC (l := (((l ++ [(wLet kd)]) ++ [40]) ++ wNum pa)) P8 sbR_143 S8 (by first | omega | (simp only [List.length_append, List.length_singleton]; omega)) (by decide)) rfl rfl (Nat.le_of_ble_eq_true rfl) (Nat.le_of_ble_eq_true rfl) (Nat.le_of_ble_eq_true rfl) (by decide) (by decide) dX4_write_79 (xkA (fun v9 T9 O9 R9 le9 p9 => ?_))
      obtain ⟨Y9, V9, I9, J9, A9, P9, rfl, eJ9, eA9, ss9, f9⟩ := p9
      obtain rfl := eJ9.symm
      obtain rfl := eA9.symm
      obtain ⟨id9, xv9, S9⟩ := ss9
      have fc9 : xFr (sSbf 143 3002) Y V I J A Y9 V9 I9 J A := fc8.tr f9
      refine g_pop B dX4_write_82 rfl ?_
      refine g_aload_n B 0 dX4_write_83 rfl ?_
      refine x_get B P9 (f9.1.at (f8.1.at (f7.1.at (f2.1.at k0)))) (by decide) rfl (FO_X4_29 _) (by decide) ((congrFun (fc9.2 _ _ _ k0 (fun e => by unfold sSbf at e; omega)).1 3).trans k5) dX4_write_84 ?_
      refine g_iconst (v := nI 1) B dX4_write_87 (by decide) ?_
      refine g_icmp_leN (tgt := 100) B (by omega) (by omega) dX4_write_88 (by decide) (fun c10 => ?_) (fun c10 => ?_)
      · refine g_vret B E rfl dX4_write_100 ?_
        have hw : l ++ wOq kd pa pb p = ((((l ++ [(wLet kd)]) ++ [40]) ++ wNum pa) ++ [41]) := by unfold wOq; rw [if_pos (by omega : kd < 5), if_neg (by omega : ¬ kd < 3), if_neg (by omega : ¬ 1 < p)]; simp only [List.append_assoc, List.append_nil, List.nil_append]
        exact ⟨rfl, _, _, _, _, _, P9, rfl, rfl, ⟨_, _, by rw [hw]; exact S9⟩, fc9⟩
      · refine g_aload_n B 1 dX4_write_91 rfl ?_
        refine g_aload_n B 0 dX4_write_92 rfl ?_
        refine x_get B P9 (f9.1.at (f8.1.at (f7.1.at (f2.1.at k0)))) (by decide) rfl (FO_X4_29 _) (by decide) ((congrFun (fc9.2 _ _ _ k0 (fun e => by unfold sSbf at e; omega)).1 3).trans k5) dX4_write_93 ?_
        obtain ⟨n11, u11, ty11⟩ := P9.ty (S9).1 (by decide) rfl
        refine g_callV (kc2 := 3) (ks2 := 1200) (rest := []) B M_J13_append_3 q2401 q2361 q2362 ty11 rfl (c_J13_appendI (l := ((((l ++ [(wLet kd)]) ++ [40]) ++ wNum pa) ++ [41])) P9 sbR_143 S9 (by first | omega | (simp only [List.length_append, List.length_singleton]; omega)) (by rw [nI_toInt (by omega)]; omega) (by rw [nI_toInt (by omega)]; omega)) rfl rfl (Nat.le_of_ble_eq_true rfl) (Nat.le_of_ble_eq_true rfl) (Nat.le_of_ble_eq_true rfl) (by decide) (by decide) dX4_write_96 (xkA (fun v11 T11 O11 R11 le11 p11 => ?_))
        obtain ⟨Y11, V11, I11, J11, A11, P11, rfl, eJ11, eA11, ss11, f11⟩ := p11
        obtain rfl := eJ11.symm
        obtain rfl := eA11.symm
        obtain ⟨id11, xv11, S11⟩ := ss11
        have fc11 : xFr (sSbf 143 3002) Y V I J A Y11 V11 I11 J A := fc9.tr f11
        refine g_pop B dX4_write_99 rfl ?_
        refine g_vret B E rfl dX4_write_100 ?_
        have hw : l ++ wOq kd pa pb p = (((((l ++ [(wLet kd)]) ++ [40]) ++ wNum pa) ++ [41]) ++ wNum (nI p)) := by unfold wOq; rw [if_pos (by omega : kd < 5), if_neg (by omega : ¬ kd < 3), if_pos (by omega : 1 < p), ← wNum_s hp]; simp only [List.append_assoc, List.append_nil, List.nil_append]
        exact ⟨rfl, _, _, _, _, _, P11, rfl, rfl, ⟨_, _, by rw [hw]; exact S11⟩, fc11⟩
  · refine g_aload_n B 1 dX4_write_22 rfl ?_
    refine g_bipush (v := nI 40) B dX4_write_23 (by decide) ?_
    obtain ⟨n12, u12, ty12⟩ := P2.ty (S2).1 (by decide) rfl
    refine g_callV (kc2 := 6) (ks2 := 2400) (rest := []) B M_J13_append_2 q2400 q2046 q2047 ty12 rfl (c_J13_appendC (l := (l ++ [(wLet kd)])) P2 sbR_143 S2 (by first | omega | (simp only [List.length_append, List.length_singleton]; omega)) (by decide)) rfl rfl (Nat.le_of_ble_eq_true rfl) (Nat.le_of_ble_eq_true rfl) (Nat.le_of_ble_eq_true rfl) (by decide) (by decide) dX4_write_25 (xkA (fun v12 T12 O12 R12 le12 p12 => ?_))
    obtain ⟨Y12, V12, I12, J12, A12, P12, rfl, eJ12, eA12, ss12, f12⟩ := p12
    obtain rfl := eJ12.symm
    obtain rfl := eA12.symm
    obtain ⟨id12, xv12, S12⟩ := ss12
    have fc12 : xFr (sSbf 143 3002) Y V I J A Y12 V12 I12 J A := fc2.tr f12
    refine g_aload_n B 0 dX4_write_28 rfl ?_
    refine x_get B P12 (f12.1.at (f2.1.at k0)) (by decide) rfl (FO_X4_23 _) (by decide) ((congrFun (fc12.2 _ _ _ k0 (fun e => by unfold sSbf at e; omega)).1 1).trans k3) dX4_write_29 ?_
    obtain ⟨n13, u13, ty13⟩ := P12.ty (S12).1 (by decide) rfl
    refine g_callV (kc2 := 5) (ks2 := 2000) (rest := []) B M_J13_append_3 q2401 q2361 q2362 ty13 rfl (c_J13_appendI (l := ((l ++ [(wLet kd)]) ++ [40])) P12 sbR_143 S12 (by first | omega | (simp only [List.length_append, List.length_singleton]; omega)) (by omega) (by omega)) rfl rfl (Nat.le_of_ble_eq_true rfl) (Nat.le_of_ble_eq_true rfl) (Nat.le_of_ble_eq_true rfl) (by decide) (by decide) dX4_write_32 (xkA (fun v13 T13 O13 R13 le13 p13 => ?_))
    obtain ⟨Y13, V13, I13, J13, A13, P13, rfl, eJ13, eA13, ss13, f13⟩ := p13
    obtain rfl := eJ13.symm
    obtain rfl := eA13.symm
    obtain ⟨id13, xv13, S13⟩ := ss13
    have fc13 : xFr (sSbf 143 3002) Y V I J A Y13 V13 I13 J A := fc12.tr f13
    refine g_bipush (v := nI 44) B dX4_write_35 (by decide) ?_
    obtain ⟨n14, u14, ty14⟩ := P13.ty (S13).1 (by decide) rfl
    refine g_callV (kc2 := 4) (ks2 := 1600) (rest := []) B M_J13_append_2 q2400 q2046 q2047 ty14 rfl (c_J13_appendC (l := (((l ++ [(wLet kd)]) ++ [40]) ++ wNum pa)) P13 sbR_143 S13 (by first | omega | (simp only [List.length_append, List.length_singleton]; omega)) (by decide)) rfl rfl (Nat.le_of_ble_eq_true rfl) (Nat.le_of_ble_eq_true rfl) (Nat.le_of_ble_eq_true rfl) (by decide) (by decide) dX4_write_37 (xkA (fun v14 T14 O14 R14 le14 p14 => ?_))
    obtain ⟨Y14, V14, I14, J14, A14, P14, rfl, eJ14, eA14, ss14, f14⟩ := p14
    obtain rfl := eJ14.symm
    obtain rfl := eA14.symm
    obtain ⟨id14, xv14, S14⟩ := ss14
    have fc14 : xFr (sSbf 143 3002) Y V I J A Y14 V14 I14 J A := fc13.tr f14
    refine g_aload_n B 0 dX4_write_40 rfl ?_
    refine x_get B P14 (f14.1.at (f13.1.at (f12.1.at (f2.1.at k0)))) (by decide) rfl (FO_X4_26 _) (by decide) ((congrFun (fc14.2 _ _ _ k0 (fun e => by unfold sSbf at e; omega)).1 2).trans k4) dX4_write_41 ?_
    obtain ⟨n15, u15, ty15⟩ := P14.ty (S14).1 (by decide) rfl
    refine g_callV (kc2 := 3) (ks2 := 1200) (rest := []) B M_J13_append_3 q2401 q2361 q2362 ty15 rfl (c_J13_appendI (l := ((((l ++ [(wLet kd)]) ++ [40]) ++ wNum pa) ++ [44])) P14 sbR_143 S14 (by first | omega | (simp only [List.length_append, List.length_singleton]; omega)) (by omega) (by omega)) rfl rfl (Nat.le_of_ble_eq_true rfl) (Nat.le_of_ble_eq_true rfl) (Nat.le_of_ble_eq_true rfl) (by decide) (by decide) dX4_write_44 (xkA (fun v15 T15 O15 R15 le15 p15 => ?_))
    obtain ⟨Y15, V15, I15, J15, A15, P15, rfl, eJ15, eA15, ss15, f15⟩ := p15
    obtain rfl := eJ15.symm
    obtain rfl := eA15.symm
    obtain ⟨id15, xv15, S15⟩ := ss15
    have fc15 : xFr (sSbf 143 3002) Y V I J A Y15 V15 I15 J A := fc14.tr f15
    refine g_bipush (v := nI 41) B dX4_write_47 (by decide) ?_
    obtain ⟨n16, u16, ty16⟩ := P15.ty (S15).1 (by decide) rfl
    refine g_callV (kc2 := 2) (ks2 := 800) (rest := []) B M_J13_append_2 q2400 q2046 q2047 ty16 rfl (c_J13_appendC (l := (((((l ++ [(wLet kd)]) ++ [40]) ++ wNum pa) ++ [44]) ++ wNum pb)) P15 sbR_143 S15 (by first | omega | (simp only [List.length_append, List.length_singleton]; omega)) (by decide)) rfl rfl (Nat.le_of_ble_eq_true rfl) (Nat.le_of_ble_eq_true rfl) (Nat.le_of_ble_eq_true rfl) (by decide) (by decide) dX4_write_49 (xkA (fun v16 T16 O16 R16 le16 p16 => ?_))
    obtain ⟨Y16, V16, I16, J16, A16, P16, rfl, eJ16, eA16, ss16, f16⟩ := p16
    obtain rfl := eJ16.symm
    obtain rfl := eA16.symm
    obtain ⟨id16, xv16, S16⟩ := ss16
    have fc16 : xFr (sSbf 143 3002) Y V I J A Y16 V16 I16 J A := fc15.tr f16
    refine g_pop B dX4_write_52 rfl ?_
    refine g_goto (tgt := 83) B dX4_write_53 (by decide) ?_
    refine g_aload_n B 0 dX4_write_83 rfl ?_
    refine x_get B P16 (f16.1.at (f15.1.at (f14.1.at (f13.1.at (f12.1.at (f2.1.at k0)))))) (by decide) rfl (FO_X4_29 _) (by decide) ((congrFun (fc16.2 _ _ _ k0 (fun e => by unfold sSbf at e; omega)).1 3).trans k5) dX4_write_84 ?_
    refine g_iconst (v := nI 1) B dX4_write_87 (by decide) ?_
    refine g_icmp_leN (tgt := 100) B (by omega) (by omega) dX4_write_88 (by decide) (fun c17 => ?_) (fun c17 => ?_)
    · refine g_vret B E rfl dX4_write_100 ?_
      have hw : l ++ wOq kd pa pb p = ((((((l ++ [(wLet kd)]) ++ [40]) ++ wNum pa) ++ [44]) ++ wNum pb) ++ [41]) := by unfold wOq; rw [if_pos (by omega : kd < 5), if_pos (by omega : kd < 3), if_neg (by omega : ¬ 1 < p)]; simp only [List.append_assoc, List.append_nil, List.nil_append]
      exact ⟨rfl, _, _, _, _, _, P16, rfl, rfl, ⟨_, _, by rw [hw]; exact S16⟩, fc16⟩
    · refine g_aload_n B 1 dX4_write_91 rfl ?_
      refine g_aload_n B 0 dX4_write_92 rfl ?_
      refine x_get B P16 (f16.1.at (f15.1.at (f14.1.at (f13.1.at (f12.1.at (f2.1.at k0)))))) (by decide) rfl (FO_X4_29 _) (by decide) ((congrFun (fc16.2 _ _ _ k0 (fun e => by unfold sSbf at e; omega)).1 3).trans k5) dX4_write_93 ?_
      obtain ⟨n18, u18, ty18⟩ := P16.ty (S16).1 (by decide) rfl
      refine g_callV (kc2 := 1) (ks2 := 400) (rest := []) B M_J13_append_3 q2401 q2361 q2362 ty18 rfl (c_J13_appendI (l := ((((((l ++ [(wLet kd)]) ++ [40]) ++ wNum pa) ++ [44]) ++ wNum pb) ++ [41])) P16 sbR_143 S16 (by first | omega | (simp only [List.length_append, List.length_singleton]; omega)) (by rw [nI_toInt (by omega)]; omega) (by rw [nI_toInt (by omega)]; omega)) rfl rfl (Nat.le_of_ble_eq_true rfl) (Nat.le_of_ble_eq_true rfl) (Nat.le_of_ble_eq_true rfl) (by decide) (by decide) dX4_write_96 (xkA (fun v18 T18 O18 R18 le18 p18 => ?_))
      obtain ⟨Y18, V18, I18, J18, A18, P18, rfl, eJ18, eA18, ss18, f18⟩ := p18
      obtain rfl := eJ18.symm
      obtain rfl := eA18.symm
      obtain ⟨id18, xv18, S18⟩ := ss18
      have fc18 : xFr (sSbf 143 3002) Y V I J A Y18 V18 I18 J A := fc16.tr f18
      refine g_pop B dX4_write_99 rfl ?_
      refine g_vret B E rfl dX4_write_100 ?_
      have hw : l ++ wOq kd pa pb p = (((((((l ++ [(wLet kd)]) ++ [40]) ++ wNum pa) ++ [44]) ++ wNum pb) ++ [41]) ++ wNum (nI p)) := by unfold wOq; rw [if_pos (by omega : kd < 5), if_pos (by omega : kd < 3), if_pos (by omega : 1 < p), ← wNum_s hp]; simp only [List.append_assoc, List.append_nil, List.nil_append]
      exact ⟨rfl, _, _, _, _, _, P18, rfl, rfl, ⟨_, _, by rw [hw]; exact S18⟩, fc18⟩
theorem c_X8_write {G : xG} {T : xT} {O R : xO} {Y : xY} {V : xVV} {I : xII} {J : xJJ} {A : xVV} {w0 : xW} {o xo x id xv kd p : Nat} {pa pb : Int32} {l : List Nat} (P : PX Y V I J A w0 T O R) (k0 : yAt Y 4 o xo) (k2 : V 4 o 0 = .int (nI kd)) (k3 : V 4 o 1 = .int pa) (k4 : V 4 o 2 = .int pb) (k5 : V 4 o 3 = .int (nI p)) (S : xSe Y V I 143 3002 x l id xv) (hl : l.length ≤ 70) (hp : p ≤ 9) (ha1 : -99 ≤ pa.toInt) (ha2 : pa.toInt ≤ 99) (hb1 : -99 ≤ pb.toInt) (hb2 : pb.toInt ≤ 99) : xCtr G yX8_write cX8_write 2 none 6 148 8 3200 [.ref xo, .ref x] (T, O, R) (xN (xPN w0 (fun Y2 V2 I2 J2 A2 => J2 = J ∧ A2 = A ∧ (∃ id2 xv2, xSe Y2 V2 I2 143 3002 x (l ++ wOs p) id2 xv2) ∧ xFr (sSbf 143 3002) Y V I J A Y2 V2 I2 J2 A2))) := by
  refine xCtr.of (by decide +kernel) (Nat.le_of_ble_eq_true rfl) ?_
  intro Z B E hz hnm
  change xV Z (T, O, R) 0 [(0, .ref xo), (1, .ref x)] [] 8 3200
  have hwa := wNum_len pa
  have hwb := wNum_len pb
  have hwp := wNum_len (nI p)
  refine g_aload_n B 0 dX8_write_0 rfl ?_
  refine x_get B P k0 (by decide) rfl (FO_X8_21 _) (by decide) k5 dX8_write_1 ?_
  refine g_iconst (v := nI 1) B dX8_write_4 (by decide) ?_
  refine g_icmp_leN (tgt := 22) B (by omega) (by omega) dX8_write_5 (by decide) (fun c1 => ?_) (fun c1 => ?_)
  · refine g_vret B E rfl dX8_write_22 ?_
    exact ⟨rfl, _, _, _, _, _, P, rfl, rfl, ⟨_, _, by rw [wOs, if_neg (by omega : ¬ 1 < p), List.append_nil]; exact S⟩, xFr.rf⟩
  · refine g_aload_n B 1 dX8_write_8 rfl ?_
    refine g_bipush (v := nI 36) B dX8_write_9 (by decide) ?_
    obtain ⟨n2, u2, ty2⟩ := P.ty S.1 (by decide) rfl
    refine g_callV (kc2 := 7) (ks2 := 2800) (rest := []) B M_J13_append_2 q2359 q2046 q2047 ty2 rfl (c_J13_appendC (l := l) P sbR_143 S (by first | omega | (simp only [List.length_append, List.length_singleton]; omega)) (by decide)) rfl rfl (Nat.le_of_ble_eq_true rfl) (Nat.le_of_ble_eq_true rfl) (Nat.le_of_ble_eq_true rfl) (by decide) (by decide) dX8_write_11 (xkA (fun v2 T2 O2 R2 le2 p2 => ?_))
    obtain ⟨Y2, V2, I2, J2, A2, P2, rfl, eJ2, eA2, ss2, f2⟩ := p2
    obtain rfl := eJ2.symm
    obtain rfl := eA2.symm
    obtain ⟨id2, xv2, S2⟩ := ss2
    have fc2 := f2
    refine g_aload_n B 0 dX8_write_14 rfl ?_
    refine x_get B P2 (f2.1.at k0) (by decide) rfl (FO_X8_21 _) (by decide) ((congrFun (fc2.2 _ _ _ k0 (fun e => by unfold sSbf at e; omega)).1 3).trans k5) dX8_write_15 ?_
    obtain ⟨n3, u3, ty3⟩ := P2.ty (S2).1 (by decide) rfl
    refine g_callV (kc2 := 6) (ks2 := 2400) (rest := []) B M_J13_append_3 q2360 q2361 q2362 ty3 rfl (c_J13_appendI (l := (l ++ [36])) P2 sbR_143 S2 (by first | omega | (simp only [List.length_append, List.length_singleton]; omega)) (by rw [nI_toInt (by omega)]; omega) (by rw [nI_toInt (by omega)]; omega)) rfl rfl (Nat.le_of_ble_eq_true rfl) (Nat.le_of_ble_eq_true rfl) (Nat.le_of_ble_eq_true rfl) (by decide) (by decide) dX8_write_18 (xkA (fun v3 T3 O3 R3 le3 p3 => ?_))
    obtain ⟨Y3, V3, I3, J3, A3, P3, rfl, eJ3, eA3, ss3, f3⟩ := p3
    obtain rfl := eJ3.symm
    obtain rfl := eA3.symm
    obtain ⟨id3, xv3, S3⟩ := ss3
    have fc3 : xFr (sSbf 143 3002) Y V I J A Y3 V3 I3 J A := fc2.tr f3
    refine g_pop B dX8_write_21 rfl ?_
    refine g_vret B E rfl dX8_write_22 ?_
    exact ⟨rfl, _, _, _, _, _, P3, rfl, rfl, ⟨_, _, by rw [wOs, if_pos (by omega : 1 < p), show ([36, 48 + p] : List Nat) = [36] ++ [48 + p] from rfl, ← wNum_s hp, ← List.append_assoc]; exact S3⟩, fc3⟩
