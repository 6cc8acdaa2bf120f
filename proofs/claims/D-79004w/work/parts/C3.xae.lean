set_option maxRecDepth 100000
theorem c_J8_copyOfQ {G : xG} {T : xT} {O R : xO} {Y : xY} {V : xVV} {I : xII} {J : xJJ} {A : xVV} {w0 : xW} {rd id xd n : Nat} {r : Nat} (P : PX Y V I J A w0 T O R) (hR : alR r rd) (k2 : yAt Y rd id xd) (hn : yN Y rd id < n ∧ n < 1000) (hel : ∀ j, j < yN Y rd id → ∃ y, A rd id j = .ref y ∧ xObj Y y) : xCtr G yJ8_copyOf cJ8_copyOf 2 (some (Jvm.ClassFile.FieldType.array (Jvm.ClassFile.FieldType.object "java/lang/Object"))) 2 83 1 n [.ref xd, .int (nI n)] (T, O, R) (xA (xP w0 (fun v Y2 V2 I2 J2 A2 => ∃ q, v = .ref q ∧ V2 = V ∧ (I2 = I ∧ J2 = J) ∧ yAt Y2 rd q q ∧ yN Y2 rd q = n ∧ (∀ j, A2 rd q j = if j < yN Y rd id then A rd id j else .null) ∧ xFr (fun r2 _ => r2 = rd) Y V I J A Y2 V2 I2 J2 A2))) := by
  refine xCtr.of (by decide +kernel) (Nat.le_of_ble_eq_true rfl) ?_
  intro Z B E hz hnm
  change xV Z (T, O, R) 0 [(0, .ref xd), (1, .int (nI n))] [] 1 n
  have hR2 := hR.2.2.1
  have hG : xSt G := by have h := B.st; rw [B.g] at h; exact h
  obtain ⟨mi, hM⟩ := xst_mi hG
  refine g_aload_n B 0 dJ8_copyOf_0 rfl ?_
  refine g_iload_n B 1 dJ8_copyOf_1 rfl ?_
  refine g_aload_n B 0 dJ8_copyOf_2 rfl ?_
  obtain ⟨tt1, uu1, ty1, tk1⟩ := P.tya k2 (by omega)
  refine g_getC B hM ty1 (by rw [tk1, hR.2.2.1]; rfl) q422 (Nat.le_of_ble_eq_true rfl) (Nat.le_of_ble_eq_true rfl) dJ8_copyOf_3 ?_
  refine g_callS (kc2 := 0) (ks2 := 0) (rest := []) B M_J8_copyOf_2 q461 q462 (c_J8_copyOf_2 P hR k2 hn hel hM) rfl rfl (Nat.le_of_ble_eq_true rfl) (Nat.le_of_ble_eq_true rfl) (Nat.le_of_ble_eq_true rfl) (by omega) (by omega) dJ8_copyOf_6 (xkA (fun v2 T2 O2 R2 le2 p2 => ?_))
  obtain ⟨Y2, V2, I2, J2, A2, P2, q2, rfl, r2⟩ := p2
  refine g_aret B E rfl (Or.inr ⟨_, rfl⟩) (Or.inr ⟨_, rfl⟩) dJ8_copyOf_9 ?_
  exact ⟨_, rfl, _, _, _, _, _, P2, q2, rfl, r2⟩
theorem c_J4_grow_2D {G : xG} {T : xT} {O R : xO} {Y : xY} {V : xVV} {I : xII} {J : xJJ} {A : xVV} {w0 : xW} {r rd x id xd : Nat} {l : List Nat} (P : PX Y V I J A w0 T O R) (hR : alR r rd) (g1 : yAt Y r 0 x) (g3 : V r 0 2 = .int (nI l.length)) (k1 : V r 0 1 = .ref xd) (k2 : yAt Y rd id xd) (hcp : yN Y rd id = l.length) (h10 : 10 ≤ l.length) (h99 : l.length ≤ 99) (k6 : ∀ j, j < l.length → A rd id j = .ref (l.getD j 0)) (hel : ∀ j, j < l.length → xObj Y (l.getD j 0)) : xCtr G yJ4_grow_2 cJ4_grow_2 4 (some (Jvm.ClassFile.FieldType.array (Jvm.ClassFile.FieldType.object "java/lang/Object"))) 3 104 1 150 [.ref x, .int (nI (l.length + 1))] (T, O, R) (xA (xP w0 (fun v Y2 V2 I2 J2 A2 => ∃ q, v = .ref q ∧ (I2 = I ∧ J2 = J) ∧ yAt Y2 rd q q ∧ V2 r 0 1 = .ref q ∧ V2 r 0 0 = V r 0 0 ∧ V2 r 0 2 = V r 0 2 ∧ (l.length < yN Y2 rd q ∧ 10 ≤ yN Y2 rd q ∧ yN Y2 rd q ≤ 300) ∧ (∀ j, j < l.length → A2 rd q j = .ref (l.getD j 0)) ∧ xFr (sAl r rd) Y V I J A Y2 V2 I2 J2 A2))) := by
  have hR2 := hR.2.2.1
  have hR3 := hR.1
  refine xCtr.of (by decide +kernel) (Nat.le_of_ble_eq_true rfl) ?_
  intro Z B E hz hnm
  change xV Z (T, O, R) 0 [(0, .ref x), (1, .int (nI (l.length + 1)))] [] 1 150
  refine g_aload_n B 0 dJ4_grow_2_0 rfl ?_
  refine x_get B P g1 hR.1 (xrTv hR.2.1 (by decide)) F_J4_9_34 (by decide) k1 dJ4_grow_2_1 ?_
  refine x_alen B P k2 (by omega) (by rw [hR.2.2.1]; rfl) hcp dJ4_grow_2_4 ?_
  refine g_istore_n (lv2 := [(2, _), (0, _), (1, _)]) B dJ4_grow_2_5 (by decide) rfl ?_
  refine g_iload_n B 0 dJ4_grow_2_6 rfl ?_
  refine g_if_gtN (tgt := 20) B (by omega) dJ4_grow_2_7 (by decide) (fun _ => ?_) (fun e => absurd e (by omega))
  refine g_iload_n B 0 dJ4_grow_2_20 rfl ?_
  refine g_iload_n B 2 dJ4_grow_2_21 rfl ?_
  refine g_iload_n B 0 dJ4_grow_2_22 rfl ?_
  refine g_isubN B (by omega) dJ4_grow_2_23 ?_
  refine g_top (show Value.int (nI ((l.length + 1) - l.length)) = Value.int (nI 1) from congrArg (fun z => Value.int (nI z)) (by omega)) ?_
  refine g_iload_n B 0 dJ4_grow_2_24 rfl ?_
  refine g_iconst (v := nI 1) B dJ4_grow_2_25 (by decide) ?_
  refine g_ishr B dJ4_grow_2_26 ?_
  refine g_top (show Value.int ((nI l.length) >>> ((nI 1) &&& 31)) = Value.int (nI (l.length / 2)) from congrArg Value.int (nI_shr1 (by omega))) ?_
  refine g_callS (rest := []) B M_J6_newLength q409 q410 (c_J6_newLength (a := l.length) (b := 1) (c := l.length / 2) P (by omega) (by decide) (by omega)) rfl rfl (Nat.le_of_ble_eq_true rfl) (Nat.le_of_ble_eq_true rfl) (Nat.le_of_ble_eq_true rfl) (Nat.le_refl _) (Nat.le_refl _) dJ4_grow_2_27 (xkA (fun v1 T1 O1 R1 le1 p1 => ?_))
  obtain ⟨rfl, eT1, eO1, eR1⟩ := p1
  obtain rfl := eT1.symm
  obtain rfl := eO1.symm
  obtain rfl := eR1.symm
  obtain ⟨nc, hnc⟩ : ∃ nc, nc = l.length + max 1 (l.length / 2) := ⟨_, rfl⟩
  have hnc2 : l.length < nc ∧ nc ≤ 150 := by omega
  rw [← hnc]
  refine g_istore_n (lv2 := [(3, _), (2, _), (0, _), (1, _)]) B dJ4_grow_2_30 (by decide) rfl ?_
  refine g_aload_n B 2 dJ4_grow_2_31 rfl ?_
  refine g_aload_n B 2 dJ4_grow_2_32 rfl ?_
  refine x_get B P g1 hR.1 (xrTv hR.2.1 (by decide)) F_J4_9_34 (by decide) k1 dJ4_grow_2_33 ?_
  refine g_iload_n B 0 dJ4_grow_2_36 rfl ?_
  refine g_callS (kc2 := 0) (ks2 := 0) (rest := [_]) B M_J8_copyOf q419 q420 (c_J8_copyOfQ (n := nc) P hR k2 (by rw [hcp]; omega) (fun j hj => ⟨_, k6 j (by rw [hcp] at hj; exact hj), hel j (by rw [hcp] at hj; exact hj)⟩)) rfl rfl (Nat.le_of_ble_eq_true rfl) (Nat.le_of_ble_eq_true rfl) (Nat.le_of_ble_eq_true rfl) (Nat.le_refl _) (by omega) dJ4_grow_2_37 (xkA (fun v2 T2 O2 R2 le2 p2 => ?_))
  obtain ⟨Y2, V2, I2, J2, A2, P2, q2, rfl, eV2, ⟨eI2, eJ2⟩, at2, hN2, hv2, f2⟩ := p2
  obtain rfl := eV2.symm
  obtain rfl := eI2.symm
  obtain rfl := eJ2.symm
  refine g_dup_x1 B dJ4_grow_2_40 rfl rfl ?_
  refine x_put (q := (RJ4, TJ4, 3)) B P2 (f2.1.at g1) hR.1 (xrTv hR.2.1 (by decide)) F_J4_9_34 rfl rfl (tyJ4_ok 1 (by decide)) rfl rfl dJ4_grow_2_41 (fun O3 V3 hs3 hk3 P3 => ?_)
  refine g_aret B E rfl (Or.inr ⟨_, rfl⟩) (Or.inr ⟨_, rfl⟩) dJ4_grow_2_44 ?_
  have fz : xFr (sAl r rd) Y V I J A Y2 V3 I J A2 := (f2.mono (fun r2 o2 e => Or.inr e)).tr (xFr.uV (r := r) (o := 0) (Or.inl ⟨rfl, rfl⟩) hs3 hk3)
  exact ⟨_, rfl, _, _, _, _, _, P3, q2, rfl, ⟨rfl, rfl⟩, at2, rdS hs3, rdK hs3 (by decide) rfl, rdK hs3 (by decide) rfl, by rw [hN2]; omega, fun j hj => by rw [hv2, if_pos (by rw [hcp]; exact hj)]; exact k6 j hj, fz⟩
theorem c_J4_grow_2S {G : xG} {T : xT} {O R : xO} {Y : xY} {V : xVV} {I : xII} {J : xJJ} {A : xVV} {w0 : xW} {r rd x : Nat} {l : List Nat} (P : PX Y V I J A w0 T O R) (hR : alR r rd) (g1 : yAt Y r 0 x) (g3 : V r 0 2 = .int (nI l.length)) (k1 : V r 0 1 = .ref (G.2.2.2.2 0)) (hl : l = []) : xCtr G yJ4_grow_2 cJ4_grow_2 4 (some (Jvm.ClassFile.FieldType.array (Jvm.ClassFile.FieldType.object "java/lang/Object"))) 1 21 1 150 [.ref x, .int (nI (l.length + 1))] (T, O, R) (xA (xP w0 (fun v Y2 V2 I2 J2 A2 => ∃ q, v = .ref q ∧ (I2 = I ∧ J2 = J) ∧ yAt Y2 rd q q ∧ V2 r 0 1 = .ref q ∧ V2 r 0 0 = V r 0 0 ∧ V2 r 0 2 = V r 0 2 ∧ (l.length < yN Y2 rd q ∧ 10 ≤ yN Y2 rd q ∧ yN Y2 rd q ≤ 300) ∧ (∀ j, j < l.length → A2 rd q j = .ref (l.getD j 0)) ∧ xFr (sAl r rd) Y V I J A Y2 V2 I2 J2 A2))) := by
  have hR2 := hR.2.2.1
  have hR3 := hR.1
  refine xCtr.of (by decide +kernel) (Nat.le_of_ble_eq_true rfl) ?_
  intro Z B E hz hnm
  have hSt := by have h := B.st.2.2.2; rw [B.g] at h; exact h
  change xV Z (T, O, R) 0 [(0, .ref x), (1, .int (nI (l.length + 1)))] [] 1 150
  have hl0 : l.length = 0 := by rw [hl]; rfl
  refine g_aload_n B 0 dJ4_grow_2_0 rfl ?_
  refine x_get B P g1 hR.1 (xrTv hR.2.1 (by decide)) F_J4_9_34 (by decide) k1 dJ4_grow_2_1 ?_
  refine g_slen (N := 0) B hSt.1.2 dJ4_grow_2_4 ?_
  refine g_istore_n (lv2 := [(2, _), (0, _), (1, _)]) B dJ4_grow_2_5 (by decide) rfl ?_
  refine g_iload_n B 0 dJ4_grow_2_6 rfl ?_
  refine g_if_gtN (tgt := 20) B (by omega) dJ4_grow_2_7 (by decide) (fun e => absurd e (by decide)) (fun _ => ?_)
  refine g_aload_n B 1 dJ4_grow_2_10 rfl ?_
  refine x_get B P g1 hR.1 (xrTv hR.2.1 (by decide)) F_J4_9_34 (by decide) k1 dJ4_grow_2_11 ?_
  refine g_gets B hSt.1.1 q205 dJ4_grow_2_14 ?_
  refine g_acmp_eq (rx := some (G.2.2.2.2 0)) (ry := some (G.2.2.2.2 0)) (tgt := 45) B rfl rfl dJ4_grow_2_17 (by decide) (fun _ => ?_) (fun e => absurd rfl e)
  refine g_aload_n B 1 dJ4_grow_2_45 rfl ?_
  refine g_bipush (v := nI 10) B dJ4_grow_2_46 (by decide) ?_
  refine g_iload_n B 2 dJ4_grow_2_48 rfl ?_
  refine g_callS (rest := [_]) B M_J7_max q473 q413 (c_J7_max P) rfl rfl (Nat.le_of_ble_eq_true rfl) (Nat.le_of_ble_eq_true rfl) (Nat.le_of_ble_eq_true rfl) (Nat.le_refl _) (Nat.le_refl _) dJ4_grow_2_49 (xkA (fun v2 T2 O2 R2 le2 p2 => ?_))
  obtain ⟨rfl, eT2, eO2, eR2⟩ := p2
  obtain rfl := eT2.symm
  obtain rfl := eO2.symm
  obtain rfl := eR2.symm
  refine g_top (show Value.int (if nI 10 < nI (l.length + 1) then nI (l.length + 1) else nI 10) = Value.int (nI 10) from congrArg Value.int (if_neg (fun e => by rw [hl0] at e; exact absurd e (by decide)))) ?_
  refine xV.room (kc' := 0 + 1) (ks' := 0 + 10) (by omega) (by omega) ?_
  refine x_newq (N := 10) (kc := 0) (ks := 0) B P rd (fun q => q) hR.2.2.2.2 (by rw [hR.2.2.1]; decide) (by rw [hR.2.2.1]; rfl) q474 q465 rfl (by decide) (fun q hq x => P.fresh hq _ _ hR.2.2.2.1) (fun _ => Or.inl (fun _ => rfl)) dJ4_grow_2_52 (fun q3 Y3 A3 T3 R3 hq3 le3 gr3 hf3 at3 hN3 hs3 hk3 P3 => ?_)
  refine g_dup_x1 B dJ4_grow_2_55 rfl rfl ?_
  refine x_put (q := (RJ4, TJ4, 3)) B P3 (le3.at g1) hR.1 (xrTv hR.2.1 (by decide)) F_J4_9_34 rfl rfl (tyJ4_ok 1 (by decide)) rfl rfl dJ4_grow_2_56 (fun O4 V4 hs4 hk4 P4 => ?_)
  refine g_aret B E rfl (Or.inr ⟨_, rfl⟩) (Or.inr ⟨_, rfl⟩) dJ4_grow_2_59 ?_
  have fz : xFr (sAl r rd) Y V I J A Y3 V4 I J A3 := (xFr.nA (r := rd) (o := q3) (Or.inr rfl) le3 gr3 hs3 hk3).tr (xFr.uV (r := r) (o := 0) (Or.inl ⟨rfl, rfl⟩) hs4 hk4)
  exact ⟨_, rfl, _, _, _, _, _, P4, q3, rfl, ⟨rfl, rfl⟩, at3, rdS hs4, rdK hs4 (by decide) rfl, rdK hs4 (by decide) rfl, by rw [hN3, hl0]; decide, fun j hj => by rw [hl0] at hj; exact absurd hj (Nat.not_lt_zero j), fz⟩
theorem c_J4_growD {G : xG} {T : xT} {O R : xO} {Y : xY} {V : xVV} {I : xII} {J : xJJ} {A : xVV} {w0 : xW} {r rd x id xd : Nat} {l : List Nat} (P : PX Y V I J A w0 T O R) (hR : alR r rd) (g1 : yAt Y r 0 x) (g3 : V r 0 2 = .int (nI l.length)) (k1 : V r 0 1 = .ref xd) (k2 : yAt Y rd id xd) (hcp : yN Y rd id = l.length) (h10 : 10 ≤ l.length) (h99 : l.length ≤ 99) (k6 : ∀ j, j < l.length → A rd id j = .ref (l.getD j 0)) (hel : ∀ j, j < l.length → xObj Y (l.getD j 0)) : xCtr G yJ4_grow cJ4_grow 1 (some (Jvm.ClassFile.FieldType.array (Jvm.ClassFile.FieldType.object "java/lang/Object"))) 4 127 1 150 [.ref x] (T, O, R) (xA (xP w0 (fun v Y2 V2 I2 J2 A2 => ∃ q, v = .ref q ∧ (I2 = I ∧ J2 = J) ∧ yAt Y2 rd q q ∧ V2 r 0 1 = .ref q ∧ V2 r 0 0 = V r 0 0 ∧ V2 r 0 2 = V r 0 2 ∧ (l.length < yN Y2 rd q ∧ 10 ≤ yN Y2 rd q ∧ yN Y2 rd q ≤ 300) ∧ (∀ j, j < l.length → A2 rd q j = .ref (l.getD j 0)) ∧ xFr (sAl r rd) Y V I J A Y2 V2 I2 J2 A2))) := by
  have hR2 := hR.2.2.1
  have hR3 := hR.1
  refine xCtr.of (by decide +kernel) (Nat.le_of_ble_eq_true rfl) ?_
  intro Z B E hz hnm
  change xV Z (T, O, R) 0 [(0, .ref x)] [] 1 150
  refine g_aload_n B 0 dJ4_grow_0 rfl ?_
  refine g_aload_n B 0 dJ4_grow_1 rfl ?_
  refine x_get B P g1 hR.1 (xrTv hR.2.1 (by decide)) F_J4_48_34 (by decide) g3 dJ4_grow_2 ?_
  refine g_iconst (v := nI 1) B dJ4_grow_5 (by decide) ?_
  refine g_iaddN B dJ4_grow_6 ?_
  obtain ⟨n1, u1, ty1⟩ := P.ty g1 hR.1 (xrTv hR.2.1 (by decide))
  refine g_callV (kc2 := 0) (ks2 := 0) (rest := []) B M_J4_grow_2 q405 q407 qs3 ty1 rfl (c_J4_grow_2D P hR g1 g3 k1 k2 hcp h10 h99 k6 hel) rfl rfl (Nat.le_of_ble_eq_true rfl) (Nat.le_of_ble_eq_true rfl) (Nat.le_of_ble_eq_true rfl) (by decide) (by decide) dJ4_grow_7 (xkA (fun v1 T1 O1 R1 le1 p1 => ?_))
  obtain ⟨Y1, V1, I1, J1, A1, P1, q1, rfl, r1⟩ := p1
  refine g_aret B E rfl (Or.inr ⟨_, rfl⟩) (Or.inr ⟨_, rfl⟩) dJ4_grow_10 ?_
  exact ⟨_, rfl, _, _, _, _, _, P1, q1, rfl, r1⟩
theorem c_J4_growS {G : xG} {T : xT} {O R : xO} {Y : xY} {V : xVV} {I : xII} {J : xJJ} {A : xVV} {w0 : xW} {r rd x : Nat} {l : List Nat} (P : PX Y V I J A w0 T O R) (hR : alR r rd) (g1 : yAt Y r 0 x) (g3 : V r 0 2 = .int (nI l.length)) (k1 : V r 0 1 = .ref (G.2.2.2.2 0)) (hl : l = []) : xCtr G yJ4_grow cJ4_grow 1 (some (Jvm.ClassFile.FieldType.array (Jvm.ClassFile.FieldType.object "java/lang/Object"))) 2 44 1 150 [.ref x] (T, O, R) (xA (xP w0 (fun v Y2 V2 I2 J2 A2 => ∃ q, v = .ref q ∧ (I2 = I ∧ J2 = J) ∧ yAt Y2 rd q q ∧ V2 r 0 1 = .ref q ∧ V2 r 0 0 = V r 0 0 ∧ V2 r 0 2 = V r 0 2 ∧ (l.length < yN Y2 rd q ∧ 10 ≤ yN Y2 rd q ∧ yN Y2 rd q ≤ 300) ∧ (∀ j, j < l.length → A2 rd q j = .ref (l.getD j 0)) ∧ xFr (sAl r rd) Y V I J A Y2 V2 I2 J2 A2))) := by
  have hR2 := hR.2.2.1
  have hR3 := hR.1
  refine xCtr.of (by decide +kernel) (Nat.le_of_ble_eq_true rfl) ?_
  intro Z B E hz hnm
  change xV Z (T, O, R) 0 [(0, .ref x)] [] 1 150
  have hl0 : l.length = 0 := by rw [hl]; rfl
  refine g_aload_n B 0 dJ4_grow_0 rfl ?_
  refine g_aload_n B 0 dJ4_grow_1 rfl ?_
  refine x_get B P g1 hR.1 (xrTv hR.2.1 (by decide)) F_J4_48_34 (by decide) g3 dJ4_grow_2 ?_
  refine g_iconst (v := nI 1) B dJ4_grow_5 (by decide) ?_
  refine g_iaddN B dJ4_grow_6 ?_
  obtain ⟨n1, u1, ty1⟩ := P.ty g1 hR.1 (xrTv hR.2.1 (by decide))
  refine g_callV (kc2 := 0) (ks2 := 0) (rest := []) B M_J4_grow_2 q405 q407 qs3 ty1 rfl (c_J4_grow_2S P hR g1 g3 k1 hl) rfl rfl (Nat.le_of_ble_eq_true rfl) (Nat.le_of_ble_eq_true rfl) (Nat.le_of_ble_eq_true rfl) (by decide) (by decide) dJ4_grow_7 (xkA (fun v1 T1 O1 R1 le1 p1 => ?_))
  obtain ⟨Y1, V1, I1, J1, A1, P1, q1, rfl, r1⟩ := p1
  refine g_aret B E rfl (Or.inr ⟨_, rfl⟩) (Or.inr ⟨_, rfl⟩) dJ4_grow_10 ?_
  exact ⟨_, rfl, _, _, _, _, _, P1, q1, rfl, r1⟩
theorem c_J4_add_2D {G : xG} {T : xT} {O R : xO} {Y : xY} {V : xVV} {I : xII} {J : xJJ} {A : xVV} {w0 : xW} {r rd x g0 id xd : Nat} {l : List Nat} {b : Nat} (P : PX Y V I J A w0 T O R) (hR : alR r rd) (g1 : yAt Y r 0 x) (g3 : V r 0 2 = .int (nI l.length)) (k1 : V r 0 1 = .ref xd) (k2 : yAt Y rd id xd) (hc1 : l.length ≤ yN Y rd id) (hc2 : 10 ≤ yN Y rd id) (hc3 : yN Y rd id ≤ 300) (h99 : l.length ≤ 99) (k6 : ∀ j, j < l.length → A rd id j = .ref (l.getD j 0)) (hel : ∀ j, j < l.length → xObj Y (l.getD j 0)) (hm : ∃ m, V r 0 0 = .int m) (hb : xObj Y b) : xCtr G yJ4_add_2 cJ4_add_2 4 none 5 147 1 150 [.ref x, .ref b, .ref xd, .int (nI l.length)] (T, O, R) (xN (xPN w0 (fun Y2 V2 I2 J2 A2 => (I2 = I ∧ J2 = J) ∧ xAl Y2 V2 A2 r rd x g0 (l ++ [b]) ∧ xFr (sAl r rd) Y V I J A Y2 V2 I2 J2 A2))) := by
  have hR2 := hR.2.2.1
  have hR3 := hR.1
  refine xCtr.of (by decide +kernel) (Nat.le_of_ble_eq_true rfl) ?_
  intro Z B E hz hnm
  have hSt := by have h := B.st.2.2.2; rw [B.g] at h; exact h
  change xV Z (T, O, R) 0 [(0, .ref x), (1, .ref b), (2, .ref xd), (3, .int (nI l.length))] [] 1 150
  obtain ⟨m, g2⟩ := hm
  obtain ⟨cp, hcp⟩ : ∃ cp, yN Y rd id = cp := ⟨_, rfl⟩
  rw [hcp] at hc1 hc2 hc3
  refine g_iload_n B 3 dJ4_add_2_0 rfl ?_
  refine g_aload_n B 2 dJ4_add_2_1 rfl ?_
  refine x_alen B P k2 (by omega) (by rw [hR.2.2.1]; rfl) hcp dJ4_add_2_2 ?_
  refine g_icmp_neN (tgt := 11) B (by omega) (by omega) dJ4_add_2_3 (by decide) (fun c1 => ?_) (fun c1 => ?_)
  · refine g_aload_n B 2 dJ4_add_2_11 rfl ?_
    refine g_iload_n B 3 dJ4_add_2_12 rfl ?_
    refine g_aload_n B 1 dJ4_add_2_13 rfl ?_
    obtain ⟨tb2, nb2, ub2, hb2, hs2⟩ := (hb).T P
    refine x_stA B P k2 (by omega) hb2 (by rw [hR.2.2.1]; exact hs2) rfl hcp (by omega) (by omega) dJ4_add_2_14 (fun R2 A2 ha2 hk2 P2 => ?_)
    refine g_aload_n B 0 dJ4_add_2_15 rfl ?_
    refine g_iload_n B 3 dJ4_add_2_16 rfl ?_
    refine g_iconst (v := nI 1) B dJ4_add_2_17 (by decide) ?_
    refine g_iaddN B dJ4_add_2_18 ?_
    refine x_put (q := (RJ4, TJ4, 3)) B P2 g1 hR.1 (xrTv hR.2.1 (by decide)) F_J4_48_34 rfl rfl (tyJ4_ok 2 (by decide)) rfl rfl dJ4_add_2_19 (fun O3 V3 hs3 hk3 P3 => ?_)
    refine g_vret B E rfl dJ4_add_2_22 ?_
    have fz : xFr (sAl r rd) Y V I J A Y V3 I J A2 := (xFr.uA (r := rd) (o := id) (Or.inr rfl) ha2 hk2).tr (xFr.uV (r := r) (o := 0) (Or.inl ⟨rfl, rfl⟩) hs3 hk3)
    refine ⟨rfl, _, _, _, _, _, P3, ⟨rfl, rfl⟩, ⟨g1, ⟨_, rdK hs3 (by decide) (g2)⟩, by rw [List.length_append]; exact rdS hs3, by rw [List.length_append, List.length_singleton]; omega, Or.inr ⟨_, _, rdK hs3 (by decide) (k1), k2, by rw [List.length_append, List.length_singleton, hcp]; omega, by rw [hcp]; exact hc2, by rw [hcp]; exact hc3, fun j hj => ?_⟩⟩, fz⟩
    obtain ⟨k3, k4⟩ := getD_app hj
    rw [ha2, va_ups]
    by_cases e : j = l.length
    · rw [k3 e, e, va_ups]
    · rw [(k4 e).2, va_upe e]; exact k6 j (k4 e).1
  · refine g_aload_n B 0 dJ4_add_2_6 rfl ?_
    obtain ⟨n4, u4, ty4⟩ := P.ty g1 hR.1 (xrTv hR.2.1 (by decide))
    refine g_callV (kc2 := 0) (ks2 := 0) (rest := []) B M_J4_grow q401 q403 qs2 ty4 rfl (c_J4_growD P hR g1 g3 k1 k2 (by omega) (by omega) h99 k6 hel) rfl rfl (Nat.le_of_ble_eq_true rfl) (Nat.le_of_ble_eq_true rfl) (Nat.le_of_ble_eq_true rfl) (by decide) (by decide) dJ4_add_2_7 (xkA (fun v4 T4 O4 R4 le4 p4 => ?_))
    obtain ⟨Y4, V4, I4, J4, A4, P4, q4, rfl, ⟨eI4, eJ4⟩, at4, v14, v04, v24, hN4, hv4, f4⟩ := p4
    obtain rfl := eI4.symm
    obtain rfl := eJ4.symm
    obtain ⟨cn4, hcn4⟩ : ∃ cn, yN Y4 rd q4 = cn := ⟨_, rfl⟩
    rw [hcn4] at hN4
    obtain ⟨hN14, hN24, hN34⟩ := hN4
    refine g_astore_n (lv2 := [(2, _), (0, _), (1, _), (3, _)]) B dJ4_add_2_10 (by decide) rfl ?_
    refine g_aload_n B 0 dJ4_add_2_11 rfl ?_
    refine g_iload_n B 3 dJ4_add_2_12 rfl ?_
    refine g_aload_n B 2 dJ4_add_2_13 rfl ?_
    obtain ⟨tb5, nb5, ub5, hb5, hs5⟩ := (hb.le f4.1.1).T P4
    refine x_stA B P4 at4 (by omega) hb5 (by rw [hR.2.2.1]; exact hs5) rfl hcn4 (by omega) (by omega) dJ4_add_2_14 (fun R5 A5 ha5 hk5 P5 => ?_)
    refine g_aload_n B 1 dJ4_add_2_15 rfl ?_
    refine g_iload_n B 3 dJ4_add_2_16 rfl ?_
    refine g_iconst (v := nI 1) B dJ4_add_2_17 (by decide) ?_
    refine g_iaddN B dJ4_add_2_18 ?_
    refine x_put (q := (RJ4, TJ4, 3)) B P5 (f4.1.at g1) hR.1 (xrTv hR.2.1 (by decide)) F_J4_48_34 rfl rfl (tyJ4_ok 2 (by decide)) rfl rfl dJ4_add_2_19 (fun O6 V6 hs6 hk6 P6 => ?_)
    refine g_vret B E rfl dJ4_add_2_22 ?_
    have fz : xFr (sAl r rd) Y V I J A Y4 V6 I J A5 := f4.tr ((xFr.uA (r := rd) (o := q4) (Or.inr rfl) ha5 hk5).tr (xFr.uV (r := r) (o := 0) (Or.inl ⟨rfl, rfl⟩) hs6 hk6))
    refine ⟨rfl, _, _, _, _, _, P6, ⟨rfl, rfl⟩, ⟨(f4.1.at g1), ⟨_, rdK hs6 (by decide) (v04.trans g2)⟩, by rw [List.length_append]; exact rdS hs6, by rw [List.length_append, List.length_singleton]; omega, Or.inr ⟨_, _, rdK hs6 (by decide) (v14), at4, by rw [List.length_append, hcn4]; exact hN14, by rw [hcn4]; exact hN24, by rw [hcn4]; exact hN34, fun j hj => ?_⟩⟩, fz⟩
    obtain ⟨k3, k4⟩ := getD_app hj
    rw [ha5, va_ups]
    by_cases e : j = l.length
    · rw [k3 e, e, va_ups]
    · rw [(k4 e).2, va_upe e]; exact hv4 j (k4 e).1
theorem c_J4_add_2S {G : xG} {T : xT} {O R : xO} {Y : xY} {V : xVV} {I : xII} {J : xJJ} {A : xVV} {w0 : xW} {r rd x : Nat} {l : List Nat} {b : Nat} (P : PX Y V I J A w0 T O R) (hR : alR r rd) (g1 : yAt Y r 0 x) (g3 : V r 0 2 = .int (nI l.length)) (k1 : V r 0 1 = .ref (G.2.2.2.2 0)) (hl : l = []) (hm : ∃ m, V r 0 0 = .int m) (hb : xObj Y b) : xCtr G yJ4_add_2 cJ4_add_2 4 none 3 64 1 150 [.ref x, .ref b, .ref (G.2.2.2.2 0), .int (nI l.length)] (T, O, R) (xN (xPN w0 (fun Y2 V2 I2 J2 A2 => (I2 = I ∧ J2 = J) ∧ xAl Y2 V2 A2 r rd x (G.2.2.2.2 0) (l ++ [b]) ∧ xFr (sAl r rd) Y V I J A Y2 V2 I2 J2 A2))) := by
  have hR2 := hR.2.2.1
  have hR3 := hR.1
  refine xCtr.of (by decide +kernel) (Nat.le_of_ble_eq_true rfl) ?_
  intro Z B E hz hnm
  have hSt := by have h := B.st.2.2.2; rw [B.g] at h; exact h
  change xV Z (T, O, R) 0 [(0, .ref x), (1, .ref b), (2, .ref (G.2.2.2.2 0)), (3, .int (nI l.length))] [] 1 150
  have hl0 : l.length = 0 := by rw [hl]; rfl
  obtain ⟨m, g2⟩ := hm
  refine g_iload_n B 3 dJ4_add_2_0 rfl ?_
  refine g_aload_n B 2 dJ4_add_2_1 rfl ?_
  refine g_slen (N := 0) B hSt.1.2 dJ4_add_2_2 ?_
  refine g_icmp_neN (tgt := 11) B (by omega) (by omega) dJ4_add_2_3 (by decide) (fun e => absurd e (by omega)) (fun _ => ?_)
  refine g_aload_n B 0 dJ4_add_2_6 rfl ?_
  obtain ⟨n1, u1, ty1⟩ := P.ty g1 hR.1 (xrTv hR.2.1 (by decide))
  refine g_callV (kc2 := 0) (ks2 := 0) (rest := []) B M_J4_grow q401 q403 qs2 ty1 rfl (c_J4_growS P hR g1 g3 k1 hl) rfl rfl (Nat.le_of_ble_eq_true rfl) (Nat.le_of_ble_eq_true rfl) (Nat.le_of_ble_eq_true rfl) (by decide) (by decide) dJ4_add_2_7 (xkA (fun v1 T1 O1 R1 le1 p1 => ?_))
  obtain ⟨Y1, V1, I1, J1, A1, P1, q1, rfl, ⟨eI1, eJ1⟩, at1, v11, v01, v21, hN1, hv1, f1⟩ := p1
  obtain rfl := eI1.symm
  obtain rfl := eJ1.symm
  obtain ⟨cn1, hcn1⟩ : ∃ cn, yN Y1 rd q1 = cn := ⟨_, rfl⟩
  rw [hcn1] at hN1
  obtain ⟨hN11, hN21, hN31⟩ := hN1
  refine g_astore_n (lv2 := [(2, _), (0, _), (1, _), (3, _)]) B dJ4_add_2_10 (by decide) rfl ?_
  refine g_aload_n B 0 dJ4_add_2_11 rfl ?_
  refine g_iload_n B 3 dJ4_add_2_12 rfl ?_
  refine g_aload_n B 2 dJ4_add_2_13 rfl ?_
  obtain ⟨tb2, nb2, ub2, hb2, hs2⟩ := (hb.le f1.1.1).T P1
  refine x_stA B P1 at1 (by omega) hb2 (by rw [hR.2.2.1]; exact hs2) rfl hcn1 (by omega) (by omega) dJ4_add_2_14 (fun R2 A2 ha2 hk2 P2 => ?_)
  refine g_aload_n B 1 dJ4_add_2_15 rfl ?_
  refine g_iload_n B 3 dJ4_add_2_16 rfl ?_
  refine g_iconst (v := nI 1) B dJ4_add_2_17 (by decide) ?_
  refine g_iaddN B dJ4_add_2_18 ?_
  refine x_put (q := (RJ4, TJ4, 3)) B P2 (f1.1.at g1) hR.1 (xrTv hR.2.1 (by decide)) F_J4_48_34 rfl rfl (tyJ4_ok 2 (by decide)) rfl rfl dJ4_add_2_19 (fun O3 V3 hs3 hk3 P3 => ?_)
  refine g_vret B E rfl dJ4_add_2_22 ?_
  have fz : xFr (sAl r rd) Y V I J A Y1 V3 I J A2 := f1.tr ((xFr.uA (r := rd) (o := q1) (Or.inr rfl) ha2 hk2).tr (xFr.uV (r := r) (o := 0) (Or.inl ⟨rfl, rfl⟩) hs3 hk3))
  refine ⟨rfl, _, _, _, _, _, P3, ⟨rfl, rfl⟩, ⟨(f1.1.at g1), ⟨_, rdK hs3 (by decide) (v01.trans g2)⟩, by rw [List.length_append]; exact rdS hs3, by rw [List.length_append, List.length_singleton]; omega, Or.inr ⟨_, _, rdK hs3 (by decide) (v11), at1, by rw [List.length_append, hcn1]; exact hN11, by rw [hcn1]; exact hN21, by rw [hcn1]; exact hN31, fun j hj => ?_⟩⟩, fz⟩
  obtain ⟨k3, k4⟩ := getD_app hj
  rw [ha2, va_ups]
  by_cases e : j = l.length
  · rw [k3 e, e, va_ups]
  · rw [(k4 e).2, va_upe e]; exact hv1 j (k4 e).1
