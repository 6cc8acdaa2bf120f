set_option maxRecDepth 100000
theorem c_X6_has {G : xG} {T : xT} {O R : xO} {Y : xY} {V : xVV} {I : xII} {J : xJJ} {A : xVV} {w0 : xW} {rk rb rw r1 r2 s x : Nat} {st : Nat → Option (Int32 × Int32)} {key : Nat} (P : PX Y V I J A w0 T O R) (hR : ksR rk rb rw r1 r2) (S : xKs Y V I J rk rb rw r1 r2 s x st) (hk : key < 16) : xCtr G yX6_has cX6_has 2 (some Jvm.ClassFile.FieldType.boolean) 2 42 0 0 [.ref x, .int (nI key)] (T, O, R) (xA (fun v T2 O2 R2 => v = .int (bI (st key).isSome) ∧ T2 = T ∧ O2 = O ∧ R2 = R)) := by
  have hS := S
  have hR2 := hR
  unfold ksR at hR2
  obtain ⟨hat, ⟨xb, w, hv0, hb, hbit⟩, ⟨⟨x1, h1, hv1⟩, hn1⟩, ⟨⟨x2, h2, hv2⟩, hn2⟩, hc⟩ := S
  refine xCtr.of (by decide +kernel) (Nat.le_of_ble_eq_true rfl) ?_
  intro Z B E hz hnm
  change xV Z (T, O, R) 0 [(0, .ref x), (1, .int (nI key))] [] 0 0
  refine g_aload_n B 0 dX6_has_0 rfl ?_
  refine x_get B P hat hR.1 (xrTv hR.2.1 (by decide)) F_X6_14_6 (by decide) hv0 dX6_has_1 ?_
  refine g_iload_n B 1 dX6_has_4 rfl ?_
  obtain ⟨n1, u1, ty1⟩ := P.ty hb.1 hR.2.2.1 (xrTv hR.2.2.2.1 (by decide))
  refine g_callV (rest := []) B M_J5_get q1429 q1430 q1431 ty1 rfl (c_J5_get P hR.2.2.1 hR.2.2.2.1 hR.2.2.2.2.1 hb hk) rfl rfl (Nat.le_of_ble_eq_true rfl) (Nat.le_of_ble_eq_true rfl) (Nat.le_of_ble_eq_true rfl) (Nat.le_refl _) (Nat.le_refl _) dX6_has_5 (xkA (fun v1 T1 O1 R1 le1 p1 => ?_))
  obtain ⟨rfl, eT1, eO1, eR1⟩ := p1
  obtain rfl := eT1.symm
  obtain rfl := eO1.symm
  obtain rfl := eR1.symm
  refine g_iret B E rfl (bI_nar _) dX6_has_8 ?_
  exact ⟨_, rfl, (by rw [hbit key hk]), rfl, rfl, rfl⟩
theorem c_X6_first {G : xG} {T : xT} {O R : xO} {Y : xY} {V : xVV} {I : xII} {J : xJJ} {A : xVV} {w0 : xW} {rk rb rw r1 r2 s x : Nat} {st : Nat → Option (Int32 × Int32)} {key : Nat} (P : PX Y V I J A w0 T O R) (hR : ksR rk rb rw r1 r2) (S : xKs Y V I J rk rb rw r1 r2 s x st) (hk : key < 16) : xCtr G yX6_first cX6_first 2 (some Jvm.ClassFile.FieldType.int) 3 63 0 0 [.ref x, .int (nI key)] (T, O, R) (xA (fun v T2 O2 R2 => v = .int ((st key).getD (0, 0)).1 ∧ T2 = T ∧ O2 = O ∧ R2 = R)) := by
  have hS := S
  have hR2 := hR
  unfold ksR at hR2
  obtain ⟨hat, ⟨xb, w, hv0, hb, hbit⟩, ⟨⟨x1, h1, hv1⟩, hn1⟩, ⟨⟨x2, h2, hv2⟩, hn2⟩, hc⟩ := S
  refine xCtr.of (by decide +kernel) (Nat.le_of_ble_eq_true rfl) ?_
  intro Z B E hz hnm
  change xV Z (T, O, R) 0 [(0, .ref x), (1, .int (nI key))] [] 0 0
  refine g_aload_n B 0 dX6_first_0 rfl ?_
  refine g_iload_n B 1 dX6_first_1 rfl ?_
  obtain ⟨n1, u1, ty1⟩ := P.ty hat hR.1 (xrTv hR.2.1 (by decide))
  refine g_callV (rest := []) B M_X6_has q1443 q1426 q1427 ty1 rfl (c_X6_has P hR hS hk) rfl rfl (Nat.le_of_ble_eq_true rfl) (Nat.le_of_ble_eq_true rfl) (Nat.le_of_ble_eq_true rfl) (Nat.le_refl _) (Nat.le_refl _) dX6_first_2 (xkA (fun v1 T1 O1 R1 le1 p1 => ?_))
  obtain ⟨rfl, eT1, eO1, eR1⟩ := p1
  obtain rfl := eT1.symm
  obtain rfl := eO1.symm
  obtain rfl := eR1.symm
  refine g_if_eqB (tgt := 17) B dX6_first_5 (by decide) (fun c2 => ?_) (fun c2 => ?_)
  · refine g_iconst (v := nI 0) B dX6_first_17 (by decide) ?_
    refine g_iret B E rfl rfl dX6_first_18 ?_
    exact ⟨_, rfl, by rw [show st key = none from by cases hq : st key; rfl; rw [hq] at c2; cases c2]; rfl, rfl, rfl, rfl⟩
  · refine g_aload_n B 0 dX6_first_8 rfl ?_
    refine x_get B P hat hR.1 (xrTv hR.2.1 (by decide)) F_X6_20_6 (by decide) hv1 dX6_first_9 ?_
    refine g_iload_n B 1 dX6_first_12 rfl ?_
    refine x_ldI B P h1 hR.2.2.2.2.2.1 rfl hn1 (by omega) (by omega) rfl dX6_first_13 ?_
    refine g_goto (tgt := 18) B dX6_first_14 (by decide) ?_
    refine g_iret B E rfl rfl dX6_first_18 ?_
    obtain ⟨p, hp⟩ := Option.isSome_iff_exists.mp c2
    exact ⟨_, rfl, by rw [(hc key hk p hp).1, hp]; rfl, rfl, rfl, rfl⟩
theorem c_X6_second {G : xG} {T : xT} {O R : xO} {Y : xY} {V : xVV} {I : xII} {J : xJJ} {A : xVV} {w0 : xW} {rk rb rw r1 r2 s x : Nat} {st : Nat → Option (Int32 × Int32)} {key : Nat} (P : PX Y V I J A w0 T O R) (hR : ksR rk rb rw r1 r2) (S : xKs Y V I J rk rb rw r1 r2 s x st) (hk : key < 16) : xCtr G yX6_second cX6_second 2 (some Jvm.ClassFile.FieldType.int) 3 63 0 0 [.ref x, .int (nI key)] (T, O, R) (xA (fun v T2 O2 R2 => v = .int ((st key).getD (0, 0)).2 ∧ T2 = T ∧ O2 = O ∧ R2 = R)) := by
  have hS := S
  have hR2 := hR
  unfold ksR at hR2
  obtain ⟨hat, ⟨xb, w, hv0, hb, hbit⟩, ⟨⟨x1, h1, hv1⟩, hn1⟩, ⟨⟨x2, h2, hv2⟩, hn2⟩, hc⟩ := S
  refine xCtr.of (by decide +kernel) (Nat.le_of_ble_eq_true rfl) ?_
  intro Z B E hz hnm
  change xV Z (T, O, R) 0 [(0, .ref x), (1, .int (nI key))] [] 0 0
  refine g_aload_n B 0 dX6_second_0 rfl ?_
  refine g_iload_n B 1 dX6_second_1 rfl ?_
  obtain ⟨n1, u1, ty1⟩ := P.ty hat hR.1 (xrTv hR.2.1 (by decide))
  refine g_callV (rest := []) B M_X6_has q1443 q1426 q1427 ty1 rfl (c_X6_has P hR hS hk) rfl rfl (Nat.le_of_ble_eq_true rfl) (Nat.le_of_ble_eq_true rfl) (Nat.le_of_ble_eq_true rfl) (Nat.le_refl _) (Nat.le_refl _) dX6_second_2 (xkA (fun v1 T1 O1 R1 le1 p1 => ?_))
  obtain ⟨rfl, eT1, eO1, eR1⟩ := p1
  obtain rfl := eT1.symm
  obtain rfl := eO1.symm
  obtain rfl := eR1.symm
  refine g_if_eqB (tgt := 17) B dX6_second_5 (by decide) (fun c2 => ?_) (fun c2 => ?_)
  · refine g_iconst (v := nI 0) B dX6_second_17 (by decide) ?_
    refine g_iret B E rfl rfl dX6_second_18 ?_
    exact ⟨_, rfl, by rw [show st key = none from by cases hq : st key; rfl; rw [hq] at c2; cases c2]; rfl, rfl, rfl, rfl⟩
  · refine g_aload_n B 0 dX6_second_8 rfl ?_
    refine x_get B P hat hR.1 (xrTv hR.2.1 (by decide)) F_X6_24_6 (by decide) hv2 dX6_second_9 ?_
    refine g_iload_n B 1 dX6_second_12 rfl ?_
    refine x_ldI B P h2 hR.2.2.2.2.2.2.1 rfl hn2 (by omega) (by omega) rfl dX6_second_13 ?_
    refine g_goto (tgt := 18) B dX6_second_14 (by decide) ?_
    refine g_iret B E rfl rfl dX6_second_18 ?_
    obtain ⟨p, hp⟩ := Option.isSome_iff_exists.mp c2
    exact ⟨_, rfl, by rw [(hc key hk p hp).2, hp]; rfl, rfl, rfl, rfl⟩
def ksNum (q : Option (Int32 × Int32)) (i : Int32) : Int32 := match q with
  | none => -1000000001
  | some p => if i = 0 then p.1 else p.2
theorem c_X6_number {G : xG} {T : xT} {O R : xO} {Y : xY} {V : xVV} {I : xII} {J : xJJ} {A : xVV} {w0 : xW} {rk rb rw r1 r2 s x : Nat} {st : Nat → Option (Int32 × Int32)} {key : Nat} {i : Int32} (P : PX Y V I J A w0 T O R) (hR : ksR rk rb rw r1 r2) (S : xKs Y V I J rk rb rw r1 r2 s x st) (hk : key < 16) : xCtr G yX6_number cX6_number 3 (some Jvm.ClassFile.FieldType.int) 3 63 0 0 [.ref x, .int (nI key), .int i] (T, O, R) (xA (fun v T2 O2 R2 => v = .int (ksNum (st key) i) ∧ T2 = T ∧ O2 = O ∧ R2 = R)) := by
  have hS := S
  have hR2 := hR
  unfold ksR at hR2
  obtain ⟨hat, ⟨xb, w, hv0, hb, hbit⟩, ⟨⟨x1, h1, hv1⟩, hn1⟩, ⟨⟨x2, h2, hv2⟩, hn2⟩, hc⟩ := S
  refine xCtr.of (by decide +kernel) (Nat.le_of_ble_eq_true rfl) ?_
  intro Z B E hz hnm
  change xV Z (T, O, R) 0 [(0, .ref x), (1, .int (nI key)), (2, .int i)] [] 0 0
  refine g_aload_n B 0 dX6_number_0 rfl ?_
  refine g_iload_n B 1 dX6_number_1 rfl ?_
  obtain ⟨n1, u1, ty1⟩ := P.ty hat hR.1 (xrTv hR.2.1 (by decide))
  refine g_callV (rest := []) B M_X6_has q1443 q1426 q1427 ty1 rfl (c_X6_has P hR hS hk) rfl rfl (Nat.le_of_ble_eq_true rfl) (Nat.le_of_ble_eq_true rfl) (Nat.le_of_ble_eq_true rfl) (Nat.le_refl _) (Nat.le_refl _) dX6_number_2 (xkA (fun v1 T1 O1 R1 le1 p1 => ?_))
  obtain ⟨rfl, eT1, eO1, eR1⟩ := p1
  obtain rfl := eT1.symm
  obtain rfl := eO1.symm
  obtain rfl := eR1.symm
  refine g_if_neB (tgt := 13) B dX6_number_5 (by decide) (fun c2 => ?_) (fun c2 => ?_)
  · refine g_iload_n B 2 dX6_number_13 rfl ?_
    refine g_if_ne (tgt := 26) B dX6_number_14 (by decide) (fun c3 => ?_) (fun c3 => ?_)
    · refine g_aload_n B 0 dX6_number_26 rfl ?_
      refine x_get B P hat hR.1 (xrTv hR.2.1 (by decide)) F_X6_24_6 (by decide) hv2 dX6_number_27 ?_
      refine g_iload_n B 1 dX6_number_30 rfl ?_
      refine x_ldI B P h2 hR.2.2.2.2.2.2.1 rfl hn2 (by omega) (by omega) rfl dX6_number_31 ?_
      refine g_iret B E rfl rfl dX6_number_32 ?_
      obtain ⟨p, hp⟩ := Option.isSome_iff_exists.mp c2
      exact ⟨_, rfl, by rw [(hc key hk p hp).2, hp, ksNum, if_neg c3], rfl, rfl, rfl⟩
    · refine g_aload_n B 0 dX6_number_17 rfl ?_
      refine x_get B P hat hR.1 (xrTv hR.2.1 (by decide)) F_X6_20_6 (by decide) hv1 dX6_number_18 ?_
      refine g_iload_n B 1 dX6_number_21 rfl ?_
      refine x_ldI B P h1 hR.2.2.2.2.2.1 rfl hn1 (by omega) (by omega) rfl dX6_number_22 ?_
      refine g_goto (tgt := 32) B dX6_number_23 (by decide) ?_
      refine g_iret B E rfl rfl dX6_number_32 ?_
      obtain ⟨p, hp⟩ := Option.isSome_iff_exists.mp c2
      exact ⟨_, rfl, by rw [(hc key hk p hp).1, hp, ksNum, if_pos c3], rfl, rfl, rfl⟩
  · refine g_ldc (v := (-1000000001)) B q1919 dX6_number_8 ?_
    refine g_goto (tgt := 32) B dX6_number_10 (by decide) ?_
    refine g_iret B E rfl rfl dX6_number_32 ?_
    exact ⟨_, rfl, by rw [show st key = none from by cases hq : st key; rfl; rw [hq] at c2; cases c2]; rfl, rfl, rfl, rfl⟩
theorem c_X6_set {G : xG} {T : xT} {O R : xO} {Y : xY} {V : xVV} {I : xII} {J : xJJ} {A : xVV} {w0 : xW} {rk rb rw r1 r2 s x : Nat} {st : Nat → Option (Int32 × Int32)} {key : Nat} {u v : Int32} (P : PX Y V I J A w0 T O R) (hR : ksR rk rb rw r1 r2) (S : xKs Y V I J rk rb rw r1 r2 s x st) (hk : key < 16) : xCtr G yX6_set cX6_set 4 none 3 66 0 0 [.ref x, .int (nI key), .int u, .int v] (T, O, R) (xN (xPN w0 (fun Y2 V2 I2 J2 A2 => Y = Y2 ∧ A = A2 ∧ xKs Y V2 I2 J2 rk rb rw r1 r2 s x (up1 st key (some (u, v))) ∧ xFr (sKs rb rw r1 r2 s) Y V I J A Y2 V2 I2 J2 A2))) := by
  have hS := S
  have hR2 := hR
  unfold ksR at hR2
  obtain ⟨hat, ⟨xb, w, hv0, hb, hbit⟩, ⟨⟨x1, h1, hv1⟩, hn1⟩, ⟨⟨x2, h2, hv2⟩, hn2⟩, hc⟩ := S
  refine xCtr.of (by decide +kernel) (Nat.le_of_ble_eq_true rfl) ?_
  intro Z B E hz hnm
  change xV Z (T, O, R) 0 [(0, .ref x), (1, .int (nI key)), (2, .int u), (3, .int v)] [] 0 0
  refine g_aload_n B 0 dX6_set_0 rfl ?_
  refine x_get B P hat hR.1 (xrTv hR.2.1 (by decide)) F_X6_14_6 (by decide) hv0 dX6_set_1 ?_
  refine g_iload_n B 1 dX6_set_4 rfl ?_
  obtain ⟨n1, u1, ty1⟩ := P.ty hb.1 hR.2.2.1 (xrTv hR.2.2.2.1 (by decide))
  refine g_callV (rest := []) B M_J5_set q1448 q1449 q1450 ty1 rfl (c_J5_set P hR.2.2.1 hR.2.2.2.1 hR.2.2.2.2.1 hb hk) rfl rfl (Nat.le_of_ble_eq_true rfl) (Nat.le_of_ble_eq_true rfl) (Nat.le_of_ble_eq_true rfl) (Nat.le_refl _) (Nat.le_refl _) dX6_set_5 (xkN (fun T1 O1 R1 le1 p1 => ?_))
  obtain ⟨Y1, V1, I1, J1, A1, P1, rfl, rfl, rfl, S1, f1⟩ := p1
  refine g_aload_n B 0 dX6_set_8 rfl ?_
  refine x_get B P1 hat hR.1 (xrTv hR.2.1 (by decide)) F_X6_20_6 (by decide) ((congrFun (f1.2 _ _ _ hat (fun e => by unfold sBs at e; omega)).1 1).trans hv1) dX6_set_9 ?_
  refine g_iload_n B 1 dX6_set_12 rfl ?_
  refine g_iload_n B 2 dX6_set_13 rfl ?_
  refine x_stI B P1 h1 hR.2.2.2.2.2.1 rfl hn1 (by omega) (by omega) dX6_set_14 (fun R2 I2 hs2 hk2 P2 => ?_)
  refine g_aload_n B 0 dX6_set_15 rfl ?_
  refine x_get B P2 hat hR.1 (xrTv hR.2.1 (by decide)) F_X6_24_6 (by decide) ((congrFun (f1.2 _ _ _ hat (fun e => by unfold sBs at e; omega)).1 2).trans hv2) dX6_set_16 ?_
  refine g_iload_n B 1 dX6_set_19 rfl ?_
  refine g_iload_n B 3 dX6_set_20 rfl ?_
  refine x_stI B P2 h2 hR.2.2.2.2.2.2.1 rfl hn2 (by omega) (by omega) dX6_set_21 (fun R3 I3 hs3 hk3 P3 => ?_)
  refine g_vret B E rfl dX6_set_22 ?_
  refine ⟨rfl, _, _, _, _, _, P3, rfl, rfl, ⟨hat, ⟨xb, _, (congrFun (f1.2 _ _ _ hat (fun e => by unfold sBs at e; omega)).1 0).trans hv0, S1, fun j hj => ?_⟩, ⟨⟨x1, h1, (congrFun (f1.2 _ _ _ hat (fun e => by unfold sBs at e; omega)).1 1).trans hv1⟩, hn1⟩, ⟨⟨x2, h2, (congrFun (f1.2 _ _ _ hat (fun e => by unfold sBs at e; omega)).1 2).trans hv2⟩, hn2⟩, fun j hj p hp => ?_⟩, ?_⟩
  · rw [bSet_bit, hbit j hj]; by_cases e : key = j
    · subst e; rw [up1_s]; simp
    · rw [up1_n (fun q => e q.symm)]; simp [e]
  · by_cases e : j = key
    · subst e; rw [up1_s] at hp; cases hp; exact ⟨rdR hk3 (fun q => hR2.2.2.2.2.2.2.2 q) (rdS hs2), rdS hs3⟩
    · rw [up1_n e] at hp; obtain ⟨g1, g2⟩ := hc j hj p hp; exact ⟨rdR hk3 (fun q => hR2.2.2.2.2.2.2.2 q) (rdK hs2 e g1), rdK hs3 e (rdR hk2 (fun q => hR2.2.2.2.2.2.2.2 q.symm) g2)⟩
  · refine (f1.mono (fun r o e => ?_)).tr ((xFr.uI (r := r1) (o := s) ?_ hs2 hk2).tr (xFr.uI (r := r2) (o := s) ?_ hs3 hk3))
    · unfold sBs at e; unfold sKs; omega
    · unfold sKs; omega
    · unfold sKs; omega
theorem c_X6_remove {G : xG} {T : xT} {O R : xO} {Y : xY} {V : xVV} {I : xII} {J : xJJ} {A : xVV} {w0 : xW} {rk rb rw r1 r2 s x : Nat} {st : Nat → Option (Int32 × Int32)} {key : Nat} (P : PX Y V I J A w0 T O R) (hR : ksR rk rb rw r1 r2) (S : xKs Y V I J rk rb rw r1 r2 s x st) (hk : key < 16) : xCtr G yX6_remove cX6_remove 2 none 2 43 0 0 [.ref x, .int (nI key)] (T, O, R) (xN (xPN w0 (fun Y2 V2 I2 J2 A2 => Y = Y2 ∧ A = A2 ∧ xKs Y V2 I2 J2 rk rb rw r1 r2 s x (up1 st key none) ∧ xFr (sKs rb rw r1 r2 s) Y V I J A Y2 V2 I2 J2 A2))) := by
  have hS := S
  have hR2 := hR
  unfold ksR at hR2
  obtain ⟨hat, ⟨xb, w, hv0, hb, hbit⟩, ⟨⟨x1, h1, hv1⟩, hn1⟩, ⟨⟨x2, h2, hv2⟩, hn2⟩, hc⟩ := S
  refine xCtr.of (by decide +kernel) (Nat.le_of_ble_eq_true rfl) ?_
  intro Z B E hz hnm
  change xV Z (T, O, R) 0 [(0, .ref x), (1, .int (nI key))] [] 0 0
  refine g_aload_n B 0 dX6_remove_0 rfl ?_
  refine x_get B P hat hR.1 (xrTv hR.2.1 (by decide)) F_X6_14_6 (by decide) hv0 dX6_remove_1 ?_
  refine g_iload_n B 1 dX6_remove_4 rfl ?_
  obtain ⟨n1, u1, ty1⟩ := P.ty hb.1 hR.2.2.1 (xrTv hR.2.2.2.1 (by decide))
  refine g_callV (rest := []) B M_J5_clear_2 q1539 q1540 q1541 ty1 rfl (c_J5_clr P hR.2.2.1 hR.2.2.2.1 hR.2.2.2.2.1 hb hk) rfl rfl (Nat.le_of_ble_eq_true rfl) (Nat.le_of_ble_eq_true rfl) (Nat.le_of_ble_eq_true rfl) (Nat.le_refl _) (Nat.le_refl _) dX6_remove_5 (xkN (fun T1 O1 R1 le1 p1 => ?_))
  obtain ⟨Y1, V1, I1, J1, A1, P1, rfl, rfl, rfl, S1, f1⟩ := p1
  refine g_vret B E rfl dX6_remove_8 ?_
  refine ⟨rfl, _, _, _, _, _, P1, rfl, rfl, ⟨hat, ⟨xb, _, (congrFun (f1.2 _ _ _ hat (fun e => by unfold sBs at e; omega)).1 0).trans hv0, S1, fun j hj => ?_⟩, ⟨⟨x1, h1, (congrFun (f1.2 _ _ _ hat (fun e => by unfold sBs at e; omega)).1 1).trans hv1⟩, hn1⟩, ⟨⟨x2, h2, (congrFun (f1.2 _ _ _ hat (fun e => by unfold sBs at e; omega)).1 2).trans hv2⟩, hn2⟩, fun j hj p hp => ?_⟩, f1.mono (fun r o e => ?_)⟩
  · rw [bClr_bit, hbit j hj]; by_cases e : key = j
    · subst e; rw [up1_s]; simp
    · rw [up1_n (fun q => e q.symm)]; simp [e]
  · by_cases e : j = key
    · subst e; rw [up1_s] at hp; cases hp
    · rw [up1_n e] at hp; exact hc j hj p hp
  · unfold sBs at e; unfold sKs; omega
theorem c_X6_reset {G : xG} {T : xT} {O R : xO} {Y : xY} {V : xVV} {I : xII} {J : xJJ} {A : xVV} {w0 : xW} {rk rb rw r1 r2 s x : Nat} {st : Nat → Option (Int32 × Int32)} (P : PX Y V I J A w0 T O R) (hR : ksR rk rb rw r1 r2) (S : xKs Y V I J rk rb rw r1 r2 s x st) : xCtr G yX6_reset cX6_reset 1 none 1 20 0 0 [.ref x] (T, O, R) (xN (xPN w0 (fun Y2 V2 I2 J2 A2 => Y = Y2 ∧ A = A2 ∧ xKs Y V2 I2 J2 rk rb rw r1 r2 s x (fun _ => none) ∧ xFr (sKs rb rw r1 r2 s) Y V I J A Y2 V2 I2 J2 A2))) := by
  have hS := S
  have hR2 := hR
  unfold ksR at hR2
  obtain ⟨hat, ⟨xb, w, hv0, hb, hbit⟩, ⟨⟨x1, h1, hv1⟩, hn1⟩, ⟨⟨x2, h2, hv2⟩, hn2⟩, hc⟩ := S
  refine xCtr.of (by decide +kernel) (Nat.le_of_ble_eq_true rfl) ?_
  intro Z B E hz hnm
  change xV Z (T, O, R) 0 [(0, .ref x)] [] 0 0
  refine g_aload_n B 0 dX6_reset_0 rfl ?_
  refine x_get B P hat hR.1 (xrTv hR.2.1 (by decide)) F_X6_14_6 (by decide) hv0 dX6_reset_1 ?_
  obtain ⟨n1, u1, ty1⟩ := P.ty hb.1 hR.2.2.1 (xrTv hR.2.2.2.1 (by decide))
  refine g_callV (rest := []) B M_J5_clear q1232 q1233 q1234 ty1 rfl (c_J5_clear P hR.2.2.1 hR.2.2.2.1 hR.2.2.2.2.1 hb) rfl rfl (Nat.le_of_ble_eq_true rfl) (Nat.le_of_ble_eq_true rfl) (Nat.le_of_ble_eq_true rfl) (Nat.le_refl _) (Nat.le_refl _) dX6_reset_4 (xkN (fun T1 O1 R1 le1 p1 => ?_))
  obtain ⟨Y1, V1, I1, J1, A1, P1, rfl, rfl, rfl, S1, f1⟩ := p1
  refine g_vret B E rfl dX6_reset_7 ?_
  refine ⟨rfl, _, _, _, _, _, P1, rfl, rfl, ⟨hat, ⟨xb, _, (congrFun (f1.2 _ _ _ hat (fun e => by unfold sBs at e; omega)).1 0).trans hv0, S1, fun j hj => ?_⟩, ⟨⟨x1, h1, (congrFun (f1.2 _ _ _ hat (fun e => by unfold sBs at e; omega)).1 1).trans hv1⟩, hn1⟩, ⟨⟨x2, h2, (congrFun (f1.2 _ _ _ hat (fun e => by unfold sBs at e; omega)).1 2).trans hv2⟩, hn2⟩, fun j hj p hp => ?_⟩, f1.mono (fun r o e => ?_)⟩
  · rw [Nat.zero_testBit]; rfl
  · cases hp
  · unfold sBs at e; unfold sKs; omega
