set_option maxRecDepth 100000
theorem c_X11_size {G : xG} {T : xT} {O R : xO} {Y : xY} {V : xVV} {I : xII} {J : xJJ} {A : xVV} {w0 : xW} {b t : Nat} {bar : Bool} {l : List aRec} (P : PX Y V I J A w0 T O R) (d : xBt Y V I b t bar l) : xCtr G yX11_size cX11_size 1 (some Jvm.ClassFile.FieldType.int) 0 0 0 0 [.ref b] (T, O, R) (xA (fun v T2 O2 R2 => v = .int (nI l.length) ∧ T2 = T ∧ O2 = O ∧ R2 = R)) := by
  have hd0 := d
  obtain ⟨⟨k1, ⟨⟨x1, k2, k3⟩, k4⟩, ⟨⟨x2, k5, k6⟩, k7⟩, ⟨x3, k8, k9⟩, k10⟩, g1, g2, g3, g4, g5⟩ := d
  refine xCtr.of (by decide +kernel) (Nat.le_of_ble_eq_true rfl) ?_
  intro Z B E hz hnm
  change xV Z (T, O, R) 0 [(0, .ref b)] [] 0 0
  refine g_aload_n B 0 dX11_size_0 rfl ?_
  refine x_get B P k1 (by decide) rfl F_X11_25_11 (by decide) g2 dX11_size_1 ?_
  refine g_aload_n B 0 dX11_size_4 rfl ?_
  refine x_get B P k1 (by decide) rfl F_X11_21_11 (by decide) g1 dX11_size_5 ?_
  refine g_isubN B (by omega) dX11_size_8 ?_
  refine g_iret B E rfl rfl dX11_size_9 ?_
  exact ⟨_, rfl, congrArg (fun z => Value.int (nI z)) (by omega), rfl, rfl, rfl⟩
theorem c_X11_isUsed {G : xG} {T : xT} {O R : xO} {Y : xY} {V : xVV} {I : xII} {J : xJJ} {A : xVV} {w0 : xW} {b t : Nat} {bar : Bool} {l : List aRec} (P : PX Y V I J A w0 T O R) (d : xBt Y V I b t bar l) : xCtr G yX11_isUsed cX11_isUsed 1 (some Jvm.ClassFile.FieldType.boolean) 0 0 0 0 [.ref b] (T, O, R) (xA (fun v T2 O2 R2 => v = .int (bI l.isEmpty) ∧ T2 = T ∧ O2 = O ∧ R2 = R)) := by
  have hd0 := d
  obtain ⟨⟨k1, ⟨⟨x1, k2, k3⟩, k4⟩, ⟨⟨x2, k5, k6⟩, k7⟩, ⟨x3, k8, k9⟩, k10⟩, g1, g2, g3, g4, g5⟩ := d
  refine xCtr.of (by decide +kernel) (Nat.le_of_ble_eq_true rfl) ?_
  intro Z B E hz hnm
  change xV Z (T, O, R) 0 [(0, .ref b)] [] 0 0
  refine g_aload_n B 0 dX11_isUsed_0 rfl ?_
  refine x_get B P k1 (by decide) rfl F_X11_21_11 (by decide) g1 dX11_isUsed_1 ?_
  refine g_aload_n B 0 dX11_isUsed_4 rfl ?_
  refine x_get B P k1 (by decide) rfl F_X11_25_11 (by decide) g2 dX11_isUsed_5 ?_
  refine g_icmp_neN (tgt := 15) B (by omega) (by omega) dX11_isUsed_8 (by decide) (fun c1 => ?_) (fun c1 => ?_)
  · refine g_iconst (v := nI 0) B dX11_isUsed_15 (by decide) ?_
    refine g_iret B E rfl rfl dX11_isUsed_16 ?_
    exact ⟨_, rfl, congrArg Value.int (by rw [show l.isEmpty = false from by cases l; exact absurd rfl c1; rfl]; rfl), rfl, rfl, rfl⟩
  · refine g_iconst (v := nI 1) B dX11_isUsed_11 (by decide) ?_
    refine g_goto (tgt := 16) B dX11_isUsed_12 (by decide) ?_
    refine g_iret B E rfl rfl dX11_isUsed_16 ?_
    exact ⟨_, rfl, congrArg Value.int (by rw [show l.isEmpty = true from by cases l; rfl; have q := c1; simp at q]; rfl), rfl, rfl, rfl⟩
theorem c_X11_key {G : xG} {T : xT} {O R : xO} {Y : xY} {V : xVV} {I : xII} {J : xJJ} {A : xVV} {w0 : xW} {b t : Nat} {bar : Bool} {q : aRec} {l : List aRec} (P : PX Y V I J A w0 T O R) (d : xBt Y V I b t bar (q :: l)) : xCtr G yX11_key cX11_key 1 (some Jvm.ClassFile.FieldType.int) 0 0 0 0 [.ref b] (T, O, R) (xA (fun v T2 O2 R2 => v = .int (nI q.1) ∧ T2 = T ∧ O2 = O ∧ R2 = R)) := by
  have hd0 := d
  obtain ⟨⟨k1, ⟨⟨x1, k2, k3⟩, k4⟩, ⟨⟨x2, k5, k6⟩, k7⟩, ⟨x3, k8, k9⟩, k10⟩, g1, g2, g3, g4, g5⟩ := d
  refine xCtr.of (by decide +kernel) (Nat.le_of_ble_eq_true rfl) ?_
  intro Z B E hz hnm
  change xV Z (T, O, R) 0 [(0, .ref b)] [] 0 0
  refine g_aload_n B 0 dX11_key_0 rfl ?_
  refine x_get B P k1 (by decide) rfl F_X11_9_11 (by decide) k3 dX11_key_1 ?_
  refine g_aload_n B 0 dX11_key_4 rfl ?_
  refine x_get B P k1 (by decide) rfl F_X11_21_11 (by decide) g1 dX11_key_5 ?_
  refine x_ldI B P k2 (by decide) rfl k4 (by first | omega | (simp at g3; omega)) (by first | omega | (simp at g3; omega)) rfl dX11_key_8 ?_
  refine g_iret B E rfl rfl dX11_key_9 ?_
  exact ⟨_, rfl, congrArg Value.int ((g5 0 (by simp)).1), rfl, rfl, rfl⟩
theorem c_X11_value {G : xG} {T : xT} {O R : xO} {Y : xY} {V : xVV} {I : xII} {J : xJJ} {A : xVV} {w0 : xW} {b t : Nat} {bar : Bool} {q : aRec} {l : List aRec} (P : PX Y V I J A w0 T O R) (d : xBt Y V I b t bar (q :: l)) : xCtr G yX11_value cX11_value 1 (some Jvm.ClassFile.FieldType.int) 0 0 0 0 [.ref b] (T, O, R) (xA (fun v T2 O2 R2 => v = .int q.2.1 ∧ T2 = T ∧ O2 = O ∧ R2 = R)) := by
  have hd0 := d
  obtain ⟨⟨k1, ⟨⟨x1, k2, k3⟩, k4⟩, ⟨⟨x2, k5, k6⟩, k7⟩, ⟨x3, k8, k9⟩, k10⟩, g1, g2, g3, g4, g5⟩ := d
  refine xCtr.of (by decide +kernel) (Nat.le_of_ble_eq_true rfl) ?_
  intro Z B E hz hnm
  change xV Z (T, O, R) 0 [(0, .ref b)] [] 0 0
  refine g_aload_n B 0 dX11_value_0 rfl ?_
  refine x_get B P k1 (by decide) rfl F_X11_15_11 (by decide) k6 dX11_value_1 ?_
  refine g_aload_n B 0 dX11_value_4 rfl ?_
  refine x_get B P k1 (by decide) rfl F_X11_21_11 (by decide) g1 dX11_value_5 ?_
  refine x_ldI B P k5 (by decide) rfl k7 (by first | omega | (simp at g3; omega)) (by first | omega | (simp at g3; omega)) rfl dX11_value_8 ?_
  refine g_iret B E rfl rfl dX11_value_9 ?_
  exact ⟨_, rfl, congrArg Value.int ((g5 0 (by simp)).2.1), rfl, rfl, rfl⟩
theorem c_X11_birth {G : xG} {T : xT} {O R : xO} {Y : xY} {V : xVV} {I : xII} {J : xJJ} {A : xVV} {w0 : xW} {b t : Nat} {bar : Bool} {q : aRec} {l : List aRec} (P : PX Y V I J A w0 T O R) (d : xBt Y V I b t bar (q :: l)) : xCtr G yX11_birth cX11_birth 1 (some Jvm.ClassFile.FieldType.int) 0 0 0 0 [.ref b] (T, O, R) (xA (fun v T2 O2 R2 => v = .int (nI q.2.2) ∧ T2 = T ∧ O2 = O ∧ R2 = R)) := by
  have hd0 := d
  obtain ⟨⟨k1, ⟨⟨x1, k2, k3⟩, k4⟩, ⟨⟨x2, k5, k6⟩, k7⟩, ⟨x3, k8, k9⟩, k10⟩, g1, g2, g3, g4, g5⟩ := d
  refine xCtr.of (by decide +kernel) (Nat.le_of_ble_eq_true rfl) ?_
  intro Z B E hz hnm
  change xV Z (T, O, R) 0 [(0, .ref b)] [] 0 0
  refine g_aload_n B 0 dX11_birth_0 rfl ?_
  refine x_get B P k1 (by decide) rfl F_X11_18_11 (by decide) k9 dX11_birth_1 ?_
  refine g_aload_n B 0 dX11_birth_4 rfl ?_
  refine x_get B P k1 (by decide) rfl F_X11_21_11 (by decide) g1 dX11_birth_5 ?_
  refine x_ldI B P k8 (by decide) rfl k10 (by first | omega | (simp at g3; omega)) (by first | omega | (simp at g3; omega)) rfl dX11_birth_8 ?_
  refine g_iret B E rfl rfl dX11_birth_9 ?_
  exact ⟨_, rfl, congrArg Value.int ((g5 0 (by simp)).2.2), rfl, rfl, rfl⟩
theorem c_X11_take {G : xG} {T : xT} {O R : xO} {Y : xY} {V : xVV} {I : xII} {J : xJJ} {A : xVV} {w0 : xW} {b t : Nat} {bar : Bool} {q : aRec} {l : List aRec} (P : PX Y V I J A w0 T O R) (d : xBt Y V I b t bar (q :: l)) : xCtr G yX11_take cX11_take 1 none 0 0 0 0 [.ref b] (T, O, R) (xN (xPN w0 (fun Y2 V2 I2 J2 A2 => Y = Y2 ∧ J = J2 ∧ A = A2 ∧ xBt Y V2 I2 b (t + 1) bar l ∧ xFr (sBt b) Y V I J A Y2 V2 I2 J2 A2))) := by
  have hd0 := d
  obtain ⟨⟨k1, ⟨⟨x1, k2, k3⟩, k4⟩, ⟨⟨x2, k5, k6⟩, k7⟩, ⟨x3, k8, k9⟩, k10⟩, g1, g2, g3, g4, g5⟩ := d
  refine xCtr.of (by decide +kernel) (Nat.le_of_ble_eq_true rfl) ?_
  intro Z B E hz hnm
  change xV Z (T, O, R) 0 [(0, .ref b)] [] 0 0
  refine g_aload_n B 0 dX11_take_0 rfl ?_
  refine g_dup B dX11_take_1 rfl ?_
  refine x_get B P k1 (by decide) rfl F_X11_21_11 (by decide) g1 dX11_take_2 ?_
  refine g_iconst (v := nI 1) B dX11_take_5 (by decide) ?_
  refine g_iaddN B dX11_take_6 ?_
  refine x_put (q := (RX11, TX11, 6)) B P k1 (by decide) rfl F_X11_21_11 rfl rfl (tyX11_ok 3 (by decide)) rfl rfl dX11_take_7 (fun O1 V1 hs1 hk1 P1 => ?_)
  refine g_vret B E rfl dX11_take_10 ?_
  refine ⟨rfl, _, _, _, _, _, P1, rfl, rfl, rfl, ⟨⟨k1, ⟨⟨x1, k2, rdK hs1 (by decide) k3⟩, k4⟩, ⟨⟨x2, k5, rdK hs1 (by decide) k6⟩, k7⟩, ⟨x3, k8, rdK hs1 (by decide) k9⟩, k10⟩, rdS hs1, (rdK hs1 (by decide) g2).trans (congrArg (fun z => Value.int (nI z)) (by simp; omega)), by simp at g3; omega, rdK hs1 (by decide) g4, fun k hk => ?_⟩, xFr.uV ⟨Or.inl rfl, rfl⟩ hs1 hk1⟩
  have h := g5 (k + 1) (by simp; omega)
  rw [show t + (k + 1) = t + 1 + k by omega] at h
  simpa [List.getD_eq_getElem?_getD] using h
theorem c_X11_add {G : xG} {T : xT} {O R : xO} {Y : xY} {V : xVV} {I : xII} {J : xJJ} {A : xVV} {w0 : xW} {b t : Nat} {bar : Bool} {l : List aRec} {key birth : Nat} {v : Int32} (P : PX Y V I J A w0 T O R) (d : xBt Y V I b t bar l) (h4 : t + l.length < 4) : xCtr G yX11_add cX11_add 4 none 0 0 0 0 [.ref b, .int (nI key), .int v, .int (nI birth)] (T, O, R) (xN (xPN w0 (fun Y2 V2 I2 J2 A2 => Y = Y2 ∧ J = J2 ∧ A = A2 ∧ xBt Y V2 I2 b t bar (l ++ [(key, v, birth)]) ∧ xFr (sBt b) Y V I J A Y2 V2 I2 J2 A2))) := by
  have hd0 := d
  obtain ⟨⟨k1, ⟨⟨x1, k2, k3⟩, k4⟩, ⟨⟨x2, k5, k6⟩, k7⟩, ⟨x3, k8, k9⟩, k10⟩, g1, g2, g3, g4, g5⟩ := d
  refine xCtr.of (by decide +kernel) (Nat.le_of_ble_eq_true rfl) ?_
  intro Z B E hz hnm
  change xV Z (T, O, R) 0 [(0, .ref b), (1, .int (nI key)), (2, .int v), (3, .int (nI birth))] [] 0 0
  refine g_aload_n B 0 dX11_add_0 rfl ?_
  refine x_get B P k1 (by decide) rfl F_X11_9_11 (by decide) k3 dX11_add_1 ?_
  refine g_aload_n B 0 dX11_add_4 rfl ?_
  refine x_get B P k1 (by decide) rfl F_X11_25_11 (by decide) g2 dX11_add_5 ?_
  refine g_iload_n B 1 dX11_add_8 rfl ?_
  refine x_stI B P k2 (by decide) rfl k4 (by omega) (by omega) dX11_add_9 (fun R1 I1 hs1 hk1 P1 => ?_)
  refine g_aload_n B 0 dX11_add_10 rfl ?_
  refine x_get B P1 k1 (by decide) rfl F_X11_15_11 (by decide) k6 dX11_add_11 ?_
  refine g_aload_n B 0 dX11_add_14 rfl ?_
  refine x_get B P1 k1 (by decide) rfl F_X11_25_11 (by decide) g2 dX11_add_15 ?_
  refine g_iload_n B 2 dX11_add_18 rfl ?_
  refine x_stI B P1 k5 (by decide) rfl k7 (by omega) (by omega) dX11_add_19 (fun R2 I2 hs2 hk2 P2 => ?_)
  refine g_aload_n B 0 dX11_add_20 rfl ?_
  refine x_get B P2 k1 (by decide) rfl F_X11_18_11 (by decide) k9 dX11_add_21 ?_
  refine g_aload_n B 0 dX11_add_24 rfl ?_
  refine x_get B P2 k1 (by decide) rfl F_X11_25_11 (by decide) g2 dX11_add_25 ?_
  refine g_iload_n B 3 dX11_add_28 rfl ?_
  refine x_stI B P2 k8 (by decide) rfl k10 (by omega) (by omega) dX11_add_29 (fun R3 I3 hs3 hk3 P3 => ?_)
  refine g_aload_n B 0 dX11_add_30 rfl ?_
  refine g_dup B dX11_add_31 rfl ?_
  refine x_get B P3 k1 (by decide) rfl F_X11_25_11 (by decide) g2 dX11_add_32 ?_
  refine g_iconst (v := nI 1) B dX11_add_35 (by decide) ?_
  refine g_iaddN B dX11_add_36 ?_
  refine x_put (q := (RX11, TX11, 6)) B P3 k1 (by decide) rfl F_X11_25_11 rfl rfl (tyX11_ok 4 (by decide)) rfl rfl dX11_add_37 (fun O4 V4 hs4 hk4 P4 => ?_)
  refine g_vret B E rfl dX11_add_40 ?_
  refine ⟨rfl, _, _, _, _, _, P4, rfl, rfl, rfl, ⟨⟨k1, ⟨⟨x1, k2, rdK hs4 (by decide) k3⟩, k4⟩, ⟨⟨x2, k5, rdK hs4 (by decide) k6⟩, k7⟩, ⟨x3, k8, rdK hs4 (by decide) k9⟩, k10⟩, rdK hs4 (by decide) g1, (rdS hs4).trans (congrArg (fun z => Value.int (nI z)) (by simp; omega)), by simp; omega, rdK hs4 (by decide) g4, fun k hk => ?_⟩, ((xFr.uI (r := 1001) (o := b) ⟨Or.inr (Or.inl rfl), rfl⟩ hs1 hk1).tr (xFr.uI (r := 1002) (o := b) ⟨Or.inr (Or.inr (Or.inl rfl)), rfl⟩ hs2 hk2)).tr ((xFr.uI (r := 1003) (o := b) ⟨Or.inr (Or.inr (Or.inr rfl)), rfl⟩ hs3 hk3).tr (xFr.uV (r := 11) (o := b) ⟨Or.inl rfl, rfl⟩ hs4 hk4))⟩
  by_cases e : k = l.length
  · subst e
    have e1 : (l ++ [(key, v, birth)]).getD l.length r0 = (key, v, birth) := by simp [List.getD_eq_getElem?_getD]
    rw [e1]
    exact ⟨rdR hk3 (by decide) (rdR hk2 (by decide) (rdS hs1)), rdR hk3 (by decide) (rdS hs2), rdS hs3⟩
  · have hkl : k < l.length := by simp at hk; omega
    have e1 : (l ++ [(key, v, birth)]).getD k r0 = l.getD k r0 := by simp [List.getD_eq_getElem?_getD, List.getElem?_append_left hkl]
    rw [e1]
    obtain ⟨q1, q2, q3⟩ := g5 k hkl
    exact ⟨rdR hk3 (by decide) (rdR hk2 (by decide) (rdK hs1 (by omega) q1)), rdR hk3 (by decide) (rdK hs2 (by omega) (rdR hk1 (by decide) q2)), rdK hs3 (by omega) (rdR hk2 (by decide) (rdR hk1 (by decide) q3))⟩
theorem c_X11_clear {G : xG} {T : xT} {O R : xO} {Y : xY} {V : xVV} {I : xII} {J : xJJ} {A : xVV} {w0 : xW} {b : Nat} (P : PX Y V I J A w0 T O R) (d : xBA Y V b) : xCtr G yX11_clear cX11_clear 1 (some (Jvm.ClassFile.FieldType.object "PipelineSimulator$Batch")) 0 0 0 0 [.ref b] (T, O, R) (xA (xP w0 (fun v Y2 V2 I2 J2 A2 => v = .ref b ∧ Y = Y2 ∧ J = J2 ∧ A = A2 ∧ xBt Y V2 I2 b 0 false [] ∧ xFr (sBt b) Y V I J A Y2 V2 I2 J2 A2))) := by
  obtain ⟨k1, ⟨⟨x1, k2, k3⟩, k4⟩, ⟨⟨x2, k5, k6⟩, k7⟩, ⟨x3, k8, k9⟩, k10⟩ := d
  refine xCtr.of (by decide +kernel) (Nat.le_of_ble_eq_true rfl) ?_
  intro Z B E hz hnm
  change xV Z (T, O, R) 0 [(0, .ref b)] [] 0 0
  refine g_aload_n B 0 dX11_clear_0 rfl ?_
  refine g_iconst (v := nI 0) B dX11_clear_1 (by decide) ?_
  refine x_put (q := (RX11, TX11, 6)) B P k1 (by decide) rfl F_X11_21_11 rfl rfl (tyX11_ok 3 (by decide)) rfl rfl dX11_clear_2 (fun O1 V1 hs1 hk1 P1 => ?_)
  refine g_aload_n B 0 dX11_clear_5 rfl ?_
  refine g_iconst (v := nI 0) B dX11_clear_6 (by decide) ?_
  refine x_put (q := (RX11, TX11, 6)) B P1 k1 (by decide) rfl F_X11_25_11 rfl rfl (tyX11_ok 4 (by decide)) rfl rfl dX11_clear_7 (fun O2 V2 hs2 hk2 P2 => ?_)
  refine g_aload_n B 0 dX11_clear_10 rfl ?_
  refine g_iconst (v := nI 0) B dX11_clear_11 (by decide) ?_
  refine x_put (q := (RX11, TX11, 6)) B P2 k1 (by decide) rfl F_X11_28_11 rfl rfl (tyX11_ok 5 (by decide)) rfl rfl dX11_clear_12 (fun O3 V3 hs3 hk3 P3 => ?_)
  refine g_aload_n B 0 dX11_clear_15 rfl ?_
  refine g_aret B E rfl (Or.inl ⟨_, rfl⟩) (Or.inr ⟨_, rfl⟩) dX11_clear_16 ?_
  exact ⟨_, rfl, _, _, _, _, _, P3, rfl, rfl, rfl, rfl, ⟨⟨k1, ⟨⟨x1, k2, rdK hs3 (by decide) (rdK hs2 (by decide) (rdK hs1 (by decide) k3))⟩, k4⟩, ⟨⟨x2, k5, rdK hs3 (by decide) (rdK hs2 (by decide) (rdK hs1 (by decide) k6))⟩, k7⟩, ⟨x3, k8, rdK hs3 (by decide) (rdK hs2 (by decide) (rdK hs1 (by decide) k9))⟩, k10⟩, rdK hs3 (by decide) (rdK hs2 (by decide) (rdS hs1)), rdK hs3 (by decide) (rdS hs2), by decide, rdS hs3, fun k hk => absurd hk (Nat.not_lt_zero _)⟩, ((xFr.uV ⟨Or.inl rfl, rfl⟩ hs1 hk1).tr (xFr.uV ⟨Or.inl rfl, rfl⟩ hs2 hk2)).tr (xFr.uV ⟨Or.inl rfl, rfl⟩ hs3 hk3)⟩
theorem c_X11_init {G : xG} {T : xT} {O R : xO} {Y : xY} {V : xVV} {I : xII} {J : xJJ} {A : xVV} {w0 : xW} {b : Nat} (P : PX Y V I J A w0 T O R) (hat : yAt Y 11 b b) (h3 : V 11 b 3 = .int (nI 0)) (h4 : V 11 b 4 = .int (nI 0)) (h5 : V 11 b 5 = .int (nI 0)) (f0 : yNo Y 1001 b) (f1 : yNo Y 1002 b) (f2 : yNo Y 1003 b) : xCtr G yX11_init cX11_init 1 none 1 20 3 12 [.ref b] (T, O, R) (xN (xPN w0 (fun Y2 V2 I2 J2 A2 => J = J2 ∧ A = A2 ∧ xBt Y2 V2 I2 b 0 false [] ∧ xFr (sBt b) Y V I J A Y2 V2 I2 J2 A2))) := by
  refine xCtr.of (by decide +kernel) (Nat.le_of_ble_eq_true rfl) ?_
  intro Z B E hz hnm
  change xV Z (T, O, R) 0 [(0, .ref b)] [] 3 12
  refine g_aload_n B 0 dX11_init_0 rfl ?_
  refine g_objInit B q627 q161 q162 (by decide) (by decide) dX11_init_1 ?_
  refine g_aload_n B 0 dX11_init_4 rfl ?_
  refine g_iconst (v := nI 4) B dX11_init_5 (by decide) ?_
  refine x_newaI (atype := .int) (ty := .int) (N := 4) (kc := 2) (ks := 8) B P 1001 (fun _ => b) (by unfold okA; decide) rfl rfl rfl (by decide) q217 rfl (by decide) (by decide) (fun _ _ => f0) (fun _ => Or.inr (fun _ e => by obtain ⟨n_, u_, t_⟩ := P.ty hat (by decide) rfl; rw [t_] at e; cases e)) dX11_init_6 (fun q1 Y1 I1 T1 R1 hq1 le1 gr1 hf1 at1 hN1 hs1 hk1 P1 => ?_)
  have F1 : yNo Y1 1002 b := yGr.no gr1 f1 (by omega)
  have F2 : yNo Y1 1003 b := yGr.no gr1 f2 (by omega)
  refine x_putF (q := (RX11, TX11, 6)) (k := 0) B P1 hnm (le1.at hat) (by decide) rfl rfl (by decide) q628 rfl rfl (tyX11_ok 0 (by decide)) rfl rfl dX11_init_8 (fun O2 V2 hs2 hk2 P2 => ?_)
  refine g_aload_n B 0 dX11_init_11 rfl ?_
  refine g_iconst (v := nI 4) B dX11_init_12 (by decide) ?_
  refine x_newaI (atype := .int) (ty := .int) (N := 4) (kc := 1) (ks := 4) B P2 1002 (fun _ => b) (by unfold okA; decide) rfl rfl rfl (by decide) q217 rfl (by decide) (by decide) (fun _ _ => F1) (fun _ => Or.inr (fun _ e => by obtain ⟨n_, u_, t_⟩ := P2.ty (le1.at hat) (by decide) rfl; rw [t_] at e; cases e)) dX11_init_13 (fun q3 Y3 I3 T3 R3 hq3 le3 gr3 hf3 at3 hN3 hs3 hk3 P3 => ?_)
  have F2 : yNo Y3 1003 b := yGr.no gr3 F2 (by omega)
  refine x_putF (q := (RX11, TX11, 6)) (k := 1) B P3 hnm (le3.at (le1.at hat)) (by decide) rfl rfl (by decide) q629 rfl rfl (tyX11_ok 1 (by decide)) rfl rfl dX11_init_15 (fun O4 V4 hs4 hk4 P4 => ?_)
  refine g_aload_n B 0 dX11_init_18 rfl ?_
  refine g_iconst (v := nI 4) B dX11_init_19 (by decide) ?_
  refine x_newaI (atype := .int) (ty := .int) (N := 4) (kc := 0) (ks := 0) B P4 1003 (fun _ => b) (by unfold okA; decide) rfl rfl rfl (by decide) q217 rfl (by decide) (by decide) (fun _ _ => F2) (fun _ => Or.inr (fun _ e => by obtain ⟨n_, u_, t_⟩ := P4.ty (le3.at (le1.at hat)) (by decide) rfl; rw [t_] at e; cases e)) dX11_init_20 (fun q5 Y5 I5 T5 R5 hq5 le5 gr5 hf5 at5 hN5 hs5 hk5 P5 => ?_)
  refine x_putF (q := (RX11, TX11, 6)) (k := 2) B P5 hnm (le5.at (le3.at (le1.at hat))) (by decide) rfl rfl (by decide) q630 rfl rfl (tyX11_ok 2 (by decide)) rfl rfl dX11_init_22 (fun O6 V6 hs6 hk6 P6 => ?_)
  refine g_vret B E rfl dX11_init_25 ?_
  exact ⟨rfl, _, _, _, _, _, P6, rfl, rfl, ⟨⟨(le5.at (le3.at (le1.at hat))), ⟨⟨_, (le5.at (le3.at at1)), rdK hs6 (by decide) (rdK hs4 (by decide) (rdS hs2))⟩, (le5.n (le3.at at1) (le3.n at1 hN1))⟩, ⟨⟨_, (le5.at at3), rdK hs6 (by decide) (rdS hs4)⟩, (le5.n at3 hN3)⟩, ⟨_, at5, rdS hs6⟩, hN5⟩, rdK hs6 (by decide) (rdK hs4 (by decide) (rdK hs2 (by decide) h3)), rdK hs6 (by decide) (rdK hs4 (by decide) (rdK hs2 (by decide) h4)), by decide, rdK hs6 (by decide) (rdK hs4 (by decide) (rdK hs2 (by decide) h5)), fun k hk => absurd hk (Nat.not_lt_zero _)⟩, ((xFr.nI (S := sBt b) (r := 1001) (o := b) ⟨Or.inr (Or.inl rfl), rfl⟩ le1 gr1 hs1 hk1).tr ((xFr.uV (S := sBt b) (r := 11) (o := b) ⟨Or.inl rfl, rfl⟩ hs2 hk2).tr ((xFr.nI (S := sBt b) (r := 1002) (o := b) ⟨Or.inr (Or.inr (Or.inl rfl)), rfl⟩ le3 gr3 hs3 hk3).tr ((xFr.uV (S := sBt b) (r := 11) (o := b) ⟨Or.inl rfl, rfl⟩ hs4 hk4).tr ((xFr.nI (S := sBt b) (r := 1003) (o := b) ⟨Or.inr (Or.inr (Or.inr rfl)), rfl⟩ le5 gr5 hs5 hk5).tr (xFr.uV (S := sBt b) (r := 11) (o := b) ⟨Or.inl rfl, rfl⟩ hs6 hk6))))))⟩
