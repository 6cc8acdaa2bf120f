set_option maxRecDepth 100000
theorem inB_out {x : Int32} {k : Nat} (hk : k < 2 ^ 31) (h : inB x (nI 0) (nI k) = false) : x.toInt < 0 ∨ (k : Int) < x.toInt := by
  rcases Int.lt_or_le x.toInt 0 with h1 | h1
  · exact Or.inl h1
  rcases Int.lt_or_le (k : Int) x.toInt with h2 | h2
  · exact Or.inr h2
  exfalso
  have e : x = nI x.toInt.toNat := by
    apply Int32.toInt_inj.mp
    have q : (nI x.toInt.toNat).toInt = ((x.toInt.toNat : Nat) : Int) := nI_toInt (by omega)
    rw [q, Int.toNat_of_nonneg h1]
  rw [e, inB_of hk (by omega)] at h
  cases h
def numF (q : Option (Int32 × Int32)) (w : Int32) : Int32 := if q.isSome = true then (if inB w (nI 0) (nI 1) = true then (if w = 0 then (q.getD (0, 0)).1 else (q.getD (0, 0)).2) else -1000000002) else -1000000001
theorem ksNum_some {q : Option (Int32 × Int32)} (h : q.isSome = true) (i : Int32) : ksNum q i = if i = 0 then (q.getD (0, 0)).1 else (q.getD (0, 0)).2 := by
  cases q with
  | none => cases h
  | some p => rfl
def stOf (a : aA) (o key : Int32) : Bool := inB o (nI 0) (nI (a.n - 2 + 1)) && inB key (nI 0) (nI 15) && a.ky o.toNatClampNeg
theorem told_eq (a : aA) (s : Nat → Nat → Option (Int32 × Int32)) (o key w : Int32) : a.toldF s o key w = if stOf a o key = true then numF (s o.toNatClampNeg key.toNatClampNeg) w else -1000000001 := by
  unfold aA.toldF stOf numF
  by_cases h1 : inB o (nI 0) (nI (a.n - 2 + 1)) = true
  · by_cases h2 : inB key (nI 0) (nI 15) = true
    · by_cases h3 : a.ky o.toNatClampNeg = true
      · rw [if_pos (show (inB o (nI 0) (nI (a.n - 2 + 1)) && inB key (nI 0) (nI 15) && a.ky o.toNatClampNeg) = true by rw [h1, h2, h3]; rfl)]
        by_cases h4 : (s o.toNatClampNeg key.toNatClampNeg).isSome = true
        · rw [if_pos h4, if_pos ⟨h1, h2, h3, h4⟩]
        · rw [if_neg h4, if_neg (fun q => h4 q.2.2.2)]
      · rw [if_neg (fun q => h3 q.2.2.1), if_neg (fun q => h3 (by rw [Bool.and_eq_true] at q; exact q.2))]
    · rw [if_neg (fun q => h2 q.2.1), if_neg (fun q => h2 (by rw [Bool.and_eq_true, Bool.and_eq_true] at q; exact q.1.2))]
  · rw [if_neg (fun q => h1 q.1), if_neg (fun q => h1 (by rw [Bool.and_eq_true, Bool.and_eq_true] at q; exact q.1.1))]
theorem c_X0_isOperator {G : xG} {T : xT} {O R : xO} {Y : xY} {V : xVV} {I : xII} {J : xJJ} {A : xVV} {w0 : xW} {a : aA} {tk x0 g0 fi ps : Nat} {Bd : Nat} {x : Int32} (P : PX Y V I J A w0 T O R) (H : RepX a tk x0 g0 fi ps Y V I J A) (W : WF Bd a) (h0q : yAt Y 0 0 x0) : xCtr G yX0_isOperator cX0_isOperator 2 (some Jvm.ClassFile.FieldType.boolean) 1 25 0 0 [.ref x0, .int x] (T, O, R) (xA (fun v T2 O2 R2 => v = .int (bI (inB x (nI 0) (nI (a.n - 2 + 1)))) ∧ T2 = T ∧ O2 = O ∧ R2 = R)) := by
  refine xCtr.of (by decide +kernel) (Nat.le_of_ble_eq_true rfl) ?_
  intro Z B E hz hnm
  change xV Z (T, O, R) 0 [(0, .ref x0), (1, .int x)] [] 0 0
  have hn2 := W.n2
  have hn6 := W.n6
  obtain ⟨h0, ⟨⟨pa0, pb0, pc0⟩, ⟨pa5, pb5, pc5⟩, ⟨pa6, pb6, pc6⟩, ⟨pa8, pb8, pc8⟩, ⟨pa9, pb9, pc9⟩, ⟨pa10, pb10, pc10⟩, ⟨pa11, pb11, pc11⟩, ⟨pa12, pb12, pc12⟩, ⟨pa13, pb13, pc13⟩, ⟨pa20, pb20, pc20⟩, ⟨pa21, pb21, pc21⟩, ⟨pa22, pb22, pc22⟩⟩, ⟨nq1, nq2, nq3, nq4⟩, nq7, nq14, nq15, nq16, nq17, nq18, nq19⟩ := H.Si
  obtain ⟨xol, ll, Lol, lln, llo⟩ := H.Ol
  obtain rfl : pa8 = xol := P.fn pc8 Lol.1
  have hll : 1 ≤ ll.length := by rw [lln]; omega
  refine g_iload_n B 1 dX0_isOperator_0 rfl ?_
  refine g_i2l B dX0_isOperator_1 rfl ?_
  refine g_lconst (v := 0) B dX0_isOperator_2 (by decide) ?_
  refine g_aload_n B 0 dX0_isOperator_3 rfl ?_
  refine x_get B P h0q (by decide) rfl F_X0_115_0 (by decide) pb8 dX0_isOperator_4 ?_
  obtain ⟨n1, u1, ty1⟩ := P.ty pc8 (by decide) rfl
  refine g_callV (rest := [_, _]) B M_J4_size q502 q503 q504 ty1 rfl (c_J4_size (r := 34) (rd := 5002) P (by decide) rfl Lol) rfl rfl (Nat.le_of_ble_eq_true rfl) (Nat.le_of_ble_eq_true rfl) (Nat.le_of_ble_eq_true rfl) (Nat.le_refl _) (Nat.le_refl _) dX0_isOperator_7 (xkA (fun v1 T1 O1 R1 le1 p1 => ?_))
  obtain ⟨rfl, eT1, eO1, eR1⟩ := p1
  obtain rfl := eT1.symm
  obtain rfl := eO1.symm
  obtain rfl := eR1.symm
  refine g_iconst (v := nI 1) B dX0_isOperator_10 (by decide) ?_
  refine g_isubN B (by omega) dX0_isOperator_11 ?_
  refine g_i2l B dX0_isOperator_12 rfl ?_
  refine g_callS (rest := []) B M_X0_isBetween q805 q806 (c_X0_isBetween (x := x) (l := nI 0) (u := nI (ll.length - 1)) P rfl rfl rfl) rfl rfl (Nat.le_of_ble_eq_true rfl) (Nat.le_of_ble_eq_true rfl) (Nat.le_of_ble_eq_true rfl) (Nat.le_refl _) (Nat.le_refl _) dX0_isOperator_13 (xkA (fun v2 T2 O2 R2 le2 p2 => ?_))
  obtain ⟨rfl, eT2, eO2, eR2⟩ := p2
  obtain rfl := eT2.symm
  obtain rfl := eO2.symm
  obtain rfl := eR2.symm
  refine g_iret B E rfl (bI_nar _) dX0_isOperator_16 ?_
  exact ⟨_, rfl, (by rw [lln, show a.n - 1 = a.n - 2 + 1 by omega]), rfl, rfl, rfl⟩
theorem c_X0_isInstance {G : xG} {T : xT} {O R : xO} {Y : xY} {V : xVV} {I : xII} {J : xJJ} {A : xVV} {w0 : xW} {a : aA} {tk x0 g0 fi ps : Nat} {Bd : Nat} {o i : Int32} (P : PX Y V I J A w0 T O R) (H : RepX a tk x0 g0 fi ps Y V I J A) (W : WF Bd a) (h0q : yAt Y 0 0 x0) : xCtr G yX0_isInstance cX0_isInstance 3 (some Jvm.ClassFile.FieldType.boolean) 3 64 0 0 [.ref x0, .int o, .int i] (T, O, R) (xA (fun v T2 O2 R2 => v = .int (bI (inB o (nI 0) (nI (a.n - 2 + 1)) && inB i (nI 0) (nI (a.p o.toNatClampNeg - 1)))) ∧ T2 = T ∧ O2 = O ∧ R2 = R)) := by
  refine xCtr.of (by decide +kernel) (Nat.le_of_ble_eq_true rfl) ?_
  intro Z B E hz hnm
  change xV Z (T, O, R) 0 [(0, .ref x0), (1, .int o), (2, .int i)] [] 0 0
  have hn2 := W.n2
  have hn6 := W.n6
  obtain ⟨h0, ⟨⟨pa0, pb0, pc0⟩, ⟨pa5, pb5, pc5⟩, ⟨pa6, pb6, pc6⟩, ⟨pa8, pb8, pc8⟩, ⟨pa9, pb9, pc9⟩, ⟨pa10, pb10, pc10⟩, ⟨pa11, pb11, pc11⟩, ⟨pa12, pb12, pc12⟩, ⟨pa13, pb13, pc13⟩, ⟨pa20, pb20, pc20⟩, ⟨pa21, pb21, pc21⟩, ⟨pa22, pb22, pc22⟩⟩, ⟨nq1, nq2, nq3, nq4⟩, nq7, nq14, nq15, nq16, nq17, nq18, nq19⟩ := H.Si
  obtain ⟨xol, ll, Lol, lln, llo⟩ := H.Ol
  obtain rfl : pa8 = xol := P.fn pc8 Lol.1
  have hll : ll.length = a.n := lln
  refine g_aload_n B 0 dX0_isInstance_0 rfl ?_
  refine g_iload_n B 1 dX0_isInstance_1 rfl ?_
  obtain ⟨n1, u1, ty1⟩ := P.ty h0q (by decide) rfl
  refine g_callV (rest := []) B M_X0_isOperator q1875 q1877 qs45 ty1 rfl (c_X0_isOperator (x := o) P H W h0q) rfl rfl (Nat.le_of_ble_eq_true rfl) (Nat.le_of_ble_eq_true rfl) (Nat.le_of_ble_eq_true rfl) (Nat.le_refl _) (Nat.le_refl _) dX0_isInstance_2 (xkA (fun v1 T1 O1 R1 le1 p1 => ?_))
  obtain ⟨rfl, eT1, eO1, eR1⟩ := p1
  obtain rfl := eT1.symm
  obtain rfl := eO1.symm
  obtain rfl := eR1.symm
  refine g_if_eqB (tgt := 38) B dX0_isInstance_5 (by decide) (fun c2 => ?_) (fun c2 => ?_)
  · refine g_iconst (v := nI 0) B dX0_isInstance_38 (by decide) ?_
    refine g_iret B E rfl rfl dX0_isInstance_39 ?_
    exact ⟨_, rfl, by rw [c2]; rfl, rfl, rfl, rfl⟩
  · have hbo := c2
    obtain ⟨no, h_no, e_no⟩ := inB_nI (by omega) hbo
    have hc_no : o.toNatClampNeg = no := by rw [e_no]; exact nI_clamp (by omega)
    subst e_no
    have hno : no < a.n := by omega
    obtain ⟨xo, ko⟩ := H.Op no hno
    have ⟨k0, k1, k2, k3, k4, k5, ⟨xk, k6, k7⟩, k8, k9, k10, k11⟩ := ko
    have k1 : yK Y 4 no = a.kd no := k1
    have k2 : V 4 no 0 = .int (nI (a.kd no)) := k2
    have k3 : V 4 no 1 = .int (a.pa no) := k3
    have k4 : V 4 no 2 = .int (a.pb no) := k4
    have k5 : V 4 no 3 = .int (nI (a.p no)) := k5
    have hpo := W.p1 no hno
    refine g_iload_n B 2 dX0_isInstance_8 rfl ?_
    refine g_i2l B dX0_isInstance_9 rfl ?_
    refine g_lconst (v := 0) B dX0_isInstance_10 (by decide) ?_
    refine g_aload_n B 0 dX0_isInstance_11 rfl ?_
    refine x_get B P h0q (by decide) rfl F_X0_115_0 (by decide) pb8 dX0_isInstance_12 ?_
    refine g_iload_n B 1 dX0_isInstance_15 rfl ?_
    obtain ⟨n3, u3, ty3⟩ := P.ty pc8 (by decide) rfl
    refine g_callV (rest := [_, _]) B M_J4_get q506 q507 q508 ty3 rfl (c_J4_get (r := 34) (rd := 5002) P (by decide) rfl Lol rfl (by rw [lln]; first | omega | (rw [hll]; omega))) rfl rfl (Nat.le_of_ble_eq_true rfl) (Nat.le_of_ble_eq_true rfl) (Nat.le_of_ble_eq_true rfl) (Nat.le_refl _) (Nat.le_refl _) dX0_isInstance_16 (xkA (fun v3 T3 O3 R3 le3 p3 => ?_))
    obtain ⟨rfl, eT3, eO3, eR3⟩ := p3
    obtain rfl := eT3.symm
    obtain rfl := eO3.symm
    obtain rfl := eR3.symm
    obtain ⟨n4, u4, ty4⟩ := P.ty (llo no (by first | omega | (rw [hll]; omega))) (by decide) rfl
    refine g_cast B ty4 (opNa _) q520 (opCast_X4 _) dX0_isInstance_19 ?_
    refine x_get B P (llo no (by first | omega | (rw [hll]; omega))) (by decide) rfl (FO_X0_183 _) (by decide) k5 dX0_isInstance_22 ?_
    refine g_iconst (v := nI 1) B dX0_isInstance_25 (by decide) ?_
    refine g_isubN B (by first | omega | (rw [hll]; omega)) dX0_isInstance_26 ?_
    refine g_i2l B dX0_isInstance_27 rfl ?_
    refine g_callS (rest := []) B M_X0_isBetween q805 q806 (c_X0_isBetween (x := i) (l := nI 0) (u := nI ((a.p no) - 1)) P rfl rfl rfl) rfl rfl (Nat.le_of_ble_eq_true rfl) (Nat.le_of_ble_eq_true rfl) (Nat.le_of_ble_eq_true rfl) (Nat.le_refl _) (Nat.le_refl _) dX0_isInstance_28 (xkA (fun v5 T5 O5 R5 le5 p5 => ?_))
    obtain ⟨rfl, eT5, eO5, eR5⟩ := p5
    obtain rfl := eT5.symm
    obtain rfl := eO5.symm
    obtain rfl := eR5.symm
    refine g_if_eqB (tgt := 38) B dX0_isInstance_31 (by decide) (fun c6 => ?_) (fun c6 => ?_)
    · refine g_iconst (v := nI 0) B dX0_isInstance_38 (by decide) ?_
      refine g_iret B E rfl rfl dX0_isInstance_39 ?_
      exact ⟨_, rfl, by rw [hbo, hc_no, c6]; rfl, rfl, rfl, rfl⟩
    · refine g_iconst (v := nI 1) B dX0_isInstance_34 (by decide) ?_
      refine g_goto (tgt := 39) B dX0_isInstance_35 (by decide) ?_
      refine g_iret B E rfl rfl dX0_isInstance_39 ?_
      exact ⟨_, rfl, by rw [hbo, hc_no, c6]; rfl, rfl, rfl, rfl⟩
theorem c_X0_isStateOf {G : xG} {T : xT} {O R : xO} {Y : xY} {V : xVV} {I : xII} {J : xJJ} {A : xVV} {w0 : xW} {a : aA} {tk x0 g0 fi ps : Nat} {Bd : Nat} {o key : Int32} (P : PX Y V I J A w0 T O R) (H : RepX a tk x0 g0 fi ps Y V I J A) (W : WF Bd a) (h0q : yAt Y 0 0 x0) : xCtr G yX0_isStateOf cX0_isStateOf 3 (some Jvm.ClassFile.FieldType.boolean) 3 64 0 0 [.ref x0, .int o, .int key] (T, O, R) (xA (fun v T2 O2 R2 => v = .int (bI (stOf a o key)) ∧ T2 = T ∧ O2 = O ∧ R2 = R)) := by
  refine xCtr.of (by decide +kernel) (Nat.le_of_ble_eq_true rfl) ?_
  intro Z B E hz hnm
  change xV Z (T, O, R) 0 [(0, .ref x0), (1, .int o), (2, .int key)] [] 0 0
  have hn2 := W.n2
  have hn6 := W.n6
  obtain ⟨h0, ⟨⟨pa0, pb0, pc0⟩, ⟨pa5, pb5, pc5⟩, ⟨pa6, pb6, pc6⟩, ⟨pa8, pb8, pc8⟩, ⟨pa9, pb9, pc9⟩, ⟨pa10, pb10, pc10⟩, ⟨pa11, pb11, pc11⟩, ⟨pa12, pb12, pc12⟩, ⟨pa13, pb13, pc13⟩, ⟨pa20, pb20, pc20⟩, ⟨pa21, pb21, pc21⟩, ⟨pa22, pb22, pc22⟩⟩, ⟨nq1, nq2, nq3, nq4⟩, nq7, nq14, nq15, nq16, nq17, nq18, nq19⟩ := H.Si
  obtain ⟨xol, ll, Lol, lln, llo⟩ := H.Ol
  obtain rfl : pa8 = xol := P.fn pc8 Lol.1
  have hll : ll.length = a.n := lln
  refine g_aload_n B 0 dX0_isStateOf_0 rfl ?_
  refine g_iload_n B 1 dX0_isStateOf_1 rfl ?_
  obtain ⟨n1, u1, ty1⟩ := P.ty h0q (by decide) rfl
  refine g_callV (rest := []) B M_X0_isOperator q1875 q1877 qs45 ty1 rfl (c_X0_isOperator (x := o) P H W h0q) rfl rfl (Nat.le_of_ble_eq_true rfl) (Nat.le_of_ble_eq_true rfl) (Nat.le_of_ble_eq_true rfl) (Nat.le_refl _) (Nat.le_refl _) dX0_isStateOf_2 (xkA (fun v1 T1 O1 R1 le1 p1 => ?_))
  obtain ⟨rfl, eT1, eO1, eR1⟩ := p1
  obtain rfl := eT1.symm
  obtain rfl := eO1.symm
  obtain rfl := eR1.symm
  refine g_if_eqB (tgt := 41) B dX0_isStateOf_5 (by decide) (fun c2 => ?_) (fun c2 => ?_)
  · refine g_iconst (v := nI 0) B dX0_isStateOf_41 (by decide) ?_
    refine g_iret B E rfl rfl dX0_isStateOf_42 ?_
    exact ⟨_, rfl, by unfold stOf; rw [c2]; rfl, rfl, rfl, rfl⟩
  · have hbo := c2
    obtain ⟨no, h_no, e_no⟩ := inB_nI (by omega) hbo
    have hc_no : o.toNatClampNeg = no := by rw [e_no]; exact nI_clamp (by omega)
    subst e_no
    have hno : no < a.n := by omega
    obtain ⟨xo, ko⟩ := H.Op no hno
    have ⟨k0, k1, k2, k3, k4, k5, ⟨xk, k6, k7⟩, k8, k9, k10, k11⟩ := ko
    have k1 : yK Y 4 no = a.kd no := k1
    have k2 : V 4 no 0 = .int (nI (a.kd no)) := k2
    have k3 : V 4 no 1 = .int (a.pa no) := k3
    have k4 : V 4 no 2 = .int (a.pb no) := k4
    have k5 : V 4 no 3 = .int (nI (a.p no)) := k5
    have hpo := W.p1 no hno
    refine g_iload_n B 2 dX0_isStateOf_8 rfl ?_
    refine g_i2l B dX0_isStateOf_9 rfl ?_
    refine g_lconst (v := 0) B dX0_isStateOf_10 (by decide) ?_
    refine g_ldc2 (v := 15) B q817 dX0_isStateOf_11 ?_
    refine g_callS (rest := []) B M_X0_isBetween q805 q806 (c_X0_isBetween (x := key) (l := nI 0) (u := nI 15) P rfl rfl rfl) rfl rfl (Nat.le_of_ble_eq_true rfl) (Nat.le_of_ble_eq_true rfl) (Nat.le_of_ble_eq_true rfl) (Nat.le_refl _) (Nat.le_refl _) dX0_isStateOf_14 (xkA (fun v3 T3 O3 R3 le3 p3 => ?_))
    obtain ⟨rfl, eT3, eO3, eR3⟩ := p3
    obtain rfl := eT3.symm
    obtain rfl := eO3.symm
    obtain rfl := eR3.symm
    refine g_if_eqB (tgt := 41) B dX0_isStateOf_17 (by decide) (fun c4 => ?_) (fun c4 => ?_)
    · refine g_iconst (v := nI 0) B dX0_isStateOf_41 (by decide) ?_
      refine g_iret B E rfl rfl dX0_isStateOf_42 ?_
      exact ⟨_, rfl, by unfold stOf; rw [hbo, c4]; rfl, rfl, rfl, rfl⟩
    · refine g_aload_n B 0 dX0_isStateOf_20 rfl ?_
      refine x_get B P h0q (by decide) rfl F_X0_115_0 (by decide) pb8 dX0_isStateOf_21 ?_
      refine g_iload_n B 1 dX0_isStateOf_24 rfl ?_
      obtain ⟨n5, u5, ty5⟩ := P.ty pc8 (by decide) rfl
      refine g_callV (rest := []) B M_J4_get q506 q507 q508 ty5 rfl (c_J4_get (r := 34) (rd := 5002) P (by decide) rfl Lol rfl (by rw [lln]; first | omega | (rw [hll]; omega))) rfl rfl (Nat.le_of_ble_eq_true rfl) (Nat.le_of_ble_eq_true rfl) (Nat.le_of_ble_eq_true rfl) (Nat.le_refl _) (Nat.le_refl _) dX0_isStateOf_25 (xkA (fun v5 T5 O5 R5 le5 p5 => ?_))
      obtain ⟨rfl, eT5, eO5, eR5⟩ := p5
      obtain rfl := eT5.symm
      obtain rfl := eO5.symm
      obtain rfl := eR5.symm
      obtain ⟨n6, u6, ty6⟩ := P.ty (llo no (by first | omega | (rw [hll]; omega))) (by decide) rfl
      refine g_cast B ty6 (opNa _) q520 (opCast_X4 _) dX0_isStateOf_28 ?_
      refine g_isKeyed B P (llo no hno) k1 (W.kd8 hno) q1911 (by decide) (Nat.le_of_ble_eq_true rfl) (Nat.le_of_ble_eq_true rfl) dX0_isStateOf_31 ?_
      refine g_top (show Value.int (bI (kKey (a.kd no))) = .int (bI (a.ky no)) from rfl) ?_
      refine g_if_eqB (tgt := 41) B dX0_isStateOf_34 (by decide) (fun c7 => ?_) (fun c7 => ?_)
      · refine g_iconst (v := nI 0) B dX0_isStateOf_41 (by decide) ?_
        refine g_iret B E rfl rfl dX0_isStateOf_42 ?_
        exact ⟨_, rfl, by unfold stOf; rw [hbo, c4, hc_no, c7]; rfl, rfl, rfl, rfl⟩
      · refine g_iconst (v := nI 1) B dX0_isStateOf_37 (by decide) ?_
        refine g_goto (tgt := 42) B dX0_isStateOf_38 (by decide) ?_
        refine g_iret B E rfl rfl dX0_isStateOf_42 ?_
        exact ⟨_, rfl, by unfold stOf; rw [hbo, c4, hc_no, c7]; rfl, rfl, rfl, rfl⟩
theorem c_X0_number {G : xG} {T : xT} {O R : xO} {Y : xY} {V : xVV} {I : xII} {J : xJJ} {A : xVV} {w0 : xW} {rk rb rw r1 r2 s x : Nat} {st : Nat → Option (Int32 × Int32)} {key : Nat} {w : Int32} (P : PX Y V I J A w0 T O R) (hR : ksR rk rb rw r1 r2) (S : xKs Y V I J rk rb rw r1 r2 s x st) (hk : key < 16) : xCtr G yX0_number cX0_number 3 (some Jvm.ClassFile.FieldType.int) 4 85 0 0 [.ref x, .int (nI key), .int w] (T, O, R) (xA (fun v T2 O2 R2 => v = .int (numF (st key) w) ∧ T2 = T ∧ O2 = O ∧ R2 = R)) := by
  refine xCtr.of (by decide +kernel) (Nat.le_of_ble_eq_true rfl) ?_
  intro Z B E hz hnm
  change xV Z (T, O, R) 0 [(0, .ref x), (1, .int (nI key)), (2, .int w)] [] 0 0
  refine g_aload_n B 0 dX0_number_0 rfl ?_
  refine g_iload_n B 1 dX0_number_1 rfl ?_
  obtain ⟨n1, u1, ty1⟩ := P.ty S.1 hR.1 (xrTv hR.2.1 (by decide))
  refine g_callV (rest := []) B M_X6_has q1856 q1426 q1427 ty1 rfl (c_X6_has P hR S hk) rfl rfl (Nat.le_of_ble_eq_true rfl) (Nat.le_of_ble_eq_true rfl) (Nat.le_of_ble_eq_true rfl) (Nat.le_refl _) (Nat.le_refl _) dX0_number_2 (xkA (fun v1 T1 O1 R1 le1 p1 => ?_))
  obtain ⟨rfl, eT1, eO1, eR1⟩ := p1
  obtain rfl := eT1.symm
  obtain rfl := eO1.symm
  obtain rfl := eR1.symm
  refine g_if_neB (tgt := 12) B dX0_number_5 (by decide) (fun c2 => ?_) (fun c2 => ?_)
  · refine g_iload_n B 2 dX0_number_12 rfl ?_
    refine g_i2l B dX0_number_13 rfl ?_
    refine g_lconst (v := 0) B dX0_number_14 (by decide) ?_
    refine g_lconst (v := 1) B dX0_number_15 (by decide) ?_
    refine g_callS (rest := []) B M_X0_isBetween q805 q806 (c_X0_isBetween (x := w) (l := nI 0) (u := nI 1) P rfl rfl rfl) rfl rfl (Nat.le_of_ble_eq_true rfl) (Nat.le_of_ble_eq_true rfl) (Nat.le_of_ble_eq_true rfl) (Nat.le_refl _) (Nat.le_refl _) dX0_number_16 (xkA (fun v3 T3 O3 R3 le3 p3 => ?_))
    obtain ⟨rfl, eT3, eO3, eR3⟩ := p3
    obtain rfl := eT3.symm
    obtain rfl := eO3.symm
    obtain rfl := eR3.symm
    refine g_if_eqB (tgt := 31) B dX0_number_19 (by decide) (fun c4 => ?_) (fun c4 => ?_)
    · refine g_ldc (v := (-1000000002)) B q811 dX0_number_31 ?_
      refine g_iret B E rfl rfl dX0_number_33 ?_
      exact ⟨_, rfl, by unfold numF; rw [if_pos c2, c4]; rfl, rfl, rfl, rfl⟩
    · refine g_aload_n B 0 dX0_number_22 rfl ?_
      refine g_iload_n B 1 dX0_number_23 rfl ?_
      refine g_iload_n B 2 dX0_number_24 rfl ?_
      obtain ⟨n5, u5, ty5⟩ := P.ty S.1 hR.1 (xrTv hR.2.1 (by decide))
      refine g_callV (rest := []) B M_X6_number q1915 q1916 q1917 ty5 rfl (c_X6_number (i := w) P hR S hk) rfl rfl (Nat.le_of_ble_eq_true rfl) (Nat.le_of_ble_eq_true rfl) (Nat.le_of_ble_eq_true rfl) (Nat.le_refl _) (Nat.le_refl _) dX0_number_25 (xkA (fun v5 T5 O5 R5 le5 p5 => ?_))
      obtain ⟨rfl, eT5, eO5, eR5⟩ := p5
      obtain rfl := eT5.symm
      obtain rfl := eO5.symm
      obtain rfl := eR5.symm
      refine g_goto (tgt := 33) B dX0_number_28 (by decide) ?_
      refine g_iret B E rfl rfl dX0_number_33 ?_
      exact ⟨_, rfl, by unfold numF; rw [if_pos c2, if_pos c4, ksNum_some c2], rfl, rfl, rfl⟩
  · refine g_ldcw (v := (-1000000001)) B q1853 dX0_number_8 ?_
    refine g_iret B E rfl rfl dX0_number_11 ?_
    exact ⟨_, rfl, by unfold numF; rw [c2]; rfl, rfl, rfl, rfl⟩
theorem c_X0_state {G : xG} {T : xT} {O R : xO} {Y : xY} {V : xVV} {I : xII} {J : xJJ} {A : xVV} {w0 : xW} {a : aA} {tk x0 g0 fi ps : Nat} {Bd : Nat} {o key w : Int32} (P : PX Y V I J A w0 T O R) (H : RepX a tk x0 g0 fi ps Y V I J A) (W : WF Bd a) (h0q : yAt Y 0 0 x0) : xCtr G yX0_state cX0_state 4 (some Jvm.ClassFile.FieldType.int) 5 107 0 0 [.ref x0, .int o, .int key, .int w] (T, O, R) (xA (fun v T2 O2 R2 => v = .int (a.toldF (a.st 0) o key w) ∧ T2 = T ∧ O2 = O ∧ R2 = R)) := by
  refine xCtr.of (by decide +kernel) (Nat.le_of_ble_eq_true rfl) ?_
  intro Z B E hz hnm
  change xV Z (T, O, R) 0 [(0, .ref x0), (1, .int o), (2, .int key), (3, .int w)] [] 0 0
  have hn2 := W.n2
  have hn6 := W.n6
  obtain ⟨h0, ⟨⟨pa0, pb0, pc0⟩, ⟨pa5, pb5, pc5⟩, ⟨pa6, pb6, pc6⟩, ⟨pa8, pb8, pc8⟩, ⟨pa9, pb9, pc9⟩, ⟨pa10, pb10, pc10⟩, ⟨pa11, pb11, pc11⟩, ⟨pa12, pb12, pc12⟩, ⟨pa13, pb13, pc13⟩, ⟨pa20, pb20, pc20⟩, ⟨pa21, pb21, pc21⟩, ⟨pa22, pb22, pc22⟩⟩, ⟨nq1, nq2, nq3, nq4⟩, nq7, nq14, nq15, nq16, nq17, nq18, nq19⟩ := H.Si
  obtain ⟨xol, ll, Lol, lln, llo⟩ := H.Ol
  obtain rfl : pa8 = xol := P.fn pc8 Lol.1
  have hll : ll.length = a.n := lln
  refine g_aload_n B 0 dX0_state_0 rfl ?_
  refine g_iload_n B 1 dX0_state_1 rfl ?_
  refine g_iload_n B 2 dX0_state_2 rfl ?_
  obtain ⟨n1, u1, ty1⟩ := P.ty h0q (by decide) rfl
  refine g_callV (rest := []) B M_X0_isStateOf q1907 q1909 qs47 ty1 rfl (c_X0_isStateOf (o := o) (key := key) P H W h0q) rfl rfl (Nat.le_of_ble_eq_true rfl) (Nat.le_of_ble_eq_true rfl) (Nat.le_of_ble_eq_true rfl) (Nat.le_refl _) (Nat.le_refl _) dX0_state_3 (xkA (fun v1 T1 O1 R1 le1 p1 => ?_))
  obtain ⟨rfl, eT1, eO1, eR1⟩ := p1
  obtain rfl := eT1.symm
  obtain rfl := eO1.symm
  obtain rfl := eR1.symm
  refine g_if_eqB (tgt := 37) B dX0_state_6 (by decide) (fun c2 => ?_) (fun c2 => ?_)
  · refine g_ldcw (v := (-1000000001)) B q1853 dX0_state_37 ?_
    refine g_iret B E rfl rfl dX0_state_40 ?_
    exact ⟨_, rfl, by rw [told_eq, c2]; rfl, rfl, rfl, rfl⟩
  · have hst := c2
    have hbo : inB o (nI 0) (nI (a.n - 2 + 1)) = true := by unfold stOf at hst; rw [Bool.and_eq_true, Bool.and_eq_true] at hst; exact hst.1.1
    have hbk : inB key (nI 0) (nI 15) = true := by unfold stOf at hst; rw [Bool.and_eq_true, Bool.and_eq_true] at hst; exact hst.1.2
    obtain ⟨no, h_no, e_no⟩ := inB_nI (by omega) hbo
    have hc_no : o.toNatClampNeg = no := by rw [e_no]; exact nI_clamp (by omega)
    subst e_no
    obtain ⟨nk, h_nk, e_nk⟩ := inB_nI (by omega) hbk
    have hc_nk : key.toNatClampNeg = nk := by rw [e_nk]; exact nI_clamp (by omega)
    subst e_nk
    have hno : no < a.n := by omega
    obtain ⟨xo, ko⟩ := H.Op no hno
    have ⟨k0, k1, k2, k3, k4, k5, ⟨xk, k6, k7⟩, k8, k9, k10, k11⟩ := ko
    have k1 : yK Y 4 no = a.kd no := k1
    have k2 : V 4 no 0 = .int (nI (a.kd no)) := k2
    have k3 : V 4 no 1 = .int (a.pa no) := k3
    have k4 : V 4 no 2 = .int (a.pb no) := k4
    have k5 : V 4 no 3 = .int (nI (a.p no)) := k5
    obtain ⟨xvk, qk, kk1, kk2, kk3⟩ := H.Ks no hno
    obtain rfl : xk = xvk := P.fn k7 kk1.1
    obtain ⟨xs0, kq1, kq2⟩ := kk1.2 0 (by decide)
    have hqk : qk 0 nk = a.st 0 no nk := (kk2 nk (by omega)).1
    refine g_aload_n B 0 dX0_state_9 rfl ?_
    refine x_get B P h0q (by decide) rfl F_X0_115_0 (by decide) pb8 dX0_state_10 ?_
    refine g_iload_n B 1 dX0_state_13 rfl ?_
    obtain ⟨n3, u3, ty3⟩ := P.ty pc8 (by decide) rfl
    refine g_callV (rest := []) B M_J4_get q506 q507 q508 ty3 rfl (c_J4_get (r := 34) (rd := 5002) P (by decide) rfl Lol rfl (by rw [lln]; first | omega | (rw [hll]; omega))) rfl rfl (Nat.le_of_ble_eq_true rfl) (Nat.le_of_ble_eq_true rfl) (Nat.le_of_ble_eq_true rfl) (Nat.le_refl _) (Nat.le_refl _) dX0_state_14 (xkA (fun v3 T3 O3 R3 le3 p3 => ?_))
    obtain ⟨rfl, eT3, eO3, eR3⟩ := p3
    obtain rfl := eT3.symm
    obtain rfl := eO3.symm
    obtain rfl := eR3.symm
    obtain ⟨n4, u4, ty4⟩ := P.ty (llo no (by first | omega | (rw [hll]; omega))) (by decide) rfl
    refine g_cast B ty4 (opNa _) q520 (opCast_X4 _) dX0_state_17 ?_
    refine x_get B P (llo no (by first | omega | (rw [hll]; omega))) (by decide) rfl (FO_X0_187 _) (by decide) k6 dX0_state_20 ?_
    refine x_get B P k7 (by decide) rfl F_X0_260_1 (by decide) kq1 dX0_state_23 ?_
    obtain ⟨n5, u5, ty5⟩ := P.ty kq2.1 (by decide) rfl
    refine g_castS (q := (RX6, TX6, 3)) B ty5 rfl q292 dX0_state_26 ?_
    refine g_iload_n B 2 dX0_state_29 rfl ?_
    refine g_iload_n B 3 dX0_state_30 rfl ?_
    refine g_callS (rest := []) B M_X0_number q1912 q1913 (c_X0_number (w := w) (key := nk) P (by unfold ksR; decide) kq2 (by omega)) rfl rfl (Nat.le_of_ble_eq_true rfl) (Nat.le_of_ble_eq_true rfl) (Nat.le_of_ble_eq_true rfl) (Nat.le_refl _) (Nat.le_refl _) dX0_state_31 (xkA (fun v6 T6 O6 R6 le6 p6 => ?_))
    obtain ⟨rfl, eT6, eO6, eR6⟩ := p6
    obtain rfl := eT6.symm
    obtain rfl := eO6.symm
    obtain rfl := eR6.symm
    refine g_goto (tgt := 40) B dX0_state_34 (by decide) ?_
    refine g_iret B E rfl rfl dX0_state_40 ?_
    exact ⟨_, rfl, by rw [told_eq, if_pos hst, hc_no, hc_nk, hqk], rfl, rfl, rfl⟩
theorem c_X0_savedState {G : xG} {T : xT} {O R : xO} {Y : xY} {V : xVV} {I : xII} {J : xJJ} {A : xVV} {w0 : xW} {a : aA} {tk x0 g0 fi ps : Nat} {Bd : Nat} {o key w : Int32} (P : PX Y V I J A w0 T O R) (H : RepX a tk x0 g0 fi ps Y V I J A) (W : WF Bd a) (h0q : yAt Y 0 0 x0) : xCtr G yX0_savedState cX0_savedState 4 (some Jvm.ClassFile.FieldType.int) 5 107 0 0 [.ref x0, .int o, .int key, .int w] (T, O, R) (xA (fun v T2 O2 R2 => v = .int (a.toldF (a.st 2) o key w) ∧ T2 = T ∧ O2 = O ∧ R2 = R)) := by
  refine xCtr.of (by decide +kernel) (Nat.le_of_ble_eq_true rfl) ?_
  intro Z B E hz hnm
  change xV Z (T, O, R) 0 [(0, .ref x0), (1, .int o), (2, .int key), (3, .int w)] [] 0 0
  have hn2 := W.n2
  have hn6 := W.n6
  obtain ⟨h0, ⟨⟨pa0, pb0, pc0⟩, ⟨pa5, pb5, pc5⟩, ⟨pa6, pb6, pc6⟩, ⟨pa8, pb8, pc8⟩, ⟨pa9, pb9, pc9⟩, ⟨pa10, pb10, pc10⟩, ⟨pa11, pb11, pc11⟩, ⟨pa12, pb12, pc12⟩, ⟨pa13, pb13, pc13⟩, ⟨pa20, pb20, pc20⟩, ⟨pa21, pb21, pc21⟩, ⟨pa22, pb22, pc22⟩⟩, ⟨nq1, nq2, nq3, nq4⟩, nq7, nq14, nq15, nq16, nq17, nq18, nq19⟩ := H.Si
  obtain ⟨xol, ll, Lol, lln, llo⟩ := H.Ol
  obtain rfl : pa8 = xol := P.fn pc8 Lol.1
  have hll : ll.length = a.n := lln
  refine g_aload_n B 0 dX0_savedState_0 rfl ?_
  refine g_iload_n B 1 dX0_savedState_1 rfl ?_
  refine g_iload_n B 2 dX0_savedState_2 rfl ?_
  obtain ⟨n1, u1, ty1⟩ := P.ty h0q (by decide) rfl
  refine g_callV (rest := []) B M_X0_isStateOf q1907 q1909 qs47 ty1 rfl (c_X0_isStateOf (o := o) (key := key) P H W h0q) rfl rfl (Nat.le_of_ble_eq_true rfl) (Nat.le_of_ble_eq_true rfl) (Nat.le_of_ble_eq_true rfl) (Nat.le_refl _) (Nat.le_refl _) dX0_savedState_3 (xkA (fun v1 T1 O1 R1 le1 p1 => ?_))
  obtain ⟨rfl, eT1, eO1, eR1⟩ := p1
  obtain rfl := eT1.symm
  obtain rfl := eO1.symm
  obtain rfl := eR1.symm
  refine g_if_eqB (tgt := 37) B dX0_savedState_6 (by decide) (fun c2 => ?_) (fun c2 => ?_)
  · refine g_ldcw (v := (-1000000001)) B q1853 dX0_savedState_37 ?_
    refine g_iret B E rfl rfl dX0_savedState_40 ?_
    exact ⟨_, rfl, by rw [told_eq, c2]; rfl, rfl, rfl, rfl⟩
  · have hst := c2
    have hbo : inB o (nI 0) (nI (a.n - 2 + 1)) = true := by unfold stOf at hst; rw [Bool.and_eq_true, Bool.and_eq_true] at hst; exact hst.1.1
    have hbk : inB key (nI 0) (nI 15) = true := by unfold stOf at hst; rw [Bool.and_eq_true, Bool.and_eq_true] at hst; exact hst.1.2
    obtain ⟨no, h_no, e_no⟩ := inB_nI (by omega) hbo
    have hc_no : o.toNatClampNeg = no := by rw [e_no]; exact nI_clamp (by omega)
    subst e_no
    obtain ⟨nk, h_nk, e_nk⟩ := inB_nI (by omega) hbk
    have hc_nk : key.toNatClampNeg = nk := by rw [e_nk]; exact nI_clamp (by omega)
    subst e_nk
    have hno : no < a.n := by omega
    obtain ⟨xo, ko⟩ := H.Op no hno
    have ⟨k0, k1, k2, k3, k4, k5, ⟨xk, k6, k7⟩, k8, k9, k10, k11⟩ := ko
    have k1 : yK Y 4 no = a.kd no := k1
    have k2 : V 4 no 0 = .int (nI (a.kd no)) := k2
    have k3 : V 4 no 1 = .int (a.pa no) := k3
    have k4 : V 4 no 2 = .int (a.pb no) := k4
    have k5 : V 4 no 3 = .int (nI (a.p no)) := k5
    obtain ⟨xvk, qk, kk1, kk2, kk3⟩ := H.Ks no hno
    obtain rfl : xk = xvk := P.fn k7 kk1.1
    obtain ⟨xs2, kq1, kq2⟩ := kk1.2 2 (by decide)
    have hqk : qk 2 nk = a.st 2 no nk := (kk2 nk (by omega)).2
    refine g_aload_n B 0 dX0_savedState_9 rfl ?_
    refine x_get B P h0q (by decide) rfl F_X0_115_0 (by decide) pb8 dX0_savedState_10 ?_
    refine g_iload_n B 1 dX0_savedState_13 rfl ?_
    obtain ⟨n3, u3, ty3⟩ := P.ty pc8 (by decide) rfl
    refine g_callV (rest := []) B M_J4_get q506 q507 q508 ty3 rfl (c_J4_get (r := 34) (rd := 5002) P (by decide) rfl Lol rfl (by rw [lln]; first | omega | (rw [hll]; omega))) rfl rfl (Nat.le_of_ble_eq_true rfl) (Nat.le_of_ble_eq_true rfl) (Nat.le_of_ble_eq_true rfl) (Nat.le_refl _) (Nat.le_refl _) dX0_savedState_14 (xkA (fun v3 T3 O3 R3 le3 p3 => ?_))
    obtain ⟨rfl, eT3, eO3, eR3⟩ := p3
    obtain rfl := eT3.symm
    obtain rfl := eO3.symm
    obtain rfl := eR3.symm
    obtain ⟨n4, u4, ty4⟩ := P.ty (llo no (by first | omega | (rw [hll]; omega))) (by decide) rfl
    refine g_cast B ty4 (opNa _) q520 (opCast_X4 _) dX0_savedState_17 ?_
    refine x_get B P (llo no (by first | omega | (rw [hll]; omega))) (by decide) rfl (FO_X0_187 _) (by decide) k6 dX0_savedState_20 ?_
    refine x_get B P k7 (by decide) rfl F_X0_325_1 (by decide) kq1 dX0_savedState_23 ?_
    obtain ⟨n5, u5, ty5⟩ := P.ty kq2.1 (by decide) rfl
    refine g_castS (q := (RX6, TX6, 3)) B ty5 rfl q292 dX0_savedState_26 ?_
    refine g_iload_n B 2 dX0_savedState_29 rfl ?_
    refine g_iload_n B 3 dX0_savedState_30 rfl ?_
    refine g_callS (rest := []) B M_X0_number q1912 q1913 (c_X0_number (w := w) (key := nk) P (by unfold ksR; decide) kq2 (by omega)) rfl rfl (Nat.le_of_ble_eq_true rfl) (Nat.le_of_ble_eq_true rfl) (Nat.le_of_ble_eq_true rfl) (Nat.le_refl _) (Nat.le_refl _) dX0_savedState_31 (xkA (fun v6 T6 O6 R6 le6 p6 => ?_))
    obtain ⟨rfl, eT6, eO6, eR6⟩ := p6
    obtain rfl := eT6.symm
    obtain rfl := eO6.symm
    obtain rfl := eR6.symm
    refine g_goto (tgt := 40) B dX0_savedState_34 (by decide) ?_
    refine g_iret B E rfl rfl dX0_savedState_40 ?_
    exact ⟨_, rfl, by rw [told_eq, if_pos hst, hc_no, hc_nk, hqk], rfl, rfl, rfl⟩
theorem c_X0_operator {G : xG} {T : xT} {O R : xO} {Y : xY} {V : xVV} {I : xII} {J : xJJ} {A : xVV} {w0 : xW} {a : aA} {tk x0 g0 fi ps : Nat} {Bd : Nat} {o w : Int32} (P : PX Y V I J A w0 T O R) (H : RepX a tk x0 g0 fi ps Y V I J A) (W : WF Bd a) (h0q : yAt Y 0 0 x0) : xCtr G yX0_operator cX0_operator 4 (some Jvm.ClassFile.FieldType.int) 3 64 0 0 [.ref x0, .int o, .int w] (T, O, R) (xA (fun v T2 O2 R2 => v = .int (a.opF o w) ∧ T2 = T ∧ O2 = O ∧ R2 = R)) := by
  refine xCtr.of (by decide +kernel) (Nat.le_of_ble_eq_true rfl) ?_
  intro Z B E hz hnm
  change xV Z (T, O, R) 0 [(0, .ref x0), (1, .int o), (2, .int w)] [] 0 0
  have hn2 := W.n2
  have hn6 := W.n6
  obtain ⟨h0, ⟨⟨pa0, pb0, pc0⟩, ⟨pa5, pb5, pc5⟩, ⟨pa6, pb6, pc6⟩, ⟨pa8, pb8, pc8⟩, ⟨pa9, pb9, pc9⟩, ⟨pa10, pb10, pc10⟩, ⟨pa11, pb11, pc11⟩, ⟨pa12, pb12, pc12⟩, ⟨pa13, pb13, pc13⟩, ⟨pa20, pb20, pc20⟩, ⟨pa21, pb21, pc21⟩, ⟨pa22, pb22, pc22⟩⟩, ⟨nq1, nq2, nq3, nq4⟩, nq7, nq14, nq15, nq16, nq17, nq18, nq19⟩ := H.Si
  obtain ⟨xol, ll, Lol, lln, llo⟩ := H.Ol
  obtain rfl : pa8 = xol := P.fn pc8 Lol.1
  have hll : ll.length = a.n := lln
  refine g_aload_n B 0 dX0_operator_0 rfl ?_
  refine g_iload_n B 1 dX0_operator_1 rfl ?_
  obtain ⟨n1, u1, ty1⟩ := P.ty h0q (by decide) rfl
  refine g_callV (rest := []) B M_X0_isOperator q1875 q1877 qs45 ty1 rfl (c_X0_isOperator (x := o) P H W h0q) rfl rfl (Nat.le_of_ble_eq_true rfl) (Nat.le_of_ble_eq_true rfl) (Nat.le_of_ble_eq_true rfl) (Nat.le_refl _) (Nat.le_refl _) dX0_operator_2 (xkA (fun v1 T1 O1 R1 le1 p1 => ?_))
  obtain ⟨rfl, eT1, eO1, eR1⟩ := p1
  obtain rfl := eT1.symm
  obtain rfl := eO1.symm
  obtain rfl := eR1.symm
  refine g_if_neB (tgt := 12) B dX0_operator_5 (by decide) (fun c2 => ?_) (fun c2 => ?_)
  · have hbo := c2
    obtain ⟨no, h_no, e_no⟩ := inB_nI (by omega) hbo
    have hc_no : o.toNatClampNeg = no := by rw [e_no]; exact nI_clamp (by omega)
    subst e_no
    have hno : no < a.n := by omega
    obtain ⟨xo, ko⟩ := H.Op no hno
    have ⟨k0, k1, k2, k3, k4, k5, ⟨xk, k6, k7⟩, k8, k9, k10, k11⟩ := ko
    have k1 : yK Y 4 no = a.kd no := k1
    have k2 : V 4 no 0 = .int (nI (a.kd no)) := k2
    have k3 : V 4 no 1 = .int (a.pa no) := k3
    have k4 : V 4 no 2 = .int (a.pb no) := k4
    have k5 : V 4 no 3 = .int (nI (a.p no)) := k5
    refine g_aload_n B 0 dX0_operator_12 rfl ?_
    refine x_get B P h0q (by decide) rfl F_X0_115_0 (by decide) pb8 dX0_operator_13 ?_
    refine g_iload_n B 1 dX0_operator_16 rfl ?_
    obtain ⟨n3, u3, ty3⟩ := P.ty pc8 (by decide) rfl
    refine g_callV (rest := []) B M_J4_get q506 q507 q508 ty3 rfl (c_J4_get (r := 34) (rd := 5002) P (by decide) rfl Lol rfl (by rw [lln]; first | omega | (rw [hll]; omega))) rfl rfl (Nat.le_of_ble_eq_true rfl) (Nat.le_of_ble_eq_true rfl) (Nat.le_of_ble_eq_true rfl) (Nat.le_refl _) (Nat.le_refl _) dX0_operator_17 (xkA (fun v3 T3 O3 R3 le3 p3 => ?_))
    obtain ⟨rfl, eT3, eO3, eR3⟩ := p3
    obtain rfl := eT3.symm
    obtain rfl := eO3.symm
    obtain rfl := eR3.symm
    obtain ⟨n4, u4, ty4⟩ := P.ty (llo no (by first | omega | (rw [hll]; omega))) (by decide) rfl
    refine g_cast B ty4 (opNa _) q520 (opCast_X4 _) dX0_operator_20 ?_
    refine g_astore_n (lv2 := [(3, _), (0, _), (1, _), (2, _)]) B dX0_operator_23 (by decide) rfl ?_
    by_cases hbw : inB w (nI 0) (nI 7) = true
    · obtain ⟨nw, h_nw, e_nw⟩ := inB_nI (by omega) hbw
      have hc_nw : w.toNatClampNeg = nw := by rw [e_nw]; exact nI_clamp (by omega)
      subst e_nw
      rcases (show nw = 0 ∨ nw = 1 ∨ nw = 2 ∨ nw = 3 ∨ nw = 4 ∨ nw = 5 ∨ nw = 6 ∨ nw = 7 by omega) with rfl | rfl | rfl | rfl | rfl | rfl | rfl | rfl
      · refine g_iload_n B 3 dX0_operator_24 rfl ?_
        refine g_tableIn (tgt := 72) B dX0_operator_25 (by decide) (by decide) rfl (by decide) ?_
        refine g_aload_n B 0 dX0_operator_72 rfl ?_
        refine x_get B P (llo no (by first | omega | (rw [hll]; omega))) (by decide) rfl (FO_X0_338 _) (by decide) k2 dX0_operator_73 ?_
        refine g_iret B E rfl rfl dX0_operator_76 ?_
        exact ⟨_, rfl, by rw [aA.opF, if_pos hbo, if_pos hbw, hc_nw, hc_no]; rfl, rfl, rfl, rfl⟩
      · refine g_iload_n B 3 dX0_operator_24 rfl ?_
        refine g_tableIn (tgt := 77) B dX0_operator_25 (by decide) (by decide) rfl (by decide) ?_
        refine g_aload_n B 0 dX0_operator_77 rfl ?_
        refine x_get B P (llo no (by first | omega | (rw [hll]; omega))) (by decide) rfl (FO_X0_183 _) (by decide) k5 dX0_operator_78 ?_
        refine g_iret B E rfl rfl dX0_operator_81 ?_
        exact ⟨_, rfl, by rw [aA.opF, if_pos hbo, if_pos hbw, hc_nw, hc_no]; rfl, rfl, rfl, rfl⟩
      · refine g_iload_n B 3 dX0_operator_24 rfl ?_
        refine g_tableIn (tgt := 82) B dX0_operator_25 (by decide) (by decide) rfl (by decide) ?_
        refine g_aload_n B 0 dX0_operator_82 rfl ?_
        refine x_get B P (llo no (by first | omega | (rw [hll]; omega))) (by decide) rfl (FO_X0_341 _) (by decide) k3 dX0_operator_83 ?_
        refine g_iret B E rfl rfl dX0_operator_86 ?_
        exact ⟨_, rfl, by rw [aA.opF, if_pos hbo, if_pos hbw, hc_nw, hc_no]; rfl, rfl, rfl, rfl⟩
      · refine g_iload_n B 3 dX0_operator_24 rfl ?_
        refine g_tableIn (tgt := 87) B dX0_operator_25 (by decide) (by decide) rfl (by decide) ?_
        refine g_aload_n B 0 dX0_operator_87 rfl ?_
        refine x_get B P (llo no (by first | omega | (rw [hll]; omega))) (by decide) rfl (FO_X0_344 _) (by decide) k4 dX0_operator_88 ?_
        refine g_iret B E rfl rfl dX0_operator_91 ?_
        exact ⟨_, rfl, by rw [aA.opF, if_pos hbo, if_pos hbw, hc_nw, hc_no]; rfl, rfl, rfl, rfl⟩
      · refine g_iload_n B 3 dX0_operator_24 rfl ?_
        refine g_tableIn (tgt := 92) B dX0_operator_25 (by decide) (by decide) rfl (by decide) ?_
        refine g_aload_n B 0 dX0_operator_92 rfl ?_
        refine x_get B P (llo no (by first | omega | (rw [hll]; omega))) (by decide) rfl (FO_X0_347 _) (by decide) k8 dX0_operator_93 ?_
        refine g_iret B E rfl rfl dX0_operator_96 ?_
        exact ⟨_, rfl, by rw [aA.opF, if_pos hbo, if_pos hbw, hc_nw, hc_no]; rfl, rfl, rfl, rfl⟩
      · refine g_iload_n B 3 dX0_operator_24 rfl ?_
        refine g_tableIn (tgt := 97) B dX0_operator_25 (by decide) (by decide) rfl (by decide) ?_
        refine g_aload_n B 0 dX0_operator_97 rfl ?_
        refine x_get B P (llo no (by first | omega | (rw [hll]; omega))) (by decide) rfl (FO_X0_350 _) (by decide) k9 dX0_operator_98 ?_
        refine g_iret B E rfl rfl dX0_operator_101 ?_
        exact ⟨_, rfl, by rw [aA.opF, if_pos hbo, if_pos hbw, hc_nw, hc_no]; rfl, rfl, rfl, rfl⟩
      · refine g_iload_n B 3 dX0_operator_24 rfl ?_
        refine g_tableIn (tgt := 102) B dX0_operator_25 (by decide) (by decide) rfl (by decide) ?_
        refine g_aload_n B 0 dX0_operator_102 rfl ?_
        refine x_get B P (llo no (by first | omega | (rw [hll]; omega))) (by decide) rfl (FO_X0_353 _) (by decide) k10 dX0_operator_103 ?_
        refine g_iret B E rfl rfl dX0_operator_106 ?_
        exact ⟨_, rfl, by rw [aA.opF, if_pos hbo, if_pos hbw, hc_nw, hc_no]; rfl, rfl, rfl, rfl⟩
      · refine g_iload_n B 3 dX0_operator_24 rfl ?_
        refine g_tableIn (tgt := 107) B dX0_operator_25 (by decide) (by decide) rfl (by decide) ?_
        refine g_aload_n B 0 dX0_operator_107 rfl ?_
        refine x_get B P (llo no (by first | omega | (rw [hll]; omega))) (by decide) rfl (FO_X0_356 _) (by decide) k11 dX0_operator_108 ?_
        refine g_iret B E rfl rfl dX0_operator_111 ?_
        exact ⟨_, rfl, by rw [aA.opF, if_pos hbo, if_pos hbw, hc_nw, hc_no]; rfl, rfl, rfl, rfl⟩
    · have hbwf : inB w (nI 0) (nI 7) = false := by simpa using hbw
      refine g_iload_n B 3 dX0_operator_24 rfl ?_
      refine g_tableOut (tgt := 112) B dX0_operator_25 (inB_out (by decide) hbwf) (by decide) ?_
      refine g_ldc (v := (-1000000002)) B q811 dX0_operator_112 ?_
      refine g_iret B E rfl rfl dX0_operator_114 ?_
      exact ⟨_, rfl, by rw [aA.opF, if_pos hbo, hbwf]; rfl, rfl, rfl, rfl⟩
  · refine g_ldcw (v := (-1000000001)) B q1853 dX0_operator_8 ?_
    refine g_iret B E rfl rfl dX0_operator_11 ?_
    exact ⟨_, rfl, by rw [aA.opF, c2]; rfl, rfl, rfl, rfl⟩
theorem c_X0_effects {G : xG} {T : xT} {O R : xO} {Y : xY} {V : xVV} {I : xII} {J : xJJ} {A : xVV} {w0 : xW} {a : aA} {tk x0 g0 fi ps : Nat} {Bd : Nat} (P : PX Y V I J A w0 T O R) (H : RepX a tk x0 g0 fi ps Y V I J A) (W : WF Bd a) (h0q : yAt Y 0 0 x0) : xCtr G yX0_effects cX0_effects 3 (some Jvm.ClassFile.FieldType.int) 4 84 0 0 [.ref x0] (T, O, R) (xA (fun v T2 O2 R2 => v = .int (a.effF 16) ∧ T2 = T ∧ O2 = O ∧ R2 = R)) := by
  refine xCtr.of (by decide +kernel) (Nat.le_of_ble_eq_true rfl) ?_
  intro Z B E hz hnm
  change xV Z (T, O, R) 0 [(0, .ref x0)] [] 0 0
  have hn2 := W.n2
  have hn6 := W.n6
  obtain ⟨h0, ⟨⟨pa0, pb0, pc0⟩, ⟨pa5, pb5, pc5⟩, ⟨pa6, pb6, pc6⟩, ⟨pa8, pb8, pc8⟩, ⟨pa9, pb9, pc9⟩, ⟨pa10, pb10, pc10⟩, ⟨pa11, pb11, pc11⟩, ⟨pa12, pb12, pc12⟩, ⟨pa13, pb13, pc13⟩, ⟨pa20, pb20, pc20⟩, ⟨pa21, pb21, pc21⟩, ⟨pa22, pb22, pc22⟩⟩, ⟨nq1, nq2, nq3, nq4⟩, nq7, nq14, nq15, nq16, nq17, nq18, nq19⟩ := H.Si
  obtain ⟨xol, ll, Lol, lln, llo⟩ := H.Ol
  obtain rfl : pa8 = xol := P.fn pc8 Lol.1
  have hll : ll.length = a.n := lln
  have hno : ll.length - 1 < a.n := by omega
  obtain ⟨xo, ko⟩ := H.Op (ll.length - 1) hno
  have ⟨k0, k1, k2, k3, k4, k5, ⟨xk, k6, k7⟩, k8, k9, k10, k11⟩ := ko
  have k1 : yK Y 4 (ll.length - 1) = a.kd (ll.length - 1) := k1
  have k2 : V 4 (ll.length - 1) 0 = .int (nI (a.kd (ll.length - 1))) := k2
  have k3 : V 4 (ll.length - 1) 1 = .int (a.pa (ll.length - 1)) := k3
  have k4 : V 4 (ll.length - 1) 2 = .int (a.pb (ll.length - 1)) := k4
  have k5 : V 4 (ll.length - 1) 3 = .int (nI (a.p (ll.length - 1))) := k5
  obtain ⟨xvk, qk, kk1, kk2, kk3⟩ := H.Ks (ll.length - 1) hno
  obtain rfl : xk = xvk := P.fn k7 kk1.1
  obtain ⟨xs0, kq1, kq2⟩ := kk1.2 0 (by decide)
  refine g_iconst (v := nI 0) B dX0_effects_0 (by decide) ?_
  refine g_istore_n (lv2 := [(1, _), (0, _)]) B dX0_effects_1 (by decide) rfl ?_
  refine g_iconst (v := nI 0) B dX0_effects_2 (by decide) ?_
  refine g_istore_n (lv2 := [(2, _), (1, _), (0, _)]) B dX0_effects_3 (by decide) rfl ?_
  have L : ∀ (d : Nat) (k : Nat), d = 16 - k → (k ≤ 16) → xV Z (T, O, R) 4 [(2, .int (nI k)), (1, .int (a.effF k)), (0, .ref x0)] [] 0 0 := by
    intro d
    induction d using Nat.strongRecOn with
    | _ d ih =>
      intro k hd hk16
      refine g_iload_n B 0 dX0_effects_4 rfl ?_
      refine g_bipush (v := nI 16) B dX0_effects_5 (by decide) ?_
      refine g_icmp_geN (tgt := 51) B (by omega) (by omega) dX0_effects_7 (by decide) (fun c101 => ?_) (fun c101 => ?_)
      · refine g_iload_n B 1 dX0_effects_51 rfl ?_
        have ek : k = 16 := by omega
        subst ek
        refine g_iret B E rfl rfl dX0_effects_52 ?_
        exact ⟨_, rfl, rfl, rfl, rfl, rfl⟩
      · refine g_iload_n B 1 dX0_effects_10 rfl ?_
        refine g_aload_n B 2 dX0_effects_11 rfl ?_
        refine x_get B P h0q (by decide) rfl F_X0_115_0 (by decide) pb8 dX0_effects_12 ?_
        refine g_aload_n B 2 dX0_effects_15 rfl ?_
        refine x_get B P h0q (by decide) rfl F_X0_115_0 (by decide) pb8 dX0_effects_16 ?_
        obtain ⟨n102, u102, ty102⟩ := P.ty pc8 (by decide) rfl
        refine g_callV (rest := [_, _]) B M_J4_size q502 q503 q504 ty102 rfl (c_J4_size (r := 34) (rd := 5002) P (by decide) rfl Lol) rfl rfl (Nat.le_of_ble_eq_true rfl) (Nat.le_of_ble_eq_true rfl) (Nat.le_of_ble_eq_true rfl) (Nat.le_refl _) (Nat.le_refl _) dX0_effects_19 (xkA (fun v102 T102 O102 R102 le102 p102 => ?_))
        obtain ⟨rfl, eT102, eO102, eR102⟩ := p102
        obtain rfl := eT102.symm
        obtain rfl := eO102.symm
        obtain rfl := eR102.symm
        refine g_iconst (v := nI 1) B dX0_effects_22 (by decide) ?_
        refine g_isubN B (by omega) dX0_effects_23 ?_
        obtain ⟨n103, u103, ty103⟩ := P.ty pc8 (by decide) rfl
        refine g_callV (rest := [_]) B M_J4_get q506 q507 q508 ty103 rfl (c_J4_get (r := 34) (rd := 5002) P (by decide) rfl Lol rfl (by rw [lln]; omega)) rfl rfl (Nat.le_of_ble_eq_true rfl) (Nat.le_of_ble_eq_true rfl) (Nat.le_of_ble_eq_true rfl) (Nat.le_refl _) (Nat.le_refl _) dX0_effects_24 (xkA (fun v103 T103 O103 R103 le103 p103 => ?_))
        obtain ⟨rfl, eT103, eO103, eR103⟩ := p103
        obtain rfl := eT103.symm
        obtain rfl := eO103.symm
        obtain rfl := eR103.symm
        obtain ⟨n104, u104, ty104⟩ := P.ty (llo (ll.length - 1) (by omega)) (by decide) rfl
        refine g_cast B ty104 (opNa _) q520 (opCast_X4 _) dX0_effects_27 ?_
        refine x_get B P (llo (ll.length - 1) (by omega)) (by decide) rfl (FO_X0_187 _) (by decide) k6 dX0_effects_30 ?_
        refine x_get B P k7 (by decide) rfl F_X0_260_1 (by decide) kq1 dX0_effects_33 ?_
        obtain ⟨n105, u105, ty105⟩ := P.ty kq2.1 (by decide) rfl
        refine g_castS (q := (RX6, TX6, 3)) B ty105 rfl q292 dX0_effects_36 ?_
        refine g_iload_n B 0 dX0_effects_39 rfl ?_
        obtain ⟨n106, u106, ty106⟩ := P.ty kq2.1 (by decide) rfl
        refine g_callV (rest := [_]) B M_X6_second q1870 q1522 q1523 ty106 rfl (c_X6_second (key := k) P (by unfold ksR; decide) kq2 (by omega)) rfl rfl (Nat.le_of_ble_eq_true rfl) (Nat.le_of_ble_eq_true rfl) (Nat.le_of_ble_eq_true rfl) (Nat.le_refl _) (Nat.le_refl _) dX0_effects_40 (xkA (fun v106 T106 O106 R106 le106 p106 => ?_))
        obtain ⟨rfl, eT106, eO106, eR106⟩ := p106
        obtain rfl := eT106.symm
        obtain rfl := eO106.symm
        obtain rfl := eR106.symm
        refine g_iadd B dX0_effects_43 ?_
        have hqk : qk 0 k = a.st 0 (a.n - 2 + 1) k := by rw [(kk2 k (by omega)).1, show ll.length - 1 = a.n - 2 + 1 by omega]
        refine g_top (show Value.int (a.effF k + ((qk 0 k).getD (0, 0)).2) = .int (a.effF (k + 1)) from by rw [hqk]; rfl) ?_
        refine g_istore_n (lv2 := [(1, _), (2, _), (0, _)]) B dX0_effects_44 (by decide) rfl ?_
        refine g_iinc (v := nI (k + 1)) (lv2 := [(2, _), (1, _), (0, _)]) B 1 dX0_effects_45 rfl (nI_1 _) (by decide) rfl ?_
        refine g_goto (tgt := 4) B dX0_effects_48 (by decide) ?_
        exact ih (16 - (k + 1)) (by omega) (k + 1) rfl (by omega)
  exact L _ 0 rfl (by omega)
theorem c_X0_explanation {G : xG} {T : xT} {O R : xO} {Y : xY} {V : xVV} {I : xII} {J : xJJ} {A : xVV} {w0 : xW} {a : aA} {tk x0 g0 fi ps : Nat} {l w : Int32} (P : PX Y V I J A w0 T O R) (H : RepX a tk x0 g0 fi ps Y V I J A) (hex : a.ex.length ≤ 8) (h0q : yAt Y 0 0 x0) : xCtr G yX0_explanation cX0_explanation 3 (some Jvm.ClassFile.FieldType.int) 3 64 0 0 [.ref x0, .int l, .int w] (T, O, R) (xA (fun v T2 O2 R2 => v = .int (a.explF l w) ∧ T2 = T ∧ O2 = O ∧ R2 = R)) := by
  have hlx1 := H.Ex
  refine xCtr.of (by decide +kernel) (Nat.le_of_ble_eq_true rfl) ?_
  intro Z B E hz hnm
  change xV Z (T, O, R) 0 [(0, .ref x0), (1, .int l), (2, .int w)] [] 0 0
  obtain ⟨h0, ⟨⟨pa0, pb0, pc0⟩, ⟨pa5, pb5, pc5⟩, ⟨pa6, pb6, pc6⟩, ⟨pa8, pb8, pc8⟩, ⟨pa9, pb9, pc9⟩, ⟨pa10, pb10, pc10⟩, ⟨pa11, pb11, pc11⟩, ⟨pa12, pb12, pc12⟩, ⟨pa13, pb13, pc13⟩, ⟨pa20, pb20, pc20⟩, ⟨pa21, pb21, pc21⟩, ⟨pa22, pb22, pc22⟩⟩, ⟨nq1, nq2, nq3, nq4⟩, nq7, nq14, nq15, nq16, nq17, nq18, nq19⟩ := H.Si
  obtain ⟨xe, le_, Lx, lx1, lx2⟩ := H.Ex
  obtain rfl : pa20 = xe := P.fn pc20 Lx.1
  refine g_iload_n B 1 dX0_explanation_0 rfl ?_
  refine g_i2l B dX0_explanation_1 rfl ?_
  refine g_lconst (v := 0) B dX0_explanation_2 (by decide) ?_
  refine g_aload_n B 0 dX0_explanation_3 rfl ?_
  refine x_get B P h0q (by decide) rfl F_X0_159_0 (by decide) pb20 dX0_explanation_4 ?_
  obtain ⟨n1, u1, ty1⟩ := P.ty pc20 (by decide) rfl
  refine g_callV (rest := [_, _]) B M_J4_size q502 q503 q504 ty1 rfl (c_J4_size (r := 234) (rd := 5004) P (by decide) rfl Lx) rfl rfl (Nat.le_of_ble_eq_true rfl) (Nat.le_of_ble_eq_true rfl) (Nat.le_of_ble_eq_true rfl) (Nat.le_refl _) (Nat.le_refl _) dX0_explanation_7 (xkA (fun v1 T1 O1 R1 le1 p1 => ?_))
  obtain ⟨rfl, eT1, eO1, eR1⟩ := p1
  obtain rfl := eT1.symm
  obtain rfl := eO1.symm
  obtain rfl := eR1.symm
  refine g_iconst (v := nI 1) B dX0_explanation_10 (by decide) ?_
  refine g_isub B dX0_explanation_11 ?_
  refine g_i2l B dX0_explanation_12 rfl ?_
  refine g_callS (rest := []) B M_X0_isBetween q805 q806 (c_X0_isBetween (x := l) (l := nI 0) (u := ((nI le_.length) - (nI 1))) P rfl rfl rfl) rfl rfl (Nat.le_of_ble_eq_true rfl) (Nat.le_of_ble_eq_true rfl) (Nat.le_of_ble_eq_true rfl) (Nat.le_refl _) (Nat.le_refl _) dX0_explanation_13 (xkA (fun v2 T2 O2 R2 le2 p2 => ?_))
  obtain ⟨rfl, eT2, eO2, eR2⟩ := p2
  obtain rfl := eT2.symm
  obtain rfl := eO2.symm
  obtain rfl := eR2.symm
  refine g_if_neB (tgt := 23) B dX0_explanation_16 (by decide) (fun c3 => ?_) (fun c3 => ?_)
  · have hbl := c3
    have hbl2 : inB l (nI 0) (nI a.ex.length - nI 1) = true := by rw [← lx1]; exact hbl
    obtain ⟨nl, h_nl, e_nl⟩ := inB_len (by omega) hbl
    have hc_nl : l.toNatClampNeg = nl := by rw [e_nl]; exact nI_clamp (by omega)
    subst e_nl
    obtain ⟨lx3, lx4, lx5⟩ := lx2 nl (by omega)
    refine g_iload_n B 2 dX0_explanation_23 rfl ?_
    refine g_i2l B dX0_explanation_24 rfl ?_
    refine g_lconst (v := 0) B dX0_explanation_25 (by decide) ?_
    refine g_lconst (v := 1) B dX0_explanation_26 (by decide) ?_
    refine g_callS (rest := []) B M_X0_isBetween q805 q806 (c_X0_isBetween (x := w) (l := nI 0) (u := nI 1) P rfl rfl rfl) rfl rfl (Nat.le_of_ble_eq_true rfl) (Nat.le_of_ble_eq_true rfl) (Nat.le_of_ble_eq_true rfl) (Nat.le_refl _) (Nat.le_refl _) dX0_explanation_27 (xkA (fun v4 T4 O4 R4 le4 p4 => ?_))
    obtain ⟨rfl, eT4, eO4, eR4⟩ := p4
    obtain rfl := eT4.symm
    obtain rfl := eO4.symm
    obtain rfl := eR4.symm
    refine g_if_neB (tgt := 36) B dX0_explanation_30 (by decide) (fun c5 => ?_) (fun c5 => ?_)
    · refine g_iload_n B 2 dX0_explanation_36 rfl ?_
      refine g_if_ne (tgt := 57) B dX0_explanation_37 (by decide) (fun c6 => ?_) (fun c6 => ?_)
      · refine g_aload_n B 0 dX0_explanation_57 rfl ?_
        refine x_get B P h0q (by decide) rfl F_X0_159_0 (by decide) pb20 dX0_explanation_58 ?_
        refine g_iload_n B 1 dX0_explanation_61 rfl ?_
        obtain ⟨n7, u7, ty7⟩ := P.ty pc20 (by decide) rfl
        refine g_callV (rest := []) B M_J4_get q506 q507 q508 ty7 rfl (c_J4_get (i := nl) (r := 234) (rd := 5004) P (by decide) rfl Lx rfl (by omega)) rfl rfl (Nat.le_of_ble_eq_true rfl) (Nat.le_of_ble_eq_true rfl) (Nat.le_of_ble_eq_true rfl) (Nat.le_refl _) (Nat.le_refl _) dX0_explanation_62 (xkA (fun v7 T7 O7 R7 le7 p7 => ?_))
        obtain ⟨rfl, eT7, eO7, eR7⟩ := p7
        obtain rfl := eT7.symm
        obtain rfl := eO7.symm
        obtain rfl := eR7.symm
        obtain ⟨n8, u8, ty8⟩ := P.ty lx3 (by decide) rfl
        refine g_castS (q := (RX23, TX23, 8)) B ty8 rfl q1962 dX0_explanation_65 ?_
        refine x_get B P lx3 (by decide) rfl F_X0_441_23 (by decide) lx5 dX0_explanation_68 ?_
        refine g_iret B E rfl rfl dX0_explanation_71 ?_
        exact ⟨_, rfl, by rw [aA.explF, if_pos hbl2, if_pos c5, if_neg c6, hc_nl], rfl, rfl, rfl⟩
      · refine g_aload_n B 0 dX0_explanation_40 rfl ?_
        refine x_get B P h0q (by decide) rfl F_X0_159_0 (by decide) pb20 dX0_explanation_41 ?_
        refine g_iload_n B 1 dX0_explanation_44 rfl ?_
        obtain ⟨n9, u9, ty9⟩ := P.ty pc20 (by decide) rfl
        refine g_callV (rest := []) B M_J4_get q506 q507 q508 ty9 rfl (c_J4_get (i := nl) (r := 234) (rd := 5004) P (by decide) rfl Lx rfl (by omega)) rfl rfl (Nat.le_of_ble_eq_true rfl) (Nat.le_of_ble_eq_true rfl) (Nat.le_of_ble_eq_true rfl) (Nat.le_refl _) (Nat.le_refl _) dX0_explanation_45 (xkA (fun v9 T9 O9 R9 le9 p9 => ?_))
        obtain ⟨rfl, eT9, eO9, eR9⟩ := p9
        obtain rfl := eT9.symm
        obtain rfl := eO9.symm
        obtain rfl := eR9.symm
        obtain ⟨n10, u10, ty10⟩ := P.ty lx3 (by decide) rfl
        refine g_castS (q := (RX23, TX23, 8)) B ty10 rfl q1962 dX0_explanation_48 ?_
        refine x_get B P lx3 (by decide) rfl F_X0_438_23 (by decide) lx4 dX0_explanation_51 ?_
        refine g_goto (tgt := 71) B dX0_explanation_54 (by decide) ?_
        refine g_iret B E rfl rfl dX0_explanation_71 ?_
        exact ⟨_, rfl, by rw [aA.explF, if_pos hbl2, if_pos c5, if_pos c6, hc_nl], rfl, rfl, rfl⟩
    · refine g_ldc (v := (-1000000002)) B q811 dX0_explanation_33 ?_
      refine g_iret B E rfl rfl dX0_explanation_35 ?_
      exact ⟨_, rfl, by rw [aA.explF, if_pos hbl2, c5]; rfl, rfl, rfl, rfl⟩
  · refine g_ldcw (v := (-1000000001)) B q1853 dX0_explanation_19 ?_
    refine g_iret B E rfl rfl dX0_explanation_22 ?_
    have hbl2 : inB l (nI 0) (nI a.ex.length - nI 1) = false := by rw [← lx1]; exact c3
    exact ⟨_, rfl, by rw [aA.explF, hbl2]; rfl, rfl, rfl, rfl⟩
