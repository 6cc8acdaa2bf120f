set_option maxRecDepth 100000
/-- between two numbers, both in -/
def inB (x lo hi : Int32) : Bool := decide (lo ≤ x) && decide (x ≤ hi)
theorem inB_t {x lo hi : Int32} (h1 : ¬ x < lo) (h2 : ¬ hi < x) : inB x lo hi = true := by
  simp only [inB, Bool.and_eq_true, decide_eq_true_eq]
  exact ⟨Int32.not_lt.mp h1, Int32.not_lt.mp h2⟩
theorem inB_l {x lo hi : Int32} (h1 : x < lo) : inB x lo hi = false := by
  simp only [inB, Bool.and_eq_false_iff, decide_eq_false_iff_not]
  exact Or.inl (Int32.not_le.mpr h1)
theorem inB_h {x lo hi : Int32} (h1 : hi < x) : inB x lo hi = false := by
  simp only [inB, Bool.and_eq_false_iff, decide_eq_false_iff_not]
  exact Or.inr (Int32.not_le.mpr h1)
/-- .. of the numbers up to k -/
theorem inB_nI {x : Int32} {k : Nat} (hk : k < 2 ^ 31) (h : inB x (nI 0) (nI k) = true) : ∃ j : Nat, j ≤ k ∧ x = nI j := by
  simp only [inB, Bool.and_eq_true, decide_eq_true_eq] at h
  obtain ⟨h1, h2⟩ := h
  rw [nI_0] at h1
  exact nI_of2 (nI_toInt hk) (Int32.not_lt.mpr h1) h2
theorem inB_of {j k : Nat} (hk : k < 2 ^ 31) (h : j ≤ k) : inB (nI j) (nI 0) (nI k) = true := by
  simp only [inB, Bool.and_eq_true, decide_eq_true_eq]
  exact ⟨(nI_leI (by omega) (by omega)).mpr (Nat.zero_le _), (nI_leI (by omega) hk).mpr h⟩
theorem inB_no {j k : Nat} (hj : j < 2 ^ 31) (hk : k < 2 ^ 31) (h : k < j) : inB (nI j) (nI 0) (nI k) = false := by
  simp only [inB, Bool.and_eq_false_iff, decide_eq_false_iff_not]
  exact Or.inr (fun c => absurd ((nI_leI hj hk).mp c) (by omega))
theorem c_M_isIn {G : xG} {T : xT} {O R : xO} {x lo hi : Int32}  : xCtr G yX12_isIn cX12_isIn 3 (some Jvm.ClassFile.FieldType.boolean) 0 0 0 0 [.int x, .int lo, .int hi] (T, O, R) (xA (fun v T2 O2 R2 => v = .int (bI (inB x lo hi)) ∧ T2 = T ∧ O2 = O ∧ R2 = R)) := by
  refine xCtr.of (by decide +kernel) (Nat.le_of_ble_eq_true rfl) ?_
  intro Z B E hz hnm
  change xV Z (T, O, R) 0 [(0, .int x), (1, .int lo), (2, .int hi)] [] 0 0
  refine g_iload_n B 0 dX12_isIn_0 rfl ?_
  refine g_iload_n B 1 dX12_isIn_1 rfl ?_
  refine g_icmp_lt (tgt := 14) B dX12_isIn_2 (by decide) (fun c1 => ?_) (fun c1 => ?_)
  · refine g_iconst (v := nI 0) B dX12_isIn_14 (by decide) ?_
    refine g_iret B E rfl rfl dX12_isIn_15 ?_
    exact ⟨_, rfl, (nI0 (inB_l c1)), rfl, rfl, rfl⟩
  · refine g_iload_n B 0 dX12_isIn_5 rfl ?_
    refine g_iload_n B 2 dX12_isIn_6 rfl ?_
    refine g_icmp_gt (tgt := 14) B dX12_isIn_7 (by decide) (fun c2 => ?_) (fun c2 => ?_)
    · refine g_iconst (v := nI 0) B dX12_isIn_14 (by decide) ?_
      refine g_iret B E rfl rfl dX12_isIn_15 ?_
      exact ⟨_, rfl, (nI0 (inB_h c2)), rfl, rfl, rfl⟩
    · refine g_iconst (v := nI 1) B dX12_isIn_10 (by decide) ?_
      refine g_goto (tgt := 15) B dX12_isIn_11 (by decide) ?_
      refine g_iret B E rfl rfl dX12_isIn_15 ?_
      exact ⟨_, rfl, (nI1 (inB_t c1 c2)), rfl, rfl, rfl⟩
theorem c_M_isOperator {G : xG} {T : xT} {O R : xO} {m : Nat} {ad : Nat → Nat} {sc : Nat → Int32} {ar : Nat → Nat → Int32} {x : Int32} (P : PM m ad O R sc ar T O R) {a : aA} (H : RepM a sc ar)  : xCtr G yX12_isOperator cX12_isOperator 2 (some Jvm.ClassFile.FieldType.boolean) 1 22 0 0 [.ref m, .int x] (T, O, R) (xA (fun v T2 O2 R2 => v = .int (bI (inB x (nI 0) (nI (a.n - 2 + 1)))) ∧ T2 = T ∧ O2 = O ∧ R2 = R)) := by
  have hR := H
  obtain ⟨Htxt, Hop, Hinp, Hnm, Hstt, ⟨Hs0, Hs1, Hs2⟩, ⟨Hc0, Hc1, Hc2⟩, Hls, Hsp, Hpt, Hhd, Hch, Hex, Hwr⟩ := H
  refine xCtr.of (by decide +kernel) (Nat.le_of_ble_eq_true rfl) ?_
  intro Z B E hz hnm
  change xV Z (T, O, R) 0 [(0, .ref m), (1, .int x)] [] 0 0
  refine g_iload_n B 1 dX12_isOperator_0 rfl ?_
  refine g_iconst (v := nI 0) B dX12_isOperator_1 (by decide) ?_
  refine g_aload_n B 0 dX12_isOperator_2 rfl ?_
  refine g_callV (rest := [_, _]) B M_X12_sink q2732 q2734 qs68 (P.1.choose_spec.choose_spec) rfl (c_M_sink P.self Hop.1) rfl rfl (Nat.le_of_ble_eq_true rfl) (Nat.le_of_ble_eq_true rfl) (Nat.le_of_ble_eq_true rfl) (Nat.le_refl _) (Nat.le_refl _) dX12_isOperator_3 (xkA (fun v1 T1 O1 R1 le1 p1 => ?_))
  obtain ⟨rfl, rfl, rfl, rfl⟩ := p1
  refine g_callS (rest := []) B M_X12_isIn q2663 q2664 (c_M_isIn (x := x) (lo := (nI 0)) (hi := (nI (a.n - 2 + 1)))) rfl rfl (Nat.le_of_ble_eq_true rfl) (Nat.le_of_ble_eq_true rfl) (Nat.le_of_ble_eq_true rfl) (Nat.le_refl _) (Nat.le_refl _) dX12_isOperator_6 (xkA (fun v2 T2 O2 R2 le2 p2 => ?_))
  obtain ⟨rfl, rfl, rfl, rfl⟩ := p2
  refine g_iret B E rfl (bI_nar _) dX12_isOperator_9 ?_
  exact ⟨_, rfl, rfl, rfl, rfl, rfl⟩
theorem c_M_goal {G : xG} {T : xT} {O R : xO} {m : Nat} {ad : Nat → Nat} {sc : Nat → Int32} {ar : Nat → Nat → Int32} {o i : Nat} {r : aRec} (P : PM m ad O R sc ar T O R) {a : aA} (H : RepM a sc ar) (ho : o + 1 < a.n) (hn : a.n ≤ 6) (hi : i < 3) (hk : a.kd (o + 1) ≤ 8) (hr : r.1 < 16) (hp : 1 ≤ a.p (o + 1) ∧ a.p (o + 1) ≤ 3) (hc : a.ct 0 o i < 2 ^ 31) : xCtr G yX12_goal cX12_goal 4 (some Jvm.ClassFile.FieldType.int) 1 22 0 0 [.ref m, .int (nI o), .int (nI i), .int (nI r.1)] (T, O, R) (xA (fun v T2 O2 R2 => v = .int (nI (a.goal o i r)) ∧ T2 = T ∧ O2 = O ∧ R2 = R)) := by
  have hR := H
  obtain ⟨Htxt, Hop, Hinp, Hnm, Hstt, ⟨Hs0, Hs1, Hs2⟩, ⟨Hc0, Hc1, Hc2⟩, Hls, Hsp, Hpt, Hhd, Hch, Hex, Hwr⟩ := H
  refine xCtr.of (by decide +kernel) (Nat.le_of_ble_eq_true rfl) ?_
  intro Z B E hz hnm
  change xV Z (T, O, R) 0 [(0, .ref m), (1, .int (nI o)), (2, .int (nI i)), (3, .int (nI r.1))] [] 0 0
  refine g_aload_n B 0 dX12_goal_0 rfl ?_
  refine g_iload_n B 1 dX12_goal_1 rfl ?_
  refine g_iconst (v := nI 1) B dX12_goal_2 (by decide) ?_
  refine g_iaddN B dX12_goal_3 ?_
  refine g_callV (rest := []) B M_X12_isKeyed q2751 q2753 qs72 (P.1.choose_spec.choose_spec) rfl (c_M_isKeyed P.self hR (o := (o + 1)) (by omega) (by omega) (by omega)) rfl rfl (Nat.le_of_ble_eq_true rfl) (Nat.le_of_ble_eq_true rfl) (Nat.le_of_ble_eq_true rfl) (Nat.le_refl _) (Nat.le_refl _) dX12_goal_4 (xkA (fun v1 T1 O1 R1 le1 p1 => ?_))
  obtain ⟨rfl, rfl, rfl, rfl⟩ := p1
  refine g_if_eqB (tgt := 21) B dX12_goal_7 (by decide) (fun c2 => ?_) (fun c2 => ?_)
  · refine g_aload_n B 0 dX12_goal_21 rfl ?_
    refine m_geta B P F_X12_84_12 (by decide) (Or.inl rfl) dX12_goal_22 ?_
    refine g_iload_n B 1 dX12_goal_25 rfl ?_
    refine g_iload_n B 2 dX12_goal_26 rfl ?_
    refine g_callS (rest := [_]) B M_X12_spot q2744 q2745 (c_M_spot (o := o) (i := i)) rfl rfl (Nat.le_of_ble_eq_true rfl) (Nat.le_of_ble_eq_true rfl) (Nat.le_of_ble_eq_true rfl) (Nat.le_refl _) (Nat.le_refl _) dX12_goal_27 (xkA (fun v3 T3 O3 R3 le3 p3 => ?_))
    obtain ⟨rfl, rfl, rfl, rfl⟩ := p3
    refine m_ld B P (by decide) rfl rfl (by show _ < 18; omega) (by decide) (show _ = (nI (a.ct 0 o i)) from (Hc0 o (by omega) i (by omega))) dX12_goal_30 ?_
    refine g_aload_n B 0 dX12_goal_31 rfl ?_
    refine m_geta B P F_X12_22_12 (by decide) (Or.inl rfl) dX12_goal_32 ?_
    refine g_iload_n B 1 dX12_goal_35 rfl ?_
    refine g_iconst (v := nI 1) B dX12_goal_36 (by decide) ?_
    refine g_iaddN B dX12_goal_37 ?_
    refine m_ld B P (by decide) rfl rfl (by show _ < 6; omega) (by decide) (show _ = (nI (a.p (o + 1))) from (Hop.2 (o + 1) (by omega)).2.2.2) dX12_goal_38 ?_
    refine g_iremN B (by omega) (by omega) (by omega) dX12_goal_39 ?_
    refine g_iret B E rfl rfl dX12_goal_40 ?_
    exact ⟨_, rfl, by rw [aA.goal, if_neg (by rw [c2]; decide)], rfl, rfl, rfl⟩
  · refine g_aload_n B 0 dX12_goal_10 rfl ?_
    refine g_iload_n B 1 dX12_goal_11 rfl ?_
    refine g_iconst (v := nI 1) B dX12_goal_12 (by decide) ?_
    refine g_iaddN B dX12_goal_13 ?_
    refine g_iload_n B 3 dX12_goal_14 rfl ?_
    refine g_callV (rest := []) B M_X12_home q2755 q2757 qs73 (P.1.choose_spec.choose_spec) rfl (c_M_home P.self hR (o := (o + 1)) (key := r.1) (by omega) (by omega) (by omega) (by omega)) rfl rfl (Nat.le_of_ble_eq_true rfl) (Nat.le_of_ble_eq_true rfl) (Nat.le_of_ble_eq_true rfl) (Nat.le_refl _) (Nat.le_refl _) dX12_goal_15 (xkA (fun v4 T4 O4 R4 le4 p4 => ?_))
    obtain ⟨rfl, rfl, rfl, rfl⟩ := p4
    refine g_goto (tgt := 40) B dX12_goal_18 (by decide) ?_
    refine g_iret B E rfl rfl dX12_goal_40 ?_
    exact ⟨_, rfl, by rw [aA.goal, if_pos c2], rfl, rfl, rfl⟩
theorem c_M_gives {G : xG} {T : xT} {O R : xO} {m : Nat} {ad : Nat → Nat} {sc : Nat → Int32} {ar : Nat → Nat → Int32} {key k : Nat} {v : Int32} (P : PM m ad O R sc ar T O R) (hk : sc 68 = nI k) (h3 : k < 3) : xCtr G yX12_gives cX12_gives 3 none 0 0 0 0 [.ref m, .int (nI key), .int v] (T, O, R) (xN (mPostN m ad T O R (fun sc2 ar2 => sc2 68 = nI (k + 1) ∧ (∀ j, j ≠ 68 → sc2 j = sc j) ∧ ar2 66 = va_up (ar 66) k (nI key) ∧ ar2 67 = va_up (ar 67) k v ∧ ∀ j, j ≠ 66 → j ≠ 67 → ar2 j = ar j))) := by
  refine xCtr.of (by decide +kernel) (Nat.le_of_ble_eq_true rfl) ?_
  intro Z B E hz hnm
  change xV Z (T, O, R) 0 [(0, .ref m), (1, .int (nI key)), (2, .int v)] [] 0 0
  refine g_aload_n B 0 dX12_gives_0 rfl ?_
  refine m_geta B P F_X12_163_12 (by decide) (Or.inl rfl) dX12_gives_1 ?_
  refine g_aload_n B 0 dX12_gives_4 rfl ?_
  refine m_get B P F_X12_291_12 (by decide) (Or.inl rfl) (show _ = (nI k) from hk) dX12_gives_5 ?_
  refine g_iload_n B 1 dX12_gives_8 rfl ?_
  refine m_st B P (by decide) rfl rfl (by show _ < 3; omega) (by decide) dX12_gives_9 (fun R1 ar1 hs1 hk1 P1 => ?_)
  refine g_aload_n B 0 dX12_gives_10 rfl ?_
  refine m_geta B P1 F_X12_166_12 (by decide) (Or.inl rfl) dX12_gives_11 ?_
  refine g_aload_n B 0 dX12_gives_14 rfl ?_
  refine m_get B P1 F_X12_291_12 (by decide) (Or.inl rfl) (show _ = (nI k) from hk) dX12_gives_15 ?_
  refine g_iload_n B 2 dX12_gives_18 rfl ?_
  refine m_st B P1 (by decide) rfl rfl (by show _ < 3; omega) (by decide) dX12_gives_19 (fun R2 ar2 hs2 hk2 P2 => ?_)
  refine g_aload_n B 0 dX12_gives_20 rfl ?_
  refine g_dup B dX12_gives_21 rfl ?_
  refine m_get B P2 F_X12_291_12 (by decide) (Or.inl rfl) (show _ = (nI k) from hk) dX12_gives_22 ?_
  refine g_iconst (v := nI 1) B dX12_gives_25 (by decide) ?_
  refine g_iaddN B dX12_gives_26 ?_
  refine m_put B P2 F_X12_291_12 (by decide) (Or.inl rfl) rfl rfl rfl dX12_gives_27 (fun O3 sc3 hs3 hk3 P3 => ?_)
  refine g_vret B E rfl dX12_gives_30 ?_
  have e66 : ar2 66 = va_up (ar 66) k (nI key) := ((hk2 66 (by decide)).trans hs1)
  have e67 : ar2 67 = va_up (ar 67) k v := (hs2.trans (congrArg (fun g => va_up g k v) (hk1 67 (by decide))))
  have n68 : sc3 68 = (nI (k + 1)) := hs3
  exact ⟨rfl, rfl, sc3, ar2, P3, n68, hk3, e66, e67, fun j h1 h2 => by rw [hk2 j h2, hk1 j h1]⟩
theorem c_M_emits {G : xG} {T : xT} {O R : xO} {m : Nat} {ad : Nat → Nat} {sc : Nat → Int32} {ar : Nat → Nat → Int32} {o i : Nat} {r : aRec} (P : PM m ad O R sc ar T O R) {a : aA} (H : RepM a sc ar) (ho : o < 6) (hi : i < 3) (hl : ∀ x, x < 6 → ∀ y, y < 3 → (a.ls x y).length ≤ 3) (hln : (a.ls o i).length < 3) : xCtr G yX12_emits cX12_emits 7 none 1 21 0 0 [.ref m, .int (nI o), .int (nI i), .int (nI r.1), .int r.2.1, .int (nI r.2.2)] (T, O, R) (xN (mPostN m ad T O R (fun sc2 ar2 => sc2 = sc ∧ (∀ k, 60 ≤ k → ar2 k = ar k) ∧ RepM (a.emit o i r) sc ar2))) := by
  have hR := H
  obtain ⟨Htxt, Hop, Hinp, Hnm, Hstt, ⟨Hs0, Hs1, Hs2⟩, ⟨Hc0, Hc1, Hc2⟩, Hls, Hsp, Hpt, Hhd, Hch, Hex, Hwr⟩ := H
  refine xCtr.of (by decide +kernel) (Nat.le_of_ble_eq_true rfl) ?_
  intro Z B E hz hnm
  change xV Z (T, O, R) 0 [(0, .ref m), (1, .int (nI o)), (2, .int (nI i)), (3, .int (nI r.1)), (4, .int r.2.1), (5, .int (nI r.2.2))] [] 0 0
  refine g_iload_n B 1 dX12_emits_0 rfl ?_
  refine g_iload_n B 2 dX12_emits_1 rfl ?_
  refine g_callS (rest := []) B M_X12_spot q2744 q2745 (c_M_spot (o := o) (i := i)) rfl rfl (Nat.le_of_ble_eq_true rfl) (Nat.le_of_ble_eq_true rfl) (Nat.le_of_ble_eq_true rfl) (Nat.le_refl _) (Nat.le_refl _) dX12_emits_2 (xkA (fun v1 T1 O1 R1 le1 p1 => ?_))
  obtain ⟨rfl, rfl, rfl, rfl⟩ := p1
  refine g_istore (lv2 := [(6, _), (0, _), (1, _), (2, _), (3, _), (4, _), (5, _)]) B dX12_emits_5 (by decide) rfl ?_
  refine g_aload_n B 1 dX12_emits_7 rfl ?_
  refine m_geta B P F_X12_96_12 (by decide) (Or.inl rfl) dX12_emits_8 ?_
  refine g_iconst (v := nI 3) B dX12_emits_11 (by decide) ?_
  refine g_iload B 0 dX12_emits_12 rfl ?_
  refine g_imulN B dX12_emits_14 ?_
  refine g_aload_n B 1 dX12_emits_15 rfl ?_
  refine m_geta B P F_X12_93_12 (by decide) (Or.inl rfl) dX12_emits_16 ?_
  refine g_iload B 0 dX12_emits_19 rfl ?_
  refine m_ld B P (by decide) rfl rfl (by show _ < 18; omega) (by decide) (show _ = (nI ((a.ls o i).length)) from (Hls o (by omega) i (by omega)).1) dX12_emits_21 ?_
  refine g_iaddN B dX12_emits_22 ?_
  refine g_iload_n B 4 dX12_emits_23 rfl ?_
  refine m_st B P (by decide) rfl rfl (by show _ < 54; omega) (by decide) dX12_emits_24 (fun R2 ar2 hs2 hk2 P2 => ?_)
  refine g_aload_n B 1 dX12_emits_25 rfl ?_
  refine m_geta B P2 F_X12_99_12 (by decide) (Or.inl rfl) dX12_emits_26 ?_
  refine g_iconst (v := nI 3) B dX12_emits_29 (by decide) ?_
  refine g_iload B 0 dX12_emits_30 rfl ?_
  refine g_imulN B dX12_emits_32 ?_
  refine g_aload_n B 1 dX12_emits_33 rfl ?_
  refine m_geta B P2 F_X12_93_12 (by decide) (Or.inl rfl) dX12_emits_34 ?_
  refine g_iload B 0 dX12_emits_37 rfl ?_
  refine m_ld B P2 (by decide) rfl rfl (by show _ < 18; omega) (by decide) (show _ = (nI ((a.ls o i).length)) from ((congrFun (hk2 39 (by decide)) _).trans (Hls o (by omega) i (by omega)).1)) dX12_emits_39 ?_
  refine g_iaddN B dX12_emits_40 ?_
  refine g_iload B 5 dX12_emits_41 rfl ?_
  refine m_st B P2 (by decide) rfl rfl (by show _ < 54; omega) (by decide) dX12_emits_43 (fun R3 ar3 hs3 hk3 P3 => ?_)
  refine g_aload_n B 1 dX12_emits_44 rfl ?_
  refine m_geta B P3 F_X12_102_12 (by decide) (Or.inl rfl) dX12_emits_45 ?_
  refine g_iconst (v := nI 3) B dX12_emits_48 (by decide) ?_
  refine g_iload B 0 dX12_emits_49 rfl ?_
  refine g_imulN B dX12_emits_51 ?_
  refine g_aload_n B 1 dX12_emits_52 rfl ?_
  refine m_geta B P3 F_X12_93_12 (by decide) (Or.inl rfl) dX12_emits_53 ?_
  refine g_iload B 0 dX12_emits_56 rfl ?_
  refine m_ld B P3 (by decide) rfl rfl (by show _ < 18; omega) (by decide) (show _ = (nI ((a.ls o i).length)) from ((congrFun (hk3 39 (by decide)) _).trans ((congrFun (hk2 39 (by decide)) _).trans (Hls o (by omega) i (by omega)).1))) dX12_emits_58 ?_
  refine g_iaddN B dX12_emits_59 ?_
  refine g_iload B 6 dX12_emits_60 rfl ?_
  refine m_st B P3 (by decide) rfl rfl (by show _ < 54; omega) (by decide) dX12_emits_62 (fun R4 ar4 hs4 hk4 P4 => ?_)
  refine g_aload_n B 1 dX12_emits_63 rfl ?_
  refine m_geta B P4 F_X12_93_12 (by decide) (Or.inl rfl) dX12_emits_64 ?_
  refine g_iload B 0 dX12_emits_67 rfl ?_
  refine g_dup2 B dX12_emits_69 rfl rfl ?_
  refine m_ld B P4 (by decide) rfl rfl (by show _ < 18; omega) (by decide) (show _ = (nI ((a.ls o i).length)) from ((congrFun (hk4 39 (by decide)) _).trans ((congrFun (hk3 39 (by decide)) _).trans ((congrFun (hk2 39 (by decide)) _).trans (Hls o (by omega) i (by omega)).1)))) dX12_emits_70 ?_
  refine g_iconst (v := nI 1) B dX12_emits_71 (by decide) ?_
  refine g_iaddN B dX12_emits_72 ?_
  refine m_st B P4 (by decide) rfl rfl (by show _ < 18; omega) (by decide) dX12_emits_73 (fun R5 ar5 hs5 hk5 P5 => ?_)
  have e39 : ar5 39 = va_up (ar 39) (3 * o + i) (nI ((a.ls o i).length + 1)) := (hs5.trans (congrArg (fun g => va_up g (3 * o + i) (nI ((a.ls o i).length + 1))) ((hk4 39 (by decide)).trans ((hk3 39 (by decide)).trans (hk2 39 (by decide))))))
  have e40 : ar5 40 = va_up (ar 40) ((3 * (3 * o + i)) + (a.ls o i).length) (nI r.1) := ((hk5 40 (by decide)).trans ((hk4 40 (by decide)).trans ((hk3 40 (by decide)).trans hs2)))
  have e41 : ar5 41 = va_up (ar 41) ((3 * (3 * o + i)) + (a.ls o i).length) r.2.1 := ((hk5 41 (by decide)).trans ((hk4 41 (by decide)).trans (hs3.trans (congrArg (fun g => va_up g ((3 * (3 * o + i)) + (a.ls o i).length) r.2.1) (hk2 41 (by decide))))))
  have e42 : ar5 42 = va_up (ar 42) ((3 * (3 * o + i)) + (a.ls o i).length) (nI r.2.2) := ((hk5 42 (by decide)).trans (hs4.trans (congrArg (fun g => va_up g ((3 * (3 * o + i)) + (a.ls o i).length) (nI r.2.2)) ((hk3 42 (by decide)).trans (hk2 42 (by decide))))))
  have H2 : RepM (a.w_ls (up2 a.ls o i (a.ls o i ++ [r]))) sc ar5 := hR.ls (fun k hk _ => by rw [hk5 k (by omega), hk4 k (by omega), hk3 k (by omega), hk2 k (by omega)]) (RMls.app Hls hl hln hi e39 e40 e41 e42)
  refine g_aload_n B 1 dX12_emits_74 rfl ?_
  refine m_geta B P5 F_X12_47_12 (by decide) (Or.inl rfl) dX12_emits_75 ?_
  refine g_iload_n B 2 dX12_emits_78 rfl ?_
  refine g_dup2 B dX12_emits_79 rfl rfl ?_
  refine m_ld B P5 (by decide) rfl rfl (by show _ < 6; omega) (by decide) (show _ = (a.stt 1 o) from (H2.2.2.2.2.1 1 (by decide) o (by omega))) dX12_emits_80 ?_
  refine g_iconst (v := nI 1) B dX12_emits_81 (by decide) ?_
  refine g_iadd B dX12_emits_82 ?_
  refine m_st B P5 (by decide) rfl rfl (by show _ < 6; omega) (by decide) dX12_emits_83 (fun R6 ar6 hs6 hk6 P6 => ?_)
  refine g_vret B E rfl dX12_emits_84 ?_
  have e21 : ar6 21 = va_up (ar5 21) o ((a.stt 1 o) + (nI 1)) := hs6
  refine ⟨rfl, rfl, sc, ar6, P6, rfl, fun k h1 => ?_, H2.stt (fun k hk _ => hk6 k (by omega)) (RMstt.up H2.2.2.2.2.1 (q := 1) (by decide) (e21.trans (congrArg (fun x => va_up (ar5 21) o x) rfl)) (fun k hk => hk6 k hk))⟩
  rw [hk6 k (by omega), hk5 k (by omega), hk4 k (by omega), hk3 k (by omega), hk2 k (by omega)]
theorem rest_toInt (x : Int32) : (x - x / 16 * 16).toInt = x.toInt.tmod 16 := by
  have hx1 := Int32.le_toInt x
  have hx2 := Int32.toInt_lt x
  have hb := tmod_bounds (a := x.toInt) (M := 16) (by decide)
  have hq := Int.mul_tdiv_add_tmod x.toInt 16
  have hs1 : 0 ≤ x.toInt → 0 ≤ x.toInt.tmod 16 := fun h => Int.tmod_nonneg 16 h
  have hs2 : x.toInt ≤ 0 → x.toInt.tmod 16 ≤ 0 := fun h => by
    have := Int.tmod_nonneg 16 (show 0 ≤ -x.toInt by omega)
    rw [Int.neg_tmod] at this
    omega
  have hd : (x / 16).toInt = x.toInt.tdiv 16 := by
    rw [Int32.toInt_div, show (16 : Int32).toInt = 16 from rfl]
    exact Int.bmod_eq_of_le (by omega) (by omega)
  have hm : (x / 16 * 16).toInt = x.toInt.tdiv 16 * 16 := by
    rw [Int32.toInt_mul, hd, show (16 : Int32).toInt = 16 from rfl]
    exact Int.bmod_eq_of_le (by omega) (by omega)
  rw [Int32.toInt_sub, hm]
  rw [Int.bmod_eq_of_le (by omega) (by omega)]
  omega
theorem rest_lem (x : Int32) : (if 0 ≤ x - x / 16 * 16 then x - x / 16 * 16 else x - x / 16 * 16 + 16) = nI (aRk x) := by
  have h := rest_toInt x
  have hx1 := Int32.le_toInt x
  have hx2 := Int32.toInt_lt x
  have hb := tmod_bounds (a := x.toInt) (M := 16) (by decide)
  have hq := Int.mul_tdiv_add_tmod x.toInt 16
  have hz : (0 ≤ x - x / 16 * 16) ↔ 0 ≤ x.toInt.tmod 16 := by
    rw [Int32.le_iff_toInt_le, h]; rfl
  have hk : aRk x < 2 ^ 31 := by unfold aRk; omega
  apply Int32.toInt_inj.mp
  rw [nI_toInt hk]
  split
  · rename_i c
    rw [h]
    have := hz.mp c
    unfold aRk
    omega
  · rename_i c
    have hc : ¬ 0 ≤ x.toInt.tmod 16 := fun e => c (hz.mpr e)
    rw [Int32.toInt_add, h, show (16 : Int32).toInt = 16 from rfl, Int.bmod_eq_of_le (by omega) (by omega)]
    unfold aRk
    omega
theorem c_M_rest {G : xG} {T : xT} {O R : xO} {x : Int32}  : xCtr G yX12_rest cX12_rest 2 (some Jvm.ClassFile.FieldType.int) 0 0 0 0 [.int x] (T, O, R) (xA (fun v T2 O2 R2 => v = .int (nI (aRk x)) ∧ T2 = T ∧ O2 = O ∧ R2 = R)) := by
  refine xCtr.of (by decide +kernel) (Nat.le_of_ble_eq_true rfl) ?_
  intro Z B E hz hnm
  change xV Z (T, O, R) 0 [(0, .int x)] [] 0 0
  refine g_iload_n B 0 dX12_rest_0 rfl ?_
  refine g_bipush (v := nI 16) B dX12_rest_1 (by decide) ?_
  refine g_top (show Value.int (nI 16) = .int 16 from rfl) ?_
  refine g_irem B (by decide) dX12_rest_3 ?_
  refine g_istore_n (lv2 := [(1, _), (0, _)]) B dX12_rest_4 (by decide) rfl ?_
  refine g_iload_n B 0 dX12_rest_5 rfl ?_
  refine g_if_ge (tgt := 16) B dX12_rest_6 (by decide) (fun c1 => ?_) (fun c1 => ?_)
  · refine g_iload_n B 0 dX12_rest_16 rfl ?_
    refine g_iret B E rfl rfl dX12_rest_17 ?_
    exact ⟨_, rfl, by rw [← rest_lem, if_pos c1], rfl, rfl, rfl⟩
  · refine g_iload_n B 0 dX12_rest_9 rfl ?_
    refine g_bipush (v := nI 16) B dX12_rest_10 (by decide) ?_
    refine g_top (show Value.int (nI 16) = .int 16 from rfl) ?_
    refine g_iadd B dX12_rest_12 ?_
    refine g_goto (tgt := 17) B dX12_rest_13 (by decide) ?_
    refine g_iret B E rfl rfl dX12_rest_17 ?_
    exact ⟨_, rfl, by rw [← rest_lem, if_neg c1], rfl, rfl, rfl⟩
