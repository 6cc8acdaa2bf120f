set_option maxRecDepth 100000
/-- a sum of the numbers below k -/
def sumN (f : Nat → Nat) : Nat → Nat
  | 0 => 0
  | k + 1 => sumN f k + f k
theorem sumN_z {f : Nat → Nat} {k : Nat} (h : ∀ j, j < k → f j = 0) : sumN f k = 0 := by
  induction k with
  | zero => rfl
  | succ k ih => show sumN f k + f k = 0; rw [ih (fun j hj => h j (by omega)), h k (by omega)]
theorem inB_len {x : Int32} {k : Nat} (hk : k < 2 ^ 31) (h : inB x (nI 0) (nI k - nI 1) = true) : ∃ j : Nat, j < k ∧ x = nI j := by
  rcases Nat.eq_zero_or_pos k with e | e
  · subst e
    simp only [inB, Bool.and_eq_true, decide_eq_true_eq] at h
    exact absurd (Int32.le_trans h.1 h.2) (by decide)
  · rw [pk_sub e] at h
    obtain ⟨j, hj, rfl⟩ := inB_nI (by omega) h
    exact ⟨j, by omega, rfl⟩
def aA.opF (a : aA) (o w : Int32) : Int32 :=
  if inB o (nI 0) (nI (a.n - 2 + 1)) = true then
    if inB w (nI 0) (nI 7) = true then
      (match w.toNatClampNeg with
      | 0 => nI (a.kd o.toNatClampNeg)
      | 1 => nI (a.p o.toNatClampNeg)
      | 2 => a.pa o.toNatClampNeg
      | 3 => a.pb o.toNatClampNeg
      | 4 => a.stt 0 o.toNatClampNeg
      | 5 => a.stt 1 o.toNatClampNeg
      | 6 => a.stt 2 o.toNatClampNeg
      | _ => a.stt 3 o.toNatClampNeg)
    else -1000000002
  else -1000000001
def aA.toldF (a : aA) (s : Nat → Nat → Option (Int32 × Int32)) (o key w : Int32) : Int32 :=
  if inB o (nI 0) (nI (a.n - 2 + 1)) = true ∧ inB key (nI 0) (nI 15) = true ∧ a.ky o.toNatClampNeg = true ∧ (s o.toNatClampNeg key.toNatClampNeg).isSome = true then
    if inB w (nI 0) (nI 1) = true then (if w = 0 then ((s o.toNatClampNeg key.toNatClampNeg).getD (0, 0)).1 else ((s o.toNatClampNeg key.toNatClampNeg).getD (0, 0)).2) else -1000000002
  else -1000000001
def aA.keysF (a : aA) (o i : Nat) : Nat := sumN (fun key => if (a.st 0 o key).isSome = true ∧ aHome key (a.p o) = i then 1 else 0) 16
def aA.explF (a : aA) (l w : Int32) : Int32 :=
  if inB l (nI 0) (nI a.ex.length - nI 1) = true then
    if inB w (nI 0) (nI 1) = true then (if w = 0 then nI (a.ex.getD l.toNatClampNeg (0, 0)).1 else nI (a.ex.getD l.toNatClampNeg (0, 0)).2) else -1000000002
  else -1000000001
theorem c_M_operator {G : xG} {T : xT} {O R : xO} {m : Nat} {ad : Nat → Nat} {sc : Nat → Int32} {ar : Nat → Nat → Int32} {Bd : Nat} {o w : Int32} (P : PM m ad O R sc ar T O R) {a : aA} (H : RepM a sc ar) (W : WF Bd a) : xCtr G yX12_operator cX12_operator 3 (some Jvm.ClassFile.FieldType.int) 2 43 0 0 [.ref m, .int o, .int w] (T, O, R) (xA (fun v T2 O2 R2 => v = .int (a.opF o w) ∧ T2 = T ∧ O2 = O ∧ R2 = R)) := by
  have hR := H
  obtain ⟨Htxt, Hop, Hinp, Hnm, Hstt, ⟨Hs0, Hs1, Hs2⟩, ⟨Hc0, Hc1, Hc2⟩, Hls, Hsp, Hpt, Hhd, Hch, Hex, Hwr⟩ := H
  have hn2 := W.n2
  have hn6 := W.n6
  refine xCtr.of (by decide +kernel) (Nat.le_of_ble_eq_true rfl) ?_
  intro Z B E hz hnm
  change xV Z (T, O, R) 0 [(0, .ref m), (1, .int o), (2, .int w)] [] 0 0
  refine g_aload_n B 0 dX12_operator_0 rfl ?_
  refine g_iload_n B 1 dX12_operator_1 rfl ?_
  refine g_callV (rest := []) B M_X12_isOperator q2842 q2844 qs89 (P.1.choose_spec.choose_spec) rfl (c_M_isOperator P.self hR (x := o)) rfl rfl (Nat.le_of_ble_eq_true rfl) (Nat.le_of_ble_eq_true rfl) (Nat.le_of_ble_eq_true rfl) (Nat.le_refl _) (Nat.le_refl _) dX12_operator_2 (xkA (fun v1 T1 O1 R1 le1 p1 => ?_))
  obtain ⟨rfl, eT1, eO1, eR1⟩ := p1
  obtain rfl := eT1.symm
  obtain rfl := eO1.symm
  obtain rfl := eR1.symm
  refine g_if_neB (tgt := 12) B dX12_operator_5 (by decide) (fun c2 => ?_) (fun c2 => ?_)
  · have hbo := c2
    obtain ⟨no, h_no, e_no⟩ := inB_nI (by omega) hbo
    have hc_no : o.toNatClampNeg = no := by rw [e_no]; exact nI_clamp (by omega)
    subst e_no
    refine g_iload_n B 2 dX12_operator_12 rfl ?_
    refine g_iconst (v := nI 0) B dX12_operator_13 (by decide) ?_
    refine g_bipush (v := nI 7) B dX12_operator_14 (by decide) ?_
    refine g_callS (rest := []) B M_X12_isIn q2663 q2664 (c_M_isIn (x := w) (lo := (nI 0)) (hi := (nI 7))) rfl rfl (Nat.le_of_ble_eq_true rfl) (Nat.le_of_ble_eq_true rfl) (Nat.le_of_ble_eq_true rfl) (Nat.le_refl _) (Nat.le_refl _) dX12_operator_16 (xkA (fun v3 T3 O3 R3 le3 p3 => ?_))
    obtain ⟨rfl, eT3, eO3, eR3⟩ := p3
    obtain rfl := eT3.symm
    obtain rfl := eO3.symm
    obtain rfl := eR3.symm
    refine g_if_neB (tgt := 25) B dX12_operator_19 (by decide) (fun c4 => ?_) (fun c4 => ?_)
    · have hbw := c4
      obtain ⟨nw, h_nw, e_nw⟩ := inB_nI (by omega) hbw
      have hc_nw : w.toNatClampNeg = nw := by rw [e_nw]; exact nI_clamp (by omega)
      subst e_nw
      rcases (show nw = 0 ∨ nw = 1 ∨ nw = 2 ∨ nw = 3 ∨ nw = 4 ∨ nw = 5 ∨ nw = 6 ∨ nw = 7 by omega) with rfl | rfl | rfl | rfl | rfl | rfl | rfl | rfl
      · refine g_iload_n B 2 dX12_operator_25 rfl ?_
        refine g_tableIn (tgt := 68) B dX12_operator_26 (by decide) (by decide) rfl (by decide) ?_
        refine g_aload_n B 0 dX12_operator_68 rfl ?_
        refine m_geta B P F_X12_13_12 (by decide) (Or.inl rfl) dX12_operator_69 ?_
        refine g_iload_n B 1 dX12_operator_72 rfl ?_
        refine m_ld B P (by decide) rfl rfl (by show _ < 6; omega) (by decide) (show _ = (nI (a.kd no)) from (Hop.2 no (by omega)).1) dX12_operator_73 ?_
        refine g_iret B E rfl rfl dX12_operator_74 ?_
        have hF : a.opF (nI no) (nI 0) = (nI (a.kd no)) := by rw [aA.opF, if_pos hbo, if_pos hbw, hc_nw, hc_no]; rfl
        exact ⟨_, rfl, by rw [hF], rfl, rfl, rfl⟩
      · refine g_iload_n B 2 dX12_operator_25 rfl ?_
        refine g_tableIn (tgt := 75) B dX12_operator_26 (by decide) (by decide) rfl (by decide) ?_
        refine g_aload_n B 0 dX12_operator_75 rfl ?_
        refine m_geta B P F_X12_22_12 (by decide) (Or.inl rfl) dX12_operator_76 ?_
        refine g_iload_n B 1 dX12_operator_79 rfl ?_
        refine m_ld B P (by decide) rfl rfl (by show _ < 6; omega) (by decide) (show _ = (nI (a.p no)) from (Hop.2 no (by omega)).2.2.2) dX12_operator_80 ?_
        refine g_iret B E rfl rfl dX12_operator_81 ?_
        have hF : a.opF (nI no) (nI 1) = (nI (a.p no)) := by rw [aA.opF, if_pos hbo, if_pos hbw, hc_nw, hc_no]; rfl
        exact ⟨_, rfl, by rw [hF], rfl, rfl, rfl⟩
      · refine g_iload_n B 2 dX12_operator_25 rfl ?_
        refine g_tableIn (tgt := 82) B dX12_operator_26 (by decide) (by decide) rfl (by decide) ?_
        refine g_aload_n B 0 dX12_operator_82 rfl ?_
        refine m_geta B P F_X12_16_12 (by decide) (Or.inl rfl) dX12_operator_83 ?_
        refine g_iload_n B 1 dX12_operator_86 rfl ?_
        refine m_ld B P (by decide) rfl rfl (by show _ < 6; omega) (by decide) (show _ = (a.pa no) from (Hop.2 no (by omega)).2.1) dX12_operator_87 ?_
        refine g_iret B E rfl rfl dX12_operator_88 ?_
        have hF : a.opF (nI no) (nI 2) = (a.pa no) := by rw [aA.opF, if_pos hbo, if_pos hbw, hc_nw, hc_no]; rfl
        exact ⟨_, rfl, by rw [hF], rfl, rfl, rfl⟩
      · refine g_iload_n B 2 dX12_operator_25 rfl ?_
        refine g_tableIn (tgt := 89) B dX12_operator_26 (by decide) (by decide) rfl (by decide) ?_
        refine g_aload_n B 0 dX12_operator_89 rfl ?_
        refine m_geta B P F_X12_19_12 (by decide) (Or.inl rfl) dX12_operator_90 ?_
        refine g_iload_n B 1 dX12_operator_93 rfl ?_
        refine m_ld B P (by decide) rfl rfl (by show _ < 6; omega) (by decide) (show _ = (a.pb no) from (Hop.2 no (by omega)).2.2.1) dX12_operator_94 ?_
        refine g_iret B E rfl rfl dX12_operator_95 ?_
        have hF : a.opF (nI no) (nI 3) = (a.pb no) := by rw [aA.opF, if_pos hbo, if_pos hbw, hc_nw, hc_no]; rfl
        exact ⟨_, rfl, by rw [hF], rfl, rfl, rfl⟩
      · refine g_iload_n B 2 dX12_operator_25 rfl ?_
        refine g_tableIn (tgt := 96) B dX12_operator_26 (by decide) (by decide) rfl (by decide) ?_
        refine g_aload_n B 0 dX12_operator_96 rfl ?_
        refine m_geta B P F_X12_44_12 (by decide) (Or.inl rfl) dX12_operator_97 ?_
        refine g_iload_n B 1 dX12_operator_100 rfl ?_
        refine m_ld B P (by decide) rfl rfl (by show _ < 6; omega) (by decide) (show _ = (a.stt 0 no) from (Hstt 0 (by decide) no (by omega))) dX12_operator_101 ?_
        refine g_iret B E rfl rfl dX12_operator_102 ?_
        have hF : a.opF (nI no) (nI 4) = (a.stt 0 no) := by rw [aA.opF, if_pos hbo, if_pos hbw, hc_nw, hc_no]; rfl
        exact ⟨_, rfl, by rw [hF], rfl, rfl, rfl⟩
      · refine g_iload_n B 2 dX12_operator_25 rfl ?_
        refine g_tableIn (tgt := 103) B dX12_operator_26 (by decide) (by decide) rfl (by decide) ?_
        refine g_aload_n B 0 dX12_operator_103 rfl ?_
        refine m_geta B P F_X12_47_12 (by decide) (Or.inl rfl) dX12_operator_104 ?_
        refine g_iload_n B 1 dX12_operator_107 rfl ?_
        refine m_ld B P (by decide) rfl rfl (by show _ < 6; omega) (by decide) (show _ = (a.stt 1 no) from (Hstt 1 (by decide) no (by omega))) dX12_operator_108 ?_
        refine g_iret B E rfl rfl dX12_operator_109 ?_
        have hF : a.opF (nI no) (nI 5) = (a.stt 1 no) := by rw [aA.opF, if_pos hbo, if_pos hbw, hc_nw, hc_no]; rfl
        exact ⟨_, rfl, by rw [hF], rfl, rfl, rfl⟩
      · refine g_iload_n B 2 dX12_operator_25 rfl ?_
        refine g_tableIn (tgt := 110) B dX12_operator_26 (by decide) (by decide) rfl (by decide) ?_
        refine g_aload_n B 0 dX12_operator_110 rfl ?_
        refine m_geta B P F_X12_50_12 (by decide) (Or.inl rfl) dX12_operator_111 ?_
        refine g_iload_n B 1 dX12_operator_114 rfl ?_
        refine m_ld B P (by decide) rfl rfl (by show _ < 6; omega) (by decide) (show _ = (a.stt 2 no) from (Hstt 2 (by decide) no (by omega))) dX12_operator_115 ?_
        refine g_iret B E rfl rfl dX12_operator_116 ?_
        have hF : a.opF (nI no) (nI 6) = (a.stt 2 no) := by rw [aA.opF, if_pos hbo, if_pos hbw, hc_nw, hc_no]; rfl
        exact ⟨_, rfl, by rw [hF], rfl, rfl, rfl⟩
      · refine g_iload_n B 2 dX12_operator_25 rfl ?_
        refine g_tableOut (tgt := 117) B dX12_operator_26 (by decide) (by decide) ?_
        refine g_aload_n B 0 dX12_operator_117 rfl ?_
        refine m_geta B P F_X12_53_12 (by decide) (Or.inl rfl) dX12_operator_118 ?_
        refine g_iload_n B 1 dX12_operator_121 rfl ?_
        refine m_ld B P (by decide) rfl rfl (by show _ < 6; omega) (by decide) (show _ = (a.stt 3 no) from (Hstt 3 (by decide) no (by omega))) dX12_operator_122 ?_
        refine g_iret B E rfl rfl dX12_operator_123 ?_
        have hF : a.opF (nI no) (nI 7) = (a.stt 3 no) := by rw [aA.opF, if_pos hbo, if_pos hbw, hc_nw, hc_no]; rfl
        exact ⟨_, rfl, by rw [hF], rfl, rfl, rfl⟩
    · refine g_ldc (v := (-1000000002)) B q2666 dX12_operator_22 ?_
      refine g_iret B E rfl rfl dX12_operator_24 ?_
      have hF : a.opF (nI no) w = -1000000002 := by rw [aA.opF, if_pos hbo, if_neg (by rw [c4]; decide)]
      exact ⟨_, rfl, by rw [hF], rfl, rfl, rfl⟩
  · refine g_ldcw (v := (-1000000001)) B q2846 dX12_operator_8 ?_
    refine g_iret B E rfl rfl dX12_operator_11 ?_
    have hF : a.opF o w = -1000000001 := by rw [aA.opF, if_neg (by rw [c2]; decide)]
    exact ⟨_, rfl, by rw [hF], rfl, rfl, rfl⟩
theorem c_M_told24 {G : xG} {T : xT} {O R : xO} {m : Nat} {ad : Nat → Nat} {sc : Nat → Int32} {ar : Nat → Nat → Int32} {Bd : Nat} {o key w : Int32} {q : Nat → Nat → Option (Int32 × Int32)} (P : PM m ad O R sc ar T O R) {a : aA} (H : RepM a sc ar) (W : WF Bd a) (hq : RMst q (ar 24) (ar 27) (ar 30)) : xCtr G yX12_told cX12_told 7 (some Jvm.ClassFile.FieldType.int) 2 43 0 0 [.ref m, .int o, .int key, .int w, .ref (ad 24), .ref (ad 27), .ref (ad 30)] (T, O, R) (xA (fun v T2 O2 R2 => v = .int (a.toldF q o key w) ∧ T2 = T ∧ O2 = O ∧ R2 = R)) := by
  have hR := H
  obtain ⟨Htxt, Hop, Hinp, Hnm, Hstt, ⟨Hs0, Hs1, Hs2⟩, ⟨Hc0, Hc1, Hc2⟩, Hls, Hsp, Hpt, Hhd, Hch, Hex, Hwr⟩ := H
  have hn2 := W.n2
  have hn6 := W.n6
  refine xCtr.of (by decide +kernel) (Nat.le_of_ble_eq_true rfl) ?_
  intro Z B E hz hnm
  change xV Z (T, O, R) 0 [(0, .ref m), (1, .int o), (2, .int key), (3, .int w), (4, .ref (ad 24)), (5, .ref (ad 27)), (6, .ref (ad 30))] [] 0 0
  refine g_aload_n B 0 dX12_told_0 rfl ?_
  refine g_iload_n B 1 dX12_told_1 rfl ?_
  refine g_callV (rest := []) B M_X12_isOperator q2842 q2844 qs89 (P.1.choose_spec.choose_spec) rfl (c_M_isOperator P.self hR (x := o)) rfl rfl (Nat.le_of_ble_eq_true rfl) (Nat.le_of_ble_eq_true rfl) (Nat.le_of_ble_eq_true rfl) (Nat.le_refl _) (Nat.le_refl _) dX12_told_2 (xkA (fun v1 T1 O1 R1 le1 p1 => ?_))
  obtain ⟨rfl, eT1, eO1, eR1⟩ := p1
  obtain rfl := eT1.symm
  obtain rfl := eO1.symm
  obtain rfl := eR1.symm
  refine g_if_eqB (tgt := 38) B dX12_told_5 (by decide) (fun c2 => ?_) (fun c2 => ?_)
  · refine g_ldcw (v := (-1000000001)) B q2846 dX12_told_38 ?_
    refine g_iret B E rfl rfl dX12_told_41 ?_
    have hF : a.toldF q o key w = -1000000001 := by rw [aA.toldF, if_neg (fun h => by have h3 := h.1; rw [c2] at h3; exact Bool.noConfusion h3)]
    exact ⟨_, rfl, by rw [hF], rfl, rfl, rfl⟩
  · have hbo := c2
    obtain ⟨no, h_no, e_no⟩ := inB_nI (by omega) hbo
    have hc_no : o.toNatClampNeg = no := by rw [e_no]; exact nI_clamp (by omega)
    subst e_no
    refine g_iload_n B 2 dX12_told_8 rfl ?_
    refine g_iconst (v := nI 0) B dX12_told_9 (by decide) ?_
    refine g_bipush (v := nI 15) B dX12_told_10 (by decide) ?_
    refine g_callS (rest := []) B M_X12_isIn q2663 q2664 (c_M_isIn (x := key) (lo := (nI 0)) (hi := (nI 15))) rfl rfl (Nat.le_of_ble_eq_true rfl) (Nat.le_of_ble_eq_true rfl) (Nat.le_of_ble_eq_true rfl) (Nat.le_refl _) (Nat.le_refl _) dX12_told_12 (xkA (fun v3 T3 O3 R3 le3 p3 => ?_))
    obtain ⟨rfl, eT3, eO3, eR3⟩ := p3
    obtain rfl := eT3.symm
    obtain rfl := eO3.symm
    obtain rfl := eR3.symm
    refine g_if_eqB (tgt := 38) B dX12_told_15 (by decide) (fun c4 => ?_) (fun c4 => ?_)
    · refine g_ldcw (v := (-1000000001)) B q2846 dX12_told_38 ?_
      refine g_iret B E rfl rfl dX12_told_41 ?_
      have hF : a.toldF q (nI no) key w = -1000000001 := by rw [aA.toldF, if_neg (fun h => by have h3 := h.2.1; rw [c4] at h3; exact Bool.noConfusion h3)]
      exact ⟨_, rfl, by rw [hF], rfl, rfl, rfl⟩
    · have hbk := c4
      obtain ⟨nk, h_nk, e_nk⟩ := inB_nI (by omega) hbk
      have hc_nk : key.toNatClampNeg = nk := by rw [e_nk]; exact nI_clamp (by omega)
      subst e_nk
      refine g_aload_n B 0 dX12_told_18 rfl ?_
      refine g_iload_n B 1 dX12_told_19 rfl ?_
      refine g_callV (rest := []) B M_X12_isKeyed q2751 q2753 qs72 (P.1.choose_spec.choose_spec) rfl (c_M_isKeyed P.self hR (o := no) (show no < a.n by omega) (show a.n ≤ 6 by omega) (W.kd8 (by omega))) rfl rfl (Nat.le_of_ble_eq_true rfl) (Nat.le_of_ble_eq_true rfl) (Nat.le_of_ble_eq_true rfl) (Nat.le_refl _) (Nat.le_refl _) dX12_told_20 (xkA (fun v5 T5 O5 R5 le5 p5 => ?_))
      obtain ⟨rfl, eT5, eO5, eR5⟩ := p5
      obtain rfl := eT5.symm
      obtain rfl := eO5.symm
      obtain rfl := eR5.symm
      refine g_if_eqB (tgt := 38) B dX12_told_23 (by decide) (fun c6 => ?_) (fun c6 => ?_)
      · refine g_ldcw (v := (-1000000001)) B q2846 dX12_told_38 ?_
        refine g_iret B E rfl rfl dX12_told_41 ?_
        have hF : a.toldF q (nI no) (nI nk) w = -1000000001 := by rw [aA.toldF, if_neg (fun h => by have h3 := h.2.2.1; rw [hc_no, c6] at h3; exact Bool.noConfusion h3)]
        exact ⟨_, rfl, by rw [hF], rfl, rfl, rfl⟩
      · refine g_aload B 4 dX12_told_26 rfl ?_
        refine g_bipush (v := nI 16) B dX12_told_28 (by decide) ?_
        refine g_iload_n B 1 dX12_told_30 rfl ?_
        refine g_imulN B dX12_told_31 ?_
        refine g_iload_n B 2 dX12_told_32 rfl ?_
        refine g_iaddN B dX12_told_33 ?_
        refine m_ldz B P (by decide) rfl rfl (by show _ < 96; omega) (by decide) (show _ = (bI ((q no nk).isSome)) from (hq no (by omega) nk (by omega)).1) dX12_told_34 ?_
        refine g_if_neB (tgt := 42) B dX12_told_35 (by decide) (fun c7 => ?_) (fun c7 => ?_)
        · refine g_iload_n B 3 dX12_told_42 rfl ?_
          refine g_iconst (v := nI 0) B dX12_told_43 (by decide) ?_
          refine g_iconst (v := nI 1) B dX12_told_44 (by decide) ?_
          refine g_callS (rest := []) B M_X12_isIn q2663 q2664 (c_M_isIn (x := w) (lo := (nI 0)) (hi := (nI 1))) rfl rfl (Nat.le_of_ble_eq_true rfl) (Nat.le_of_ble_eq_true rfl) (Nat.le_of_ble_eq_true rfl) (Nat.le_refl _) (Nat.le_refl _) dX12_told_45 (xkA (fun v8 T8 O8 R8 le8 p8 => ?_))
          obtain ⟨rfl, eT8, eO8, eR8⟩ := p8
          obtain rfl := eT8.symm
          obtain rfl := eO8.symm
          obtain rfl := eR8.symm
          refine g_if_neB (tgt := 56) B dX12_told_48 (by decide) (fun c9 => ?_) (fun c9 => ?_)
          · refine g_iload_n B 3 dX12_told_56 rfl ?_
            refine g_if_ne (tgt := 72) B dX12_told_57 (by decide) (fun c10 => ?_) (fun c10 => ?_)
            · refine g_aload B 6 dX12_told_72 rfl ?_
              refine g_bipush (v := nI 16) B dX12_told_74 (by decide) ?_
              refine g_iload_n B 1 dX12_told_76 rfl ?_
              refine g_imulN B dX12_told_77 ?_
              refine g_iload_n B 2 dX12_told_78 rfl ?_
              refine g_iaddN B dX12_told_79 ?_
              refine m_ld B P (by decide) rfl rfl (by show _ < 96; omega) (by decide) (show _ = ((q no nk).getD (0, 0)).2 from ((hq no (by omega) nk (by omega)).2 c7).2) dX12_told_80 ?_
              refine g_iret B E rfl rfl dX12_told_81 ?_
              have hF : a.toldF q (nI no) (nI nk) w = ((q no nk).getD (0, 0)).2 := by rw [aA.toldF, if_pos ⟨hbo, hbk, by rw [hc_no]; exact c6, by rw [hc_no, hc_nk]; exact c7⟩, if_pos c9, if_neg c10, hc_no, hc_nk]
              exact ⟨_, rfl, by rw [hF], rfl, rfl, rfl⟩
            · refine g_aload B 5 dX12_told_60 rfl ?_
              refine g_bipush (v := nI 16) B dX12_told_62 (by decide) ?_
              refine g_iload_n B 1 dX12_told_64 rfl ?_
              refine g_imulN B dX12_told_65 ?_
              refine g_iload_n B 2 dX12_told_66 rfl ?_
              refine g_iaddN B dX12_told_67 ?_
              refine m_ld B P (by decide) rfl rfl (by show _ < 96; omega) (by decide) (show _ = ((q no nk).getD (0, 0)).1 from ((hq no (by omega) nk (by omega)).2 c7).1) dX12_told_68 ?_
              refine g_goto (tgt := 81) B dX12_told_69 (by decide) ?_
              refine g_iret B E rfl rfl dX12_told_81 ?_
              have hF : a.toldF q (nI no) (nI nk) w = ((q no nk).getD (0, 0)).1 := by rw [aA.toldF, if_pos ⟨hbo, hbk, by rw [hc_no]; exact c6, by rw [hc_no, hc_nk]; exact c7⟩, if_pos c9, if_pos c10, hc_no, hc_nk]
              exact ⟨_, rfl, by rw [hF], rfl, rfl, rfl⟩
          · refine g_ldc (v := (-1000000002)) B q2666 dX12_told_51 ?_
            refine g_goto (tgt := 81) B dX12_told_53 (by decide) ?_
            refine g_iret B E rfl rfl dX12_told_81 ?_
            have hF : a.toldF q (nI no) (nI nk) w = -1000000002 := by rw [aA.toldF, if_pos ⟨hbo, hbk, by rw [hc_no]; exact c6, by rw [hc_no, hc_nk]; exact c7⟩, if_neg (by rw [c9]; decide)]
            exact ⟨_, rfl, by rw [hF], rfl, rfl, rfl⟩
        · refine g_ldcw (v := (-1000000001)) B q2846 dX12_told_38 ?_
          refine g_iret B E rfl rfl dX12_told_41 ?_
          have hF : a.toldF q (nI no) (nI nk) w = -1000000001 := by rw [aA.toldF, if_neg (fun h => by have h3 := h.2.2.2; rw [hc_no, hc_nk, c7] at h3; exact Bool.noConfusion h3)]
          exact ⟨_, rfl, by rw [hF], rfl, rfl, rfl⟩
theorem c_M_told26 {G : xG} {T : xT} {O R : xO} {m : Nat} {ad : Nat → Nat} {sc : Nat → Int32} {ar : Nat → Nat → Int32} {Bd : Nat} {o key w : Int32} {q : Nat → Nat → Option (Int32 × Int32)} (P : PM m ad O R sc ar T O R) {a : aA} (H : RepM a sc ar) (W : WF Bd a) (hq : RMst q (ar 26) (ar 29) (ar 32)) : xCtr G yX12_told cX12_told 7 (some Jvm.ClassFile.FieldType.int) 2 43 0 0 [.ref m, .int o, .int key, .int w, .ref (ad 26), .ref (ad 29), .ref (ad 32)] (T, O, R) (xA (fun v T2 O2 R2 => v = .int (a.toldF q o key w) ∧ T2 = T ∧ O2 = O ∧ R2 = R)) := by
  have hR := H
  obtain ⟨Htxt, Hop, Hinp, Hnm, Hstt, ⟨Hs0, Hs1, Hs2⟩, ⟨Hc0, Hc1, Hc2⟩, Hls, Hsp, Hpt, Hhd, Hch, Hex, Hwr⟩ := H
  have hn2 := W.n2
  have hn6 := W.n6
  refine xCtr.of (by decide +kernel) (Nat.le_of_ble_eq_true rfl) ?_
  intro Z B E hz hnm
  change xV Z (T, O, R) 0 [(0, .ref m), (1, .int o), (2, .int key), (3, .int w), (4, .ref (ad 26)), (5, .ref (ad 29)), (6, .ref (ad 32))] [] 0 0
  refine g_aload_n B 0 dX12_told_0 rfl ?_
  refine g_iload_n B 1 dX12_told_1 rfl ?_
  refine g_callV (rest := []) B M_X12_isOperator q2842 q2844 qs89 (P.1.choose_spec.choose_spec) rfl (c_M_isOperator P.self hR (x := o)) rfl rfl (Nat.le_of_ble_eq_true rfl) (Nat.le_of_ble_eq_true rfl) (Nat.le_of_ble_eq_true rfl) (Nat.le_refl _) (Nat.le_refl _) dX12_told_2 (xkA (fun v1 T1 O1 R1 le1 p1 => ?_))
  obtain ⟨rfl, eT1, eO1, eR1⟩ := p1
  obtain rfl := eT1.symm
  obtain rfl := eO1.symm
  obtain rfl := eR1.symm
  refine g_if_eqB (tgt := 38) B dX12_told_5 (by decide) (fun c2 => ?_) (fun c2 => ?_)
  · refine g_ldcw (v := (-1000000001)) B q2846 dX12_told_38 ?_
    refine g_iret B E rfl rfl dX12_told_41 ?_
    have hF : a.toldF q o key w = -1000000001 := by rw [aA.toldF, if_neg (fun h => by have h3 := h.1; rw [c2] at h3; exact Bool.noConfusion h3)]
    exact ⟨_, rfl, by rw [hF], rfl, rfl, rfl⟩
  · have hbo := c2
    obtain ⟨no, h_no, e_no⟩ := inB_nI (by omega) hbo
    have hc_no : o.toNatClampNeg = no := by rw [e_no]; exact nI_clamp (by omega)
    subst e_no
    refine g_iload_n B 2 dX12_told_8 rfl ?_
    refine g_iconst (v := nI 0) B dX12_told_9 (by decide) ?_
    refine g_bipush (v := nI 15) B dX12_told_10 (by decide) ?_
    refine g_callS (rest := []) B M_X12_isIn q2663 q2664 (c_M_isIn (x := key) (lo := (nI 0)) (hi := (nI 15))) rfl rfl (Nat.le_of_ble_eq_true rfl) (Nat.le_of_ble_eq_true rfl) (Nat.le_of_ble_eq_true rfl) (Nat.le_refl _) (Nat.le_refl _) dX12_told_12 (xkA (fun v3 T3 O3 R3 le3 p3 => ?_))
    obtain ⟨rfl, eT3, eO3, eR3⟩ := p3
    obtain rfl := eT3.symm
    obtain rfl := eO3.symm
    obtain rfl := eR3.symm
    refine g_if_eqB (tgt := 38) B dX12_told_15 (by decide) (fun c4 => ?_) (fun c4 => ?_)
    · refine g_ldcw (v := (-1000000001)) B q2846 dX12_told_38 ?_
      refine g_iret B E rfl rfl dX12_told_41 ?_
      have hF : a.toldF q (nI no) key w = -1000000001 := by rw [aA.toldF, if_neg (fun h => by have h3 := h.2.1; rw [c4] at h3; exact Bool.noConfusion h3)]
      exact ⟨_, rfl, by rw [hF], rfl, rfl, rfl⟩
    · have hbk := c4
      obtain ⟨nk, h_nk, e_nk⟩ := inB_nI (by omega) hbk
      have hc_nk : key.toNatClampNeg = nk := by rw [e_nk]; exact nI_clamp (by omega)
      subst e_nk
      refine g_aload_n B 0 dX12_told_18 rfl ?_
      refine g_iload_n B 1 dX12_told_19 rfl ?_
      refine g_callV (rest := []) B M_X12_isKeyed q2751 q2753 qs72 (P.1.choose_spec.choose_spec) rfl (c_M_isKeyed P.self hR (o := no) (show no < a.n by omega) (show a.n ≤ 6 by omega) (W.kd8 (by omega))) rfl rfl (Nat.le_of_ble_eq_true rfl) (Nat.le_of_ble_eq_true rfl) (Nat.le_of_ble_eq_true rfl) (Nat.le_refl _) (Nat.le_refl _) dX12_told_20 (xkA (fun v5 T5 O5 R5 le5 p5 => ?_))
      obtain ⟨rfl, eT5, eO5, eR5⟩ := p5
      obtain rfl := eT5.symm
      obtain rfl := eO5.symm
      obtain rfl := eR5.symm
      refine g_if_eqB (tgt := 38) B dX12_told_23 (by decide) (fun c6 => ?_) (fun c6 => ?_)
      · refine g_ldcw (v := (-1000000001)) B q2846 dX12_told_38 ?_
        refine g_iret B E rfl rfl dX12_told_41 ?_
        have hF : a.toldF q (nI no) (nI nk) w = -1000000001 := by rw [aA.toldF, if_neg (fun h => by have h3 := h.2.2.1; rw [hc_no, c6] at h3; exact Bool.noConfusion h3)]
        exact ⟨_, rfl, by rw [hF], rfl, rfl, rfl⟩
      · refine g_aload B 4 dX12_told_26 rfl ?_
        refine g_bipush (v := nI 16) B dX12_told_28 (by decide) ?_
        refine g_iload_n B 1 dX12_told_30 rfl ?_
        refine g_imulN B dX12_told_31 ?_
        refine g_iload_n B 2 dX12_told_32 rfl ?_
        refine g_iaddN B dX12_told_33 ?_
        refine m_ldz B P (by decide) rfl rfl (by show _ < 96; omega) (by decide) (show _ = (bI ((q no nk).isSome)) from (hq no (by omega) nk (by omega)).1) dX12_told_34 ?_
        refine g_if_neB (tgt := 42) B dX12_told_35 (by decide) (fun c7 => ?_) (fun c7 => ?_)
        · refine g_iload_n B 3 dX12_told_42 rfl ?_
          refine g_iconst (v := nI 0) B dX12_told_43 (by decide) ?_
          refine g_iconst (v := nI 1) B dX12_told_44 (by decide) ?_
          refine g_callS (rest := []) B M_X12_isIn q2663 q2664 (c_M_isIn (x := w) (lo := (nI 0)) (hi := (nI 1))) rfl rfl (Nat.le_of_ble_eq_true rfl) (Nat.le_of_ble_eq_true rfl) (Nat.le_of_ble_eq_true rfl) (Nat.le_refl _) (Nat.le_refl _) dX12_told_45 (xkA (fun v8 T8 O8 R8 le8 p8 => ?_))
          obtain ⟨rfl, eT8, eO8, eR8⟩ := p8
          obtain rfl := eT8.symm
          obtain rfl := eO8.symm
          obtain rfl := eR8.symm
          refine g_if_neB (tgt := 56) B dX12_told_48 (by decide) (fun c9 => ?_) (fun c9 => ?_)
          · refine g_iload_n B 3 dX12_told_56 rfl ?_
            refine g_if_ne (tgt := 72) B dX12_told_57 (by decide) (fun c10 => ?_) (fun c10 => ?_)
            · refine g_aload B 6 dX12_told_72 rfl ?_
              refine g_bipush (v := nI 16) B dX12_told_74 (by decide) ?_
              refine g_iload_n B 1 dX12_told_76 rfl ?_
              refine g_imulN B dX12_told_77 ?_
              refine g_iload_n B 2 dX12_told_78 rfl ?_
              refine g_iaddN B dX12_told_79 ?_
              refine m_ld B P (by decide) rfl rfl (by show _ < 96; omega) (by decide) (show _ = ((q no nk).getD (0, 0)).2 from ((hq no (by omega) nk (by omega)).2 c7).2) dX12_told_80 ?_
              refine g_iret B E rfl rfl dX12_told_81 ?_
              have hF : a.toldF q (nI no) (nI nk) w = ((q no nk).getD (0, 0)).2 := by rw [aA.toldF, if_pos ⟨hbo, hbk, by rw [hc_no]; exact c6, by rw [hc_no, hc_nk]; exact c7⟩, if_pos c9, if_neg c10, hc_no, hc_nk]
              exact ⟨_, rfl, by rw [hF], rfl, rfl, rfl⟩
            · refine g_aload B 5 dX12_told_60 rfl ?_
              refine g_bipush (v := nI 16) B dX12_told_62 (by decide) ?_
              refine g_iload_n B 1 dX12_told_64 rfl ?_
              refine g_imulN B dX12_told_65 ?_
              refine g_iload_n B 2 dX12_told_66 rfl ?_
              refine g_iaddN B dX12_told_67 ?_
              refine m_ld B P (by decide) rfl rfl (by show _ < 96; omega) (by decide) (show _ = ((q no nk).getD (0, 0)).1 from ((hq no (by omega) nk (by omega)).2 c7).1) dX12_told_68 ?_
              refine g_goto (tgt := 81) B dX12_told_69 (by decide) ?_
              refine g_iret B E rfl rfl dX12_told_81 ?_
              have hF : a.toldF q (nI no) (nI nk) w = ((q no nk).getD (0, 0)).1 := by rw [aA.toldF, if_pos ⟨hbo, hbk, by rw [hc_no]; exact c6, by rw [hc_no, hc_nk]; exact c7⟩, if_pos c9, if_pos c10, hc_no, hc_nk]
              exact ⟨_, rfl, by rw [hF], rfl, rfl, rfl⟩
          · refine g_ldc (v := (-1000000002)) B q2666 dX12_told_51 ?_
            refine g_goto (tgt := 81) B dX12_told_53 (by decide) ?_
            refine g_iret B E rfl rfl dX12_told_81 ?_
            have hF : a.toldF q (nI no) (nI nk) w = -1000000002 := by rw [aA.toldF, if_pos ⟨hbo, hbk, by rw [hc_no]; exact c6, by rw [hc_no, hc_nk]; exact c7⟩, if_neg (by rw [c9]; decide)]
            exact ⟨_, rfl, by rw [hF], rfl, rfl, rfl⟩
        · refine g_ldcw (v := (-1000000001)) B q2846 dX12_told_38 ?_
          refine g_iret B E rfl rfl dX12_told_41 ?_
          have hF : a.toldF q (nI no) (nI nk) w = -1000000001 := by rw [aA.toldF, if_neg (fun h => by have h3 := h.2.2.2; rw [hc_no, hc_nk, c7] at h3; exact Bool.noConfusion h3)]
          exact ⟨_, rfl, by rw [hF], rfl, rfl, rfl⟩
theorem c_M_told69 {G : xG} {T : xT} {O R : xO} {m : Nat} {ad : Nat → Nat} {sc : Nat → Int32} {ar : Nat → Nat → Int32} {Bd : Nat} {o key w : Int32} {q : Nat → Nat → Option (Int32 × Int32)} (P : PM m ad O R sc ar T O R) {a : aA} (H : RepM a sc ar) (W : WF Bd a) (hq : RMst q (ar 69) (ar 70) (ar 71)) : xCtr G yX12_told cX12_told 7 (some Jvm.ClassFile.FieldType.int) 2 43 0 0 [.ref m, .int o, .int key, .int w, .ref (ad 69), .ref (ad 70), .ref (ad 71)] (T, O, R) (xA (fun v T2 O2 R2 => v = .int (a.toldF q o key w) ∧ T2 = T ∧ O2 = O ∧ R2 = R)) := by
  have hR := H
  obtain ⟨Htxt, Hop, Hinp, Hnm, Hstt, ⟨Hs0, Hs1, Hs2⟩, ⟨Hc0, Hc1, Hc2⟩, Hls, Hsp, Hpt, Hhd, Hch, Hex, Hwr⟩ := H
  have hn2 := W.n2
  have hn6 := W.n6
  refine xCtr.of (by decide +kernel) (Nat.le_of_ble_eq_true rfl) ?_
  intro Z B E hz hnm
  change xV Z (T, O, R) 0 [(0, .ref m), (1, .int o), (2, .int key), (3, .int w), (4, .ref (ad 69)), (5, .ref (ad 70)), (6, .ref (ad 71))] [] 0 0
  refine g_aload_n B 0 dX12_told_0 rfl ?_
  refine g_iload_n B 1 dX12_told_1 rfl ?_
  refine g_callV (rest := []) B M_X12_isOperator q2842 q2844 qs89 (P.1.choose_spec.choose_spec) rfl (c_M_isOperator P.self hR (x := o)) rfl rfl (Nat.le_of_ble_eq_true rfl) (Nat.le_of_ble_eq_true rfl) (Nat.le_of_ble_eq_true rfl) (Nat.le_refl _) (Nat.le_refl _) dX12_told_2 (xkA (fun v1 T1 O1 R1 le1 p1 => ?_))
  obtain ⟨rfl, eT1, eO1, eR1⟩ := p1
  obtain rfl := eT1.symm
  obtain rfl := eO1.symm
  obtain rfl := eR1.symm
  refine g_if_eqB (tgt := 38) B dX12_told_5 (by decide) (fun c2 => ?_) (fun c2 => ?_)
  · refine g_ldcw (v := (-1000000001)) B q2846 dX12_told_38 ?_
    refine g_iret B E rfl rfl dX12_told_41 ?_
    have hF : a.toldF q o key w = -1000000001 := by rw [aA.toldF, if_neg (fun h => by have h3 := h.1; rw [c2] at h3; exact Bool.noConfusion h3)]
    exact ⟨_, rfl, by rw [hF], rfl, rfl, rfl⟩
  · have hbo := c2
    obtain ⟨no, h_no, e_no⟩ := inB_nI (by omega) hbo
    have hc_no : o.toNatClampNeg = no := by rw [e_no]; exact nI_clamp (by omega)
    subst e_no
    refine g_iload_n B 2 dX12_told_8 rfl ?_
    refine g_iconst (v := nI 0) B dX12_told_9 (by decide) ?_
    refine g_bipush (v := nI 15) B dX12_told_10 (by decide) ?_
    refine g_callS (rest := []) B M_X12_isIn q2663 q2664 (c_M_isIn (x := key) (lo := (nI 0)) (hi := (nI 15))) rfl rfl (Nat.le_of_ble_eq_true rfl) (Nat.le_of_ble_eq_true rfl) (Nat.le_of_ble_eq_true rfl) (Nat.le_refl _) (Nat.le_refl _) dX12_told_12 (xkA (fun v3 T3 O3 R3 le3 p3 => ?_))
    obtain ⟨rfl, eT3, eO3, eR3⟩ := p3
    obtain rfl := eT3.symm
    obtain rfl := eO3.symm
    obtain rfl := eR3.symm
    refine g_if_eqB (tgt := 38) B dX12_told_15 (by decide) (fun c4 => ?_) (fun c4 => ?_)
    · refine g_ldcw (v := (-1000000001)) B q2846 dX12_told_38 ?_
      refine g_iret B E rfl rfl dX12_told_41 ?_
      have hF : a.toldF q (nI no) key w = -1000000001 := by rw [aA.toldF, if_neg (fun h => by have h3 := h.2.1; rw [c4] at h3; exact Bool.noConfusion h3)]
      exact ⟨_, rfl, by rw [hF], rfl, rfl, rfl⟩
    · have hbk := c4
      obtain ⟨nk, h_nk, e_nk⟩ := inB_nI (by omega) hbk
      have hc_nk : key.toNatClampNeg = nk := by rw [e_nk]; exact nI_clamp (by omega)
      subst e_nk
      refine g_aload_n B 0 dX12_told_18 rfl ?_
      refine g_iload_n B 1 dX12_told_19 rfl ?_
      refine g_callV (rest := []) B M_X12_isKeyed q2751 q2753 qs72 (P.1.choose_spec.choose_spec) rfl (c_M_isKeyed P.self hR (o := no) (show no < a.n by omega) (show a.n ≤ 6 by omega) (W.kd8 (by omega))) rfl rfl (Nat.le_of_ble_eq_true rfl) (Nat.le_of_ble_eq_true rfl) (Nat.le_of_ble_eq_true rfl) (Nat.le_refl _) (Nat.le_refl _) dX12_told_20 (xkA (fun v5 T5 O5 R5 le5 p5 => ?_))
      obtain ⟨rfl, eT5, eO5, eR5⟩ := p5
      obtain rfl := eT5.symm
      obtain rfl := eO5.symm
      obtain rfl := eR5.symm
      refine g_if_eqB (tgt := 38) B dX12_told_23 (by decide) (fun c6 => ?_) (fun c6 => ?_)
      · refine g_ldcw (v := (-1000000001)) B q2846 dX12_told_38 ?_
        refine g_iret B E rfl rfl dX12_told_41 ?_
        have hF : a.toldF q (nI no) (nI nk) w = -1000000001 := by rw [aA.toldF, if_neg (fun h => by have h3 := h.2.2.1; rw [hc_no, c6] at h3; exact Bool.noConfusion h3)]
        exact ⟨_, rfl, by rw [hF], rfl, rfl, rfl⟩
      · refine g_aload B 4 dX12_told_26 rfl ?_
        refine g_bipush (v := nI 16) B dX12_told_28 (by decide) ?_
        refine g_iload_n B 1 dX12_told_30 rfl ?_
        refine g_imulN B dX12_told_31 ?_
        refine g_iload_n B 2 dX12_told_32 rfl ?_
        refine g_iaddN B dX12_told_33 ?_
        refine m_ldz B P (by decide) rfl rfl (by show _ < 96; omega) (by decide) (show _ = (bI ((q no nk).isSome)) from (hq no (by omega) nk (by omega)).1) dX12_told_34 ?_
        refine g_if_neB (tgt := 42) B dX12_told_35 (by decide) (fun c7 => ?_) (fun c7 => ?_)
        · refine g_iload_n B 3 dX12_told_42 rfl ?_
          refine g_iconst (v := nI 0) B dX12_told_43 (by decide) ?_
          refine g_iconst (v := nI 1) B dX12_told_44 (by decide) ?_
          refine g_callS (rest := []) B M_X12_isIn q2663 q2664 (c_M_isIn (x := w) (lo := (nI 0)) (hi := (nI 1))) rfl rfl (Nat.le_of_ble_eq_true rfl) (Nat.le_of_ble_eq_true rfl) (Nat.le_of_ble_eq_true rfl) (Nat.le_refl _) (Nat.le_refl _) dX12_told_45 (xkA (fun v8 T8 O8 R8 le8 p8 => ?_))
          obtain ⟨rfl, eT8, eO8, eR8⟩ := p8
          obtain rfl := eT8.symm
          obtain rfl := eO8.symm
          obtain rfl := eR8.symm
          refine g_if_neB (tgt := 56) B dX12_told_48 (by decide) (fun c9 => ?_) (fun c9 => ?_)
          · refine g_iload_n B 3 dX12_told_56 rfl ?_
            refine g_if_ne (tgt := 72) B dX12_told_57 (by decide) (fun c10 => ?_) (fun c10 => ?_)
            · refine g_aload B 6 dX12_told_72 rfl ?_
              refine g_bipush (v := nI 16) B dX12_told_74 (by decide) ?_
              refine g_iload_n B 1 dX12_told_76 rfl ?_
              refine g_imulN B dX12_told_77 ?_
              refine g_iload_n B 2 dX12_told_78 rfl ?_
              refine g_iaddN B dX12_told_79 ?_
              refine m_ld B P (by decide) rfl rfl (by show _ < 96; omega) (by decide) (show _ = ((q no nk).getD (0, 0)).2 from ((hq no (by omega) nk (by omega)).2 c7).2) dX12_told_80 ?_
              refine g_iret B E rfl rfl dX12_told_81 ?_
              have hF : a.toldF q (nI no) (nI nk) w = ((q no nk).getD (0, 0)).2 := by rw [aA.toldF, if_pos ⟨hbo, hbk, by rw [hc_no]; exact c6, by rw [hc_no, hc_nk]; exact c7⟩, if_pos c9, if_neg c10, hc_no, hc_nk]
              exact ⟨_, rfl, by rw [hF], rfl, rfl, rfl⟩
            · refine g_aload B 5 dX12_told_60 rfl ?_
              refine g_bipush (v := nI 16) B dX12_told_62 (by decide) ?_
              refine g_iload_n B 1 dX12_told_64 rfl ?_
              refine g_imulN B dX12_told_65 ?_
              refine g_iload_n B 2 dX12_told_66 rfl ?_
              refine g_iaddN B dX12_told_67 ?_
              refine m_ld B P (by decide) rfl rfl (by show _ < 96; omega) (by decide) (show _ = ((q no nk).getD (0, 0)).1 from ((hq no (by omega) nk (by omega)).2 c7).1) dX12_told_68 ?_
              refine g_goto (tgt := 81) B dX12_told_69 (by decide) ?_
              refine g_iret B E rfl rfl dX12_told_81 ?_
              have hF : a.toldF q (nI no) (nI nk) w = ((q no nk).getD (0, 0)).1 := by rw [aA.toldF, if_pos ⟨hbo, hbk, by rw [hc_no]; exact c6, by rw [hc_no, hc_nk]; exact c7⟩, if_pos c9, if_pos c10, hc_no, hc_nk]
              exact ⟨_, rfl, by rw [hF], rfl, rfl, rfl⟩
          · refine g_ldc (v := (-1000000002)) B q2666 dX12_told_51 ?_
            refine g_goto (tgt := 81) B dX12_told_53 (by decide) ?_
            refine g_iret B E rfl rfl dX12_told_81 ?_
            have hF : a.toldF q (nI no) (nI nk) w = -1000000002 := by rw [aA.toldF, if_pos ⟨hbo, hbk, by rw [hc_no]; exact c6, by rw [hc_no, hc_nk]; exact c7⟩, if_neg (by rw [c9]; decide)]
            exact ⟨_, rfl, by rw [hF], rfl, rfl, rfl⟩
        · refine g_ldcw (v := (-1000000001)) B q2846 dX12_told_38 ?_
          refine g_iret B E rfl rfl dX12_told_41 ?_
          have hF : a.toldF q (nI no) (nI nk) w = -1000000001 := by rw [aA.toldF, if_neg (fun h => by have h3 := h.2.2.2; rw [hc_no, hc_nk, c7] at h3; exact Bool.noConfusion h3)]
          exact ⟨_, rfl, by rw [hF], rfl, rfl, rfl⟩
theorem c_M_state {G : xG} {T : xT} {O R : xO} {m : Nat} {ad : Nat → Nat} {sc : Nat → Int32} {ar : Nat → Nat → Int32} {Bd : Nat} {o key w : Int32} (P : PM m ad O R sc ar T O R) {a : aA} (H : RepM a sc ar) (W : WF Bd a) : xCtr G yX12_state cX12_state 4 (some Jvm.ClassFile.FieldType.int) 3 69 0 0 [.ref m, .int o, .int key, .int w] (T, O, R) (xA (fun v T2 O2 R2 => v = .int (a.toldF (a.st 0) o key w) ∧ T2 = T ∧ O2 = O ∧ R2 = R)) := by
  have hR := H
  obtain ⟨Htxt, Hop, Hinp, Hnm, Hstt, ⟨Hs0, Hs1, Hs2⟩, ⟨Hc0, Hc1, Hc2⟩, Hls, Hsp, Hpt, Hhd, Hch, Hex, Hwr⟩ := H
  refine xCtr.of (by decide +kernel) (Nat.le_of_ble_eq_true rfl) ?_
  intro Z B E hz hnm
  change xV Z (T, O, R) 0 [(0, .ref m), (1, .int o), (2, .int key), (3, .int w)] [] 0 0
  refine g_aload_n B 0 dX12_state_0 rfl ?_
  refine g_iload_n B 1 dX12_state_1 rfl ?_
  refine g_iload_n B 2 dX12_state_2 rfl ?_
  refine g_iload_n B 3 dX12_state_3 rfl ?_
  refine g_aload_n B 0 dX12_state_4 rfl ?_
  refine m_geta B P F_X12_56_12 (by decide) (Or.inr rfl) dX12_state_5 ?_
  refine g_aload_n B 0 dX12_state_8 rfl ?_
  refine m_geta B P F_X12_66_12 (by decide) (Or.inl rfl) dX12_state_9 ?_
  refine g_aload_n B 0 dX12_state_12 rfl ?_
  refine m_geta B P F_X12_75_12 (by decide) (Or.inl rfl) dX12_state_13 ?_
  refine g_callV (rest := []) B M_X12_told q2875 q2877 qs92 (P.1.choose_spec.choose_spec) rfl (c_M_told24 (q := a.st 0) P.self hR W Hs0) rfl rfl (Nat.le_of_ble_eq_true rfl) (Nat.le_of_ble_eq_true rfl) (Nat.le_of_ble_eq_true rfl) (Nat.le_refl _) (Nat.le_refl _) dX12_state_16 (xkA (fun v1 T1 O1 R1 le1 p1 => ?_))
  obtain ⟨rfl, eT1, eO1, eR1⟩ := p1
  obtain rfl := eT1.symm
  obtain rfl := eO1.symm
  obtain rfl := eR1.symm
  refine g_iret B E rfl rfl dX12_state_19 ?_
  exact ⟨_, rfl, rfl, rfl, rfl, rfl⟩
theorem c_M_savedState {G : xG} {T : xT} {O R : xO} {m : Nat} {ad : Nat → Nat} {sc : Nat → Int32} {ar : Nat → Nat → Int32} {Bd : Nat} {o key w : Int32} (P : PM m ad O R sc ar T O R) {a : aA} (H : RepM a sc ar) (W : WF Bd a) : xCtr G yX12_savedState cX12_savedState 4 (some Jvm.ClassFile.FieldType.int) 3 69 0 0 [.ref m, .int o, .int key, .int w] (T, O, R) (xA (fun v T2 O2 R2 => v = .int (a.toldF (a.st 2) o key w) ∧ T2 = T ∧ O2 = O ∧ R2 = R)) := by
  have hR := H
  obtain ⟨Htxt, Hop, Hinp, Hnm, Hstt, ⟨Hs0, Hs1, Hs2⟩, ⟨Hc0, Hc1, Hc2⟩, Hls, Hsp, Hpt, Hhd, Hch, Hex, Hwr⟩ := H
  refine xCtr.of (by decide +kernel) (Nat.le_of_ble_eq_true rfl) ?_
  intro Z B E hz hnm
  change xV Z (T, O, R) 0 [(0, .ref m), (1, .int o), (2, .int key), (3, .int w)] [] 0 0
  refine g_aload_n B 0 dX12_savedState_0 rfl ?_
  refine g_iload_n B 1 dX12_savedState_1 rfl ?_
  refine g_iload_n B 2 dX12_savedState_2 rfl ?_
  refine g_iload_n B 3 dX12_savedState_3 rfl ?_
  refine g_aload_n B 0 dX12_savedState_4 rfl ?_
  refine m_geta B P F_X12_63_12 (by decide) (Or.inr rfl) dX12_savedState_5 ?_
  refine g_aload_n B 0 dX12_savedState_8 rfl ?_
  refine m_geta B P F_X12_72_12 (by decide) (Or.inl rfl) dX12_savedState_9 ?_
  refine g_aload_n B 0 dX12_savedState_12 rfl ?_
  refine m_geta B P F_X12_81_12 (by decide) (Or.inl rfl) dX12_savedState_13 ?_
  refine g_callV (rest := []) B M_X12_told q2875 q2877 qs92 (P.1.choose_spec.choose_spec) rfl (c_M_told26 (q := a.st 2) P.self hR W Hs2) rfl rfl (Nat.le_of_ble_eq_true rfl) (Nat.le_of_ble_eq_true rfl) (Nat.le_of_ble_eq_true rfl) (Nat.le_refl _) (Nat.le_refl _) dX12_savedState_16 (xkA (fun v1 T1 O1 R1 le1 p1 => ?_))
  obtain ⟨rfl, eT1, eO1, eR1⟩ := p1
  obtain rfl := eT1.symm
  obtain rfl := eO1.symm
  obtain rfl := eR1.symm
  refine g_iret B E rfl rfl dX12_savedState_19 ?_
  exact ⟨_, rfl, rfl, rfl, rfl, rfl⟩
theorem c_M_explanation {G : xG} {T : xT} {O R : xO} {m : Nat} {ad : Nat → Nat} {sc : Nat → Int32} {ar : Nat → Nat → Int32} {l w : Int32} (P : PM m ad O R sc ar T O R) {a : aA} (H : RepM a sc ar)  : xCtr G yX12_explanation cX12_explanation 3 (some Jvm.ClassFile.FieldType.int) 1 22 0 0 [.ref m, .int l, .int w] (T, O, R) (xA (fun v T2 O2 R2 => v = .int (a.explF l w) ∧ T2 = T ∧ O2 = O ∧ R2 = R)) := by
  have hR := H
  obtain ⟨Htxt, Hop, Hinp, Hnm, Hstt, ⟨Hs0, Hs1, Hs2⟩, ⟨Hc0, Hc1, Hc2⟩, Hls, Hsp, Hpt, Hhd, Hch, Hex, Hwr⟩ := H
  refine xCtr.of (by decide +kernel) (Nat.le_of_ble_eq_true rfl) ?_
  intro Z B E hz hnm
  change xV Z (T, O, R) 0 [(0, .ref m), (1, .int l), (2, .int w)] [] 0 0
  refine g_iload_n B 1 dX12_explanation_0 rfl ?_
  refine g_iconst (v := nI 0) B dX12_explanation_1 (by decide) ?_
  refine g_aload_n B 0 dX12_explanation_2 rfl ?_
  refine m_get B P F_X12_396_12 (by decide) (Or.inl rfl) (show _ = (nI a.ex.length) from Hex.1) dX12_explanation_3 ?_
  refine g_iconst (v := nI 1) B dX12_explanation_6 (by decide) ?_
  refine g_isub B dX12_explanation_7 ?_
  refine g_callS (rest := []) B M_X12_isIn q2663 q2664 (c_M_isIn (x := l) (lo := (nI 0)) (hi := ((nI a.ex.length) - (nI 1)))) rfl rfl (Nat.le_of_ble_eq_true rfl) (Nat.le_of_ble_eq_true rfl) (Nat.le_of_ble_eq_true rfl) (Nat.le_refl _) (Nat.le_refl _) dX12_explanation_8 (xkA (fun v1 T1 O1 R1 le1 p1 => ?_))
  obtain ⟨rfl, eT1, eO1, eR1⟩ := p1
  obtain rfl := eT1.symm
  obtain rfl := eO1.symm
  obtain rfl := eR1.symm
  refine g_if_neB (tgt := 18) B dX12_explanation_11 (by decide) (fun c2 => ?_) (fun c2 => ?_)
  · have hbl := c2
    have hl8 := Hex.2.1
    obtain ⟨nl, h_nl, e_nl⟩ := inB_len (by omega) hbl
    have hc_nl : l.toNatClampNeg = nl := by rw [e_nl]; exact nI_clamp (by omega)
    subst e_nl
    refine g_iload_n B 2 dX12_explanation_18 rfl ?_
    refine g_iconst (v := nI 0) B dX12_explanation_19 (by decide) ?_
    refine g_iconst (v := nI 1) B dX12_explanation_20 (by decide) ?_
    refine g_callS (rest := []) B M_X12_isIn q2663 q2664 (c_M_isIn (x := w) (lo := (nI 0)) (hi := (nI 1))) rfl rfl (Nat.le_of_ble_eq_true rfl) (Nat.le_of_ble_eq_true rfl) (Nat.le_of_ble_eq_true rfl) (Nat.le_refl _) (Nat.le_refl _) dX12_explanation_21 (xkA (fun v3 T3 O3 R3 le3 p3 => ?_))
    obtain ⟨rfl, eT3, eO3, eR3⟩ := p3
    obtain rfl := eT3.symm
    obtain rfl := eO3.symm
    obtain rfl := eR3.symm
    refine g_if_neB (tgt := 32) B dX12_explanation_24 (by decide) (fun c4 => ?_) (fun c4 => ?_)
    · refine g_iload_n B 2 dX12_explanation_32 rfl ?_
      refine g_if_ne (tgt := 45) B dX12_explanation_33 (by decide) (fun c5 => ?_) (fun c5 => ?_)
      · refine g_aload_n B 0 dX12_explanation_45 rfl ?_
        refine m_geta B P F_X12_190_12 (by decide) (Or.inl rfl) dX12_explanation_46 ?_
        refine g_iload_n B 1 dX12_explanation_49 rfl ?_
        refine m_ld B P (by decide) rfl rfl (by show _ < 8; omega) (by decide) (show _ = (nI ((a.ex.getD nl (0, 0)).2)) from (Hex.2.2 nl (by omega)).2) dX12_explanation_50 ?_
        refine g_iret B E rfl rfl dX12_explanation_51 ?_
        have hF : a.explF (nI nl) w = (nI ((a.ex.getD nl (0, 0)).2)) := by rw [aA.explF, if_pos hbl, if_pos c4, if_neg c5, hc_nl]
        exact ⟨_, rfl, by rw [hF], rfl, rfl, rfl⟩
      · refine g_aload_n B 0 dX12_explanation_36 rfl ?_
        refine m_geta B P F_X12_187_12 (by decide) (Or.inl rfl) dX12_explanation_37 ?_
        refine g_iload_n B 1 dX12_explanation_40 rfl ?_
        refine m_ld B P (by decide) rfl rfl (by show _ < 8; omega) (by decide) (show _ = (nI ((a.ex.getD nl (0, 0)).1)) from (Hex.2.2 nl (by omega)).1) dX12_explanation_41 ?_
        refine g_goto (tgt := 51) B dX12_explanation_42 (by decide) ?_
        refine g_iret B E rfl rfl dX12_explanation_51 ?_
        have hF : a.explF (nI nl) w = (nI ((a.ex.getD nl (0, 0)).1)) := by rw [aA.explF, if_pos hbl, if_pos c4, if_pos c5, hc_nl]
        exact ⟨_, rfl, by rw [hF], rfl, rfl, rfl⟩
    · refine g_ldc (v := (-1000000002)) B q2666 dX12_explanation_27 ?_
      refine g_goto (tgt := 51) B dX12_explanation_29 (by decide) ?_
      refine g_iret B E rfl rfl dX12_explanation_51 ?_
      have hF : a.explF (nI nl) w = -1000000002 := by rw [aA.explF, if_pos hbl, if_neg (by rw [c4]; decide)]
      exact ⟨_, rfl, by rw [hF], rfl, rfl, rfl⟩
  · refine g_ldcw (v := (-1000000001)) B q2846 dX12_explanation_14 ?_
    refine g_iret B E rfl rfl dX12_explanation_17 ?_
    have hF : a.explF l w = -1000000001 := by rw [aA.explF, if_neg (by rw [c2]; decide)]
    exact ⟨_, rfl, by rw [hF], rfl, rfl, rfl⟩
