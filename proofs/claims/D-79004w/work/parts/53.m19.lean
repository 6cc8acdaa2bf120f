set_option maxRecDepth 100000
def wDig (k : Nat) : List Nat := (if 9 < k then [48 + k / 10] else []) ++ [48 + k % 10]
/-- a number's text -/
def wNum (x : Int32) : List Nat := (if x < 0 then [45] else []) ++ wDig x.toInt.natAbs
theorem wDig_len (k : Nat) : (wDig k).length ≤ 2 := by unfold wDig; split <;> simp
theorem wNum_len (x : Int32) : (wNum x).length ≤ 3 := by
  have := wDig_len x.toInt.natAbs
  unfold wNum
  rw [List.length_append]
  split
  · rw [List.length_singleton]; omega
  · rw [List.length_nil]; omega
theorem neg_nI {x : Int32} (h : x < 0) (h9 : -99 ≤ x.toInt) : -x = nI x.toInt.natAbs := by
  have h1 : x.toInt < 0 := Int32.lt_iff_toInt_lt.mp h
  apply Int32.toInt_inj.mp
  rw [nI_toInt (by omega), Int32.toInt_neg, Int.bmod_eq_of_le (by omega) (by omega)]
  omega
theorem pos_nI {x : Int32} (h : 0 ≤ x) : x = nI x.toInt.natAbs := by
  have h1 : 0 ≤ x.toInt := Int32.le_iff_toInt_le.mp h
  have h2 := Int32.toInt_lt x
  apply Int32.toInt_inj.mp
  rw [nI_toInt (by omega)]
  omega
def aA.wrdF (a : aA) (i : Int32) : Int32 := if inB i (nI 0) (nI a.wr.length - nI 1) = true then nI (a.wr.getD i.toNatClampNeg 0) else -1000000001
theorem RepM.wr3 {a : aA} {l l2 : List Nat} {sc sc2 : Nat → Int32} {ar ar2 : Nat → Nat → Int32} (h : RepM (a.w_wr l) sc ar) (ut : ∀ k, k ∉ ([79] : List Nat) → ar2 k = ar k) (hkz : ∀ k, k ≠ 80 → sc2 k = sc k) (n : RMtxt l2 (sc2 80) (ar2 79)) : RepM (a.w_wr l2) sc2 ar2 := h.wr2 ut hkz n
theorem c_M_writes {G : xG} {T : xT} {O R : xO} {m : Nat} {ad : Nat → Nat} {sc : Nat → Int32} {ar : Nat → Nat → Int32} {a : aA} {l : List Nat} {c : Nat} (P : PM m ad O R sc ar T O R) (H : RepM (a.w_wr l) sc ar) (hl : l.length < 80) : xCtr G yX12_writes cX12_writes 2 none 0 0 0 0 [.ref m, .int (nI c)] (T, O, R) (xN (mPostN m ad T O R (fun sc2 ar2 => RepM (a.w_wr (l ++ [c])) sc2 ar2))) := by
  refine xCtr.of (by decide +kernel) (Nat.le_of_ble_eq_true rfl) ?_
  intro Z B E hz hnm
  change xV Z (T, O, R) 0 [(0, .ref m), (1, .int (nI c))] [] 0 0
  refine g_aload_n B 0 dX12_writes_0 rfl ?_
  refine m_geta B P F_X12_193_12 (by decide) (Or.inl rfl) dX12_writes_1 ?_
  refine g_aload_n B 0 dX12_writes_4 rfl ?_
  refine m_get B P F_X12_402_12 (by decide) (Or.inl rfl) (show _ = (nI l.length) from H.2.2.2.2.2.2.2.2.2.2.2.2.2.1) dX12_writes_5 ?_
  refine g_iload_n B 1 dX12_writes_8 rfl ?_
  refine m_st B P (by decide) rfl rfl (by show _ < 80; omega) (by decide) dX12_writes_9 (fun R1 ar1 hs1 hk1 P1 => ?_)
  refine g_aload_n B 0 dX12_writes_10 rfl ?_
  refine g_dup B dX12_writes_11 rfl ?_
  refine m_get B P1 F_X12_402_12 (by decide) (Or.inl rfl) (show _ = (nI l.length) from H.2.2.2.2.2.2.2.2.2.2.2.2.2.1) dX12_writes_12 ?_
  refine g_iconst (v := nI 1) B dX12_writes_15 (by decide) ?_
  refine g_iaddN B dX12_writes_16 ?_
  refine m_put B P1 F_X12_402_12 (by decide) (Or.inl rfl) rfl rfl rfl dX12_writes_17 (fun O2 sc2 hs2 hk2 P2 => ?_)
  have n80 : sc2 80 = (nI (l.length + 1)) := hs2
  have e79 : ar1 79 = va_up (ar 79) l.length (nI c) := hs1
  refine g_vret B E rfl dX12_writes_20 ?_
  exact ⟨rfl, rfl, _, _, P2, RepM.wr3 H (fun k hk => hk1 k (fun e => hk (by rw [e]; decide))) hk2 (RMtxt.app H.2.2.2.2.2.2.2.2.2.2.2.2.2 n80 e79)⟩
theorem c_M_writesNumber {G : xG} {T : xT} {O R : xO} {m : Nat} {ad : Nat → Nat} {sc : Nat → Int32} {ar : Nat → Nat → Int32} {a : aA} {l : List Nat} {x : Int32} (P : PM m ad O R sc ar T O R) (H : RepM (a.w_wr l) sc ar) (hl : l.length + 3 ≤ 80) (hx : -99 ≤ x.toInt ∧ x.toInt ≤ 99) : xCtr G yX12_writesNumber cX12_writesNumber 3 none 1 21 0 0 [.ref m, .int x] (T, O, R) (xN (mPostN m ad T O R (fun sc2 ar2 => RepM (a.w_wr (l ++ wNum x)) sc2 ar2))) := by
  refine xCtr.of (by decide +kernel) (Nat.le_of_ble_eq_true rfl) ?_
  intro Z B E hz hnm
  change xV Z (T, O, R) 0 [(0, .ref m), (1, .int x)] [] 0 0
  refine g_iload_n B 1 dX12_writesNumber_0 rfl ?_
  refine g_if_ge (tgt := 10) B dX12_writesNumber_1 (by decide) (fun c1 => ?_) (fun c1 => ?_)
  · refine g_iload_n B 1 dX12_writesNumber_10 rfl ?_
    refine g_if_ge (tgt := 19) B dX12_writesNumber_11 (by decide) (fun _ => ?_) (fun e => absurd c1 e)
    refine g_iload_n B 1 dX12_writesNumber_19 rfl ?_
    refine g_top (show Value.int _ = .int (nI x.toInt.natAbs) from congrArg Value.int (pos_nI c1)) ?_
    refine g_istore_n (lv2 := [(2, _), (0, _), (1, _)]) B dX12_writesNumber_20 (by decide) rfl ?_
    refine g_iload_n B 0 dX12_writesNumber_21 rfl ?_
    refine g_bipush (v := nI 9) B dX12_writesNumber_22 (by decide) ?_
    refine g_icmp_leN (tgt := 38) B (by omega) (by omega) dX12_writesNumber_24 (by decide) (fun c2 => ?_) (fun c2 => ?_)
    · refine g_aload_n B 1 dX12_writesNumber_38 rfl ?_
      refine g_bipush (v := nI 48) B dX12_writesNumber_39 (by decide) ?_
      refine g_iload_n B 0 dX12_writesNumber_41 rfl ?_
      refine g_bipush (v := nI 10) B dX12_writesNumber_42 (by decide) ?_
      refine g_iremN B (by omega) (by omega) (by omega) dX12_writesNumber_44 ?_
      refine g_iaddN B dX12_writesNumber_45 ?_
      refine g_callV (rest := []) B M_X12_writes q2907 q2909 qs95 (P.1.choose_spec.choose_spec) rfl (c_M_writes (l := l) (c := (48 + (x.toInt.natAbs % 10))) P.self H (by first | omega | (simp only [List.length_append, List.length_singleton]; omega))) rfl rfl (Nat.le_of_ble_eq_true rfl) (Nat.le_of_ble_eq_true rfl) (Nat.le_of_ble_eq_true rfl) (Nat.le_refl _) (Nat.le_refl _) dX12_writesNumber_46 (xkN (fun T3 O3 R3 le3 p3 => ?_))
      obtain ⟨eT3, sc3, ar3, Q3, hr3⟩ := p3
      obtain rfl := eT3.symm
      have P3 := P.rebase Q3
      have hw : wNum x = [48 + x.toInt.natAbs % 10] := by
        unfold wNum wDig; rw [if_neg (fun e => absurd (Int32.not_le.mpr e) (fun q => q c1)), if_neg (by omega)]; rfl
      refine g_vret B E rfl dX12_writesNumber_49 ?_
      exact ⟨rfl, rfl, _, _, P3, by rw [hw]; simp only [← List.append_assoc]; exact hr3⟩
    · refine g_aload_n B 1 dX12_writesNumber_27 rfl ?_
      refine g_bipush (v := nI 48) B dX12_writesNumber_28 (by decide) ?_
      refine g_iload_n B 0 dX12_writesNumber_30 rfl ?_
      refine g_bipush (v := nI 10) B dX12_writesNumber_31 (by decide) ?_
      refine g_idivN B (by omega) (by omega) (by omega) dX12_writesNumber_33 ?_
      refine g_iaddN B dX12_writesNumber_34 ?_
      refine g_callV (rest := []) B M_X12_writes q2907 q2909 qs95 (P.1.choose_spec.choose_spec) rfl (c_M_writes (l := l) (c := (48 + (x.toInt.natAbs / 10))) P.self H (by first | omega | (simp only [List.length_append, List.length_singleton]; omega))) rfl rfl (Nat.le_of_ble_eq_true rfl) (Nat.le_of_ble_eq_true rfl) (Nat.le_of_ble_eq_true rfl) (Nat.le_refl _) (Nat.le_refl _) dX12_writesNumber_35 (xkN (fun T4 O4 R4 le4 p4 => ?_))
      obtain ⟨eT4, sc4, ar4, Q4, hr4⟩ := p4
      obtain rfl := eT4.symm
      have P4 := P.rebase Q4
      refine g_aload_n B 1 dX12_writesNumber_38 rfl ?_
      refine g_bipush (v := nI 48) B dX12_writesNumber_39 (by decide) ?_
      refine g_iload_n B 0 dX12_writesNumber_41 rfl ?_
      refine g_bipush (v := nI 10) B dX12_writesNumber_42 (by decide) ?_
      refine g_iremN B (by omega) (by omega) (by omega) dX12_writesNumber_44 ?_
      refine g_iaddN B dX12_writesNumber_45 ?_
      refine g_callV (rest := []) B M_X12_writes q2907 q2909 qs95 (P4.1.choose_spec.choose_spec) rfl (c_M_writes (l := (l ++ [(48 + (x.toInt.natAbs / 10))])) (c := (48 + (x.toInt.natAbs % 10))) P4.self hr4 (by first | omega | (simp only [List.length_append, List.length_singleton]; omega))) rfl rfl (Nat.le_of_ble_eq_true rfl) (Nat.le_of_ble_eq_true rfl) (Nat.le_of_ble_eq_true rfl) (Nat.le_refl _) (Nat.le_refl _) dX12_writesNumber_46 (xkN (fun T5 O5 R5 le5 p5 => ?_))
      obtain ⟨eT5, sc5, ar5, Q5, hr5⟩ := p5
      obtain rfl := eT5.symm
      have P5 := P4.rebase Q5
      have hw : wNum x = [48 + x.toInt.natAbs / 10] ++ [48 + x.toInt.natAbs % 10] := by
        unfold wNum wDig; rw [if_neg (fun e => absurd (Int32.not_le.mpr e) (fun q => q c1)), if_pos (by omega)]; rfl
      refine g_vret B E rfl dX12_writesNumber_49 ?_
      exact ⟨rfl, rfl, _, _, P5, by rw [hw]; simp only [← List.append_assoc]; exact hr5⟩
  · refine g_aload_n B 0 dX12_writesNumber_4 rfl ?_
    refine g_bipush (v := nI 45) B dX12_writesNumber_5 (by decide) ?_
    refine g_callV (rest := []) B M_X12_writes q2907 q2909 qs95 (P.1.choose_spec.choose_spec) rfl (c_M_writes (l := l) (c := 45) P.self H (by first | omega | (simp only [List.length_append, List.length_singleton]; omega))) rfl rfl (Nat.le_of_ble_eq_true rfl) (Nat.le_of_ble_eq_true rfl) (Nat.le_of_ble_eq_true rfl) (Nat.le_refl _) (Nat.le_refl _) dX12_writesNumber_7 (xkN (fun T6 O6 R6 le6 p6 => ?_))
    obtain ⟨eT6, sc6, ar6, Q6, hr6⟩ := p6
    obtain rfl := eT6.symm
    have P6 := P.rebase Q6
    refine g_iload_n B 1 dX12_writesNumber_10 rfl ?_
    refine g_if_ge (tgt := 19) B dX12_writesNumber_11 (by decide) (fun e => absurd e c1) (fun _ => ?_)
    refine g_iload_n B 1 dX12_writesNumber_14 rfl ?_
    refine g_ineg B dX12_writesNumber_15 ?_
    refine g_goto (tgt := 20) B dX12_writesNumber_16 (by decide) ?_
    refine g_top (show Value.int _ = .int (nI x.toInt.natAbs) from congrArg Value.int (neg_nI (Int32.not_le.mp c1) hx.1)) ?_
    refine g_istore_n (lv2 := [(2, _), (0, _), (1, _)]) B dX12_writesNumber_20 (by decide) rfl ?_
    refine g_iload_n B 0 dX12_writesNumber_21 rfl ?_
    refine g_bipush (v := nI 9) B dX12_writesNumber_22 (by decide) ?_
    refine g_icmp_leN (tgt := 38) B (by omega) (by omega) dX12_writesNumber_24 (by decide) (fun c7 => ?_) (fun c7 => ?_)
    · refine g_aload_n B 1 dX12_writesNumber_38 rfl ?_
      refine g_bipush (v := nI 48) B dX12_writesNumber_39 (by decide) ?_
      refine g_iload_n B 0 dX12_writesNumber_41 rfl ?_
      refine g_bipush (v := nI 10) B dX12_writesNumber_42 (by decide) ?_
      refine g_iremN B (by omega) (by omega) (by omega) dX12_writesNumber_44 ?_
      refine g_iaddN B dX12_writesNumber_45 ?_
      refine g_callV (rest := []) B M_X12_writes q2907 q2909 qs95 (P6.1.choose_spec.choose_spec) rfl (c_M_writes (l := (l ++ [45])) (c := (48 + (x.toInt.natAbs % 10))) P6.self hr6 (by first | omega | (simp only [List.length_append, List.length_singleton]; omega))) rfl rfl (Nat.le_of_ble_eq_true rfl) (Nat.le_of_ble_eq_true rfl) (Nat.le_of_ble_eq_true rfl) (Nat.le_refl _) (Nat.le_refl _) dX12_writesNumber_46 (xkN (fun T8 O8 R8 le8 p8 => ?_))
      obtain ⟨eT8, sc8, ar8, Q8, hr8⟩ := p8
      obtain rfl := eT8.symm
      have P8 := P6.rebase Q8
      have hw : wNum x = [45] ++ [48 + x.toInt.natAbs % 10] := by
        unfold wNum wDig; rw [if_pos (Int32.not_le.mp c1), if_neg (by omega)]; rfl
      refine g_vret B E rfl dX12_writesNumber_49 ?_
      exact ⟨rfl, rfl, _, _, P8, by rw [hw]; simp only [← List.append_assoc]; exact hr8⟩
    · refine g_aload_n B 1 dX12_writesNumber_27 rfl ?_
      refine g_bipush (v := nI 48) B dX12_writesNumber_28 (by decide) ?_
      refine g_iload_n B 0 dX12_writesNumber_30 rfl ?_
      refine g_bipush (v := nI 10) B dX12_writesNumber_31 (by decide) ?_
      refine g_idivN B (by omega) (by omega) (by omega) dX12_writesNumber_33 ?_
      refine g_iaddN B dX12_writesNumber_34 ?_
      refine g_callV (rest := []) B M_X12_writes q2907 q2909 qs95 (P6.1.choose_spec.choose_spec) rfl (c_M_writes (l := (l ++ [45])) (c := (48 + (x.toInt.natAbs / 10))) P6.self hr6 (by first | omega | (simp only [List.length_append, List.length_singleton]; omega))) rfl rfl (Nat.le_of_ble_eq_true rfl) (Nat.le_of_ble_eq_true rfl) (Nat.le_of_ble_eq_true rfl) (Nat.le_refl _) (Nat.le_refl _) dX12_writesNumber_35 (xkN (fun T9 O9 R9 le9 p9 => ?_))
      obtain ⟨eT9, sc9, ar9, Q9, hr9⟩ := p9
      obtain rfl := eT9.symm
      have P9 := P6.rebase Q9
      refine g_aload_n B 1 dX12_writesNumber_38 rfl ?_
      refine g_bipush (v := nI 48) B dX12_writesNumber_39 (by decide) ?_
      refine g_iload_n B 0 dX12_writesNumber_41 rfl ?_
      refine g_bipush (v := nI 10) B dX12_writesNumber_42 (by decide) ?_
      refine g_iremN B (by omega) (by omega) (by omega) dX12_writesNumber_44 ?_
      refine g_iaddN B dX12_writesNumber_45 ?_
      refine g_callV (rest := []) B M_X12_writes q2907 q2909 qs95 (P9.1.choose_spec.choose_spec) rfl (c_M_writes (l := ((l ++ [45]) ++ [(48 + (x.toInt.natAbs / 10))])) (c := (48 + (x.toInt.natAbs % 10))) P9.self hr9 (by first | omega | (simp only [List.length_append, List.length_singleton]; omega))) rfl rfl (Nat.le_of_ble_eq_true rfl) (Nat.le_of_ble_eq_true rfl) (Nat.le_of_ble_eq_true rfl) (Nat.le_refl _) (Nat.le_refl _) dX12_writesNumber_46 (xkN (fun T10 O10 R10 le10 p10 => ?_))
      obtain ⟨eT10, sc10, ar10, Q10, hr10⟩ := p10
      obtain rfl := eT10.symm
      have P10 := P9.rebase Q10
      have hw : wNum x = [45] ++ [48 + x.toInt.natAbs / 10] ++ [48 + x.toInt.natAbs % 10] := by
        unfold wNum wDig; rw [if_pos (Int32.not_le.mp c1), if_pos (by omega)]; rfl
      refine g_vret B E rfl dX12_writesNumber_49 ?_
      exact ⟨rfl, rfl, _, _, P10, by rw [hw]; simp only [← List.append_assoc]; exact hr10⟩
theorem c_M_written {G : xG} {T : xT} {O R : xO} {m : Nat} {ad : Nat → Nat} {sc : Nat → Int32} {ar : Nat → Nat → Int32} {i : Int32} (P : PM m ad O R sc ar T O R) {a : aA} (H : RepM a sc ar) (hw : a.wr.length ≤ 80) : xCtr G yX12_written cX12_written 2 (some Jvm.ClassFile.FieldType.int) 1 22 0 0 [.ref m, .int i] (T, O, R) (xA (fun v T2 O2 R2 => v = .int (a.wrdF i) ∧ T2 = T ∧ O2 = O ∧ R2 = R)) := by
  have hR := H
  obtain ⟨Htxt, Hop, Hinp, Hnm, Hstt, ⟨Hs0, Hs1, Hs2⟩, ⟨Hc0, Hc1, Hc2⟩, Hls, Hsp, Hpt, Hhd, Hch, Hex, Hwr⟩ := H
  refine xCtr.of (by decide +kernel) (Nat.le_of_ble_eq_true rfl) ?_
  intro Z B E hz hnm
  change xV Z (T, O, R) 0 [(0, .ref m), (1, .int i)] [] 0 0
  refine g_iload_n B 1 dX12_written_0 rfl ?_
  refine g_iconst (v := nI 0) B dX12_written_1 (by decide) ?_
  refine g_aload_n B 0 dX12_written_2 rfl ?_
  refine m_get B P F_X12_402_12 (by decide) (Or.inl rfl) (show _ = (nI a.wr.length) from Hwr.1) dX12_written_3 ?_
  refine g_iconst (v := nI 1) B dX12_written_6 (by decide) ?_
  refine g_isub B dX12_written_7 ?_
  refine g_callS (rest := []) B M_X12_isIn q2663 q2664 (c_M_isIn (x := i) (lo := (nI 0)) (hi := ((nI a.wr.length) - (nI 1)))) rfl rfl (Nat.le_of_ble_eq_true rfl) (Nat.le_of_ble_eq_true rfl) (Nat.le_of_ble_eq_true rfl) (Nat.le_refl _) (Nat.le_refl _) dX12_written_8 (xkA (fun v1 T1 O1 R1 le1 p1 => ?_))
  obtain ⟨rfl, eT1, eO1, eR1⟩ := p1
  obtain rfl := eT1.symm
  obtain rfl := eO1.symm
  obtain rfl := eR1.symm
  refine g_if_eqB (tgt := 23) B dX12_written_11 (by decide) (fun c2 => ?_) (fun c2 => ?_)
  · refine g_ldcw (v := (-1000000001)) B q2846 dX12_written_23 ?_
    refine g_iret B E rfl rfl dX12_written_26 ?_
    have hF : a.wrdF i = -1000000001 := by rw [aA.wrdF, if_neg (by rw [c2]; decide)]
    exact ⟨_, rfl, by rw [hF], rfl, rfl, rfl⟩
  · have hbi := c2
    obtain ⟨ni, h_ni, e_ni⟩ := inB_len (by omega) hbi
    have hc_ni : i.toNatClampNeg = ni := by rw [e_ni]; exact nI_clamp (by omega)
    subst e_ni
    refine g_aload_n B 0 dX12_written_14 rfl ?_
    refine m_geta B P F_X12_193_12 (by decide) (Or.inl rfl) dX12_written_15 ?_
    refine g_iload_n B 1 dX12_written_18 rfl ?_
    refine m_ld B P (by decide) rfl rfl (by show _ < 80; omega) (by decide) (show _ = (nI (a.wr.getD ni 0)) from (Hwr.2 ni (by omega))) dX12_written_19 ?_
    refine g_goto (tgt := 26) B dX12_written_20 (by decide) ?_
    refine g_iret B E rfl rfl dX12_written_26 ?_
    have hF : a.wrdF (nI ni) = nI (a.wr.getD ni 0) := by rw [aA.wrdF, if_pos hbi, hc_ni]
    exact ⟨_, rfl, by rw [hF], rfl, rfl, rfl⟩
def wLet (k : Nat) : Nat := if k = 0 then 109 else if k = 1 then 102 else if k = 2 then 107 else if k = 3 then 99 else if k = 4 then 115 else if k = 5 then 100 else 114
/-- an operator's text -/
def aA.wOp (a : aA) (o : Nat) : List Nat := (if 1 < o then [124] else []) ++ [wLet (a.kd o)] ++ (if a.kd o < 5 then [40] ++ wNum (a.pa o) ++ (if a.kd o < 3 then [44] ++ wNum (a.pb o) else []) ++ [41] else []) ++ (if 1 < a.p o then [48 + a.p o] else [])
def aA.wOps (a : aA) : Nat → List Nat
  | 0 => []
  | k + 1 => aA.wOps a k ++ a.wOp (k + 1)
def aA.wAll (a : aA) : List Nat := a.wOps (a.n - 2) ++ (if 1 < a.p (a.n - 2 + 1) then [36, 48 + a.p (a.n - 2 + 1)] else [])
def aA.wrF (a : aA) : Int32 × aA := (nI a.wAll.length, a.w_wr a.wAll)
theorem aA.wOp_len (a : aA) (o : Nat) : (a.wOp o).length ≤ 12 := by
  have h1 := wNum_len (a.pa o)
  have h2 := wNum_len (a.pb o)
  unfold aA.wOp
  simp only [List.length_append]
  by_cases c1 : 1 < o <;> by_cases c2 : a.kd o < 5 <;> by_cases c3 : a.kd o < 3 <;> by_cases c4 : 1 < a.p o <;> simp [c1, c2, c3, c4] <;> omega
theorem aA.wOps_len (a : aA) (k : Nat) : (a.wOps k).length ≤ 12 * k := by
  induction k with
  | zero => exact Nat.le_refl 0
  | succ k ih =>
    show (aA.wOps a k ++ a.wOp (k + 1)).length ≤ 12 * (k + 1)
    rw [List.length_append]
    have := a.wOp_len (k + 1)
    omega
theorem c_M_write {G : xG} {T : xT} {O R : xO} {m : Nat} {ad : Nat → Nat} {sc : Nat → Int32} {ar : Nat → Nat → Int32} {Bd : Nat} (P : PM m ad O R sc ar T O R) {a : aA} (H : RepM a sc ar) (W : WF Bd a) : xCtr G yX12_write cX12_write 3 (some Jvm.ClassFile.FieldType.int) 2 43 0 0 [.ref m] (T, O, R) (xA (mPost m ad T O R (fun v sc2 ar2 => v = .int (a.wrF).1 ∧ RepM (a.wrF).2 sc2 ar2))) := by
  have hR := H
  obtain ⟨Htxt, Hop, Hinp, Hnm, Hstt, ⟨Hs0, Hs1, Hs2⟩, ⟨Hc0, Hc1, Hc2⟩, Hls, Hsp, Hpt, Hhd, Hch, Hex, Hwr⟩ := H
  have hn2 := W.n2
  have hn6 := W.n6
  refine xCtr.of (by decide +kernel) (Nat.le_of_ble_eq_true rfl) ?_
  intro Z B E hz hnm
  change xV Z (T, O, R) 0 [(0, .ref m)] [] 0 0
  refine g_aload_n B 0 dX12_write_0 rfl ?_
  refine g_iconst (v := nI 0) B dX12_write_1 (by decide) ?_
  refine m_put B P F_X12_402_12 (by decide) (Or.inl rfl) rfl rfl rfl dX12_write_2 (fun O1 sc1 hs1 hk1 P1 => ?_)
  refine g_iconst (v := nI 1) B dX12_write_5 (by decide) ?_
  refine g_istore_n (lv2 := [(1, _), (0, _)]) B dX12_write_6 (by decide) rfl ?_
  have H0 : RepM (a.w_wr []) sc1 ar := hR.wr2 (fun _ _ => rfl) hk1 ⟨hs1, fun i hi => absurd hi (Nat.not_lt_zero i)⟩
  have L : ∀ (d : Nat) (x : Nat) (O1 R1 : xO) (sc1 : Nat → Int32) (ar1 : Nat → Nat → Int32), d = a.n - x → PM m ad O R sc1 ar1 T O1 R1 → (1 ≤ x ∧ x ≤ a.n - 1) → (RepM (a.w_wr (a.wOps (x - 1))) sc1 ar1) → xV Z (T, O1, R1) 7 [(1, .int (nI x)), (0, .ref m)] [] 0 0 := by
    intro d
    induction d using Nat.strongRecOn with
    | _ d ih =>
      intro x O1 R1 sc1 ar1 hd P1 i0 i1
      have hwl := a.wOps_len (x - 1)
      refine g_iload_n B 0 dX12_write_7 rfl ?_
      refine g_aload_n B 1 dX12_write_8 rfl ?_
      refine m_get B P1 F_X12_196_12 (by decide) (Or.inl rfl) (show _ = (nI (a.n - 2)) from i1.2.1.1) dX12_write_9 ?_
      refine g_icmp_gtN (tgt := 180) B (by omega) (by omega) dX12_write_12 (by decide) (fun c61 => ?_) (fun c61 => ?_)
      · have hxn : x - 1 = a.n - 2 := by omega
        rw [hxn] at i1
        have hwl2 := a.wOps_len (a.n - 2)
        have hpx := (W.p1 (a.n - 2 + 1) (by omega)).2
        refine g_aload_n B 1 dX12_write_180 rfl ?_
        refine m_geta B P1 F_X12_22_12 (by decide) (Or.inl rfl) dX12_write_181 ?_
        refine g_aload_n B 1 dX12_write_184 rfl ?_
        refine g_callV (rest := [_]) B M_X12_sink q2732 q2734 qs68 (P1.1.choose_spec.choose_spec) rfl (c_M_sink (k := a.n - 2) P1.self i1.2.1.1) rfl rfl (Nat.le_of_ble_eq_true rfl) (Nat.le_of_ble_eq_true rfl) (Nat.le_of_ble_eq_true rfl) (Nat.le_refl _) (Nat.le_refl _) dX12_write_185 (xkA (fun v62 T62 O62 R62 le62 p62 => ?_))
        obtain ⟨rfl, eT62, eO62, eR62⟩ := p62
        obtain rfl := eT62.symm
        obtain rfl := eO62.symm
        obtain rfl := eR62.symm
        refine m_ld B P1 (by decide) rfl rfl (by show _ < 6; omega) (by decide) (show _ = (nI (a.p (a.n - 2 + 1))) from (i1.2.1.2 (a.n - 2 + 1) (show (a.n - 2 + 1) < a.n by omega)).2.2.2) dX12_write_188 ?_
        refine g_iconst (v := nI 1) B dX12_write_189 (by decide) ?_
        refine g_icmp_leN (tgt := 199) B (by omega) (by omega) dX12_write_190 (by decide) (fun c63 => ?_) (fun c63 => ?_)
        · refine g_aload_n B 1 dX12_write_199 rfl ?_
          refine m_geta B P1 F_X12_22_12 (by decide) (Or.inl rfl) dX12_write_200 ?_
          refine g_aload_n B 1 dX12_write_203 rfl ?_
          refine g_callV (rest := [_]) B M_X12_sink q2732 q2734 qs68 (P1.1.choose_spec.choose_spec) rfl (c_M_sink (k := a.n - 2) P1.self i1.2.1.1) rfl rfl (Nat.le_of_ble_eq_true rfl) (Nat.le_of_ble_eq_true rfl) (Nat.le_of_ble_eq_true rfl) (Nat.le_refl _) (Nat.le_refl _) dX12_write_204 (xkA (fun v64 T64 O64 R64 le64 p64 => ?_))
          obtain ⟨rfl, eT64, eO64, eR64⟩ := p64
          obtain rfl := eT64.symm
          obtain rfl := eO64.symm
          obtain rfl := eR64.symm
          refine m_ld B P1 (by decide) rfl rfl (by show _ < 6; omega) (by decide) (show _ = (nI (a.p (a.n - 2 + 1))) from (i1.2.1.2 (a.n - 2 + 1) (show (a.n - 2 + 1) < a.n by omega)).2.2.2) dX12_write_207 ?_
          refine g_iconst (v := nI 1) B dX12_write_208 (by decide) ?_
          refine g_icmp_leN (tgt := 228) B (by omega) (by omega) dX12_write_209 (by decide) (fun c65 => ?_) (fun c65 => ?_)
          · refine g_aload_n B 1 dX12_write_228 rfl ?_
            refine m_get B P1 F_X12_402_12 (by decide) (Or.inl rfl) (show _ = (nI ((a.wOps (a.n - 2)).length)) from i1.2.2.2.2.2.2.2.2.2.2.2.2.2.1) dX12_write_229 ?_
            have hW : a.wAll = (a.wOps (a.n - 2)) := by unfold aA.wAll; rw [if_neg (show ¬ 1 < a.p (a.n - 2 + 1) by omega)]; simp
            refine g_iret B E rfl rfl dX12_write_232 ?_
            exact ⟨_, rfl, rfl, _, _, P1, by rw [aA.wrF, hW], by rw [aA.wrF, hW]; exact i1⟩
          · refine g_aload_n B 1 dX12_write_212 rfl ?_
            refine g_bipush (v := nI 48) B dX12_write_213 (by decide) ?_
            refine g_aload_n B 1 dX12_write_215 rfl ?_
            refine m_geta B P1 F_X12_22_12 (by decide) (Or.inl rfl) dX12_write_216 ?_
            refine g_aload_n B 1 dX12_write_219 rfl ?_
            refine g_callV (rest := [_, _, _]) B M_X12_sink q2732 q2734 qs68 (P1.1.choose_spec.choose_spec) rfl (c_M_sink (k := a.n - 2) P1.self i1.2.1.1) rfl rfl (Nat.le_of_ble_eq_true rfl) (Nat.le_of_ble_eq_true rfl) (Nat.le_of_ble_eq_true rfl) (Nat.le_refl _) (Nat.le_refl _) dX12_write_220 (xkA (fun v66 T66 O66 R66 le66 p66 => ?_))
            obtain ⟨rfl, eT66, eO66, eR66⟩ := p66
            obtain rfl := eT66.symm
            obtain rfl := eO66.symm
            obtain rfl := eR66.symm
            refine m_ld B P1 (by decide) rfl rfl (by show _ < 6; omega) (by decide) (show _ = (nI (a.p (a.n - 2 + 1))) from (i1.2.1.2 (a.n - 2 + 1) (show (a.n - 2 + 1) < a.n by omega)).2.2.2) dX12_write_223 ?_
            refine g_iaddN B dX12_write_224 ?_
            refine g_callV (rest := []) B M_X12_writes q2907 q2909 qs95 (P1.1.choose_spec.choose_spec) rfl (c_M_writes (l := (a.wOps (a.n - 2))) (c := (48 + (a.p (a.n - 2 + 1)))) P1.self i1 (by omega)) rfl rfl (Nat.le_of_ble_eq_true rfl) (Nat.le_of_ble_eq_true rfl) (Nat.le_of_ble_eq_true rfl) (Nat.le_refl _) (Nat.le_refl _) dX12_write_225 (xkN (fun T67 O67 R67 le67 p67 => ?_))
            obtain ⟨eT67, sc67, ar67, Q67, hr67⟩ := p67
            obtain rfl := eT67.symm
            have P67 := P1.rebase Q67
            refine g_aload_n B 1 dX12_write_228 rfl ?_
            refine m_get B P67 F_X12_402_12 (by decide) (Or.inl rfl) (show _ = (nI (((a.wOps (a.n - 2)) ++ [(48 + (a.p (a.n - 2 + 1)))]).length)) from hr67.2.2.2.2.2.2.2.2.2.2.2.2.2.1) dX12_write_229 ?_
            exact absurd (show 1 < a.p (a.n - 2 + 1) by omega) (by omega)
        · refine g_aload_n B 1 dX12_write_193 rfl ?_
          refine g_bipush (v := nI 36) B dX12_write_194 (by decide) ?_
          refine g_callV (rest := []) B M_X12_writes q2907 q2909 qs95 (P1.1.choose_spec.choose_spec) rfl (c_M_writes (l := (a.wOps (a.n - 2))) (c := 36) P1.self i1 (by omega)) rfl rfl (Nat.le_of_ble_eq_true rfl) (Nat.le_of_ble_eq_true rfl) (Nat.le_of_ble_eq_true rfl) (Nat.le_refl _) (Nat.le_refl _) dX12_write_196 (xkN (fun T68 O68 R68 le68 p68 => ?_))
          obtain ⟨eT68, sc68, ar68, Q68, hr68⟩ := p68
          obtain rfl := eT68.symm
          have P68 := P1.rebase Q68
          refine g_aload_n B 1 dX12_write_199 rfl ?_
          refine m_geta B P68 F_X12_22_12 (by decide) (Or.inl rfl) dX12_write_200 ?_
          refine g_aload_n B 1 dX12_write_203 rfl ?_
          refine g_callV (rest := [_]) B M_X12_sink q2732 q2734 qs68 (P68.1.choose_spec.choose_spec) rfl (c_M_sink (k := a.n - 2) P68.self hr68.2.1.1) rfl rfl (Nat.le_of_ble_eq_true rfl) (Nat.le_of_ble_eq_true rfl) (Nat.le_of_ble_eq_true rfl) (Nat.le_refl _) (Nat.le_refl _) dX12_write_204 (xkA (fun v69 T69 O69 R69 le69 p69 => ?_))
          obtain ⟨rfl, eT69, eO69, eR69⟩ := p69
          obtain rfl := eT69.symm
          obtain rfl := eO69.symm
          obtain rfl := eR69.symm
          refine m_ld B P68 (by decide) rfl rfl (by show _ < 6; omega) (by decide) (show _ = (nI (a.p (a.n - 2 + 1))) from (hr68.2.1.2 (a.n - 2 + 1) (show (a.n - 2 + 1) < a.n by omega)).2.2.2) dX12_write_207 ?_
          refine g_iconst (v := nI 1) B dX12_write_208 (by decide) ?_
          refine g_icmp_leN (tgt := 228) B (by omega) (by omega) dX12_write_209 (by decide) (fun c70 => ?_) (fun c70 => ?_)
          · refine g_aload_n B 1 dX12_write_228 rfl ?_
            refine m_get B P68 F_X12_402_12 (by decide) (Or.inl rfl) (show _ = (nI (((a.wOps (a.n - 2)) ++ [36]).length)) from hr68.2.2.2.2.2.2.2.2.2.2.2.2.2.1) dX12_write_229 ?_
            exact absurd (show 1 < a.p (a.n - 2 + 1) by omega) (by omega)
          · refine g_aload_n B 1 dX12_write_212 rfl ?_
            refine g_bipush (v := nI 48) B dX12_write_213 (by decide) ?_
            refine g_aload_n B 1 dX12_write_215 rfl ?_
            refine m_geta B P68 F_X12_22_12 (by decide) (Or.inl rfl) dX12_write_216 ?_
            refine g_aload_n B 1 dX12_write_219 rfl ?_
            refine g_callV (rest := [_, _, _]) B M_X12_sink q2732 q2734 qs68 (P68.1.choose_spec.choose_spec) rfl (c_M_sink (k := a.n - 2) P68.self hr68.2.1.1) rfl rfl (Nat.le_of_ble_eq_true rfl) (Nat.le_of_ble_eq_true rfl) (Nat.le_of_ble_eq_true rfl) (Nat.le_refl _) (Nat.le_refl _) dX12_write_220 (xkA (fun v71 T71 O71 R71 le71 p71 => ?_))
            obtain ⟨rfl, eT71, eO71, eR71⟩ := p71
            obtain rfl := eT71.symm
            obtain rfl := eO71.symm
            obtain rfl := eR71.symm
            refine m_ld B P68 (by decide) rfl rfl (by show _ < 6; omega) (by decide) (show _ = (nI (a.p (a.n - 2 + 1))) from (hr68.2.1.2 (a.n - 2 + 1) (show (a.n - 2 + 1) < a.n by omega)).2.2.2) dX12_write_223 ?_
            refine g_iaddN B dX12_write_224 ?_
            refine g_callV (rest := []) B M_X12_writes q2907 q2909 qs95 (P68.1.choose_spec.choose_spec) rfl (c_M_writes (l := ((a.wOps (a.n - 2)) ++ [36])) (c := (48 + (a.p (a.n - 2 + 1)))) P68.self hr68 (by simp only [List.length_append, List.length_cons, List.length_nil]; omega)) rfl rfl (Nat.le_of_ble_eq_true rfl) (Nat.le_of_ble_eq_true rfl) (Nat.le_of_ble_eq_true rfl) (Nat.le_refl _) (Nat.le_refl _) dX12_write_225 (xkN (fun T72 O72 R72 le72 p72 => ?_))
            obtain ⟨eT72, sc72, ar72, Q72, hr72⟩ := p72
            obtain rfl := eT72.symm
            have P72 := P68.rebase Q72
            refine g_aload_n B 1 dX12_write_228 rfl ?_
            refine m_get B P72 F_X12_402_12 (by decide) (Or.inl rfl) (show _ = (nI ((((a.wOps (a.n - 2)) ++ [36]) ++ [(48 + (a.p (a.n - 2 + 1)))]).length)) from hr72.2.2.2.2.2.2.2.2.2.2.2.2.2.1) dX12_write_229 ?_
            have hW : a.wAll = (((a.wOps (a.n - 2)) ++ [36]) ++ [(48 + (a.p (a.n - 2 + 1)))]) := by unfold aA.wAll; rw [if_pos (show 1 < a.p (a.n - 2 + 1) by omega)]; simp
            refine g_iret B E rfl rfl dX12_write_232 ?_
            exact ⟨_, rfl, rfl, _, _, P72, by rw [aA.wrF, hW], by rw [aA.wrF, hW]; exact hr72⟩
      · have hpx := (W.p1 x (by omega)).2
        have hk8 := W.kd8 (show x < a.n by omega)
        refine g_aload_n B 1 dX12_write_15 rfl ?_
        refine m_geta B P1 F_X12_13_12 (by decide) (Or.inl rfl) dX12_write_16 ?_
        refine g_iload_n B 0 dX12_write_19 rfl ?_
        refine m_ld B P1 (by decide) rfl rfl (by show _ < 6; omega) (by decide) (show _ = (nI (a.kd x)) from (i1.2.1.2 x (show x < a.n by omega)).1) dX12_write_20 ?_
        have hk6 := W.km x (by omega) (by omega)
        rcases (show a.kd x = 0 ∨ a.kd x = 1 ∨ a.kd x = 2 ∨ a.kd x = 3 ∨ a.kd x = 4 ∨ a.kd x = 5 ∨ a.kd x = 6 by omega) with hkd | hkd | hkd | hkd | hkd | hkd | hkd
        · refine g_top (show Value.int (nI (a.kd x)) = .int (nI 0) by rw [hkd]) ?_
          refine g_istore_n (lv2 := [(2, _), (1, _), (0, _)]) B dX12_write_21 (by decide) rfl ?_
          refine g_iload_n B 1 dX12_write_22 rfl ?_
          refine g_iconst (v := nI 1) B dX12_write_23 (by decide) ?_
          refine g_icmp_leN (tgt := 33) B (by omega) (by omega) dX12_write_24 (by decide) (fun c73 => ?_) (fun c73 => ?_)
          · refine g_aload_n B 2 dX12_write_33 rfl ?_
            refine g_iload_n B 0 dX12_write_34 rfl ?_
            refine g_if_neN (tgt := 43) B (by omega) dX12_write_35 (by decide) (fun e => absurd e (by decide)) (fun _ => ?_)
            refine g_bipush (v := nI 109) B dX12_write_38 (by decide) ?_
            refine g_goto (tgt := 95) B dX12_write_40 (by decide) ?_
            refine g_callV (rest := []) B M_X12_writes q2907 q2909 qs95 (P1.1.choose_spec.choose_spec) rfl (c_M_writes (l := (a.wOps (x - 1))) (c := 109) P1.self i1 (by omega)) rfl rfl (Nat.le_of_ble_eq_true rfl) (Nat.le_of_ble_eq_true rfl) (Nat.le_of_ble_eq_true rfl) (Nat.le_refl _) (Nat.le_refl _) dX12_write_95 (xkN (fun T75 O75 R75 le75 p75 => ?_))
            obtain ⟨eT75, sc75, ar75, Q75, hr75⟩ := p75
            obtain rfl := eT75.symm
            have P75 := P1.rebase Q75
            refine g_iload_n B 0 dX12_write_98 rfl ?_
            refine g_iconst (v := nI 5) B dX12_write_99 (by decide) ?_
            refine g_icmp_geN (tgt := 151) B (by omega) (by omega) dX12_write_100 (by decide) (fun e => absurd e (by decide)) (fun _ => ?_)
            refine g_aload_n B 2 dX12_write_103 rfl ?_
            refine g_bipush (v := nI 40) B dX12_write_104 (by decide) ?_
            refine g_callV (rest := []) B M_X12_writes q2907 q2909 qs95 (P75.1.choose_spec.choose_spec) rfl (c_M_writes (l := ((a.wOps (x - 1)) ++ [109])) (c := 40) P75.self hr75 (by have hw1 := wNum_len (a.pa x); have hw2 := wNum_len (a.pb x); simp only [List.length_append, List.length_cons, List.length_nil]; omega)) rfl rfl (Nat.le_of_ble_eq_true rfl) (Nat.le_of_ble_eq_true rfl) (Nat.le_of_ble_eq_true rfl) (Nat.le_refl _) (Nat.le_refl _) dX12_write_106 (xkN (fun T77 O77 R77 le77 p77 => ?_))
            obtain ⟨eT77, sc77, ar77, Q77, hr77⟩ := p77
            obtain rfl := eT77.symm
            have P77 := P75.rebase Q77
            refine g_aload_n B 2 dX12_write_109 rfl ?_
            refine g_aload_n B 2 dX12_write_110 rfl ?_
            refine m_geta B P77 F_X12_16_12 (by decide) (Or.inl rfl) dX12_write_111 ?_
            refine g_iload_n B 1 dX12_write_114 rfl ?_
            refine m_ld B P77 (by decide) rfl rfl (by show _ < 6; omega) (by decide) (show _ = (a.pa x) from (hr77.2.1.2 x (show x < a.n by omega)).2.1) dX12_write_115 ?_
            refine g_callV (rest := []) B M_X12_writesNumber q2911 q2913 qs96 (P77.1.choose_spec.choose_spec) rfl (c_M_writesNumber (l := (((a.wOps (x - 1)) ++ [109]) ++ [40])) (x := (a.pa x)) P77.self hr77 (by have hw1 := wNum_len (a.pa x); have hw2 := wNum_len (a.pb x); simp only [List.length_append, List.length_cons, List.length_nil]; omega) (W.kr x (by omega)).1) rfl rfl (Nat.le_of_ble_eq_true rfl) (Nat.le_of_ble_eq_true rfl) (Nat.le_of_ble_eq_true rfl) (Nat.le_refl _) (Nat.le_refl _) dX12_write_116 (xkN (fun T78 O78 R78 le78 p78 => ?_))
            obtain ⟨eT78, sc78, ar78, Q78, hr78⟩ := p78
            obtain rfl := eT78.symm
            have P78 := P77.rebase Q78
            refine g_iload_n B 0 dX12_write_119 rfl ?_
            refine g_iconst (v := nI 3) B dX12_write_120 (by decide) ?_
            refine g_icmp_geN (tgt := 130) B (by omega) (by omega) dX12_write_121 (by decide) (fun e => absurd e (by decide)) (fun _ => ?_)
            refine g_aload_n B 2 dX12_write_124 rfl ?_
            refine g_bipush (v := nI 44) B dX12_write_125 (by decide) ?_
            refine g_callV (rest := []) B M_X12_writes q2907 q2909 qs95 (P78.1.choose_spec.choose_spec) rfl (c_M_writes (l := ((((a.wOps (x - 1)) ++ [109]) ++ [40]) ++ wNum (a.pa x))) (c := 44) P78.self hr78 (by have hw1 := wNum_len (a.pa x); have hw2 := wNum_len (a.pb x); simp only [List.length_append, List.length_cons, List.length_nil]; omega)) rfl rfl (Nat.le_of_ble_eq_true rfl) (Nat.le_of_ble_eq_true rfl) (Nat.le_of_ble_eq_true rfl) (Nat.le_refl _) (Nat.le_refl _) dX12_write_127 (xkN (fun T80 O80 R80 le80 p80 => ?_))
            obtain ⟨eT80, sc80, ar80, Q80, hr80⟩ := p80
            obtain rfl := eT80.symm
            have P80 := P78.rebase Q80
            refine g_iload_n B 0 dX12_write_130 rfl ?_
            refine g_iconst (v := nI 3) B dX12_write_131 (by decide) ?_
            refine g_icmp_geN (tgt := 145) B (by omega) (by omega) dX12_write_132 (by decide) (fun e => absurd e (by decide)) (fun _ => ?_)
            refine g_aload_n B 2 dX12_write_135 rfl ?_
            refine g_aload_n B 2 dX12_write_136 rfl ?_
            refine m_geta B P80 F_X12_19_12 (by decide) (Or.inl rfl) dX12_write_137 ?_
            refine g_iload_n B 1 dX12_write_140 rfl ?_
            refine m_ld B P80 (by decide) rfl rfl (by show _ < 6; omega) (by decide) (show _ = (a.pb x) from (hr80.2.1.2 x (show x < a.n by omega)).2.2.1) dX12_write_141 ?_
            refine g_callV (rest := []) B M_X12_writesNumber q2911 q2913 qs96 (P80.1.choose_spec.choose_spec) rfl (c_M_writesNumber (l := (((((a.wOps (x - 1)) ++ [109]) ++ [40]) ++ wNum (a.pa x)) ++ [44])) (x := (a.pb x)) P80.self hr80 (by have hw1 := wNum_len (a.pa x); have hw2 := wNum_len (a.pb x); simp only [List.length_append, List.length_cons, List.length_nil]; omega) (W.kr x (by omega)).2) rfl rfl (Nat.le_of_ble_eq_true rfl) (Nat.le_of_ble_eq_true rfl) (Nat.le_of_ble_eq_true rfl) (Nat.le_refl _) (Nat.le_refl _) dX12_write_142 (xkN (fun T82 O82 R82 le82 p82 => ?_))
            obtain ⟨eT82, sc82, ar82, Q82, hr82⟩ := p82
            obtain rfl := eT82.symm
            have P82 := P80.rebase Q82
            refine g_aload_n B 2 dX12_write_145 rfl ?_
            refine g_bipush (v := nI 41) B dX12_write_146 (by decide) ?_
            refine g_callV (rest := []) B M_X12_writes q2907 q2909 qs95 (P82.1.choose_spec.choose_spec) rfl (c_M_writes (l := ((((((a.wOps (x - 1)) ++ [109]) ++ [40]) ++ wNum (a.pa x)) ++ [44]) ++ wNum (a.pb x))) (c := 41) P82.self hr82 (by have hw1 := wNum_len (a.pa x); have hw2 := wNum_len (a.pb x); simp only [List.length_append, List.length_cons, List.length_nil]; omega)) rfl rfl (Nat.le_of_ble_eq_true rfl) (Nat.le_of_ble_eq_true rfl) (Nat.le_of_ble_eq_true rfl) (Nat.le_refl _) (Nat.le_refl _) dX12_write_148 (xkN (fun T83 O83 R83 le83 p83 => ?_))
            obtain ⟨eT83, sc83, ar83, Q83, hr83⟩ := p83
            obtain rfl := eT83.symm
            have P83 := P82.rebase Q83
            refine g_aload_n B 2 dX12_write_151 rfl ?_
            refine m_geta B P83 F_X12_22_12 (by decide) (Or.inl rfl) dX12_write_152 ?_
            refine g_iload_n B 1 dX12_write_155 rfl ?_
            refine m_ld B P83 (by decide) rfl rfl (by show _ < 6; omega) (by decide) (show _ = (nI (a.p x)) from (hr83.2.1.2 x (show x < a.n by omega)).2.2.2) dX12_write_156 ?_
            refine g_iconst (v := nI 1) B dX12_write_157 (by decide) ?_
            refine g_icmp_leN (tgt := 174) B (by omega) (by omega) dX12_write_158 (by decide) (fun c84 => ?_) (fun c84 => ?_)
            · refine g_iinc (v := nI (x + 1)) (lv2 := [(1, _), (2, _), (0, _)]) B 1 dX12_write_174 rfl (nI_1 _) (by decide) rfl ?_
              refine g_goto (tgt := 7) B dX12_write_177 (by decide) ?_
              have hop : a.wOps x = (((((((a.wOps (x - 1)) ++ [109]) ++ [40]) ++ wNum (a.pa x)) ++ [44]) ++ wNum (a.pb x)) ++ [41]) := by
                have hs : a.wOps x = a.wOps (x - 1) ++ a.wOp x := by rw [show x = (x - 1) + 1 by omega]; rfl
                rw [hs]; unfold aA.wOp; rw [hkd, if_neg (show ¬ 1 < x by omega), if_neg (show ¬ 1 < a.p x by omega)]; simp [wLet]
              refine g_pick [0, 2] rfl ?_
              exact ih (a.n - (x + 1)) (by omega) (x + 1) _ _ _ _ rfl P83 (by omega) (by rw [show x + 1 - 1 = x by omega, hop]; exact hr83)
            · refine g_aload_n B 2 dX12_write_161 rfl ?_
              refine g_bipush (v := nI 48) B dX12_write_162 (by decide) ?_
              refine g_aload_n B 2 dX12_write_164 rfl ?_
              refine m_geta B P83 F_X12_22_12 (by decide) (Or.inl rfl) dX12_write_165 ?_
              refine g_iload_n B 1 dX12_write_168 rfl ?_
              refine m_ld B P83 (by decide) rfl rfl (by show _ < 6; omega) (by decide) (show _ = (nI (a.p x)) from (hr83.2.1.2 x (show x < a.n by omega)).2.2.2) dX12_write_169 ?_
              refine g_iaddN B dX12_write_170 ?_
              refine g_callV (rest := []) B M_X12_writes q2907 q2909 qs95 (P83.1.choose_spec.choose_spec) rfl (c_M_writes (l := (((((((a.wOps (x - 1)) ++ [109]) ++ [40]) ++ wNum (a.pa x)) ++ [44]) ++ wNum (a.pb x)) ++ [41])) (c := (48 + (a.p x))) P83.self hr83 (by have hw1 := wNum_len (a.pa x); have hw2 := wNum_len (a.pb x); simp only [List.length_append, List.length_cons, List.length_nil]; omega)) rfl rfl (Nat.le_of_ble_eq_true rfl) (Nat.le_of_ble_eq_true rfl) (Nat.le_of_ble_eq_true rfl) (Nat.le_refl _) (Nat.le_refl _) dX12_write_171 (xkN (fun T85 O85 R85 le85 p85 => ?_))
              obtain ⟨eT85, sc85, ar85, Q85, hr85⟩ := p85
              obtain rfl := eT85.symm
              have P85 := P83.rebase Q85
              refine g_iinc (v := nI (x + 1)) (lv2 := [(1, _), (2, _), (0, _)]) B 1 dX12_write_174 rfl (nI_1 _) (by decide) rfl ?_
              refine g_goto (tgt := 7) B dX12_write_177 (by decide) ?_
              have hop : a.wOps x = ((((((((a.wOps (x - 1)) ++ [109]) ++ [40]) ++ wNum (a.pa x)) ++ [44]) ++ wNum (a.pb x)) ++ [41]) ++ [(48 + (a.p x))]) := by
                have hs : a.wOps x = a.wOps (x - 1) ++ a.wOp x := by rw [show x = (x - 1) + 1 by omega]; rfl
                rw [hs]; unfold aA.wOp; rw [hkd, if_neg (show ¬ 1 < x by omega), if_pos (show 1 < a.p x by omega)]; simp [wLet]
              refine g_pick [0, 2] rfl ?_
              exact ih (a.n - (x + 1)) (by omega) (x + 1) _ _ _ _ rfl P85 (by omega) (by rw [show x + 1 - 1 = x by omega, hop]; exact hr85)
          · refine g_aload_n B 2 dX12_write_27 rfl ?_
            refine g_bipush (v := nI 124) B dX12_write_28 (by decide) ?_
            refine g_callV (rest := []) B M_X12_writes q2907 q2909 qs95 (P1.1.choose_spec.choose_spec) rfl (c_M_writes (l := (a.wOps (x - 1))) (c := 124) P1.self i1 (by omega)) rfl rfl (Nat.le_of_ble_eq_true rfl) (Nat.le_of_ble_eq_true rfl) (Nat.le_of_ble_eq_true rfl) (Nat.le_refl _) (Nat.le_refl _) dX12_write_30 (xkN (fun T86 O86 R86 le86 p86 => ?_))
            obtain ⟨eT86, sc86, ar86, Q86, hr86⟩ := p86
            obtain rfl := eT86.symm
            have P86 := P1.rebase Q86
            refine g_aload_n B 2 dX12_write_33 rfl ?_
            refine g_iload_n B 0 dX12_write_34 rfl ?_
            refine g_if_neN (tgt := 43) B (by omega) dX12_write_35 (by decide) (fun e => absurd e (by decide)) (fun _ => ?_)
            refine g_bipush (v := nI 109) B dX12_write_38 (by decide) ?_
            refine g_goto (tgt := 95) B dX12_write_40 (by decide) ?_
            refine g_callV (rest := []) B M_X12_writes q2907 q2909 qs95 (P86.1.choose_spec.choose_spec) rfl (c_M_writes (l := ((a.wOps (x - 1)) ++ [124])) (c := 109) P86.self hr86 (by have hw1 := wNum_len (a.pa x); have hw2 := wNum_len (a.pb x); simp only [List.length_append, List.length_cons, List.length_nil]; omega)) rfl rfl (Nat.le_of_ble_eq_true rfl) (Nat.le_of_ble_eq_true rfl) (Nat.le_of_ble_eq_true rfl) (Nat.le_refl _) (Nat.le_refl _) dX12_write_95 (xkN (fun T88 O88 R88 le88 p88 => ?_))
            obtain ⟨eT88, sc88, ar88, Q88, hr88⟩ := p88
            obtain rfl := eT88.symm
            have P88 := P86.rebase Q88
            refine g_iload_n B 0 dX12_write_98 rfl ?_
            refine g_iconst (v := nI 5) B dX12_write_99 (by decide) ?_
            refine g_icmp_geN (tgt := 151) B (by omega) (by omega) dX12_write_100 (by decide) (fun e => absurd e (by decide)) (fun _ => ?_)
            refine g_aload_n B 2 dX12_write_103 rfl ?_
            refine g_bipush (v := nI 40) B dX12_write_104 (by decide) ?_
            refine g_callV (rest := []) B M_X12_writes q2907 q2909 qs95 (P88.1.choose_spec.choose_spec) rfl (c_M_writes (l := (((a.wOps (x - 1)) ++ [124]) ++ [109])) (c := 40) P88.self hr88 (by have hw1 := wNum_len (a.pa x); have hw2 := wNum_len (a.pb x); simp only [List.length_append, List.length_cons, List.length_nil]; omega)) rfl rfl (Nat.le_of_ble_eq_true rfl) (Nat.le_of_ble_eq_true rfl) (Nat.le_of_ble_eq_true rfl) (Nat.le_refl _) (Nat.le_refl _) dX12_write_106 (xkN (fun T90 O90 R90 le90 p90 => ?_))
            obtain ⟨eT90, sc90, ar90, Q90, hr90⟩ := p90
            obtain rfl := eT90.symm
            have P90 := P88.rebase Q90
            refine g_aload_n B 2 dX12_write_109 rfl ?_
            refine g_aload_n B 2 dX12_write_110 rfl ?_
            refine m_geta B P90 F_X12_16_12 (by decide) (Or.inl rfl) dX12_write_111 ?_
            refine g_iload_n B 1 dX12_write_114 rfl ?_
            refine m_ld B P90 (by decide) rfl rfl (by show _ < 6; omega) (by decide) (show _ = (a.pa x) from (hr90.2.1.2 x (show x < a.n by omega)).2.1) dX12_write_115 ?_
            refine g_callV (rest := []) B M_X12_writesNumber q2911 q2913 qs96 (P90.1.choose_spec.choose_spec) rfl (c_M_writesNumber (l := ((((a.wOps (x - 1)) ++ [124]) ++ [109]) ++ [40])) (x := (a.pa x)) P90.self hr90 (by have hw1 := wNum_len (a.pa x); have hw2 := wNum_len (a.pb x); simp only [List.length_append, List.length_cons, List.length_nil]; omega) (W.kr x (by omega)).1) rfl rfl (Nat.le_of_ble_eq_true rfl) (Nat.le_of_ble_eq_true rfl) (Nat.le_of_ble_eq_true rfl) (Nat.le_refl _) (Nat.le_refl _) dX12_write_116 (xkN (fun T91 O91 R91 le91 p91 => ?_))
            obtain ⟨eT91, sc91, ar91, Q91, hr91⟩ := p91
            obtain rfl := eT91.symm
            have P91 := P90.rebase Q91
            refine g_iload_n B 0 dX12_write_119 rfl ?_
            refine g_iconst (v := nI 3) B dX12_write_120 (by decide) ?_
            refine g_icmp_geN (tgt := 130) B (by omega) (by omega) dX12_write_121 (by decide) (fun e => absurd e (by decide)) (fun _ => ?_)
            refine g_aload_n B 2 dX12_write_124 rfl ?_
            refine g_bipush (v := nI 44) B dX12_write_125 (by decide) ?_
            refine g_callV (rest := []) B M_X12_writes q2907 q2909 qs95 (P91.1.choose_spec.choose_spec) rfl (c_M_writes (l := (((((a.wOps (x - 1)) ++ [124]) ++ [109]) ++ [40]) ++ wNum (a.pa x))) (c := 44) P91.self hr91 (by have hw1 := wNum_len (a.pa x); have hw2 := wNum_len (a.pb x); simp only [List.length_append, List.length_cons, List.length_nil]; omega)) rfl rfl (Nat.le_of_ble_eq_true rfl) (Nat.le_of_ble_eq_true rfl) (Nat.le_of_ble_eq_true rfl) (Nat.le_refl _) (Nat.le_refl _) dX12_write_127 (xkN (fun T93 O93 R93 le93 p93 => ?_))
            obtain ⟨eT93, sc93, ar93, Q93, hr93⟩ := p93
            obtain rfl := eT93.symm
            have P93 := P91.rebase Q93
            refine g_iload_n B 0 dX12_write_130 rfl ?_
            refine g_iconst (v := nI 3) B dX12_write_131 (by decide) ?_
            refine g_icmp_geN (tgt := 145) B (by omega) (by omega) dX12_write_132 (by decide) (fun e => absurd e (by decide)) (fun _ => ?_)
            refine g_aload_n B 2 dX12_write_135 rfl ?_
            refine g_aload_n B 2 dX12_write_136 rfl ?_
            refine m_geta B P93 F_X12_19_12 (by decide) (Or.inl rfl) dX12_write_137 ?_
            refine g_iload_n B 1 dX12_write_140 rfl ?_
            refine m_ld B P93 (by decide) rfl rfl (by show _ < 6; omega) (by decide) (show _ = (a.pb x) from (hr93.2.1.2 x (show x < a.n by omega)).2.2.1) dX12_write_141 ?_
            refine g_callV (rest := []) B M_X12_writesNumber q2911 q2913 qs96 (P93.1.choose_spec.choose_spec) rfl (c_M_writesNumber (l := ((((((a.wOps (x - 1)) ++ [124]) ++ [109]) ++ [40]) ++ wNum (a.pa x)) ++ [44])) (x := (a.pb x)) P93.self hr93 (by have hw1 := wNum_len (a.pa x); have hw2 := wNum_len (a.pb x); simp only [List.length_append, List.length_cons, List.length_nil]; omega) (W.kr x (by omega)).2) rfl rfl (Nat.le_of_ble_eq_true rfl) (Nat.le_of_ble_eq_true rfl) (Nat.le_of_ble_eq_true rfl) (Nat.le_refl _) (Nat.le_refl _) dX12_write_142 (xkN (fun T95 O95 R95 le95 p95 => ?_))
            obtain ⟨eT95, sc95, ar95, Q95, hr95⟩ := p95
            obtain rfl := eT95.symm
            have P95 := P93.rebase Q95
            refine g_aload_n B 2 dX12_write_145 rfl ?_
            refine g_bipush (v := nI 41) B dX12_write_146 (by decide) ?_
            refine g_callV (rest := []) B M_X12_writes q2907 q2909 qs95 (P95.1.choose_spec.choose_spec) rfl (c_M_writes (l := (((((((a.wOps (x - 1)) ++ [124]) ++ [109]) ++ [40]) ++ wNum (a.pa x)) ++ [44]) ++ wNum (a.pb x))) (c := 41) P95.self hr95 (by have hw1 := wNum_len (a.pa x); have hw2 := wNum_len (a.pb x); simp only [List.length_append, List.length_cons, List.length_nil]; omega)) rfl rfl (Nat.le_of_ble_eq_true rfl) (Nat.le_of_ble_eq_true rfl) (Nat.le_of_ble_eq_true rfl) (Nat.le_refl _) (Nat.le_refl _) dX12_write_148 (xkN (fun T96 O96 R96 le96 p96 => ?_))
            obtain ⟨eT96, sc96, ar96, Q96, hr96⟩ := p96
            obtain rfl := eT96.symm
            have P96 := P95.rebase Q96
            refine g_aload_n B 2 dX12_write_151 rfl ?_
            refine m_geta B P96 F_X12_22_12 (by decide) (Or.inl rfl) dX12_write_152 ?_
            refine g_iload_n B 1 dX12_write_155 rfl ?_
            refine m_ld B P96 (by decide) rfl rfl (by show _ < 6; omega) (by decide) (show _ = (nI (a.p x)) from (hr96.2.1.2 x (show x < a.n by omega)).2.2.2) dX12_write_156 ?_
            refine g_iconst (v := nI 1) B dX12_write_157 (by decide) ?_
            refine g_icmp_leN (tgt := 174) B (by omega) (by omega) dX12_write_158 (by decide) (fun c97 => ?_) (fun c97 => ?_)
            · refine g_iinc (v := nI (x + 1)) (lv2 := [(1, _), (2, _), (0, _)]) B 1 dX12_write_174 rfl (nI_1 _) (by decide) rfl ?_
              refine g_goto (tgt := 7) B dX12_write_177 (by decide) ?_
              have hop : a.wOps x = ((((((((a.wOps (x - 1)) ++ [124]) ++ [109]) ++ [40]) ++ wNum (a.pa x)) ++ [44]) ++ wNum (a.pb x)) ++ [41]) := by
                have hs : a.wOps x = a.wOps (x - 1) ++ a.wOp x := by rw [show x = (x - 1) + 1 by omega]; rfl
                rw [hs]; unfold aA.wOp; rw [hkd, if_pos (show 1 < x by omega), if_neg (show ¬ 1 < a.p x by omega)]; simp [wLet]
              refine g_pick [0, 2] rfl ?_
              exact ih (a.n - (x + 1)) (by omega) (x + 1) _ _ _ _ rfl P96 (by omega) (by rw [show x + 1 - 1 = x by omega, hop]; exact hr96)
            · refine g_aload_n B 2 dX12_write_161 rfl ?_
              refine g_bipush (v := nI 48) B dX12_write_162 (by decide) ?_
              refine g_aload_n B 2 dX12_write_164 rfl ?_
              refine m_geta B P96 F_X12_22_12 (by decide) (Or.inl rfl) dX12_write_165 ?_
              refine g_iload_n B 1 dX12_write_168 rfl ?_
              refine m_ld B P96 (by decide) rfl rfl (by show _ < 6; omega) (by decide) (show _ = (nI (a.p x)) from (hr96.2.1.2 x (show x < a.n by omega)).2.2.2) dX12_write_169 ?_
              refine g_iaddN B dX12_write_170 ?_
              refine g_callV (rest := []) B M_X12_writes q2907 q2909 qs95 (P96.1.choose_spec.choose_spec) rfl (c_M_writes (l := ((((((((a.wOps (x - 1)) ++ [124]) ++ [109]) ++ [40]) ++ wNum (a.pa x)) ++ [44]) ++ wNum (a.pb x)) ++ [41])) (c := (48 + (a.p x))) P96.self hr96 (by have hw1 := wNum_len (a.pa x); have hw2 := wNum_len (a.pb x); simp only [List.length_append, List.length_cons, List.length_nil]; omega)) rfl rfl (Nat.le_of_ble_eq_true rfl) (Nat.le_of_ble_eq_true rfl) (Nat.le_of_ble_eq_true rfl) (Nat.le_refl _) (Nat.le_refl _) dX12_write_171 (xkN (fun T98 O98 R98 le98 p98 => ?_))
              obtain ⟨eT98, sc98, ar98, Q98, hr98⟩ := p98
              obtain rfl := eT98.symm
              have P98 := P96.rebase Q98
              refine g_iinc (v := nI (x + 1)) (lv2 := [(1, _), (2, _), (0, _)]) B 1 dX12_write_174 rfl (nI_1 _) (by decide) rfl ?_
              refine g_goto (tgt := 7) B dX12_write_177 (by decide) ?_
              have hop : a.wOps x = (((((((((a.wOps (x - 1)) ++ [124]) ++ [109]) ++ [40]) ++ wNum (a.pa x)) ++ [44]) ++ wNum (a.pb x)) ++ [41]) ++ [(48 + (a.p x))]) := by
                have hs : a.wOps x = a.wOps (x - 1) ++ a.wOp x := by rw [show x = (x - 1) + 1 by omega]; rfl
                rw [hs]; unfold aA.wOp; rw [hkd, if_pos (show 1 < x by omega), if_pos (show 1 < a.p x by omega)]; simp [wLet]
              refine g_pick [0, 2] rfl ?_
              exact ih (a.n - (x + 1)) (by omega) (x + 1) _ _ _ _ rfl P98 (by omega) (by rw [show x + 1 - 1 = x by omega, hop]; exact hr98)
        · refine g_top (show Value.int (nI (a.kd x)) = .int (nI 1) by rw [hkd]) ?_
          refine g_istore_n (lv2 := [(2, _), (1, _), (0, _)]) B dX12_write_21 (by decide) rfl ?_
          refine g_iload_n B 1 dX12_write_22 rfl ?_
          refine g_iconst (v := nI 1) B dX12_write_23 (by decide) ?_
          refine g_icmp_leN (tgt := 33) B (by omega) (by omega) dX12_write_24 (by decide) (fun c99 => ?_) (fun c99 => ?_)
          · refine g_aload_n B 2 dX12_write_33 rfl ?_
            refine g_iload_n B 0 dX12_write_34 rfl ?_
            refine g_if_neN (tgt := 43) B (by omega) dX12_write_35 (by decide) (fun _ => ?_) (fun e => absurd e (by decide))
            refine g_iload_n B 0 dX12_write_43 rfl ?_
            refine g_iconst (v := nI 1) B dX12_write_44 (by decide) ?_
            refine g_icmp_neN (tgt := 53) B (by omega) (by omega) dX12_write_45 (by decide) (fun e => absurd e (by decide)) (fun _ => ?_)
            refine g_bipush (v := nI 102) B dX12_write_48 (by decide) ?_
            refine g_goto (tgt := 95) B dX12_write_50 (by decide) ?_
            refine g_callV (rest := []) B M_X12_writes q2907 q2909 qs95 (P1.1.choose_spec.choose_spec) rfl (c_M_writes (l := (a.wOps (x - 1))) (c := 102) P1.self i1 (by omega)) rfl rfl (Nat.le_of_ble_eq_true rfl) (Nat.le_of_ble_eq_true rfl) (Nat.le_of_ble_eq_true rfl) (Nat.le_refl _) (Nat.le_refl _) dX12_write_95 (xkN (fun T102 O102 R102 le102 p102 => ?_))
            obtain ⟨eT102, sc102, ar102, Q102, hr102⟩ := p102
            obtain rfl := eT102.symm
            have P102 := P1.rebase Q102
            refine g_iload_n B 0 dX12_write_98 rfl ?_
            refine g_iconst (v := nI 5) B dX12_write_99 (by decide) ?_
            refine g_icmp_geN (tgt := 151) B (by omega) (by omega) dX12_write_100 (by decide) (fun e => absurd e (by decide)) (fun _ => ?_)
            refine g_aload_n B 2 dX12_write_103 rfl ?_
            refine g_bipush (v := nI 40) B dX12_write_104 (by decide) ?_
            refine g_callV (rest := []) B M_X12_writes q2907 q2909 qs95 (P102.1.choose_spec.choose_spec) rfl (c_M_writes (l := ((a.wOps (x - 1)) ++ [102])) (c := 40) P102.self hr102 (by have hw1 := wNum_len (a.pa x); have hw2 := wNum_len (a.pb x); simp only [List.length_append, List.length_cons, List.length_nil]; omega)) rfl rfl (Nat.le_of_ble_eq_true rfl) (Nat.le_of_ble_eq_true rfl) (Nat.le_of_ble_eq_true rfl) (Nat.le_refl _) (Nat.le_refl _) dX12_write_106 (xkN (fun T104 O104 R104 le104 p104 => ?_))
            obtain ⟨eT104, sc104, ar104, Q104, hr104⟩ := p104
            obtain rfl := eT104.symm
            have P104 := P102.rebase Q104
            refine g_aload_n B 2 dX12_write_109 rfl ?_
            refine g_aload_n B 2 dX12_write_110 rfl ?_
            refine m_geta B P104 F_X12_16_12 (by decide) (Or.inl rfl) dX12_write_111 ?_
            refine g_iload_n B 1 dX12_write_114 rfl ?_
            refine m_ld B P104 (by decide) rfl rfl (by show _ < 6; omega) (by decide) (show _ = (a.pa x) from (hr104.2.1.2 x (show x < a.n by omega)).2.1) dX12_write_115 ?_
            refine g_callV (rest := []) B M_X12_writesNumber q2911 q2913 qs96 (P104.1.choose_spec.choose_spec) rfl (c_M_writesNumber (l := (((a.wOps (x - 1)) ++ [102]) ++ [40])) (x := (a.pa x)) P104.self hr104 (by have hw1 := wNum_len (a.pa x); have hw2 := wNum_len (a.pb x); simp only [List.length_append, List.length_cons, List.length_nil]; omega) (W.kr x (by omega)).1) rfl rfl (Nat.le_of_ble_eq_true rfl) (Nat.le_of_ble_eq_true rfl) (Nat.le_of_ble_eq_true rfl) (Nat.le_refl _) (Nat.le_refl _) dX12_write_116 (xkN (fun T105 O105 R105 le105 p105 => ?_))
            obtain ⟨eT105, sc105, ar105, Q105, hr105⟩ := p105
            obtain rfl := eT105.symm
            have P105 := P104.rebase Q105
            refine g_iload_n B 0 dX12_write_119 rfl ?_
            refine g_iconst (v := nI 3) B dX12_write_120 (by decide) ?_
            refine g_icmp_geN (tgt := 130) B (by omega) (by omega) dX12_write_121 (by decide) (fun e => absurd e (by decide)) (fun _ => ?_)
            refine g_aload_n B 2 dX12_write_124 rfl ?_
            refine g_bipush (v := nI 44) B dX12_write_125 (by decide) ?_
            refine g_callV (rest := []) B M_X12_writes q2907 q2909 qs95 (P105.1.choose_spec.choose_spec) rfl (c_M_writes (l := ((((a.wOps (x - 1)) ++ [102]) ++ [40]) ++ wNum (a.pa x))) (c := 44) P105.self hr105 (by have hw1 := wNum_len (a.pa x); have hw2 := wNum_len (a.pb x); simp only [List.length_append, List.length_cons, List.length_nil]; omega)) rfl rfl (Nat.le_of_ble_eq_true rfl) (Nat.le_of_ble_eq_true rfl) (Nat.le_of_ble_eq_true rfl) (Nat.le_refl _) (Nat.le_refl _) dX12_write_127 (xkN (fun T107 O107 R107 le107 p107 => ?_))
            obtain ⟨eT107, sc107, ar107, Q107, hr107⟩ := p107
            obtain rfl := eT107.symm
            have P107 := P105.rebase Q107
            refine g_iload_n B 0 dX12_write_130 rfl ?_
            refine g_iconst (v := nI 3) B dX12_write_131 (by decide) ?_
            refine g_icmp_geN (tgt := 145) B (by omega) (by omega) dX12_write_132 (by decide) (fun e => absurd e (by decide)) (fun _ => ?_)
            refine g_aload_n B 2 dX12_write_135 rfl ?_
            refine g_aload_n B 2 dX12_write_136 rfl ?_
            refine m_geta B P107 F_X12_19_12 (by decide) (Or.inl rfl) dX12_write_137 ?_
            refine g_iload_n B 1 dX12_write_140 rfl ?_
            refine m_ld B P107 (by decide) rfl rfl (by show _ < 6; omega) (by decide) (show _ = (a.pb x) from (hr107.2.1.2 x (show x < a.n by omega)).2.2.1) dX12_write_141 ?_
            refine g_callV (rest := []) B M_X12_writesNumber q2911 q2913 qs96 (P107.1.choose_spec.choose_spec) rfl (c_M_writesNumber (l := (((((a.wOps (x - 1)) ++ [102]) ++ [40]) ++ wNum (a.pa x)) ++ [44])) (x := (a.pb x)) P107.self hr107 (by have hw1 := wNum_len (a.pa x); have hw2 := wNum_len (a.pb x); simp only [List.length_append, List.length_cons, List.length_nil]; omega) (W.kr x (by omega)).2) rfl rfl (Nat.le_of_ble_eq_true rfl) (Nat.le_of_ble_eq_true rfl) (Nat.le_of_ble_eq_true rfl) (Nat.le_refl _) (Nat.le_refl _) dX12_write_142 (xkN (fun T109 O109 R109 le109 p109 => ?_))
            obtain ⟨eT109, sc109, ar109, Q109, hr109⟩ := p109
            obtain rfl := eT109.symm
            have P109 := P107.rebase Q109
            refine g_aload_n B 2 dX12_write_145 rfl ?_
            refine g_bipush (v := nI 41) B dX12_write_146 (by decide) ?_
            refine g_callV (rest := []) B M_X12_writes q2907 q2909 qs95 (P109.1.choose_spec.choose_spec) rfl (c_M_writes (l := ((((((a.wOps (x - 1)) ++ [102]) ++ [40]) ++ wNum (a.pa x)) ++ [44]) ++ wNum (a.pb x))) (c := 41) P109.self hr109 (by have hw1 := wNum_len (a.pa x); have hw2 := wNum_len (a.pb x); simp only [List.length_append, List.length_cons, List.length_nil]; omega)) rfl rfl (Nat.le_of_ble_eq_true rfl) (Nat.le_of_ble_eq_true rfl) (Nat.le_of_ble_eq_true rfl) (Nat.le_refl _) (Nat.le_refl _) dX12_write_148 (xkN (fun T110 O110 R110 le110 p110 => ?_))
            obtain ⟨eT110, sc110, ar110, Q110, hr110⟩ := p110
            obtain rfl := eT110.symm
            have P110 := P109.rebase Q110
            refine g_aload_n B 2 dX12_write_151 rfl ?_
            refine m_geta B P110 F_X12_22_12 (by decide) (Or.inl rfl) dX12_write_152 ?_
            refine g_iload_n B 1 dX12_write_155 rfl ?_
            refine m_ld B P110 (by decide) rfl rfl (by show _ < 6; omega) (by decide) (show _ = (nI (a.p x)) from (hr110.2.1.2 x (show x < a.n by omega)).2.2.2) dX12_write_156 ?_
            refine g_iconst (v := nI 1) B dX12_write_157 (by decide) ?_
            refine g_icmp_leN (tgt := 174) B (by omega) (by omega) dX12_write_158 (by decide) (fun c111 => ?_) (fun c111 => ?_)
            · refine g_iinc (v := nI (x + 1)) (lv2 := [(1, _), (2, _), (0, _)]) B 1 dX12_write_174 rfl (nI_1 _) (by decide) rfl ?_
              refine g_goto (tgt := 7) B dX12_write_177 (by decide) ?_
              have hop : a.wOps x = (((((((a.wOps (x - 1)) ++ [102]) ++ [40]) ++ wNum (a.pa x)) ++ [44]) ++ wNum (a.pb x)) ++ [41]) := by
                have hs : a.wOps x = a.wOps (x - 1) ++ a.wOp x := by rw [show x = (x - 1) + 1 by omega]; rfl
                rw [hs]; unfold aA.wOp; rw [hkd, if_neg (show ¬ 1 < x by omega), if_neg (show ¬ 1 < a.p x by omega)]; simp [wLet]
              refine g_pick [0, 2] rfl ?_
              exact ih (a.n - (x + 1)) (by omega) (x + 1) _ _ _ _ rfl P110 (by omega) (by rw [show x + 1 - 1 = x by omega, hop]; exact hr110)
            · refine g_aload_n B 2 dX12_write_161 rfl ?_
              refine g_bipush (v := nI 48) B dX12_write_162 (by decide) ?_
              refine g_aload_n B 2 dX12_write_164 rfl ?_
              refine m_geta B P110 F_X12_22_12 (by decide) (Or.inl rfl) dX12_write_165 ?_
              refine g_iload_n B 1 dX12_write_168 rfl ?_
              refine m_ld B P110 (by decide) rfl rfl (by show _ < 6; omega) (by decide) (show _ = (nI (a.p x)) from (hr110.2.1.2 x (show x < a.n by omega)).2.2.2) dX12_write_169 ?_
              refine g_iaddN B dX12_write_170 ?_
              refine g_callV (rest := []) B M_X12_writes q2907 q2909 qs95 (P110.1.choose_spec.choose_spec) rfl (c_M_writes (l := (((((((a.wOps (x - 1)) ++ [102]) ++ [40]) ++ wNum (a.pa x)) ++ [44]) ++ wNum (a.pb x)) ++ [41])) (c := (48 + (a.p x))) P110.self hr110 (by have hw1 := wNum_len (a.pa x); have hw2 := wNum_len (a.pb x); simp only [List.length_append, List.length_cons, List.length_nil]; omega)) rfl rfl (Nat.le_of_ble_eq_true rfl) (Nat.le_of_ble_eq_true rfl) (Nat.le_of_ble_eq_true rfl) (Nat.le_refl _) (Nat.le_refl _) dX12_write_171 (xkN (fun T112 O112 R112 le112 p112 => ?_))
              obtain ⟨eT112, sc112, ar112, Q112, hr112⟩ := p112
              obtain rfl := eT112.symm
              have P112 := P110.rebase Q112
              refine g_iinc (v := nI (x + 1)) (lv2 := [(1, _), (2, _), (0, _)]) B 1 dX12_write_174 rfl (nI_1 _) (by decide) rfl ?_
              refine g_goto (tgt := 7) B dX12_write_177 (by decide) ?_
              have hop : a.wOps x = ((((((((a.wOps (x - 1)) ++ [102]) ++ [40]) ++ wNum (a.pa x)) ++ [44]) ++ wNum (a.pb x)) ++ [41]) ++ [(48 + (a.p x))]) := by
                have hs : a.wOps x = a.wOps (x - 1) ++ a.wOp x := by rw [show x = (x - 1) + 1 by omega]; rfl
                rw [hs]; unfold aA.wOp; rw [hkd, if_neg (show ¬ 1 < x by omega), if_pos (show 1 < a.p x by omega)]; simp [wLet]
              refine g_pick [0, 2] rfl ?_
              exact ih (a.n - (x + 1)) (by omega) (x + 1) _ _ _ _ rfl P112 (by omega) (by rw [show x + 1 - 1 = x by omega, hop]; exact hr112)
          · refine g_aload_n B 2 dX12_write_27 rfl ?_
            refine g_bipush (v := nI 124) B dX12_write_28 (by decide) ?_
            refine g_callV (rest := []) B M_X12_writes q2907 q2909 qs95 (P1.1.choose_spec.choose_spec) rfl (c_M_writes (l := (a.wOps (x - 1))) (c := 124) P1.self i1 (by omega)) rfl rfl (Nat.le_of_ble_eq_true rfl) (Nat.le_of_ble_eq_true rfl) (Nat.le_of_ble_eq_true rfl) (Nat.le_refl _) (Nat.le_refl _) dX12_write_30 (xkN (fun T113 O113 R113 le113 p113 => ?_))
            obtain ⟨eT113, sc113, ar113, Q113, hr113⟩ := p113
            obtain rfl := eT113.symm
            have P113 := P1.rebase Q113
            refine g_aload_n B 2 dX12_write_33 rfl ?_
            refine g_iload_n B 0 dX12_write_34 rfl ?_
            refine g_if_neN (tgt := 43) B (by omega) dX12_write_35 (by decide) (fun _ => ?_) (fun e => absurd e (by decide))
            refine g_iload_n B 0 dX12_write_43 rfl ?_
            refine g_iconst (v := nI 1) B dX12_write_44 (by decide) ?_
            refine g_icmp_neN (tgt := 53) B (by omega) (by omega) dX12_write_45 (by decide) (fun e => absurd e (by decide)) (fun _ => ?_)
            refine g_bipush (v := nI 102) B dX12_write_48 (by decide) ?_
            refine g_goto (tgt := 95) B dX12_write_50 (by decide) ?_
            refine g_callV (rest := []) B M_X12_writes q2907 q2909 qs95 (P113.1.choose_spec.choose_spec) rfl (c_M_writes (l := ((a.wOps (x - 1)) ++ [124])) (c := 102) P113.self hr113 (by have hw1 := wNum_len (a.pa x); have hw2 := wNum_len (a.pb x); simp only [List.length_append, List.length_cons, List.length_nil]; omega)) rfl rfl (Nat.le_of_ble_eq_true rfl) (Nat.le_of_ble_eq_true rfl) (Nat.le_of_ble_eq_true rfl) (Nat.le_refl _) (Nat.le_refl _) dX12_write_95 (xkN (fun T116 O116 R116 le116 p116 => ?_))
            obtain ⟨eT116, sc116, ar116, Q116, hr116⟩ := p116
            obtain rfl := eT116.symm
            have P116 := P113.rebase Q116
            refine g_iload_n B 0 dX12_write_98 rfl ?_
            refine g_iconst (v := nI 5) B dX12_write_99 (by decide) ?_
            refine g_icmp_geN (tgt := 151) B (by omega) (by omega) dX12_write_100 (by decide) (fun e => absurd e (by decide)) (fun _ => ?_)
            refine g_aload_n B 2 dX12_write_103 rfl ?_
            refine g_bipush (v := nI 40) B dX12_write_104 (by decide) ?_
            refine g_callV (rest := []) B M_X12_writes q2907 q2909 qs95 (P116.1.choose_spec.choose_spec) rfl (c_M_writes (l := (((a.wOps (x - 1)) ++ [124]) ++ [102])) (c := 40) P116.self hr116 (by have hw1 := wNum_len (a.pa x); have hw2 := wNum_len (a.pb x); simp only [List.length_append, List.length_cons, List.length_nil]; omega)) rfl rfl (Nat.le_of_ble_eq_true rfl) (Nat.le_of_ble_eq_true rfl) (Nat.le_of_ble_eq_true rfl) (Nat.le_refl _) (Nat.le_refl _) dX12_write_106 (xkN (fun T118 O118 R118 le118 p118 => ?_))
            obtain ⟨eT118, sc118, ar118, Q118, hr118⟩ := p118
            obtain rfl := eT118.symm
            have P118 := P116.rebase Q118
            refine g_aload_n B 2 dX12_write_109 rfl ?_
            refine g_aload_n B 2 dX12_write_110 rfl ?_
            refine m_geta B P118 F_X12_16_12 (by decide) (Or.inl rfl) dX12_write_111 ?_
            refine g_iload_n B 1 dX12_write_114 rfl ?_
            refine m_ld B P118 (by decide) rfl rfl (by show _ < 6; omega) (by decide) (show _ = (a.pa x) from (hr118.2.1.2 x (show x < a.n by omega)).2.1) dX12_write_115 ?_
            refine g_callV (rest := []) B M_X12_writesNumber q2911 q2913 qs96 (P118.1.choose_spec.choose_spec) rfl (c_M_writesNumber (l := ((((a.wOps (x - 1)) ++ [124]) ++ [102]) ++ [40])) (x := (a.pa x)) P118.self hr118 (by have hw1 := wNum_len (a.pa x); have hw2 := wNum_len (a.pb x); simp only [List.length_append, List.length_cons, List.length_nil]; omega) (W.kr x (by omega)).1) rfl rfl (Nat.le_of_ble_eq_true rfl) (Nat.le_of_ble_eq_true rfl) (Nat.le_of_ble_eq_true rfl) (Nat.le_refl _) (Nat.le_refl _) dX12_write_116 (xkN (fun T119 O119 R119 le119 p119 => ?_))
            obtain ⟨eT119, sc119, ar119, Q119, hr119⟩ := p119
            obtain rfl := eT119.symm
            have P119 := P118.rebase Q119
            refine g_iload_n B 0 dX12_write_119 rfl ?_
            refine g_iconst (v := nI 3) B dX12_write_120 (by decide) ?_
            refine g_icmp_geN (tgt := 130) B (by omega) (by omega) dX12_write_121 (by decide) (fun e => absurd e (by decide)) (fun _ => ?_)
            refine g_aload_n B 2 dX12_write_124 rfl ?_
            refine g_bipush (v := nI 44) B dX12_write_125 (by decide) ?_
            refine g_callV (rest := []) B M_X12_writes q2907 q2909 qs95 (P119.1.choose_spec.choose_spec) rfl (c_M_writes (l := (((((a.wOps (x - 1)) ++ [124]) ++ [102]) ++ [40]) ++ wNum (a.pa x))) (c := 44) P119.self hr119 (by have hw1 := wNum_len (a.pa x); have hw2 := wNum_len (a.pb x); simp only [List.length_append, List.length_cons, List.length_nil]; omega)) rfl rfl (Nat.le_of_ble_eq_true rfl) (Nat.le_of_ble_eq_true rfl) (Nat.le_of_ble_eq_true rfl) (Nat.le_refl _) (Nat.le_refl _) dX12_write_127 (xkN (fun T121 O121 R121 le121 p121 => ?_))
            obtain ⟨eT121, sc121, ar121, Q121, hr121⟩ := p121
            obtain rfl := eT121.symm
            have P121 := P119.rebase Q121
            refine g_iload_n B 0 dX12_write_130 rfl ?_
            refine g_iconst (v := nI 3) B dX12_write_131 (by decide) ?_
            refine g_icmp_geN (tgt := 145) B (by omega) (by omega) dX12_write_132 (by decide) (fun e => absurd e (by decide)) (fun _ => ?_)
            refine g_aload_n B 2 dX12_write_135 rfl ?_
            refine g_aload_n B 2 dX12_write_136 rfl ?_
            refine m_geta B P121 F_X12_19_12 (by decide) (Or.inl rfl) dX12_write_137 ?_
            refine g_iload_n B 1 dX12_write_140 rfl ?_
            refine m_ld B P121 (by decide) rfl rfl (by show _ < 6; omega) (by decide) (show _ = (a.pb x) from (hr121.2.1.2 x (show x < a.n by omega)).2.2.1) dX12_write_141 ?_
            refine g_callV (rest := []) B M_X12_writesNumber q2911 q2913 qs96 (P121.1.choose_spec.choose_spec) rfl (c_M_writesNumber (l := ((((((a.wOps (x - 1)) ++ [124]) ++ [102]) ++ [40]) ++ wNum (a.pa x)) ++ [44])) (x := (a.pb x)) P121.self hr121 (by have hw1 := wNum_len (a.pa x); have hw2 := wNum_len (a.pb x); simp only [List.length_append, List.length_cons, List.length_nil]; omega) (W.kr x (by omega)).2) rfl rfl (Nat.le_of_ble_eq_true rfl) (Nat.le_of_ble_eq_true rfl) (Nat.le_of_ble_eq_true rfl) (Nat.le_refl _) (Nat.le_refl _) dX12_write_142 (xkN (fun T123 O123 R123 le123 p123 => ?_))
            obtain ⟨eT123, sc123, ar123, Q123, hr123⟩ := p123
            obtain rfl := eT123.symm
            have P123 := P121.rebase Q123
            refine g_aload_n B 2 dX12_write_145 rfl ?_
            refine g_bipush (v := nI 41) B dX12_write_146 (by decide) ?_
            refine g_callV (rest := []) B M_X12_writes q2907 q2909 qs95 (P123.1.choose_spec.choose_spec) rfl (c_M_writes (l := (((((((a.wOps (x - 1)) ++ [124]) ++ [102]) ++ [40]) ++ wNum (a.pa x)) ++ [44]) ++ wNum (a.pb x))) (c := 41) P123.self hr123 (by have hw1 := wNum_len (a.pa x); have hw2 := wNum_len (a.pb x); simp only [List.length_append, List.length_cons, List.length_nil]; omega)) rfl rfl (Nat.le_of_ble_eq_true rfl) (Nat.le_of_ble_eq_true rfl) (Nat.le_of_ble_eq_true rfl) (Nat.le_refl _) (Nat.le_refl _) dX12_write_148 (xkN (fun T124 O124 R124 le124 p124 => ?_))
            obtain ⟨eT124, sc124, ar124, Q124, hr124⟩ := p124
            obtain rfl := eT124.symm
            have P124 := P123.rebase Q124
            refine g_aload_n B 2 dX12_write_151 rfl ?_
            refine m_geta B P124 F_X12_22_12 (by decide) (Or.inl rfl) dX12_write_152 ?_
            refine g_iload_n B 1 dX12_write_155 rfl ?_
            refine m_ld B P124 (by decide) rfl rfl (by show _ < 6; omega) (by decide) (show _ = (nI (a.p x)) from (hr124.2.1.2 x (show x < a.n by omega)).2.2.2) dX12_write_156 ?_
            refine g_iconst (v := nI 1) B dX12_write_157 (by decide) ?_
            refine g_icmp_leN (tgt := 174) B (by omega) (by omega) dX12_write_158 (by decide) (fun c125 => ?_) (fun c125 => ?_)
            · refine g_iinc (v := nI (x + 1)) (lv2 := [(1, _), (2, _), (0, _)]) B 1 dX12_write_174 rfl (nI_1 _) (by decide) rfl ?_
              refine g_goto (tgt := 7) B dX12_write_177 (by decide) ?_
              have hop : a.wOps x = ((((((((a.wOps (x - 1)) ++ [124]) ++ [102]) ++ [40]) ++ wNum (a.pa x)) ++ [44]) ++ wNum (a.pb x)) ++ [41]) := by
                have hs : a.wOps x = a.wOps (x - 1) ++ a.wOp x := by rw [show x = (x - 1) + 1 by omega]; rfl
                rw [hs]; unfold aA.wOp; rw [hkd, if_pos (show 1 < x by omega), if_neg (show ¬ 1 < a.p x by omega)]; simp [wLet]
              refine g_pick [0, 2] rfl ?_
              exact ih (a.n - (x + 1)) (by omega) (x + 1) _ _ _ _ rfl P124 (by omega) (by rw [show x + 1 - 1 = x by omega, hop]; exact hr124)
            · refine g_aload_n B 2 dX12_write_161 rfl ?_
              refine g_bipush (v := nI 48) B dX12_write_162 (by decide) ?_
              refine g_aload_n B 2 dX12_write_164 rfl ?_
              refine m_geta B P124 F_X12_22_12 (by decide) (Or.inl rfl) dX12_write_165 ?_
              refine g_iload_n B 1 dX12_write_168 rfl ?_
              refine m_ld B P124 (by decide) rfl rfl (by show _ < 6; omega) (by decide) (show _ = (nI (a.p x)) from (hr124.2.1.2 x (show x < a.n by omega)).2.2.2) dX12_write_169 ?_
              refine g_iaddN B dX12_write_170 ?_
              refine g_callV (rest := []) B M_X12_writes q2907 q2909 qs95 (P124.1.choose_spec.choose_spec) rfl (c_M_writes (l := ((((((((a.wOps (x - 1)) ++ [124]) ++ [102]) ++ [40]) ++ wNum (a.pa x)) ++ [44]) ++ wNum (a.pb x)) ++ [41])) (c := (48 + (a.p x))) P124.self hr124 (by have hw1 := wNum_len (a.pa x); have hw2 := wNum_len (a.pb x); simp only [List.length_append, List.length_cons, List.length_nil]; omega)) rfl rfl (Nat.le_of_ble_eq_true rfl) (Nat.le_of_ble_eq_true rfl) (Nat.le_of_ble_eq_true rfl) (Nat.le_refl _) (Nat.le_refl _) dX12_write_171 (xkN (fun T126 O126 R126 le126 p126 => ?_))
              obtain ⟨eT126, sc126, ar126, Q126, hr126⟩ := p126
              obtain rfl := eT126.symm
              have P126 := P124.rebase Q126
              refine g_iinc (v := nI (x + 1)) (lv2 := [(1, _), (2, _), (0, _)]) B 1 dX12_write_174 rfl (nI_1 _) (by decide) rfl ?_
              refine g_goto (tgt := 7) B dX12_write_177 (by decide) ?_
              have hop : a.wOps x = (((((((((a.wOps (x - 1)) ++ [124]) ++ [102]) ++ [40]) ++ wNum (a.pa x)) ++ [44]) ++ wNum (a.pb x)) ++ [41]) ++ [(48 + (a.p x))]) := by
                have hs : a.wOps x = a.wOps (x - 1) ++ a.wOp x := by rw [show x = (x - 1) + 1 by omega]; rfl
                rw [hs]; unfold aA.wOp; rw [hkd, if_pos (show 1 < x by omega), if_pos (show 1 < a.p x by omega)]; simp [wLet]
              refine g_pick [0, 2] rfl ?_
              exact ih (a.n - (x + 1)) (by omega) (x + 1) _ _ _ _ rfl P126 (by omega) (by rw [show x + 1 - 1 = x by omega, hop]; exact hr126)
        · refine g_top (show Value.int (nI (a.kd x)) = .int (nI 2) by rw [hkd]) ?_
          refine g_istore_n (lv2 := [(2, _), (1, _), (0, _)]) B dX12_write_21 (by decide) rfl ?_
          refine g_iload_n B 1 dX12_write_22 rfl ?_
          refine g_iconst (v := nI 1) B dX12_write_23 (by decide) ?_
          refine g_icmp_leN (tgt := 33) B (by omega) (by omega) dX12_write_24 (by decide) (fun c127 => ?_) (fun c127 => ?_)
          · refine g_aload_n B 2 dX12_write_33 rfl ?_
            refine g_iload_n B 0 dX12_write_34 rfl ?_
            refine g_if_neN (tgt := 43) B (by omega) dX12_write_35 (by decide) (fun _ => ?_) (fun e => absurd e (by decide))
            refine g_iload_n B 0 dX12_write_43 rfl ?_
            refine g_iconst (v := nI 1) B dX12_write_44 (by decide) ?_
            refine g_icmp_neN (tgt := 53) B (by omega) (by omega) dX12_write_45 (by decide) (fun _ => ?_) (fun e => absurd e (by decide))
            refine g_iload_n B 0 dX12_write_53 rfl ?_
            refine g_iconst (v := nI 2) B dX12_write_54 (by decide) ?_
            refine g_icmp_neN (tgt := 63) B (by omega) (by omega) dX12_write_55 (by decide) (fun e => absurd e (by decide)) (fun _ => ?_)
            refine g_bipush (v := nI 107) B dX12_write_58 (by decide) ?_
            refine g_goto (tgt := 95) B dX12_write_60 (by decide) ?_
            refine g_callV (rest := []) B M_X12_writes q2907 q2909 qs95 (P1.1.choose_spec.choose_spec) rfl (c_M_writes (l := (a.wOps (x - 1))) (c := 107) P1.self i1 (by omega)) rfl rfl (Nat.le_of_ble_eq_true rfl) (Nat.le_of_ble_eq_true rfl) (Nat.le_of_ble_eq_true rfl) (Nat.le_refl _) (Nat.le_refl _) dX12_write_95 (xkN (fun T131 O131 R131 le131 p131 => ?_))
            obtain ⟨eT131, sc131, ar131, Q131, hr131⟩ := p131
            obtain rfl := eT131.symm
            have P131 := P1.rebase Q131
            refine g_iload_n B 0 dX12_write_98 rfl ?_
            refine g_iconst (v := nI 5) B dX12_write_99 (by decide) ?_
            refine g_icmp_geN (tgt := 151) B (by omega) (by omega) dX12_write_100 (by decide) (fun e => absurd e (by decide)) (fun _ => ?_)
            refine g_aload_n B 2 dX12_write_103 rfl ?_
            refine g_bipush (v := nI 40) B dX12_write_104 (by decide) ?_
            refine g_callV (rest := []) B M_X12_writes q2907 q2909 qs95 (P131.1.choose_spec.choose_spec) rfl (c_M_writes (l := ((a.wOps (x - 1)) ++ [107])) (c := 40) P131.self hr131 (by have hw1 := wNum_len (a.pa x); have hw2 := wNum_len (a.pb x); simp only [List.length_append, List.length_cons, List.length_nil]; omega)) rfl rfl (Nat.le_of_ble_eq_true rfl) (Nat.le_of_ble_eq_true rfl) (Nat.le_of_ble_eq_true rfl) (Nat.le_refl _) (Nat.le_refl _) dX12_write_106 (xkN (fun T133 O133 R133 le133 p133 => ?_))
            obtain ⟨eT133, sc133, ar133, Q133, hr133⟩ := p133
            obtain rfl := eT133.symm
            have P133 := P131.rebase Q133
            refine g_aload_n B 2 dX12_write_109 rfl ?_
            refine g_aload_n B 2 dX12_write_110 rfl ?_
            refine m_geta B P133 F_X12_16_12 (by decide) (Or.inl rfl) dX12_write_111 ?_
            refine g_iload_n B 1 dX12_write_114 rfl ?_
            refine m_ld B P133 (by decide) rfl rfl (by show _ < 6; omega) (by decide) (show _ = (a.pa x) from (hr133.2.1.2 x (show x < a.n by omega)).2.1) dX12_write_115 ?_
            refine g_callV (rest := []) B M_X12_writesNumber q2911 q2913 qs96 (P133.1.choose_spec.choose_spec) rfl (c_M_writesNumber (l := (((a.wOps (x - 1)) ++ [107]) ++ [40])) (x := (a.pa x)) P133.self hr133 (by have hw1 := wNum_len (a.pa x); have hw2 := wNum_len (a.pb x); simp only [List.length_append, List.length_cons, List.length_nil]; omega) (W.kr x (by omega)).1) rfl rfl (Nat.le_of_ble_eq_true rfl) (Nat.le_of_ble_eq_true rfl) (Nat.le_of_ble_eq_true rfl) (Nat.le_refl _) (Nat.le_refl _) dX12_write_116 (xkN (fun T134 O134 R134 le134 p134 => ?_))
            obtain ⟨eT134, sc134, ar134, Q134, hr134⟩ := p134
            obtain rfl := eT134.symm
            have P134 := P133.rebase Q134
            refine g_iload_n B 0 dX12_write_119 rfl ?_
            refine g_iconst (v := nI 3) B dX12_write_120 (by decide) ?_
            refine g_icmp_geN (tgt := 130) B (by omega) (by omega) dX12_write_121 (by decide) (fun e => absurd e (by decide)) (fun _ => ?_)
            refine g_aload_n B 2 dX12_write_124 rfl ?_
            refine g_bipush (v := nI 44) B dX12_write_125 (by decide) ?_
            refine g_callV (rest := []) B M_X12_writes q2907 q2909 qs95 (P134.1.choose_spec.choose_spec) rfl (c_M_writes (l := ((((a.wOps (x - 1)) ++ [107]) ++ [40]) ++ wNum (a.pa x))) (c := 44) P134.self hr134 (by have hw1 := wNum_len (a.pa x); have hw2 := wNum_len (a.pb x); simp only [List.length_append, List.length_cons, List.length_nil]; omega)) rfl rfl (Nat.le_of_ble_eq_true rfl) (Nat.le_of_ble_eq_true rfl) (Nat.le_of_ble_eq_true rfl) (Nat.le_refl _) (Nat.le_refl _) dX12_write_127 (xkN (fun T136 O136 R136 le136 p136 => ?_))
            obtain ⟨eT136, sc136, ar136, Q136, hr136⟩ := p136
            obtain rfl := eT136.symm
            have P136 := P134.rebase Q136
            refine g_iload_n B 0 dX12_write_130 rfl ?_
            refine g_iconst (v := nI 3) B dX12_write_131 (by decide) ?_
            refine g_icmp_geN (tgt := 145) B (by omega) (by omega) dX12_write_132 (by decide) (fun e => absurd e (by decide)) (fun _ => ?_)
            refine g_aload_n B 2 dX12_write_135 rfl ?_
            refine g_aload_n B 2 dX12_write_136 rfl ?_
            refine m_geta B P136 F_X12_19_12 (by decide) (Or.inl rfl) dX12_write_137 ?_
            refine g_iload_n B 1 dX12_write_140 rfl ?_
            refine m_ld B P136 (by decide) rfl rfl (by show _ < 6; omega) (by decide) (show _ = (a.pb x) from (hr136.2.1.2 x (show x < a.n by omega)).2.2.1) dX12_write_141 ?_
            refine g_callV (rest := []) B M_X12_writesNumber q2911 q2913 qs96 (P136.1.choose_spec.choose_spec) rfl (c_M_writesNumber (l := (((((a.wOps (x - 1)) ++ [107]) ++ [40]) ++ wNum (a.pa x)) ++ [44])) (x := (a.pb x)) P136.self hr136 (by have hw1 := wNum_len (a.pa x); have hw2 := wNum_len (a.pb x); simp only [List.length_append, List.length_cons, List.length_nil]; omega) (W.kr x (by omega)).2) rfl rfl (Nat.le_of_ble_eq_true rfl) (Nat.le_of_ble_eq_true rfl) (Nat.le_of_ble_eq_true rfl) (Nat.le_refl _) (Nat.le_refl _) dX12_write_142 (xkN (fun T138 O138 R138 le138 p138 => ?_))
            obtain ⟨eT138, sc138, ar138, Q138, hr138⟩ := p138
            obtain rfl := eT138.symm
            have P138 := P136.rebase Q138
            refine g_aload_n B 2 dX12_write_145 rfl ?_
            refine g_bipush (v := nI 41) B dX12_write_146 (by decide) ?_
            refine g_callV (rest := []) B M_X12_writes q2907 q2909 qs95 (P138.1.choose_spec.choose_spec) rfl (c_M_writes (l := ((((((a.wOps (x - 1)) ++ [107]) ++ [40]) ++ wNum (a.pa x)) ++ [44]) ++ wNum (a.pb x))) (c := 41) P138.self hr138 (by have hw1 := wNum_len (a.pa x); have hw2 := wNum_len (a.pb x); simp only [List.length_append, List.length_cons, List.length_nil]; omega)) rfl rfl (Nat.le_of_ble_eq_true rfl) (Nat.le_of_ble_eq_true rfl) (Nat.le_of_ble_eq_true rfl) (Nat.le_refl _) (Nat.le_refl _) dX12_write_148 (xkN (fun T139 O139 R139 le139 p139 => ?_))
            obtain ⟨eT139, sc139, ar139, Q139, hr139⟩ := p139
            obtain rfl := eT139.symm
            have P139 := P138.rebase Q139
            refine g_aload_n B 2 dX12_write_151 rfl ?_
            refine m_geta B P139 F_X12_22_12 (by decide) (Or.inl rfl) dX12_write_152 ?_
            refine g_iload_n B 1 dX12_write_155 rfl ?_
            refine m_ld B P139 (by decide) rfl rfl (by show _ < 6; omega) (by decide) (show _ = (nI (a.p x)) from (hr139.2.1.2 x (show x < a.n by omega)).2.2.2) dX12_write_156 ?_
            refine g_iconst (v := nI 1) B dX12_write_157 (by decide) ?_
            refine g_icmp_leN (tgt := 174) B (by omega) (by omega) dX12_write_158 (by decide) (fun c140 => ?_) (fun c140 => ?_)
            · refine g_iinc (v := nI (x + 1)) (lv2 := [(1, _), (2, _), (0, _)]) B 1 dX12_write_174 rfl (nI_1 _) (by decide) rfl ?_
              refine g_goto (tgt := 7) B dX12_write_177 (by decide) ?_
              have hop : a.wOps x = (((((((a.wOps (x - 1)) ++ [107]) ++ [40]) ++ wNum (a.pa x)) ++ [44]) ++ wNum (a.pb x)) ++ [41]) := by
                have hs : a.wOps x = a.wOps (x - 1) ++ a.wOp x := by rw [show x = (x - 1) + 1 by omega]; rfl
                rw [hs]; unfold aA.wOp; rw [hkd, if_neg (show ¬ 1 < x by omega), if_neg (show ¬ 1 < a.p x by omega)]; simp [wLet]
              refine g_pick [0, 2] rfl ?_
              exact ih (a.n - (x + 1)) (by omega) (x + 1) _ _ _ _ rfl P139 (by omega) (by rw [show x + 1 - 1 = x by omega, hop]; exact hr139)
            · refine g_aload_n B 2 dX12_write_161 rfl ?_
              refine g_bipush (v := nI 48) B dX12_write_162 (by decide) ?_
              refine g_aload_n B 2 dX12_write_164 rfl ?_
              refine m_geta B P139 F_X12_22_12 (by decide) (Or.inl rfl) dX12_write_165 ?_
              refine g_iload_n B 1 dX12_write_168 rfl ?_
              refine m_ld B P139 (by decide) rfl rfl (by show _ < 6; omega) (by decide) (show _ = (nI (a.p x)) from (hr139.2.1.2 x (show x < a.n by omega)).2.2.2) dX12_write_169 ?_
              refine g_iaddN B dX12_write_170 ?_
              refine g_callV (rest := []) B M_X12_writes q2907 q2909 qs95 (P139.1.choose_spec.choose_spec) rfl (c_M_writes (l := (((((((a.wOps (x - 1)) ++ [107]) ++ [40]) ++ wNum (a.pa x)) ++ [44]) ++ wNum (a.pb x)) ++ [41])) (c := (48 + (a.p x))) P139.self hr139 (by have hw1 := wNum_len (a.pa x); have hw2 := wNum_len (a.pb x); simp only [List.length_append, List.length_cons, List.length_nil]; omega)) rfl rfl (Nat.le_of_ble_eq_true rfl) (Nat.le_of_ble_eq_true rfl) (Nat.le_of_ble_eq_true rfl) (Nat.le_refl _) (Nat.le_refl _) dX12_write_171 (xkN (fun T141 O141 R141 le141 p141 => ?_))
              obtain ⟨eT141, sc141, ar141, Q141, hr141⟩ := p141
              obtain rfl := eT141.symm
              have P141 := P139.rebase Q141
              refine g_iinc (v := nI (x + 1)) (lv2 := [(1, _), (2, _), (0, _)]) B 1 dX12_write_174 rfl (nI_1 _) (by decide) rfl ?_
              refine g_goto (tgt := 7) B dX12_write_177 (by decide) ?_
              have hop : a.wOps x = ((((((((a.wOps (x - 1)) ++ [107]) ++ [40]) ++ wNum (a.pa x)) ++ [44]) ++ wNum (a.pb x)) ++ [41]) ++ [(48 + (a.p x))]) := by
                have hs : a.wOps x = a.wOps (x - 1) ++ a.wOp x := by rw [show x = (x - 1) + 1 by omega]; rfl
                rw [hs]; unfold aA.wOp; rw [hkd, if_neg (show ¬ 1 < x by omega), if_pos (show 1 < a.p x by omega)]; simp [wLet]
              refine g_pick [0, 2] rfl ?_
              exact ih (a.n - (x + 1)) (by omega) (x + 1) _ _ _ _ rfl P141 (by omega) (by rw [show x + 1 - 1 = x by omega, hop]; exact hr141)
          · refine g_aload_n B 2 dX12_write_27 rfl ?_
            refine g_bipush (v := nI 124) B dX12_write_28 (by decide) ?_
            refine g_callV (rest := []) B M_X12_writes q2907 q2909 qs95 (P1.1.choose_spec.choose_spec) rfl (c_M_writes (l := (a.wOps (x - 1))) (c := 124) P1.self i1 (by omega)) rfl rfl (Nat.le_of_ble_eq_true rfl) (Nat.le_of_ble_eq_true rfl) (Nat.le_of_ble_eq_true rfl) (Nat.le_refl _) (Nat.le_refl _) dX12_write_30 (xkN (fun T142 O142 R142 le142 p142 => ?_))
            obtain ⟨eT142, sc142, ar142, Q142, hr142⟩ := p142
            obtain rfl := eT142.symm
            have P142 := P1.rebase Q142
            refine g_aload_n B 2 dX12_write_33 rfl ?_
            refine g_iload_n B 0 dX12_write_34 rfl ?_
            refine g_if_neN (tgt := 43) B (by omega) dX12_write_35 (by decide) (fun _ => ?_) (fun e => absurd e (by decide))
            refine g_iload_n B 0 dX12_write_43 rfl ?_
            refine g_iconst (v := nI 1) B dX12_write_44 (by decide) ?_
            refine g_icmp_neN (tgt := 53) B (by omega) (by omega) dX12_write_45 (by decide) (fun _ => ?_) (fun e => absurd e (by decide))
            refine g_iload_n B 0 dX12_write_53 rfl ?_
            refine g_iconst (v := nI 2) B dX12_write_54 (by decide) ?_
            refine g_icmp_neN (tgt := 63) B (by omega) (by omega) dX12_write_55 (by decide) (fun e => absurd e (by decide)) (fun _ => ?_)
            refine g_bipush (v := nI 107) B dX12_write_58 (by decide) ?_
            refine g_goto (tgt := 95) B dX12_write_60 (by decide) ?_
            refine g_callV (rest := []) B M_X12_writes q2907 q2909 qs95 (P142.1.choose_spec.choose_spec) rfl (c_M_writes (l := ((a.wOps (x - 1)) ++ [124])) (c := 107) P142.self hr142 (by have hw1 := wNum_len (a.pa x); have hw2 := wNum_len (a.pb x); simp only [List.length_append, List.length_cons, List.length_nil]; omega)) rfl rfl (Nat.le_of_ble_eq_true rfl) (Nat.le_of_ble_eq_true rfl) (Nat.le_of_ble_eq_true rfl) (Nat.le_refl _) (Nat.le_refl _) dX12_write_95 (xkN (fun T146 O146 R146 le146 p146 => ?_))
            obtain ⟨eT146, sc146, ar146, Q146, hr146⟩ := p146
            obtain rfl := eT146.symm
            have P146 := P142.rebase Q146
            refine g_iload_n B 0 dX12_write_98 rfl ?_
            refine g_iconst (v := nI 5) B dX12_write_99 (by decide) ?_
            refine g_icmp_geN (tgt := 151) B (by omega) (by omega) dX12_write_100 (by decide) (fun e => absurd e (by decide)) (fun _ => ?_)
            refine g_aload_n B 2 dX12_write_103 rfl ?_
            refine g_bipush (v := nI 40) B dX12_write_104 (by decide) ?_
            refine g_callV (rest := []) B M_X12_writes q2907 q2909 qs95 (P146.1.choose_spec.choose_spec) rfl (c_M_writes (l := (((a.wOps (x - 1)) ++ [124]) ++ [107])) (c := 40) P146.self hr146 (by have hw1 := wNum_len (a.pa x); have hw2 := wNum_len (a.pb x); simp only [List.length_append, List.length_cons, List.length_nil]; omega)) rfl rfl (Nat.le_of_ble_eq_true rfl) (Nat.le_of_ble_eq_true rfl) (Nat.le_of_ble_eq_true rfl) (Nat.le_refl _) (Nat.le_refl _) dX12_write_106 (xkN (fun T148 O148 R148 le148 p148 => ?_))
            obtain ⟨eT148, sc148, ar148, Q148, hr148⟩ := p148
            obtain rfl := eT148.symm
            have P148 := P146.rebase Q148
            refine g_aload_n B 2 dX12_write_109 rfl ?_
            refine g_aload_n B 2 dX12_write_110 rfl ?_
            refine m_geta B P148 F_X12_16_12 (by decide) (Or.inl rfl) dX12_write_111 ?_
            refine g_iload_n B 1 dX12_write_114 rfl ?_
            refine m_ld B P148 (by decide) rfl rfl (by show _ < 6; omega) (by decide) (show _ = (a.pa x) from (hr148.2.1.2 x (show x < a.n by omega)).2.1) dX12_write_115 ?_
            refine g_callV (rest := []) B M_X12_writesNumber q2911 q2913 qs96 (P148.1.choose_spec.choose_spec) rfl (c_M_writesNumber (l := ((((a.wOps (x - 1)) ++ [124]) ++ [107]) ++ [40])) (x := (a.pa x)) P148.self hr148 (by have hw1 := wNum_len (a.pa x); have hw2 := wNum_len (a.pb x); simp only [List.length_append, List.length_cons, List.length_nil]; omega) (W.kr x (by omega)).1) rfl rfl (Nat.le_of_ble_eq_true rfl) (Nat.le_of_ble_eq_true rfl) (Nat.le_of_ble_eq_true rfl) (Nat.le_refl _) (Nat.le_refl _) dX12_write_116 (xkN (fun T149 O149 R149 le149 p149 => ?_))
            obtain ⟨eT149, sc149, ar149, Q149, hr149⟩ := p149
            obtain rfl := eT149.symm
            have P149 := P148.rebase Q149
            refine g_iload_n B 0 dX12_write_119 rfl ?_
            refine g_iconst (v := nI 3) B dX12_write_120 (by decide) ?_
            refine g_icmp_geN (tgt := 130) B (by omega) (by omega) dX12_write_121 (by decide) (fun e => absurd e (by decide)) (fun _ => ?_)
            refine g_aload_n B 2 dX12_write_124 rfl ?_
            refine g_bipush (v := nI 44) B dX12_write_125 (by decide) ?_
            refine g_callV (rest := []) B M_X12_writes q2907 q2909 qs95 (P149.1.choose_spec.choose_spec) rfl (c_M_writes (l := (((((a.wOps (x - 1)) ++ [124]) ++ [107]) ++ [40]) ++ wNum (a.pa x))) (c := 44) P149.self hr149 (by have hw1 := wNum_len (a.pa x); have hw2 := wNum_len (a.pb x); simp only [List.length_append, List.length_cons, List.length_nil]; omega)) rfl rfl (Nat.le_of_ble_eq_true rfl) (Nat.le_of_ble_eq_true rfl) (Nat.le_of_ble_eq_true rfl) (Nat.le_refl _) (Nat.le_refl _) dX12_write_127 (xkN (fun T151 O151 R151 le151 p151 => ?_))
            obtain ⟨eT151, sc151, ar151, Q151, hr151⟩ := p151
            obtain rfl := eT151.symm
            have P151 := P149.rebase Q151
            refine g_iload_n B 0 dX12_write_130 rfl ?_
            refine g_iconst (v := nI 3) B dX12_write_131 (by decide) ?_
            refine g_icmp_geN (tgt := 145) B (by omega) (by omega) dX12_write_132 (by decide) (fun e => absurd e (by decide)) (fun _ => ?_)
            refine g_aload_n B 2 dX12_write_135 rfl ?_
            refine g_aload_n B 2 dX12_write_136 rfl ?_
            refine m_geta B P151 F_X12_19_12 (by decide) (Or.inl rfl) dX12_write_137 ?_
            refine g_iload_n B 1 dX12_write_140 rfl ?_
            refine m_ld B P151 (by decide) rfl rfl (by show _ < 6; omega) (by decide) (show _ = (a.pb x) from (hr151.2.1.2 x (show x < a.n by omega)).2.2.1) dX12_write_141 ?_
            refine g_callV (rest := []) B M_X12_writesNumber q2911 q2913 qs96 (P151.1.choose_spec.choose_spec) rfl (c_M_writesNumber (l := ((((((a.wOps (x - 1)) ++ [124]) ++ [107]) ++ [40]) ++ wNum (a.pa x)) ++ [44])) (x := (a.pb x)) P151.self hr151 (by have hw1 := wNum_len (a.pa x); have hw2 := wNum_len (a.pb x); simp only [List.length_append, List.length_cons, List.length_nil]; omega) (W.kr x (by omega)).2) rfl rfl (Nat.le_of_ble_eq_true rfl) (Nat.le_of_ble_eq_true rfl) (Nat.le_of_ble_eq_true rfl) (Nat.le_refl _) (Nat.le_refl _) dX12_write_142 (xkN (fun T153 O153 R153 le153 p153 => ?_))
            obtain ⟨eT153, sc153, ar153, Q153, hr153⟩ := p153
            obtain rfl := eT153.symm
            have P153 := P151.rebase Q153
            refine g_aload_n B 2 dX12_write_145 rfl ?_
            refine g_bipush (v := nI 41) B dX12_write_146 (by decide) ?_
            refine g_callV (rest := []) B M_X12_writes q2907 q2909 qs95 (P153.1.choose_spec.choose_spec) rfl (c_M_writes (l := (((((((a.wOps (x - 1)) ++ [124]) ++ [107]) ++ [40]) ++ wNum (a.pa x)) ++ [44]) ++ wNum (a.pb x))) (c := 41) P153.self hr153 (by have hw1 := wNum_len (a.pa x); have hw2 := wNum_len (a.pb x); simp only [List.length_append, List.length_cons, List.length_nil]; omega)) rfl rfl (Nat.le_of_ble_eq_true rfl) (Nat.le_of_ble_eq_true rfl) (Nat.le_of_ble_eq_true rfl) (Nat.le_refl _) (Nat.le_refl _) dX12_write_148 (xkN (fun T154 O154 R154 le154 p154 => ?_))
            obtain ⟨eT154, sc154, ar154, Q154, hr154⟩ := p154
            obtain rfl := eT154.symm
            have P154 := P153.rebase Q154
            refine g_aload_n B 2 dX12_write_151 rfl ?_
            refine m_geta B P154 F_X12_22_12 (by decide) (Or.inl rfl) dX12_write_152 ?_
            refine g_iload_n B 1 dX12_write_155 rfl ?_
            refine m_ld B P154 (by decide) rfl rfl (by show _ < 6; omega) (by decide) (show _ = (nI (a.p x)) from (hr154.2.1.2 x (show x < a.n by omega)).2.2.2) dX12_write_156 ?_
            refine g_iconst (v := nI 1) B dX12_write_157 (by decide) ?_
            refine g_icmp_leN (tgt := 174) B (by omega) (by omega) dX12_write_158 (by decide) (fun c155 => ?_) (fun c155 => ?_)
            · refine g_iinc (v := nI (x + 1)) (lv2 := [(1, _), (2, _), (0, _)]) B 1 dX12_write_174 rfl (nI_1 _) (by decide) rfl ?_
              refine g_goto (tgt := 7) B dX12_write_177 (by decide) ?_
              have hop : a.wOps x = ((((((((a.wOps (x - 1)) ++ [124]) ++ [107]) ++ [40]) ++ wNum (a.pa x)) ++ [44]) ++ wNum (a.pb x)) ++ [41]) := by
                have hs : a.wOps x = a.wOps (x - 1) ++ a.wOp x := by rw [show x = (x - 1) + 1 by omega]; rfl
                rw [hs]; unfold aA.wOp; rw [hkd, if_pos (show 1 < x by omega), if_neg (show ¬ 1 < a.p x by omega)]; simp [wLet]
              refine g_pick [0, 2] rfl ?_
              exact ih (a.n - (x + 1)) (by omega) (x + 1) _ _ _ _ rfl P154 (by omega) (by rw [show x + 1 - 1 = x by omega, hop]; exact hr154)
            · refine g_aload_n B 2 dX12_write_161 rfl ?_
              refine g_bipush (v := nI 48) B dX12_write_162 (by decide) ?_
              refine g_aload_n B 2 dX12_write_164 rfl ?_
              refine m_geta B P154 F_X12_22_12 (by decide) (Or.inl rfl) dX12_write_165 ?_
              refine g_iload_n B 1 dX12_write_168 rfl ?_
              refine m_ld B P154 (by decide) rfl rfl (by show _ < 6; omega) (by decide) (show _ = (nI (a.p x)) from (hr154.2.1.2 x (show x < a.n by omega)).2.2.2) dX12_write_169 ?_
              refine g_iaddN B dX12_write_170 ?_
              refine g_callV (rest := []) B M_X12_writes q2907 q2909 qs95 (P154.1.choose_spec.choose_spec) rfl (c_M_writes (l := ((((((((a.wOps (x - 1)) ++ [124]) ++ [107]) ++ [40]) ++ wNum (a.pa x)) ++ [44]) ++ wNum (a.pb x)) ++ [41])) (c := (48 + (a.p x))) P154.self hr154 (by have hw1 := wNum_len (a.pa x); have hw2 := wNum_len (a.pb x); simp only [List.length_append, List.length_cons, List.length_nil]; omega)) rfl rfl (Nat.le_of_ble_eq_true rfl) (Nat.le_of_ble_eq_true rfl) (Nat.le_of_ble_eq_true rfl) (Nat.le_refl _) (Nat.le_refl _) dX12_write_171 (xkN (fun T156 O156 R156 le156 p156 => ?_))
              obtain ⟨eT156, sc156, ar156, Q156, hr156⟩ := p156
              obtain rfl := eT156.symm
              have P156 := P154.rebase Q156
              refine g_iinc (v := nI (x + 1)) (lv2 := [(1, _), (2, _), (0, _)]) B 1 dX12_write_174 rfl (nI_1 _) (by decide) rfl ?_
              refine g_goto (tgt := 7) B dX12_write_177 (by decide) ?_
              have hop : a.wOps x = (((((((((a.wOps (x - 1)) ++ [124]) ++ [107]) ++ [40]) ++ wNum (a.pa x)) ++ [44]) ++ wNum (a.pb x)) ++ [41]) ++ [(48 + (a.p x))]) := by
                have hs : a.wOps x = a.wOps (x - 1) ++ a.wOp x := by rw [show x = (x - 1) + 1 by omega]; rfl
                rw [hs]; unfold aA.wOp; rw [hkd, if_pos (show 1 < x by omega), if_pos (show 1 < a.p x by omega)]; simp [wLet]
              refine g_pick [0, 2] rfl ?_
              exact ih (a.n - (x + 1)) (by omega) (x + 1) _ _ _ _ rfl P156 (by omega) (by rw [show x + 1 - 1 = x by omega, hop]; exact hr156)
        · refine g_top (show Value.int (nI (a.kd x)) = .int (nI 3) by rw [hkd]) ?_
          refine g_istore_n (lv2 := [(2, _), (1, _), (0, _)]) B dX12_write_21 (by decide) rfl ?_
          refine g_iload_n B 1 dX12_write_22 rfl ?_
          refine g_iconst (v := nI 1) B dX12_write_23 (by decide) ?_
          refine g_icmp_leN (tgt := 33) B (by omega) (by omega) dX12_write_24 (by decide) (fun c157 => ?_) (fun c157 => ?_)
          · refine g_aload_n B 2 dX12_write_33 rfl ?_
            refine g_iload_n B 0 dX12_write_34 rfl ?_
            refine g_if_neN (tgt := 43) B (by omega) dX12_write_35 (by decide) (fun _ => ?_) (fun e => absurd e (by decide))
            refine g_iload_n B 0 dX12_write_43 rfl ?_
            refine g_iconst (v := nI 1) B dX12_write_44 (by decide) ?_
            refine g_icmp_neN (tgt := 53) B (by omega) (by omega) dX12_write_45 (by decide) (fun _ => ?_) (fun e => absurd e (by decide))
            refine g_iload_n B 0 dX12_write_53 rfl ?_
            refine g_iconst (v := nI 2) B dX12_write_54 (by decide) ?_
            refine g_icmp_neN (tgt := 63) B (by omega) (by omega) dX12_write_55 (by decide) (fun _ => ?_) (fun e => absurd e (by decide))
            refine g_iload_n B 0 dX12_write_63 rfl ?_
            refine g_iconst (v := nI 3) B dX12_write_64 (by decide) ?_
            refine g_icmp_neN (tgt := 73) B (by omega) (by omega) dX12_write_65 (by decide) (fun e => absurd e (by decide)) (fun _ => ?_)
            refine g_bipush (v := nI 99) B dX12_write_68 (by decide) ?_
            refine g_goto (tgt := 95) B dX12_write_70 (by decide) ?_
            refine g_callV (rest := []) B M_X12_writes q2907 q2909 qs95 (P1.1.choose_spec.choose_spec) rfl (c_M_writes (l := (a.wOps (x - 1))) (c := 99) P1.self i1 (by omega)) rfl rfl (Nat.le_of_ble_eq_true rfl) (Nat.le_of_ble_eq_true rfl) (Nat.le_of_ble_eq_true rfl) (Nat.le_refl _) (Nat.le_refl _) dX12_write_95 (xkN (fun T162 O162 R162 le162 p162 => ?_))
            obtain ⟨eT162, sc162, ar162, Q162, hr162⟩ := p162
            obtain rfl := eT162.symm
            have P162 := P1.rebase Q162
            refine g_iload_n B 0 dX12_write_98 rfl ?_
            refine g_iconst (v := nI 5) B dX12_write_99 (by decide) ?_
            refine g_icmp_geN (tgt := 151) B (by omega) (by omega) dX12_write_100 (by decide) (fun e => absurd e (by decide)) (fun _ => ?_)
            refine g_aload_n B 2 dX12_write_103 rfl ?_
            refine g_bipush (v := nI 40) B dX12_write_104 (by decide) ?_
            refine g_callV (rest := []) B M_X12_writes q2907 q2909 qs95 (P162.1.choose_spec.choose_spec) rfl (c_M_writes (l := ((a.wOps (x - 1)) ++ [99])) (c := 40) P162.self hr162 (by have hw1 := wNum_len (a.pa x); have hw2 := wNum_len (a.pb x); simp only [List.length_append, List.length_cons, List.length_nil]; omega)) rfl rfl (Nat.le_of_ble_eq_true rfl) (Nat.le_of_ble_eq_true rfl) (Nat.le_of_ble_eq_true rfl) (Nat.le_refl _) (Nat.le_refl _) dX12_write_106 (xkN (fun T164 O164 R164 le164 p164 => ?_))
            obtain ⟨eT164, sc164, ar164, Q164, hr164⟩ := p164
            obtain rfl := eT164.symm
            have P164 := P162.rebase Q164
            refine g_aload_n B 2 dX12_write_109 rfl ?_
            refine g_aload_n B 2 dX12_write_110 rfl ?_
            refine m_geta B P164 F_X12_16_12 (by decide) (Or.inl rfl) dX12_write_111 ?_
            refine g_iload_n B 1 dX12_write_114 rfl ?_
            refine m_ld B P164 (by decide) rfl rfl (by show _ < 6; omega) (by decide) (show _ = (a.pa x) from (hr164.2.1.2 x (show x < a.n by omega)).2.1) dX12_write_115 ?_
            refine g_callV (rest := []) B M_X12_writesNumber q2911 q2913 qs96 (P164.1.choose_spec.choose_spec) rfl (c_M_writesNumber (l := (((a.wOps (x - 1)) ++ [99]) ++ [40])) (x := (a.pa x)) P164.self hr164 (by have hw1 := wNum_len (a.pa x); have hw2 := wNum_len (a.pb x); simp only [List.length_append, List.length_cons, List.length_nil]; omega) (W.kr x (by omega)).1) rfl rfl (Nat.le_of_ble_eq_true rfl) (Nat.le_of_ble_eq_true rfl) (Nat.le_of_ble_eq_true rfl) (Nat.le_refl _) (Nat.le_refl _) dX12_write_116 (xkN (fun T165 O165 R165 le165 p165 => ?_))
            obtain ⟨eT165, sc165, ar165, Q165, hr165⟩ := p165
            obtain rfl := eT165.symm
            have P165 := P164.rebase Q165
            refine g_iload_n B 0 dX12_write_119 rfl ?_
            refine g_iconst (v := nI 3) B dX12_write_120 (by decide) ?_
            refine g_icmp_geN (tgt := 130) B (by omega) (by omega) dX12_write_121 (by decide) (fun _ => ?_) (fun e => absurd e (by decide))
            refine g_iload_n B 0 dX12_write_130 rfl ?_
            refine g_iconst (v := nI 3) B dX12_write_131 (by decide) ?_
            refine g_icmp_geN (tgt := 145) B (by omega) (by omega) dX12_write_132 (by decide) (fun _ => ?_) (fun e => absurd e (by decide))
            refine g_aload_n B 2 dX12_write_145 rfl ?_
            refine g_bipush (v := nI 41) B dX12_write_146 (by decide) ?_
            refine g_callV (rest := []) B M_X12_writes q2907 q2909 qs95 (P165.1.choose_spec.choose_spec) rfl (c_M_writes (l := ((((a.wOps (x - 1)) ++ [99]) ++ [40]) ++ wNum (a.pa x))) (c := 41) P165.self hr165 (by have hw1 := wNum_len (a.pa x); have hw2 := wNum_len (a.pb x); simp only [List.length_append, List.length_cons, List.length_nil]; omega)) rfl rfl (Nat.le_of_ble_eq_true rfl) (Nat.le_of_ble_eq_true rfl) (Nat.le_of_ble_eq_true rfl) (Nat.le_refl _) (Nat.le_refl _) dX12_write_148 (xkN (fun T168 O168 R168 le168 p168 => ?_))
            obtain ⟨eT168, sc168, ar168, Q168, hr168⟩ := p168
            obtain rfl := eT168.symm
            have P168 := P165.rebase Q168
            refine g_aload_n B 2 dX12_write_151 rfl ?_
            refine m_geta B P168 F_X12_22_12 (by decide) (Or.inl rfl) dX12_write_152 ?_
            refine g_iload_n B 1 dX12_write_155 rfl ?_
            refine m_ld B P168 (by decide) rfl rfl (by show _ < 6; omega) (by decide) (show _ = (nI (a.p x)) from (hr168.2.1.2 x (show x < a.n by omega)).2.2.2) dX12_write_156 ?_
            refine g_iconst (v := nI 1) B dX12_write_157 (by decide) ?_
            refine g_icmp_leN (tgt := 174) B (by omega) (by omega) dX12_write_158 (by decide) (fun c169 => ?_) (fun c169 => ?_)
            · refine g_iinc (v := nI (x + 1)) (lv2 := [(1, _), (2, _), (0, _)]) B 1 dX12_write_174 rfl (nI_1 _) (by decide) rfl ?_
              refine g_goto (tgt := 7) B dX12_write_177 (by decide) ?_
              have hop : a.wOps x = (((((a.wOps (x - 1)) ++ [99]) ++ [40]) ++ wNum (a.pa x)) ++ [41]) := by
                have hs : a.wOps x = a.wOps (x - 1) ++ a.wOp x := by rw [show x = (x - 1) + 1 by omega]; rfl
                rw [hs]; unfold aA.wOp; rw [hkd, if_neg (show ¬ 1 < x by omega), if_neg (show ¬ 1 < a.p x by omega)]; simp [wLet]
              refine g_pick [0, 2] rfl ?_
              exact ih (a.n - (x + 1)) (by omega) (x + 1) _ _ _ _ rfl P168 (by omega) (by rw [show x + 1 - 1 = x by omega, hop]; exact hr168)
            · refine g_aload_n B 2 dX12_write_161 rfl ?_
              refine g_bipush (v := nI 48) B dX12_write_162 (by decide) ?_
              refine g_aload_n B 2 dX12_write_164 rfl ?_
              refine m_geta B P168 F_X12_22_12 (by decide) (Or.inl rfl) dX12_write_165 ?_
              refine g_iload_n B 1 dX12_write_168 rfl ?_
              refine m_ld B P168 (by decide) rfl rfl (by show _ < 6; omega) (by decide) (show _ = (nI (a.p x)) from (hr168.2.1.2 x (show x < a.n by omega)).2.2.2) dX12_write_169 ?_
              refine g_iaddN B dX12_write_170 ?_
              refine g_callV (rest := []) B M_X12_writes q2907 q2909 qs95 (P168.1.choose_spec.choose_spec) rfl (c_M_writes (l := (((((a.wOps (x - 1)) ++ [99]) ++ [40]) ++ wNum (a.pa x)) ++ [41])) (c := (48 + (a.p x))) P168.self hr168 (by have hw1 := wNum_len (a.pa x); have hw2 := wNum_len (a.pb x); simp only [List.length_append, List.length_cons, List.length_nil]; omega)) rfl rfl (Nat.le_of_ble_eq_true rfl) (Nat.le_of_ble_eq_true rfl) (Nat.le_of_ble_eq_true rfl) (Nat.le_refl _) (Nat.le_refl _) dX12_write_171 (xkN (fun T170 O170 R170 le170 p170 => ?_))
              obtain ⟨eT170, sc170, ar170, Q170, hr170⟩ := p170
              obtain rfl := eT170.symm
              have P170 := P168.rebase Q170
              refine g_iinc (v := nI (x + 1)) (lv2 := [(1, _), (2, _), (0, _)]) B 1 dX12_write_174 rfl (nI_1 _) (by decide) rfl ?_
              refine g_goto (tgt := 7) B dX12_write_177 (by decide) ?_
              have hop : a.wOps x = ((((((a.wOps (x - 1)) ++ [99]) ++ [40]) ++ wNum (a.pa x)) ++ [41]) ++ [(48 + (a.p x))]) := by
                have hs : a.wOps x = a.wOps (x - 1) ++ a.wOp x := by rw [show x = (x - 1) + 1 by omega]; rfl
                rw [hs]; unfold aA.wOp; rw [hkd, if_neg (show ¬ 1 < x by omega), if_pos (show 1 < a.p x by omega)]; simp [wLet]
              refine g_pick [0, 2] rfl ?_
              exact ih (a.n - (x + 1)) (by omega) (x + 1) _ _ _ _ rfl P170 (by omega) (by rw [show x + 1 - 1 = x by omega, hop]; exact hr170)
          · refine g_aload_n B 2 dX12_write_27 rfl ?_
            refine g_bipush (v := nI 124) B dX12_write_28 (by decide) ?_
            refine g_callV (rest := []) B M_X12_writes q2907 q2909 qs95 (P1.1.choose_spec.choose_spec) rfl (c_M_writes (l := (a.wOps (x - 1))) (c := 124) P1.self i1 (by omega)) rfl rfl (Nat.le_of_ble_eq_true rfl) (Nat.le_of_ble_eq_true rfl) (Nat.le_of_ble_eq_true rfl) (Nat.le_refl _) (Nat.le_refl _) dX12_write_30 (xkN (fun T171 O171 R171 le171 p171 => ?_))
            obtain ⟨eT171, sc171, ar171, Q171, hr171⟩ := p171
            obtain rfl := eT171.symm
            have P171 := P1.rebase Q171
            refine g_aload_n B 2 dX12_write_33 rfl ?_
            refine g_iload_n B 0 dX12_write_34 rfl ?_
            refine g_if_neN (tgt := 43) B (by omega) dX12_write_35 (by decide) (fun _ => ?_) (fun e => absurd e (by decide))
            refine g_iload_n B 0 dX12_write_43 rfl ?_
            refine g_iconst (v := nI 1) B dX12_write_44 (by decide) ?_
            refine g_icmp_neN (tgt := 53) B (by omega) (by omega) dX12_write_45 (by decide) (fun _ => ?_) (fun e => absurd e (by decide))
            refine g_iload_n B 0 dX12_write_53 rfl ?_
            refine g_iconst (v := nI 2) B dX12_write_54 (by decide) ?_
            refine g_icmp_neN (tgt := 63) B (by omega) (by omega) dX12_write_55 (by decide) (fun _ => ?_) (fun e => absurd e (by decide))
            refine g_iload_n B 0 dX12_write_63 rfl ?_
            refine g_iconst (v := nI 3) B dX12_write_64 (by decide) ?_
            refine g_icmp_neN (tgt := 73) B (by omega) (by omega) dX12_write_65 (by decide) (fun e => absurd e (by decide)) (fun _ => ?_)
            refine g_bipush (v := nI 99) B dX12_write_68 (by decide) ?_
            refine g_goto (tgt := 95) B dX12_write_70 (by decide) ?_
            refine g_callV (rest := []) B M_X12_writes q2907 q2909 qs95 (P171.1.choose_spec.choose_spec) rfl (c_M_writes (l := ((a.wOps (x - 1)) ++ [124])) (c := 99) P171.self hr171 (by have hw1 := wNum_len (a.pa x); have hw2 := wNum_len (a.pb x); simp only [List.length_append, List.length_cons, List.length_nil]; omega)) rfl rfl (Nat.le_of_ble_eq_true rfl) (Nat.le_of_ble_eq_true rfl) (Nat.le_of_ble_eq_true rfl) (Nat.le_refl _) (Nat.le_refl _) dX12_write_95 (xkN (fun T176 O176 R176 le176 p176 => ?_))
            obtain ⟨eT176, sc176, ar176, Q176, hr176⟩ := p176
            obtain rfl := eT176.symm
            have P176 := P171.rebase Q176
            refine g_iload_n B 0 dX12_write_98 rfl ?_
            refine g_iconst (v := nI 5) B dX12_write_99 (by decide) ?_
            refine g_icmp_geN (tgt := 151) B (by omega) (by omega) dX12_write_100 (by decide) (fun e => absurd e (by decide)) (fun _ => ?_)
            refine g_aload_n B 2 dX12_write_103 rfl ?_
            refine g_bipush (v := nI 40) B dX12_write_104 (by decide) ?_
            refine g_callV (rest := []) B M_X12_writes q2907 q2909 qs95 (P176.1.choose_spec.choose_spec) rfl (c_M_writes (l := (((a.wOps (x - 1)) ++ [124]) ++ [99])) (c := 40) P176.self hr176 (by have hw1 := wNum_len (a.pa x); have hw2 := wNum_len (a.pb x); simp only [List.length_append, List.length_cons, List.length_nil]; omega)) rfl rfl (Nat.le_of_ble_eq_true rfl) (Nat.le_of_ble_eq_true rfl) (Nat.le_of_ble_eq_true rfl) (Nat.le_refl _) (Nat.le_refl _) dX12_write_106 (xkN (fun T178 O178 R178 le178 p178 => ?_))
            obtain ⟨eT178, sc178, ar178, Q178, hr178⟩ := p178
            obtain rfl := eT178.symm
            have P178 := P176.rebase Q178
            refine g_aload_n B 2 dX12_write_109 rfl ?_
            refine g_aload_n B 2 dX12_write_110 rfl ?_
            refine m_geta B P178 F_X12_16_12 (by decide) (Or.inl rfl) dX12_write_111 ?_
            refine g_iload_n B 1 dX12_write_114 rfl ?_
            refine m_ld B P178 (by decide) rfl rfl (by show _ < 6; omega) (by decide) (show _ = (a.pa x) from (hr178.2.1.2 x (show x < a.n by omega)).2.1) dX12_write_115 ?_
            refine g_callV (rest := []) B M_X12_writesNumber q2911 q2913 qs96 (P178.1.choose_spec.choose_spec) rfl (c_M_writesNumber (l := ((((a.wOps (x - 1)) ++ [124]) ++ [99]) ++ [40])) (x := (a.pa x)) P178.self hr178 (by have hw1 := wNum_len (a.pa x); have hw2 := wNum_len (a.pb x); simp only [List.length_append, List.length_cons, List.length_nil]; omega) (W.kr x (by omega)).1) rfl rfl (Nat.le_of_ble_eq_true rfl) (Nat.le_of_ble_eq_true rfl) (Nat.le_of_ble_eq_true rfl) (Nat.le_refl _) (Nat.le_refl _) dX12_write_116 (xkN (fun T179 O179 R179 le179 p179 => ?_))
            obtain ⟨eT179, sc179, ar179, Q179, hr179⟩ := p179
            obtain rfl := eT179.symm
            have P179 := P178.rebase Q179
            refine g_iload_n B 0 dX12_write_119 rfl ?_
            refine g_iconst (v := nI 3) B dX12_write_120 (by decide) ?_
            refine g_icmp_geN (tgt := 130) B (by omega) (by omega) dX12_write_121 (by decide) (fun _ => ?_) (fun e => absurd e (by decide))
            refine g_iload_n B 0 dX12_write_130 rfl ?_
            refine g_iconst (v := nI 3) B dX12_write_131 (by decide) ?_
            refine g_icmp_geN (tgt := 145) B (by omega) (by omega) dX12_write_132 (by decide) (fun _ => ?_) (fun e => absurd e (by decide))
            refine g_aload_n B 2 dX12_write_145 rfl ?_
            refine g_bipush (v := nI 41) B dX12_write_146 (by decide) ?_
            refine g_callV (rest := []) B M_X12_writes q2907 q2909 qs95 (P179.1.choose_spec.choose_spec) rfl (c_M_writes (l := (((((a.wOps (x - 1)) ++ [124]) ++ [99]) ++ [40]) ++ wNum (a.pa x))) (c := 41) P179.self hr179 (by have hw1 := wNum_len (a.pa x); have hw2 := wNum_len (a.pb x); simp only [List.length_append, List.length_cons, List.length_nil]; omega)) rfl rfl (Nat.le_of_ble_eq_true rfl) (Nat.le_of_ble_eq_true rfl) (Nat.le_of_ble_eq_true rfl) (Nat.le_refl _) (Nat.le_refl _) dX12_write_148 (xkN (fun T182 O182 R182 le182 p182 => ?_))
            obtain ⟨eT182, sc182, ar182, Q182, hr182⟩ := p182
            obtain rfl := eT182.symm
            have P182 := P179.rebase Q182
            refine g_aload_n B 2 dX12_write_151 rfl ?_
            refine m_geta B P182 F_X12_22_12 (by decide) (Or.inl rfl) dX12_write_152 ?_
            refine g_iload_n B 1 dX12_write_155 rfl ?_
            refine m_ld B P182 (by decide) rfl rfl (by show _ < 6; omega) (by decide) (show _ = (nI (a.p x)) from (hr182.2.1.2 x (show x < a.n by omega)).2.2.2) dX12_write_156 ?_
            refine g_iconst (v := nI 1) B dX12_write_157 (by decide) ?_
            refine g_icmp_leN (tgt := 174) B (by omega) (by omega) dX12_write_158 (by decide) (fun c183 => ?_) (fun c183 => ?_)
            · refine g_iinc (v := nI (x + 1)) (lv2 := [(1, _), (2, _), (0, _)]) B 1 dX12_write_174 rfl (nI_1 _) (by decide) rfl ?_
              refine g_goto (tgt := 7) B dX12_write_177 (by decide) ?_
              have hop : a.wOps x = ((((((a.wOps (x - 1)) ++ [124]) ++ [99]) ++ [40]) ++ wNum (a.pa x)) ++ [41]) := by
                have hs : a.wOps x = a.wOps (x - 1) ++ a.wOp x := by rw [show x = (x - 1) + 1 by omega]; rfl
                rw [hs]; unfold aA.wOp; rw [hkd, if_pos (show 1 < x by omega), if_neg (show ¬ 1 < a.p x by omega)]; simp [wLet]
              refine g_pick [0, 2] rfl ?_
              exact ih (a.n - (x + 1)) (by omega) (x + 1) _ _ _ _ rfl P182 (by omega) (by rw [show x + 1 - 1 = x by omega, hop]; exact hr182)
            · refine g_aload_n B 2 dX12_write_161 rfl ?_
              refine g_bipush (v := nI 48) B dX12_write_162 (by decide) ?_
              refine g_aload_n B 2 dX12_write_164 rfl ?_
              refine m_geta B P182 F_X12_22_12 (by decide) (Or.inl rfl) dX12_write_165 ?_
              refine g_iload_n B 1 dX12_write_168 rfl ?_
              refine m_ld B P182 (by decide) rfl rfl (by show _ < 6; omega) (by decide) (show _ = (nI (a.p x)) from (hr182.2.1.2 x (show x < a.n by omega)).2.2.2) dX12_write_169 ?_
              refine g_iaddN B dX12_write_170 ?_
              refine g_callV (rest := []) B M_X12_writes q2907 q2909 qs95 (P182.1.choose_spec.choose_spec) rfl (c_M_writes (l := ((((((a.wOps (x - 1)) ++ [124]) ++ [99]) ++ [40]) ++ wNum (a.pa x)) ++ [41])) (c := (48 + (a.p x))) P182.self hr182 (by have hw1 := wNum_len (a.pa x); have hw2 := wNum_len (a.pb x); simp only [List.length_append, List.length_cons, List.length_nil]; omega)) rfl rfl (Nat.le_of_ble_eq_true rfl) (Nat.le_of_ble_eq_true rfl) (Nat.le_of_ble_eq_true rfl) (Nat.le_refl _) (Nat.le_refl _) dX12_write_171 (xkN (fun T184 O184 R184 le184 p184 => ?_))
              obtain ⟨eT184, sc184, ar184, Q184, hr184⟩ := p184
              obtain rfl := eT184.symm
              have P184 := P182.rebase Q184
              refine g_iinc (v := nI (x + 1)) (lv2 := [(1, _), (2, _), (0, _)]) B 1 dX12_write_174 rfl (nI_1 _) (by decide) rfl ?_
              refine g_goto (tgt := 7) B dX12_write_177 (by decide) ?_
              have hop : a.wOps x = (((((((a.wOps (x - 1)) ++ [124]) ++ [99]) ++ [40]) ++ wNum (a.pa x)) ++ [41]) ++ [(48 + (a.p x))]) := by
                have hs : a.wOps x = a.wOps (x - 1) ++ a.wOp x := by rw [show x = (x - 1) + 1 by omega]; rfl
                rw [hs]; unfold aA.wOp; rw [hkd, if_pos (show 1 < x by omega), if_pos (show 1 < a.p x by omega)]; simp [wLet]
              refine g_pick [0, 2] rfl ?_
              exact ih (a.n - (x + 1)) (by omega) (x + 1) _ _ _ _ rfl P184 (by omega) (by rw [show x + 1 - 1 = x by omega, hop]; exact hr184)
        · refine g_top (show Value.int (nI (a.kd x)) = .int (nI 4) by rw [hkd]) ?_
          refine g_istore_n (lv2 := [(2, _), (1, _), (0, _)]) B dX12_write_21 (by decide) rfl ?_
          refine g_iload_n B 1 dX12_write_22 rfl ?_
          refine g_iconst (v := nI 1) B dX12_write_23 (by decide) ?_
          refine g_icmp_leN (tgt := 33) B (by omega) (by omega) dX12_write_24 (by decide) (fun c185 => ?_) (fun c185 => ?_)
          · refine g_aload_n B 2 dX12_write_33 rfl ?_
            refine g_iload_n B 0 dX12_write_34 rfl ?_
            refine g_if_neN (tgt := 43) B (by omega) dX12_write_35 (by decide) (fun _ => ?_) (fun e => absurd e (by decide))
            refine g_iload_n B 0 dX12_write_43 rfl ?_
            refine g_iconst (v := nI 1) B dX12_write_44 (by decide) ?_
            refine g_icmp_neN (tgt := 53) B (by omega) (by omega) dX12_write_45 (by decide) (fun _ => ?_) (fun e => absurd e (by decide))
            refine g_iload_n B 0 dX12_write_53 rfl ?_
            refine g_iconst (v := nI 2) B dX12_write_54 (by decide) ?_
            refine g_icmp_neN (tgt := 63) B (by omega) (by omega) dX12_write_55 (by decide) (fun _ => ?_) (fun e => absurd e (by decide))
            refine g_iload_n B 0 dX12_write_63 rfl ?_
            refine g_iconst (v := nI 3) B dX12_write_64 (by decide) ?_
            refine g_icmp_neN (tgt := 73) B (by omega) (by omega) dX12_write_65 (by decide) (fun _ => ?_) (fun e => absurd e (by decide))
            refine g_iload_n B 0 dX12_write_73 rfl ?_
            refine g_iconst (v := nI 4) B dX12_write_74 (by decide) ?_
            refine g_icmp_neN (tgt := 83) B (by omega) (by omega) dX12_write_75 (by decide) (fun e => absurd e (by decide)) (fun _ => ?_)
            refine g_bipush (v := nI 115) B dX12_write_78 (by decide) ?_
            refine g_goto (tgt := 95) B dX12_write_80 (by decide) ?_
            refine g_callV (rest := []) B M_X12_writes q2907 q2909 qs95 (P1.1.choose_spec.choose_spec) rfl (c_M_writes (l := (a.wOps (x - 1))) (c := 115) P1.self i1 (by omega)) rfl rfl (Nat.le_of_ble_eq_true rfl) (Nat.le_of_ble_eq_true rfl) (Nat.le_of_ble_eq_true rfl) (Nat.le_refl _) (Nat.le_refl _) dX12_write_95 (xkN (fun T191 O191 R191 le191 p191 => ?_))
            obtain ⟨eT191, sc191, ar191, Q191, hr191⟩ := p191
            obtain rfl := eT191.symm
            have P191 := P1.rebase Q191
            refine g_iload_n B 0 dX12_write_98 rfl ?_
            refine g_iconst (v := nI 5) B dX12_write_99 (by decide) ?_
            refine g_icmp_geN (tgt := 151) B (by omega) (by omega) dX12_write_100 (by decide) (fun e => absurd e (by decide)) (fun _ => ?_)
            refine g_aload_n B 2 dX12_write_103 rfl ?_
            refine g_bipush (v := nI 40) B dX12_write_104 (by decide) ?_
            refine g_callV (rest := []) B M_X12_writes q2907 q2909 qs95 (P191.1.choose_spec.choose_spec) rfl (c_M_writes (l := ((a.wOps (x - 1)) ++ [115])) (c := 40) P191.self hr191 (by have hw1 := wNum_len (a.pa x); have hw2 := wNum_len (a.pb x); simp only [List.length_append, List.length_cons, List.length_nil]; omega)) rfl rfl (Nat.le_of_ble_eq_true rfl) (Nat.le_of_ble_eq_true rfl) (Nat.le_of_ble_eq_true rfl) (Nat.le_refl _) (Nat.le_refl _) dX12_write_106 (xkN (fun T193 O193 R193 le193 p193 => ?_))
            obtain ⟨eT193, sc193, ar193, Q193, hr193⟩ := p193
            obtain rfl := eT193.symm
            have P193 := P191.rebase Q193
            refine g_aload_n B 2 dX12_write_109 rfl ?_
            refine g_aload_n B 2 dX12_write_110 rfl ?_
            refine m_geta B P193 F_X12_16_12 (by decide) (Or.inl rfl) dX12_write_111 ?_
            refine g_iload_n B 1 dX12_write_114 rfl ?_
            refine m_ld B P193 (by decide) rfl rfl (by show _ < 6; omega) (by decide) (show _ = (a.pa x) from (hr193.2.1.2 x (show x < a.n by omega)).2.1) dX12_write_115 ?_
            refine g_callV (rest := []) B M_X12_writesNumber q2911 q2913 qs96 (P193.1.choose_spec.choose_spec) rfl (c_M_writesNumber (l := (((a.wOps (x - 1)) ++ [115]) ++ [40])) (x := (a.pa x)) P193.self hr193 (by have hw1 := wNum_len (a.pa x); have hw2 := wNum_len (a.pb x); simp only [List.length_append, List.length_cons, List.length_nil]; omega) (W.kr x (by omega)).1) rfl rfl (Nat.le_of_ble_eq_true rfl) (Nat.le_of_ble_eq_true rfl) (Nat.le_of_ble_eq_true rfl) (Nat.le_refl _) (Nat.le_refl _) dX12_write_116 (xkN (fun T194 O194 R194 le194 p194 => ?_))
            obtain ⟨eT194, sc194, ar194, Q194, hr194⟩ := p194
            obtain rfl := eT194.symm
            have P194 := P193.rebase Q194
            refine g_iload_n B 0 dX12_write_119 rfl ?_
            refine g_iconst (v := nI 3) B dX12_write_120 (by decide) ?_
            refine g_icmp_geN (tgt := 130) B (by omega) (by omega) dX12_write_121 (by decide) (fun _ => ?_) (fun e => absurd e (by decide))
            refine g_iload_n B 0 dX12_write_130 rfl ?_
            refine g_iconst (v := nI 3) B dX12_write_131 (by decide) ?_
            refine g_icmp_geN (tgt := 145) B (by omega) (by omega) dX12_write_132 (by decide) (fun _ => ?_) (fun e => absurd e (by decide))
            refine g_aload_n B 2 dX12_write_145 rfl ?_
            refine g_bipush (v := nI 41) B dX12_write_146 (by decide) ?_
            refine g_callV (rest := []) B M_X12_writes q2907 q2909 qs95 (P194.1.choose_spec.choose_spec) rfl (c_M_writes (l := ((((a.wOps (x - 1)) ++ [115]) ++ [40]) ++ wNum (a.pa x))) (c := 41) P194.self hr194 (by have hw1 := wNum_len (a.pa x); have hw2 := wNum_len (a.pb x); simp only [List.length_append, List.length_cons, List.length_nil]; omega)) rfl rfl (Nat.le_of_ble_eq_true rfl) (Nat.le_of_ble_eq_true rfl) (Nat.le_of_ble_eq_true rfl) (Nat.le_refl _) (Nat.le_refl _) dX12_write_148 (xkN (fun T197 O197 R197 le197 p197 => ?_))
            obtain ⟨eT197, sc197, ar197, Q197, hr197⟩ := p197
            obtain rfl := eT197.symm
            have P197 := P194.rebase Q197
            refine g_aload_n B 2 dX12_write_151 rfl ?_
            refine m_geta B P197 F_X12_22_12 (by decide) (Or.inl rfl) dX12_write_152 ?_
            refine g_iload_n B 1 dX12_write_155 rfl ?_
            refine m_ld B P197 (by decide) rfl rfl (by show _ < 6; omega) (by decide) (show _ = (nI (a.p x)) from (hr197.2.1.2 x (show x < a.n by omega)).2.2.2) dX12_write_156 ?_
            refine g_iconst (v := nI 1) B dX12_write_157 (by decide) ?_
            refine g_icmp_leN (tgt := 174) B (by omega) (by omega) dX12_write_158 (by decide) (fun c198 => ?_) (fun c198 => ?_)
            · refine g_iinc (v := nI (x + 1)) (lv2 := [(1, _), (2, _), (0, _)]) B 1 dX12_write_174 rfl (nI_1 _) (by decide) rfl ?_
              refine g_goto (tgt := 7) B dX12_write_177 (by decide) ?_
              have hop : a.wOps x = (((((a.wOps (x - 1)) ++ [115]) ++ [40]) ++ wNum (a.pa x)) ++ [41]) := by
                have hs : a.wOps x = a.wOps (x - 1) ++ a.wOp x := by rw [show x = (x - 1) + 1 by omega]; rfl
                rw [hs]; unfold aA.wOp; rw [hkd, if_neg (show ¬ 1 < x by omega), if_neg (show ¬ 1 < a.p x by omega)]; simp [wLet]
              refine g_pick [0, 2] rfl ?_
              exact ih (a.n - (x + 1)) (by omega) (x + 1) _ _ _ _ rfl P197 (by omega) (by rw [show x + 1 - 1 = x by omega, hop]; exact hr197)
            · refine g_aload_n B 2 dX12_write_161 rfl ?_
              refine g_bipush (v := nI 48) B dX12_write_162 (by decide) ?_
              refine g_aload_n B 2 dX12_write_164 rfl ?_
              refine m_geta B P197 F_X12_22_12 (by decide) (Or.inl rfl) dX12_write_165 ?_
              refine g_iload_n B 1 dX12_write_168 rfl ?_
              refine m_ld B P197 (by decide) rfl rfl (by show _ < 6; omega) (by decide) (show _ = (nI (a.p x)) from (hr197.2.1.2 x (show x < a.n by omega)).2.2.2) dX12_write_169 ?_
              refine g_iaddN B dX12_write_170 ?_
              refine g_callV (rest := []) B M_X12_writes q2907 q2909 qs95 (P197.1.choose_spec.choose_spec) rfl (c_M_writes (l := (((((a.wOps (x - 1)) ++ [115]) ++ [40]) ++ wNum (a.pa x)) ++ [41])) (c := (48 + (a.p x))) P197.self hr197 (by have hw1 := wNum_len (a.pa x); have hw2 := wNum_len (a.pb x); simp only [List.length_append, List.length_cons, List.length_nil]; omega)) rfl rfl (Nat.le_of_ble_eq_true rfl) (Nat.le_of_ble_eq_true rfl) (Nat.le_of_ble_eq_true rfl) (Nat.le_refl _) (Nat.le_refl _) dX12_write_171 (xkN (fun T199 O199 R199 le199 p199 => ?_))
              obtain ⟨eT199, sc199, ar199, Q199, hr199⟩ := p199
              obtain rfl := eT199.symm
              have P199 := P197.rebase Q199
              refine g_iinc (v := nI (x + 1)) (lv2 := [(1, _), (2, _), (0, _)]) B 1 dX12_write_174 rfl (nI_1 _) (by decide) rfl ?_
              refine g_goto (tgt := 7) B dX12_write_177 (by decide) ?_
              have hop : a.wOps x = ((((((a.wOps (x - 1)) ++ [115]) ++ [40]) ++ wNum (a.pa x)) ++ [41]) ++ [(48 + (a.p x))]) := by
                have hs : a.wOps x = a.wOps (x - 1) ++ a.wOp x := by rw [show x = (x - 1) + 1 by omega]; rfl
                rw [hs]; unfold aA.wOp; rw [hkd, if_neg (show ¬ 1 < x by omega), if_pos (show 1 < a.p x by omega)]; simp [wLet]
              refine g_pick [0, 2] rfl ?_
              exact ih (a.n - (x + 1)) (by omega) (x + 1) _ _ _ _ rfl P199 (by omega) (by rw [show x + 1 - 1 = x by omega, hop]; exact hr199)
          · refine g_aload_n B 2 dX12_write_27 rfl ?_
            refine g_bipush (v := nI 124) B dX12_write_28 (by decide) ?_
            refine g_callV (rest := []) B M_X12_writes q2907 q2909 qs95 (P1.1.choose_spec.choose_spec) rfl (c_M_writes (l := (a.wOps (x - 1))) (c := 124) P1.self i1 (by omega)) rfl rfl (Nat.le_of_ble_eq_true rfl) (Nat.le_of_ble_eq_true rfl) (Nat.le_of_ble_eq_true rfl) (Nat.le_refl _) (Nat.le_refl _) dX12_write_30 (xkN (fun T200 O200 R200 le200 p200 => ?_))
            obtain ⟨eT200, sc200, ar200, Q200, hr200⟩ := p200
            obtain rfl := eT200.symm
            have P200 := P1.rebase Q200
            refine g_aload_n B 2 dX12_write_33 rfl ?_
            refine g_iload_n B 0 dX12_write_34 rfl ?_
            refine g_if_neN (tgt := 43) B (by omega) dX12_write_35 (by decide) (fun _ => ?_) (fun e => absurd e (by decide))
            refine g_iload_n B 0 dX12_write_43 rfl ?_
            refine g_iconst (v := nI 1) B dX12_write_44 (by decide) ?_
            refine g_icmp_neN (tgt := 53) B (by omega) (by omega) dX12_write_45 (by decide) (fun _ => ?_) (fun e => absurd e (by decide))
            refine g_iload_n B 0 dX12_write_53 rfl ?_
            refine g_iconst (v := nI 2) B dX12_write_54 (by decide) ?_
            refine g_icmp_neN (tgt := 63) B (by omega) (by omega) dX12_write_55 (by decide) (fun _ => ?_) (fun e => absurd e (by decide))
            refine g_iload_n B 0 dX12_write_63 rfl ?_
            refine g_iconst (v := nI 3) B dX12_write_64 (by decide) ?_
            refine g_icmp_neN (tgt := 73) B (by omega) (by omega) dX12_write_65 (by decide) (fun _ => ?_) (fun e => absurd e (by decide))
            refine g_iload_n B 0 dX12_write_73 rfl ?_
            refine g_iconst (v := nI 4) B dX12_write_74 (by decide) ?_
            refine g_icmp_neN (tgt := 83) B (by omega) (by omega) dX12_write_75 (by decide) (fun e => absurd e (by decide)) (fun _ => ?_)
            refine g_bipush (v := nI 115) B dX12_write_78 (by decide) ?_
            refine g_goto (tgt := 95) B dX12_write_80 (by decide) ?_
            refine g_callV (rest := []) B M_X12_writes q2907 q2909 qs95 (P200.1.choose_spec.choose_spec) rfl (c_M_writes (l := ((a.wOps (x - 1)) ++ [124])) (c := 115) P200.self hr200 (by have hw1 := wNum_len (a.pa x); have hw2 := wNum_len (a.pb x); simp only [List.length_append, List.length_cons, List.length_nil]; omega)) rfl rfl (Nat.le_of_ble_eq_true rfl) (Nat.le_of_ble_eq_true rfl) (Nat.le_of_ble_eq_true rfl) (Nat.le_refl _) (Nat.le_refl _) dX12_write_95 (xkN (fun T206 O206 R206 le206 p206 => ?_))
            obtain ⟨eT206, sc206, ar206, Q206, hr206⟩ := p206
            obtain rfl := eT206.symm
            have P206 := P200.rebase Q206
            refine g_iload_n B 0 dX12_write_98 rfl ?_
            refine g_iconst (v := nI 5) B dX12_write_99 (by decide) ?_
            refine g_icmp_geN (tgt := 151) B (by omega) (by omega) dX12_write_100 (by decide) (fun e => absurd e (by decide)) (fun _ => ?_)
            refine g_aload_n B 2 dX12_write_103 rfl ?_
            refine g_bipush (v := nI 40) B dX12_write_104 (by decide) ?_
            refine g_callV (rest := []) B M_X12_writes q2907 q2909 qs95 (P206.1.choose_spec.choose_spec) rfl (c_M_writes (l := (((a.wOps (x - 1)) ++ [124]) ++ [115])) (c := 40) P206.self hr206 (by have hw1 := wNum_len (a.pa x); have hw2 := wNum_len (a.pb x); simp only [List.length_append, List.length_cons, List.length_nil]; omega)) rfl rfl (Nat.le_of_ble_eq_true rfl) (Nat.le_of_ble_eq_true rfl) (Nat.le_of_ble_eq_true rfl) (Nat.le_refl _) (Nat.le_refl _) dX12_write_106 (xkN (fun T208 O208 R208 le208 p208 => ?_))
            obtain ⟨eT208, sc208, ar208, Q208, hr208⟩ := p208
            obtain rfl := eT208.symm
            have P208 := P206.rebase Q208
            refine g_aload_n B 2 dX12_write_109 rfl ?_
            refine g_aload_n B 2 dX12_write_110 rfl ?_
            refine m_geta B P208 F_X12_16_12 (by decide) (Or.inl rfl) dX12_write_111 ?_
            refine g_iload_n B 1 dX12_write_114 rfl ?_
            refine m_ld B P208 (by decide) rfl rfl (by show _ < 6; omega) (by decide) (show _ = (a.pa x) from (hr208.2.1.2 x (show x < a.n by omega)).2.1) dX12_write_115 ?_
            refine g_callV (rest := []) B M_X12_writesNumber q2911 q2913 qs96 (P208.1.choose_spec.choose_spec) rfl (c_M_writesNumber (l := ((((a.wOps (x - 1)) ++ [124]) ++ [115]) ++ [40])) (x := (a.pa x)) P208.self hr208 (by have hw1 := wNum_len (a.pa x); have hw2 := wNum_len (a.pb x); simp only [List.length_append, List.length_cons, List.length_nil]; omega) (W.kr x (by omega)).1) rfl rfl (Nat.le_of_ble_eq_true rfl) (Nat.le_of_ble_eq_true rfl) (Nat.le_of_ble_eq_true rfl) (Nat.le_refl _) (Nat.le_refl _) dX12_write_116 (xkN (fun T209 O209 R209 le209 p209 => ?_))
            obtain ⟨eT209, sc209, ar209, Q209, hr209⟩ := p209
            obtain rfl := eT209.symm
            have P209 := P208.rebase Q209
            refine g_iload_n B 0 dX12_write_119 rfl ?_
            refine g_iconst (v := nI 3) B dX12_write_120 (by decide) ?_
            refine g_icmp_geN (tgt := 130) B (by omega) (by omega) dX12_write_121 (by decide) (fun _ => ?_) (fun e => absurd e (by decide))
            refine g_iload_n B 0 dX12_write_130 rfl ?_
            refine g_iconst (v := nI 3) B dX12_write_131 (by decide) ?_
            refine g_icmp_geN (tgt := 145) B (by omega) (by omega) dX12_write_132 (by decide) (fun _ => ?_) (fun e => absurd e (by decide))
            refine g_aload_n B 2 dX12_write_145 rfl ?_
            refine g_bipush (v := nI 41) B dX12_write_146 (by decide) ?_
            refine g_callV (rest := []) B M_X12_writes q2907 q2909 qs95 (P209.1.choose_spec.choose_spec) rfl (c_M_writes (l := (((((a.wOps (x - 1)) ++ [124]) ++ [115]) ++ [40]) ++ wNum (a.pa x))) (c := 41) P209.self hr209 (by have hw1 := wNum_len (a.pa x); have hw2 := wNum_len (a.pb x); simp only [List.length_append, List.length_cons, List.length_nil]; omega)) rfl rfl (Nat.le_of_ble_eq_true rfl) (Nat.le_of_ble_eq_true rfl) (Nat.le_of_ble_eq_true rfl) (Nat.le_refl _) (Nat.le_refl _) dX12_write_148 (xkN (fun T212 O212 R212 le212 p212 => ?_))
            obtain ⟨eT212, sc212, ar212, Q212, hr212⟩ := p212
            obtain rfl := eT212.symm
            have P212 := P209.rebase Q212
            refine g_aload_n B 2 dX12_write_151 rfl ?_
            refine m_geta B P212 F_X12_22_12 (by decide) (Or.inl rfl) dX12_write_152 ?_
            refine g_iload_n B 1 dX12_write_155 rfl ?_
            refine m_ld B P212 (by decide) rfl rfl (by show _ < 6; omega) (by decide) (show _ = (nI (a.p x)) from (hr212.2.1.2 x (show x < a.n by omega)).2.2.2) dX12_write_156 ?_
            refine g_iconst (v := nI 1) B dX12_write_157 (by decide) ?_
            refine g_icmp_leN (tgt := 174) B (by omega) (by omega) dX12_write_158 (by decide) (fun c213 => ?_) (fun c213 => ?_)
            · refine g_iinc (v := nI (x + 1)) (lv2 := [(1, _), (2, _), (0, _)]) B 1 dX12_write_174 rfl (nI_1 _) (by decide) rfl ?_
              refine g_goto (tgt := 7) B dX12_write_177 (by decide) ?_
              have hop : a.wOps x = ((((((a.wOps (x - 1)) ++ [124]) ++ [115]) ++ [40]) ++ wNum (a.pa x)) ++ [41]) := by
                have hs : a.wOps x = a.wOps (x - 1) ++ a.wOp x := by rw [show x = (x - 1) + 1 by omega]; rfl
                rw [hs]; unfold aA.wOp; rw [hkd, if_pos (show 1 < x by omega), if_neg (show ¬ 1 < a.p x by omega)]; simp [wLet]
              refine g_pick [0, 2] rfl ?_
              exact ih (a.n - (x + 1)) (by omega) (x + 1) _ _ _ _ rfl P212 (by omega) (by rw [show x + 1 - 1 = x by omega, hop]; exact hr212)
            · refine g_aload_n B 2 dX12_write_161 rfl ?_
              refine g_bipush (v := nI 48) B dX12_write_162 (by decide) ?_
              refine g_aload_n B 2 dX12_write_164 rfl ?_
              refine m_geta B P212 F_X12_22_12 (by decide) (Or.inl rfl) dX12_write_165 ?_
              refine g_iload_n B 1 dX12_write_168 rfl ?_
              refine m_ld B P212 (by decide) rfl rfl (by show _ < 6; omega) (by decide) (show _ = (nI (a.p x)) from (hr212.2.1.2 x (show x < a.n by omega)).2.2.2) dX12_write_169 ?_
              refine g_iaddN B dX12_write_170 ?_
              refine g_callV (rest := []) B M_X12_writes q2907 q2909 qs95 (P212.1.choose_spec.choose_spec) rfl (c_M_writes (l := ((((((a.wOps (x - 1)) ++ [124]) ++ [115]) ++ [40]) ++ wNum (a.pa x)) ++ [41])) (c := (48 + (a.p x))) P212.self hr212 (by have hw1 := wNum_len (a.pa x); have hw2 := wNum_len (a.pb x); simp only [List.length_append, List.length_cons, List.length_nil]; omega)) rfl rfl (Nat.le_of_ble_eq_true rfl) (Nat.le_of_ble_eq_true rfl) (Nat.le_of_ble_eq_true rfl) (Nat.le_refl _) (Nat.le_refl _) dX12_write_171 (xkN (fun T214 O214 R214 le214 p214 => ?_))
              obtain ⟨eT214, sc214, ar214, Q214, hr214⟩ := p214
              obtain rfl := eT214.symm
              have P214 := P212.rebase Q214
              refine g_iinc (v := nI (x + 1)) (lv2 := [(1, _), (2, _), (0, _)]) B 1 dX12_write_174 rfl (nI_1 _) (by decide) rfl ?_
              refine g_goto (tgt := 7) B dX12_write_177 (by decide) ?_
              have hop : a.wOps x = (((((((a.wOps (x - 1)) ++ [124]) ++ [115]) ++ [40]) ++ wNum (a.pa x)) ++ [41]) ++ [(48 + (a.p x))]) := by
                have hs : a.wOps x = a.wOps (x - 1) ++ a.wOp x := by rw [show x = (x - 1) + 1 by omega]; rfl
                rw [hs]; unfold aA.wOp; rw [hkd, if_pos (show 1 < x by omega), if_pos (show 1 < a.p x by omega)]; simp [wLet]
              refine g_pick [0, 2] rfl ?_
              exact ih (a.n - (x + 1)) (by omega) (x + 1) _ _ _ _ rfl P214 (by omega) (by rw [show x + 1 - 1 = x by omega, hop]; exact hr214)
        · refine g_top (show Value.int (nI (a.kd x)) = .int (nI 5) by rw [hkd]) ?_
          refine g_istore_n (lv2 := [(2, _), (1, _), (0, _)]) B dX12_write_21 (by decide) rfl ?_
          refine g_iload_n B 1 dX12_write_22 rfl ?_
          refine g_iconst (v := nI 1) B dX12_write_23 (by decide) ?_
          refine g_icmp_leN (tgt := 33) B (by omega) (by omega) dX12_write_24 (by decide) (fun c215 => ?_) (fun c215 => ?_)
          · refine g_aload_n B 2 dX12_write_33 rfl ?_
            refine g_iload_n B 0 dX12_write_34 rfl ?_
            refine g_if_neN (tgt := 43) B (by omega) dX12_write_35 (by decide) (fun _ => ?_) (fun e => absurd e (by decide))
            refine g_iload_n B 0 dX12_write_43 rfl ?_
            refine g_iconst (v := nI 1) B dX12_write_44 (by decide) ?_
            refine g_icmp_neN (tgt := 53) B (by omega) (by omega) dX12_write_45 (by decide) (fun _ => ?_) (fun e => absurd e (by decide))
            refine g_iload_n B 0 dX12_write_53 rfl ?_
            refine g_iconst (v := nI 2) B dX12_write_54 (by decide) ?_
            refine g_icmp_neN (tgt := 63) B (by omega) (by omega) dX12_write_55 (by decide) (fun _ => ?_) (fun e => absurd e (by decide))
            refine g_iload_n B 0 dX12_write_63 rfl ?_
            refine g_iconst (v := nI 3) B dX12_write_64 (by decide) ?_
            refine g_icmp_neN (tgt := 73) B (by omega) (by omega) dX12_write_65 (by decide) (fun _ => ?_) (fun e => absurd e (by decide))
            refine g_iload_n B 0 dX12_write_73 rfl ?_
            refine g_iconst (v := nI 4) B dX12_write_74 (by decide) ?_
            refine g_icmp_neN (tgt := 83) B (by omega) (by omega) dX12_write_75 (by decide) (fun _ => ?_) (fun e => absurd e (by decide))
            refine g_iload_n B 0 dX12_write_83 rfl ?_
            refine g_iconst (v := nI 5) B dX12_write_84 (by decide) ?_
            refine g_icmp_neN (tgt := 93) B (by omega) (by omega) dX12_write_85 (by decide) (fun e => absurd e (by decide)) (fun _ => ?_)
            refine g_bipush (v := nI 100) B dX12_write_88 (by decide) ?_
            refine g_goto (tgt := 95) B dX12_write_90 (by decide) ?_
            refine g_callV (rest := []) B M_X12_writes q2907 q2909 qs95 (P1.1.choose_spec.choose_spec) rfl (c_M_writes (l := (a.wOps (x - 1))) (c := 100) P1.self i1 (by omega)) rfl rfl (Nat.le_of_ble_eq_true rfl) (Nat.le_of_ble_eq_true rfl) (Nat.le_of_ble_eq_true rfl) (Nat.le_refl _) (Nat.le_refl _) dX12_write_95 (xkN (fun T222 O222 R222 le222 p222 => ?_))
            obtain ⟨eT222, sc222, ar222, Q222, hr222⟩ := p222
            obtain rfl := eT222.symm
            have P222 := P1.rebase Q222
            refine g_iload_n B 0 dX12_write_98 rfl ?_
            refine g_iconst (v := nI 5) B dX12_write_99 (by decide) ?_
            refine g_icmp_geN (tgt := 151) B (by omega) (by omega) dX12_write_100 (by decide) (fun _ => ?_) (fun e => absurd e (by decide))
            refine g_aload_n B 2 dX12_write_151 rfl ?_
            refine m_geta B P222 F_X12_22_12 (by decide) (Or.inl rfl) dX12_write_152 ?_
            refine g_iload_n B 1 dX12_write_155 rfl ?_
            refine m_ld B P222 (by decide) rfl rfl (by show _ < 6; omega) (by decide) (show _ = (nI (a.p x)) from (hr222.2.1.2 x (show x < a.n by omega)).2.2.2) dX12_write_156 ?_
            refine g_iconst (v := nI 1) B dX12_write_157 (by decide) ?_
            refine g_icmp_leN (tgt := 174) B (by omega) (by omega) dX12_write_158 (by decide) (fun c224 => ?_) (fun c224 => ?_)
            · refine g_iinc (v := nI (x + 1)) (lv2 := [(1, _), (2, _), (0, _)]) B 1 dX12_write_174 rfl (nI_1 _) (by decide) rfl ?_
              refine g_goto (tgt := 7) B dX12_write_177 (by decide) ?_
              have hop : a.wOps x = ((a.wOps (x - 1)) ++ [100]) := by
                have hs : a.wOps x = a.wOps (x - 1) ++ a.wOp x := by rw [show x = (x - 1) + 1 by omega]; rfl
                rw [hs]; unfold aA.wOp; rw [hkd, if_neg (show ¬ 1 < x by omega), if_neg (show ¬ 1 < a.p x by omega)]; simp [wLet]
              refine g_pick [0, 2] rfl ?_
              exact ih (a.n - (x + 1)) (by omega) (x + 1) _ _ _ _ rfl P222 (by omega) (by rw [show x + 1 - 1 = x by omega, hop]; exact hr222)
            · refine g_aload_n B 2 dX12_write_161 rfl ?_
              refine g_bipush (v := nI 48) B dX12_write_162 (by decide) ?_
              refine g_aload_n B 2 dX12_write_164 rfl ?_
              refine m_geta B P222 F_X12_22_12 (by decide) (Or.inl rfl) dX12_write_165 ?_
              refine g_iload_n B 1 dX12_write_168 rfl ?_
              refine m_ld B P222 (by decide) rfl rfl (by show _ < 6; omega) (by decide) (show _ = (nI (a.p x)) from (hr222.2.1.2 x (show x < a.n by omega)).2.2.2) dX12_write_169 ?_
              refine g_iaddN B dX12_write_170 ?_
              refine g_callV (rest := []) B M_X12_writes q2907 q2909 qs95 (P222.1.choose_spec.choose_spec) rfl (c_M_writes (l := ((a.wOps (x - 1)) ++ [100])) (c := (48 + (a.p x))) P222.self hr222 (by have hw1 := wNum_len (a.pa x); have hw2 := wNum_len (a.pb x); simp only [List.length_append, List.length_cons, List.length_nil]; omega)) rfl rfl (Nat.le_of_ble_eq_true rfl) (Nat.le_of_ble_eq_true rfl) (Nat.le_of_ble_eq_true rfl) (Nat.le_refl _) (Nat.le_refl _) dX12_write_171 (xkN (fun T225 O225 R225 le225 p225 => ?_))
              obtain ⟨eT225, sc225, ar225, Q225, hr225⟩ := p225
              obtain rfl := eT225.symm
              have P225 := P222.rebase Q225
              refine g_iinc (v := nI (x + 1)) (lv2 := [(1, _), (2, _), (0, _)]) B 1 dX12_write_174 rfl (nI_1 _) (by decide) rfl ?_
              refine g_goto (tgt := 7) B dX12_write_177 (by decide) ?_
              have hop : a.wOps x = (((a.wOps (x - 1)) ++ [100]) ++ [(48 + (a.p x))]) := by
                have hs : a.wOps x = a.wOps (x - 1) ++ a.wOp x := by rw [show x = (x - 1) + 1 by omega]; rfl
                rw [hs]; unfold aA.wOp; rw [hkd, if_neg (show ¬ 1 < x by omega), if_pos (show 1 < a.p x by omega)]; simp [wLet]
              refine g_pick [0, 2] rfl ?_
              exact ih (a.n - (x + 1)) (by omega) (x + 1) _ _ _ _ rfl P225 (by omega) (by rw [show x + 1 - 1 = x by omega, hop]; exact hr225)
          · refine g_aload_n B 2 dX12_write_27 rfl ?_
            refine g_bipush (v := nI 124) B dX12_write_28 (by decide) ?_
            refine g_callV (rest := []) B M_X12_writes q2907 q2909 qs95 (P1.1.choose_spec.choose_spec) rfl (c_M_writes (l := (a.wOps (x - 1))) (c := 124) P1.self i1 (by omega)) rfl rfl (Nat.le_of_ble_eq_true rfl) (Nat.le_of_ble_eq_true rfl) (Nat.le_of_ble_eq_true rfl) (Nat.le_refl _) (Nat.le_refl _) dX12_write_30 (xkN (fun T226 O226 R226 le226 p226 => ?_))
            obtain ⟨eT226, sc226, ar226, Q226, hr226⟩ := p226
            obtain rfl := eT226.symm
            have P226 := P1.rebase Q226
            refine g_aload_n B 2 dX12_write_33 rfl ?_
            refine g_iload_n B 0 dX12_write_34 rfl ?_
            refine g_if_neN (tgt := 43) B (by omega) dX12_write_35 (by decide) (fun _ => ?_) (fun e => absurd e (by decide))
            refine g_iload_n B 0 dX12_write_43 rfl ?_
            refine g_iconst (v := nI 1) B dX12_write_44 (by decide) ?_
            refine g_icmp_neN (tgt := 53) B (by omega) (by omega) dX12_write_45 (by decide) (fun _ => ?_) (fun e => absurd e (by decide))
            refine g_iload_n B 0 dX12_write_53 rfl ?_
            refine g_iconst (v := nI 2) B dX12_write_54 (by decide) ?_
            refine g_icmp_neN (tgt := 63) B (by omega) (by omega) dX12_write_55 (by decide) (fun _ => ?_) (fun e => absurd e (by decide))
            refine g_iload_n B 0 dX12_write_63 rfl ?_
            refine g_iconst (v := nI 3) B dX12_write_64 (by decide) ?_
            refine g_icmp_neN (tgt := 73) B (by omega) (by omega) dX12_write_65 (by decide) (fun _ => ?_) (fun e => absurd e (by decide))
            refine g_iload_n B 0 dX12_write_73 rfl ?_
            refine g_iconst (v := nI 4) B dX12_write_74 (by decide) ?_
            refine g_icmp_neN (tgt := 83) B (by omega) (by omega) dX12_write_75 (by decide) (fun _ => ?_) (fun e => absurd e (by decide))
            refine g_iload_n B 0 dX12_write_83 rfl ?_
            refine g_iconst (v := nI 5) B dX12_write_84 (by decide) ?_
            refine g_icmp_neN (tgt := 93) B (by omega) (by omega) dX12_write_85 (by decide) (fun e => absurd e (by decide)) (fun _ => ?_)
            refine g_bipush (v := nI 100) B dX12_write_88 (by decide) ?_
            refine g_goto (tgt := 95) B dX12_write_90 (by decide) ?_
            refine g_callV (rest := []) B M_X12_writes q2907 q2909 qs95 (P226.1.choose_spec.choose_spec) rfl (c_M_writes (l := ((a.wOps (x - 1)) ++ [124])) (c := 100) P226.self hr226 (by have hw1 := wNum_len (a.pa x); have hw2 := wNum_len (a.pb x); simp only [List.length_append, List.length_cons, List.length_nil]; omega)) rfl rfl (Nat.le_of_ble_eq_true rfl) (Nat.le_of_ble_eq_true rfl) (Nat.le_of_ble_eq_true rfl) (Nat.le_refl _) (Nat.le_refl _) dX12_write_95 (xkN (fun T233 O233 R233 le233 p233 => ?_))
            obtain ⟨eT233, sc233, ar233, Q233, hr233⟩ := p233
            obtain rfl := eT233.symm
            have P233 := P226.rebase Q233
            refine g_iload_n B 0 dX12_write_98 rfl ?_
            refine g_iconst (v := nI 5) B dX12_write_99 (by decide) ?_
            refine g_icmp_geN (tgt := 151) B (by omega) (by omega) dX12_write_100 (by decide) (fun _ => ?_) (fun e => absurd e (by decide))
            refine g_aload_n B 2 dX12_write_151 rfl ?_
            refine m_geta B P233 F_X12_22_12 (by decide) (Or.inl rfl) dX12_write_152 ?_
            refine g_iload_n B 1 dX12_write_155 rfl ?_
            refine m_ld B P233 (by decide) rfl rfl (by show _ < 6; omega) (by decide) (show _ = (nI (a.p x)) from (hr233.2.1.2 x (show x < a.n by omega)).2.2.2) dX12_write_156 ?_
            refine g_iconst (v := nI 1) B dX12_write_157 (by decide) ?_
            refine g_icmp_leN (tgt := 174) B (by omega) (by omega) dX12_write_158 (by decide) (fun c235 => ?_) (fun c235 => ?_)
            · refine g_iinc (v := nI (x + 1)) (lv2 := [(1, _), (2, _), (0, _)]) B 1 dX12_write_174 rfl (nI_1 _) (by decide) rfl ?_
              refine g_goto (tgt := 7) B dX12_write_177 (by decide) ?_
              have hop : a.wOps x = (((a.wOps (x - 1)) ++ [124]) ++ [100]) := by
                have hs : a.wOps x = a.wOps (x - 1) ++ a.wOp x := by rw [show x = (x - 1) + 1 by omega]; rfl
                rw [hs]; unfold aA.wOp; rw [hkd, if_pos (show 1 < x by omega), if_neg (show ¬ 1 < a.p x by omega)]; simp [wLet]
              refine g_pick [0, 2] rfl ?_
              exact ih (a.n - (x + 1)) (by omega) (x + 1) _ _ _ _ rfl P233 (by omega) (by rw [show x + 1 - 1 = x by omega, hop]; exact hr233)
            · refine g_aload_n B 2 dX12_write_161 rfl ?_
              refine g_bipush (v := nI 48) B dX12_write_162 (by decide) ?_
              refine g_aload_n B 2 dX12_write_164 rfl ?_
              refine m_geta B P233 F_X12_22_12 (by decide) (Or.inl rfl) dX12_write_165 ?_
              refine g_iload_n B 1 dX12_write_168 rfl ?_
              refine m_ld B P233 (by decide) rfl rfl (by show _ < 6; omega) (by decide) (show _ = (nI (a.p x)) from (hr233.2.1.2 x (show x < a.n by omega)).2.2.2) dX12_write_169 ?_
              refine g_iaddN B dX12_write_170 ?_
              refine g_callV (rest := []) B M_X12_writes q2907 q2909 qs95 (P233.1.choose_spec.choose_spec) rfl (c_M_writes (l := (((a.wOps (x - 1)) ++ [124]) ++ [100])) (c := (48 + (a.p x))) P233.self hr233 (by have hw1 := wNum_len (a.pa x); have hw2 := wNum_len (a.pb x); simp only [List.length_append, List.length_cons, List.length_nil]; omega)) rfl rfl (Nat.le_of_ble_eq_true rfl) (Nat.le_of_ble_eq_true rfl) (Nat.le_of_ble_eq_true rfl) (Nat.le_refl _) (Nat.le_refl _) dX12_write_171 (xkN (fun T236 O236 R236 le236 p236 => ?_))
              obtain ⟨eT236, sc236, ar236, Q236, hr236⟩ := p236
              obtain rfl := eT236.symm
              have P236 := P233.rebase Q236
              refine g_iinc (v := nI (x + 1)) (lv2 := [(1, _), (2, _), (0, _)]) B 1 dX12_write_174 rfl (nI_1 _) (by decide) rfl ?_
              refine g_goto (tgt := 7) B dX12_write_177 (by decide) ?_
              have hop : a.wOps x = ((((a.wOps (x - 1)) ++ [124]) ++ [100]) ++ [(48 + (a.p x))]) := by
                have hs : a.wOps x = a.wOps (x - 1) ++ a.wOp x := by rw [show x = (x - 1) + 1 by omega]; rfl
                rw [hs]; unfold aA.wOp; rw [hkd, if_pos (show 1 < x by omega), if_pos (show 1 < a.p x by omega)]; simp [wLet]
              refine g_pick [0, 2] rfl ?_
              exact ih (a.n - (x + 1)) (by omega) (x + 1) _ _ _ _ rfl P236 (by omega) (by rw [show x + 1 - 1 = x by omega, hop]; exact hr236)
        · refine g_top (show Value.int (nI (a.kd x)) = .int (nI 6) by rw [hkd]) ?_
          refine g_istore_n (lv2 := [(2, _), (1, _), (0, _)]) B dX12_write_21 (by decide) rfl ?_
          refine g_iload_n B 1 dX12_write_22 rfl ?_
          refine g_iconst (v := nI 1) B dX12_write_23 (by decide) ?_
          refine g_icmp_leN (tgt := 33) B (by omega) (by omega) dX12_write_24 (by decide) (fun c237 => ?_) (fun c237 => ?_)
          · refine g_aload_n B 2 dX12_write_33 rfl ?_
            refine g_iload_n B 0 dX12_write_34 rfl ?_
            refine g_if_neN (tgt := 43) B (by omega) dX12_write_35 (by decide) (fun _ => ?_) (fun e => absurd e (by decide))
            refine g_iload_n B 0 dX12_write_43 rfl ?_
            refine g_iconst (v := nI 1) B dX12_write_44 (by decide) ?_
            refine g_icmp_neN (tgt := 53) B (by omega) (by omega) dX12_write_45 (by decide) (fun _ => ?_) (fun e => absurd e (by decide))
            refine g_iload_n B 0 dX12_write_53 rfl ?_
            refine g_iconst (v := nI 2) B dX12_write_54 (by decide) ?_
            refine g_icmp_neN (tgt := 63) B (by omega) (by omega) dX12_write_55 (by decide) (fun _ => ?_) (fun e => absurd e (by decide))
            refine g_iload_n B 0 dX12_write_63 rfl ?_
            refine g_iconst (v := nI 3) B dX12_write_64 (by decide) ?_
            refine g_icmp_neN (tgt := 73) B (by omega) (by omega) dX12_write_65 (by decide) (fun _ => ?_) (fun e => absurd e (by decide))
            refine g_iload_n B 0 dX12_write_73 rfl ?_
            refine g_iconst (v := nI 4) B dX12_write_74 (by decide) ?_
            refine g_icmp_neN (tgt := 83) B (by omega) (by omega) dX12_write_75 (by decide) (fun _ => ?_) (fun e => absurd e (by decide))
            refine g_iload_n B 0 dX12_write_83 rfl ?_
            refine g_iconst (v := nI 5) B dX12_write_84 (by decide) ?_
            refine g_icmp_neN (tgt := 93) B (by omega) (by omega) dX12_write_85 (by decide) (fun _ => ?_) (fun e => absurd e (by decide))
            refine g_bipush (v := nI 114) B dX12_write_93 (by decide) ?_
            refine g_callV (rest := []) B M_X12_writes q2907 q2909 qs95 (P1.1.choose_spec.choose_spec) rfl (c_M_writes (l := (a.wOps (x - 1))) (c := 114) P1.self i1 (by omega)) rfl rfl (Nat.le_of_ble_eq_true rfl) (Nat.le_of_ble_eq_true rfl) (Nat.le_of_ble_eq_true rfl) (Nat.le_refl _) (Nat.le_refl _) dX12_write_95 (xkN (fun T244 O244 R244 le244 p244 => ?_))
            obtain ⟨eT244, sc244, ar244, Q244, hr244⟩ := p244
            obtain rfl := eT244.symm
            have P244 := P1.rebase Q244
            refine g_iload_n B 0 dX12_write_98 rfl ?_
            refine g_iconst (v := nI 5) B dX12_write_99 (by decide) ?_
            refine g_icmp_geN (tgt := 151) B (by omega) (by omega) dX12_write_100 (by decide) (fun _ => ?_) (fun e => absurd e (by decide))
            refine g_aload_n B 2 dX12_write_151 rfl ?_
            refine m_geta B P244 F_X12_22_12 (by decide) (Or.inl rfl) dX12_write_152 ?_
            refine g_iload_n B 1 dX12_write_155 rfl ?_
            refine m_ld B P244 (by decide) rfl rfl (by show _ < 6; omega) (by decide) (show _ = (nI (a.p x)) from (hr244.2.1.2 x (show x < a.n by omega)).2.2.2) dX12_write_156 ?_
            refine g_iconst (v := nI 1) B dX12_write_157 (by decide) ?_
            refine g_icmp_leN (tgt := 174) B (by omega) (by omega) dX12_write_158 (by decide) (fun c246 => ?_) (fun c246 => ?_)
            · refine g_iinc (v := nI (x + 1)) (lv2 := [(1, _), (2, _), (0, _)]) B 1 dX12_write_174 rfl (nI_1 _) (by decide) rfl ?_
              refine g_goto (tgt := 7) B dX12_write_177 (by decide) ?_
              have hop : a.wOps x = ((a.wOps (x - 1)) ++ [114]) := by
                have hs : a.wOps x = a.wOps (x - 1) ++ a.wOp x := by rw [show x = (x - 1) + 1 by omega]; rfl
                rw [hs]; unfold aA.wOp; rw [hkd, if_neg (show ¬ 1 < x by omega), if_neg (show ¬ 1 < a.p x by omega)]; simp [wLet]
              refine g_pick [0, 2] rfl ?_
              exact ih (a.n - (x + 1)) (by omega) (x + 1) _ _ _ _ rfl P244 (by omega) (by rw [show x + 1 - 1 = x by omega, hop]; exact hr244)
            · refine g_aload_n B 2 dX12_write_161 rfl ?_
              refine g_bipush (v := nI 48) B dX12_write_162 (by decide) ?_
              refine g_aload_n B 2 dX12_write_164 rfl ?_
              refine m_geta B P244 F_X12_22_12 (by decide) (Or.inl rfl) dX12_write_165 ?_
              refine g_iload_n B 1 dX12_write_168 rfl ?_
              refine m_ld B P244 (by decide) rfl rfl (by show _ < 6; omega) (by decide) (show _ = (nI (a.p x)) from (hr244.2.1.2 x (show x < a.n by omega)).2.2.2) dX12_write_169 ?_
              refine g_iaddN B dX12_write_170 ?_
              refine g_callV (rest := []) B M_X12_writes q2907 q2909 qs95 (P244.1.choose_spec.choose_spec) rfl (c_M_writes (l := ((a.wOps (x - 1)) ++ [114])) (c := (48 + (a.p x))) P244.self hr244 (by have hw1 := wNum_len (a.pa x); have hw2 := wNum_len (a.pb x); simp only [List.length_append, List.length_cons, List.length_nil]; omega)) rfl rfl (Nat.le_of_ble_eq_true rfl) (Nat.le_of_ble_eq_true rfl) (Nat.le_of_ble_eq_true rfl) (Nat.le_refl _) (Nat.le_refl _) dX12_write_171 (xkN (fun T247 O247 R247 le247 p247 => ?_))
              obtain ⟨eT247, sc247, ar247, Q247, hr247⟩ := p247
              obtain rfl := eT247.symm
              have P247 := P244.rebase Q247
              refine g_iinc (v := nI (x + 1)) (lv2 := [(1, _), (2, _), (0, _)]) B 1 dX12_write_174 rfl (nI_1 _) (by decide) rfl ?_
              refine g_goto (tgt := 7) B dX12_write_177 (by decide) ?_
              have hop : a.wOps x = (((a.wOps (x - 1)) ++ [114]) ++ [(48 + (a.p x))]) := by
                have hs : a.wOps x = a.wOps (x - 1) ++ a.wOp x := by rw [show x = (x - 1) + 1 by omega]; rfl
                rw [hs]; unfold aA.wOp; rw [hkd, if_neg (show ¬ 1 < x by omega), if_pos (show 1 < a.p x by omega)]; simp [wLet]
              refine g_pick [0, 2] rfl ?_
              exact ih (a.n - (x + 1)) (by omega) (x + 1) _ _ _ _ rfl P247 (by omega) (by rw [show x + 1 - 1 = x by omega, hop]; exact hr247)
          · refine g_aload_n B 2 dX12_write_27 rfl ?_
            refine g_bipush (v := nI 124) B dX12_write_28 (by decide) ?_
            refine g_callV (rest := []) B M_X12_writes q2907 q2909 qs95 (P1.1.choose_spec.choose_spec) rfl (c_M_writes (l := (a.wOps (x - 1))) (c := 124) P1.self i1 (by omega)) rfl rfl (Nat.le_of_ble_eq_true rfl) (Nat.le_of_ble_eq_true rfl) (Nat.le_of_ble_eq_true rfl) (Nat.le_refl _) (Nat.le_refl _) dX12_write_30 (xkN (fun T248 O248 R248 le248 p248 => ?_))
            obtain ⟨eT248, sc248, ar248, Q248, hr248⟩ := p248
            obtain rfl := eT248.symm
            have P248 := P1.rebase Q248
            refine g_aload_n B 2 dX12_write_33 rfl ?_
            refine g_iload_n B 0 dX12_write_34 rfl ?_
            refine g_if_neN (tgt := 43) B (by omega) dX12_write_35 (by decide) (fun _ => ?_) (fun e => absurd e (by decide))
            refine g_iload_n B 0 dX12_write_43 rfl ?_
            refine g_iconst (v := nI 1) B dX12_write_44 (by decide) ?_
            refine g_icmp_neN (tgt := 53) B (by omega) (by omega) dX12_write_45 (by decide) (fun _ => ?_) (fun e => absurd e (by decide))
            refine g_iload_n B 0 dX12_write_53 rfl ?_
            refine g_iconst (v := nI 2) B dX12_write_54 (by decide) ?_
            refine g_icmp_neN (tgt := 63) B (by omega) (by omega) dX12_write_55 (by decide) (fun _ => ?_) (fun e => absurd e (by decide))
            refine g_iload_n B 0 dX12_write_63 rfl ?_
            refine g_iconst (v := nI 3) B dX12_write_64 (by decide) ?_
            refine g_icmp_neN (tgt := 73) B (by omega) (by omega) dX12_write_65 (by decide) (fun _ => ?_) (fun e => absurd e (by decide))
            refine g_iload_n B 0 dX12_write_73 rfl ?_
            refine g_iconst (v := nI 4) B dX12_write_74 (by decide) ?_
            refine g_icmp_neN (tgt := 83) B (by omega) (by omega) dX12_write_75 (by decide) (fun _ => ?_) (fun e => absurd e (by decide))
            refine g_iload_n B 0 dX12_write_83 rfl ?_
            refine g_iconst (v := nI 5) B dX12_write_84 (by decide) ?_
            refine g_icmp_neN (tgt := 93) B (by omega) (by omega) dX12_write_85 (by decide) (fun _ => ?_) (fun e => absurd e (by decide))
            refine g_bipush (v := nI 114) B dX12_write_93 (by decide) ?_
            refine g_callV (rest := []) B M_X12_writes q2907 q2909 qs95 (P248.1.choose_spec.choose_spec) rfl (c_M_writes (l := ((a.wOps (x - 1)) ++ [124])) (c := 114) P248.self hr248 (by have hw1 := wNum_len (a.pa x); have hw2 := wNum_len (a.pb x); simp only [List.length_append, List.length_cons, List.length_nil]; omega)) rfl rfl (Nat.le_of_ble_eq_true rfl) (Nat.le_of_ble_eq_true rfl) (Nat.le_of_ble_eq_true rfl) (Nat.le_refl _) (Nat.le_refl _) dX12_write_95 (xkN (fun T255 O255 R255 le255 p255 => ?_))
            obtain ⟨eT255, sc255, ar255, Q255, hr255⟩ := p255
            obtain rfl := eT255.symm
            have P255 := P248.rebase Q255
            refine g_iload_n B 0 dX12_write_98 rfl ?_
            refine g_iconst (v := nI 5) B dX12_write_99 (by decide) ?_
            refine g_icmp_geN (tgt := 151) B (by omega) (by omega) dX12_write_100 (by decide) (fun _ => ?_) (fun e => absurd e (by decide))
            refine g_aload_n B 2 dX12_write_151 rfl ?_
            refine m_geta B P255 F_X12_22_12 (by decide) (Or.inl rfl) dX12_write_152 ?_
            refine g_iload_n B 1 dX12_write_155 rfl ?_
            refine m_ld B P255 (by decide) rfl rfl (by show _ < 6; omega) (by decide) (show _ = (nI (a.p x)) from (hr255.2.1.2 x (show x < a.n by omega)).2.2.2) dX12_write_156 ?_
            refine g_iconst (v := nI 1) B dX12_write_157 (by decide) ?_
            refine g_icmp_leN (tgt := 174) B (by omega) (by omega) dX12_write_158 (by decide) (fun c257 => ?_) (fun c257 => ?_)
            · refine g_iinc (v := nI (x + 1)) (lv2 := [(1, _), (2, _), (0, _)]) B 1 dX12_write_174 rfl (nI_1 _) (by decide) rfl ?_
              refine g_goto (tgt := 7) B dX12_write_177 (by decide) ?_
              have hop : a.wOps x = (((a.wOps (x - 1)) ++ [124]) ++ [114]) := by
                have hs : a.wOps x = a.wOps (x - 1) ++ a.wOp x := by rw [show x = (x - 1) + 1 by omega]; rfl
                rw [hs]; unfold aA.wOp; rw [hkd, if_pos (show 1 < x by omega), if_neg (show ¬ 1 < a.p x by omega)]; simp [wLet]
              refine g_pick [0, 2] rfl ?_
              exact ih (a.n - (x + 1)) (by omega) (x + 1) _ _ _ _ rfl P255 (by omega) (by rw [show x + 1 - 1 = x by omega, hop]; exact hr255)
            · refine g_aload_n B 2 dX12_write_161 rfl ?_
              refine g_bipush (v := nI 48) B dX12_write_162 (by decide) ?_
              refine g_aload_n B 2 dX12_write_164 rfl ?_
              refine m_geta B P255 F_X12_22_12 (by decide) (Or.inl rfl) dX12_write_165 ?_
              refine g_iload_n B 1 dX12_write_168 rfl ?_
              refine m_ld B P255 (by decide) rfl rfl (by show _ < 6; omega) (by decide) (show _ = (nI (a.p x)) from (hr255.2.1.2 x (show x < a.n by omega)).2.2.2) dX12_write_169 ?_
              refine g_iaddN B dX12_write_170 ?_
              refine g_callV (rest := []) B M_X12_writes q2907 q2909 qs95 (P255.1.choose_spec.choose_spec) rfl (c_M_writes (l := (((a.wOps (x - 1)) ++ [124]) ++ [114])) (c := (48 + (a.p x))) P255.self hr255 (by have hw1 := wNum_len (a.pa x); have hw2 := wNum_len (a.pb x); simp only [List.length_append, List.length_cons, List.length_nil]; omega)) rfl rfl (Nat.le_of_ble_eq_true rfl) (Nat.le_of_ble_eq_true rfl) (Nat.le_of_ble_eq_true rfl) (Nat.le_refl _) (Nat.le_refl _) dX12_write_171 (xkN (fun T258 O258 R258 le258 p258 => ?_))
              obtain ⟨eT258, sc258, ar258, Q258, hr258⟩ := p258
              obtain rfl := eT258.symm
              have P258 := P255.rebase Q258
              refine g_iinc (v := nI (x + 1)) (lv2 := [(1, _), (2, _), (0, _)]) B 1 dX12_write_174 rfl (nI_1 _) (by decide) rfl ?_
              refine g_goto (tgt := 7) B dX12_write_177 (by decide) ?_
              have hop : a.wOps x = ((((a.wOps (x - 1)) ++ [124]) ++ [114]) ++ [(48 + (a.p x))]) := by
                have hs : a.wOps x = a.wOps (x - 1) ++ a.wOp x := by rw [show x = (x - 1) + 1 by omega]; rfl
                rw [hs]; unfold aA.wOp; rw [hkd, if_pos (show 1 < x by omega), if_pos (show 1 < a.p x by omega)]; simp [wLet]
              refine g_pick [0, 2] rfl ?_
              exact ih (a.n - (x + 1)) (by omega) (x + 1) _ _ _ _ rfl P258 (by omega) (by rw [show x + 1 - 1 = x by omega, hop]; exact hr258)
  exact L _ 1 _ _ _ _ rfl P1 (by omega) H0
