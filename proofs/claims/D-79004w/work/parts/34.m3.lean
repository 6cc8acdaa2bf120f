set_option maxRecDepth 100000
/-- a barrier joins the queue -/
theorem mputB_pure {ch : aCh} {c : Nat} {ar ar' : Nat → Nat → Int32} (h : mCh ch c ar) (hq : ch.1.length < 4) (ho : ch.2.1.length = 0) (hage : ch.2.2 = 0) (e : ∀ j, j ≠ 51 → j ≠ 53 → ar' j = ar j) (e51 : ar' 51 = va_up (ar 51) c (nI (ch.1.length + 1))) (e53 : ar' 53 = va_up (ar 53) (4 * c + ch.1.length) (-1)) : mFr c ar ar' ∧ mCh (ch.1 ++ [none], [], 0) c ar' := by
  obtain ⟨g46, g47, g48, g51, t, g52, gnil, gb⟩ := h
  have e46 := e 46 (by omega) (by omega)
  have e47 := e 47 (by omega) (by omega)
  have e48 := e 48 (by omega) (by omega)
  have e49 := e 49 (by omega) (by omega)
  have e50 := e 50 (by omega) (by omega)
  have e52 := e 52 (by omega) (by omega)
  have e54 := e 54 (by omega) (by omega)
  have e55 := e 55 (by omega) (by omega)
  have e56 := e 56 (by omega) (by omega)
  refine ⟨⟨fun k hk => e k (by omega) (by omega), fun x hx => ?_, fun x hx => ?_, fun x hx => ?_⟩, ?_⟩
  · rw [e46, e47, e51, e52, va_upe hx]; exact ⟨rfl, rfl, rfl, rfl⟩
  · rw [e48, e49, e50, e53, va_upe (by omega)]; exact ⟨rfl, rfl, rfl, rfl⟩
  · rw [e54, e55, e56]; exact ⟨rfl, rfl, rfl⟩
  · refine ⟨by rw [e46, g46, ho]; rfl, by rw [e47, g47, hage], fun k hk => absurd hk (Nat.not_lt_zero k), by rw [e51, va_ups]; simp, t, by rw [e52]; exact g52, fun hh => by simp at hh, fun q hq2 => ?_⟩
    have hq3 : q < ch.1.length + 1 := by simpa using hq2
    rw [e53, e54, e55, e56]
    by_cases hl : q < ch.1.length
    · rw [show (ch.1 ++ [none] : List (Option (List aRec))).getD q none = ch.1.getD q none by simp [List.getD_eq_getElem?_getD, List.getElem?_append_left hl]]
      exact (gb q hl).same (va_upe (by omega)) fun x hx1 hx2 => ⟨rfl, rfl, rfl⟩
    · have hqe : q = ch.1.length := by omega
      subst hqe
      rw [show (ch.1 ++ [none] : List (Option (List aRec))).getD ch.1.length none = none by simp [List.getD_eq_getElem?_getD]]
      refine ⟨va_ups, ?_⟩
      split
      · rename_i h0
        exact gnil (List.eq_nil_of_length_eq_zero h0)
      · rfl
/-- the first batch goes -/
theorem mpop_pure {b0 : Option (List aRec)} {rest : List (Option (List aRec))} {op : List aRec} {age c : Nat} {ar ar' : Nat → Nat → Int32} (h : mCh (b0 :: rest, op, age) c ar) (hq : rest.length < 4) (e : ∀ j, (j < 51 ∨ 56 < j) → ar' j = ar j) (e51 : ar' 51 = va_up (ar 51) c (nI rest.length)) (e52 : ar' 52 = va_up (ar 52) c (nI 0)) (hi : ∀ x, x < rest.length → ar' 53 (4 * c + x) = ar 53 (4 * c + x + 1)) (hj : ∀ x, x < rest.length → ∀ k, k < 4 → ar' 54 (4 * (4 * c + x) + k) = ar 54 (4 * (4 * c + x + 1) + k) ∧ ar' 55 (4 * (4 * c + x) + k) = ar 55 (4 * (4 * c + x + 1) + k) ∧ ar' 56 (4 * (4 * c + x) + k) = ar 56 (4 * (4 * c + x + 1) + k)) (o53 : ∀ x, (x < 4 * c ∨ 4 * c + rest.length ≤ x) → ar' 53 x = ar 53 x) (o54 : ∀ x, (x < 16 * c ∨ 4 * (4 * c + rest.length) ≤ x) → ar' 54 x = ar 54 x ∧ ar' 55 x = ar 55 x ∧ ar' 56 x = ar 56 x) : mFr c ar ar' ∧ mCh (rest, op, age) c ar' := by
  obtain ⟨g46, g47, g48, g51, t, g52, gnil, gb⟩ := h
  have e46 := e 46 (by omega)
  have e47 := e 47 (by omega)
  have e48 := e 48 (by omega)
  have e49 := e 49 (by omega)
  have e50 := e 50 (by omega)
  refine ⟨⟨fun k hk => e k (by omega), fun x hx => ?_, fun x hx => ?_, fun x hx => o54 x (by omega)⟩, ?_⟩
  · rw [e46, e47, e51, e52, va_upe hx, va_upe hx]; exact ⟨rfl, rfl, rfl, rfl⟩
  · rw [e48, e49, e50, o53 x (by omega)]; exact ⟨rfl, rfl, rfl, rfl⟩
  · refine ⟨by rw [e46]; exact g46, by rw [e47]; exact g47, by rw [e48, e49, e50]; exact g48, by rw [e51, va_ups], 0, by rw [e52, va_ups], fun _ => rfl, fun q hq2 => ?_⟩
    have hb := gb (q + 1) (by simp; exact hq2)
    rw [if_neg (by omega)] at hb
    rw [show (if q = 0 then 0 else 0) = 0 by split <;> rfl]
    rw [show ((b0 :: rest, op, age) : aCh).1.getD (q + 1) none = rest.getD q none by simp [List.getD_eq_getElem?_getD]] at hb
    show mBat (rest.getD q none) 0 (4 * c + q) _ _ _ _
    cases hbq : rest.getD q none with
    | none =>
      rw [hbq] at hb
      exact ⟨(hi q hq2).trans hb.1, rfl⟩
    | some l =>
      rw [hbq] at hb
      refine ⟨(hi q hq2).trans hb.1, hb.2.1, fun k hk => ?_⟩
      obtain ⟨y1, y2, y3⟩ := hj q hq2 k (by have := hb.2.1; omega)
      obtain ⟨z1, z2, z3⟩ := hb.2.2 k hk
      exact ⟨y1.trans z1, y2.trans z2, y3.trans z3⟩
theorem c_M_putsBarrier {G : xG} {T : xT} {O R : xO} {m : Nat} {ad : Nat → Nat} {sc : Nat → Int32} {ar : Nat → Nat → Int32} {c : Nat} {ch : aCh} (P : PM m ad O R sc ar T O R) (hc : c < 54) (h : mCh ch c ar) (ho : ch.2.1.length ≤ 4) (hage : ch.2.1.length = 0 → ch.2.2 = 0) (hf : cFitB 4 ch = true) : xCtr G yX12_putsBarrier cX12_putsBarrier 2 none 1 23 0 0 [.ref m, .int (nI c)] (T, O, R) (xN (mPostN m ad T O R (fun sc2 ar2 => sc2 = sc ∧ mFr c ar ar2 ∧ mCh (cPutB ch) c ar2))) := by
  obtain ⟨h46, h47, h48, h51, t, h52, hnil, hb⟩ := h
  refine xCtr.of (by decide +kernel) (Nat.le_of_ble_eq_true rfl) ?_
  intro Z B E hz hnm
  change xV Z (T, O, R) 0 [(0, .ref m), (1, .int (nI c))] [] 0 0
  have hfit : ch.1.length + (if 0 < ch.2.1.length then 2 else 1) ≤ 4 := by
    have := hf
    simp only [cFitB, decide_eq_true_eq] at this
    exact this
  have hfit2 : (0 < ch.2.1.length → ch.1.length < 3) ∧ ch.1.length < 4 := by
    split at hfit <;> omega
  have J : ∀ (O1 R1 : xO) (arJ : Nat → Nat → Int32) (ch1 : aCh), PM m ad O R sc arJ T O1 R1 → mFr c ar arJ → mCh ch1 c arJ → ch1 = (if 0 < ch.2.1.length then cClose ch else ch) → ch1.1.length < 4 → ch1.2.1.length = 0 → ch1.2.2 = 0 → xV Z (T, O1, R1) 14 [(0, .ref m), (1, .int (nI c))] [] 0 0 := by
    intro O1 R1 arJ ch1 PJ f1 m1 e1 hq1 h10 h20
    refine g_aload_n B 0 dX12_putsBarrier_14 rfl ?_
    refine m_geta B PJ F_X12_135_12 (by decide) (Or.inl rfl) dX12_putsBarrier_15 ?_
    refine g_iconst (v := nI 4) B dX12_putsBarrier_18 (by decide) ?_
    refine g_iload_n B 1 dX12_putsBarrier_19 rfl ?_
    refine g_imulN B dX12_putsBarrier_20 ?_
    refine g_aload_n B 0 dX12_putsBarrier_21 rfl ?_
    refine m_geta B PJ F_X12_129_12 (by decide) (Or.inl rfl) dX12_putsBarrier_22 ?_
    refine g_iload_n B 1 dX12_putsBarrier_25 rfl ?_
    refine m_ld B PJ (by decide) rfl rfl (by show _ < 54; omega) (by decide) (show _ = (nI ch1.1.length) from m1.2.2.2.1) dX12_putsBarrier_26 ?_
    refine g_iaddN B dX12_putsBarrier_27 ?_
    refine g_iconst (v := (-1)) B dX12_putsBarrier_28 (by decide) ?_
    refine m_st B PJ (by decide) rfl rfl (by show _ < 216; omega) (by decide) dX12_putsBarrier_29 (fun R1 ar1 hs1 hk1 P1 => ?_)
    refine g_aload_n B 0 dX12_putsBarrier_30 rfl ?_
    refine m_geta B P1 F_X12_129_12 (by decide) (Or.inl rfl) dX12_putsBarrier_31 ?_
    refine g_iload_n B 1 dX12_putsBarrier_34 rfl ?_
    refine g_dup2 B dX12_putsBarrier_35 rfl rfl ?_
    refine m_ld B P1 (by decide) rfl rfl (by show _ < 54; omega) (by decide) (show _ = (nI ch1.1.length) from ((congrFun (hk1 51 (by decide)) _).trans m1.2.2.2.1)) dX12_putsBarrier_36 ?_
    refine g_iconst (v := nI 1) B dX12_putsBarrier_37 (by decide) ?_
    refine g_iaddN B dX12_putsBarrier_38 ?_
    refine m_st B P1 (by decide) rfl rfl (by show _ < 54; omega) (by decide) dX12_putsBarrier_39 (fun R2 ar2 hs2 hk2 P2 => ?_)
    refine g_vret B E rfl dX12_putsBarrier_40 ?_
    have e51 : ar2 51 = va_up (arJ 51) c (nI (ch1.1.length + 1)) := (hs2.trans (congrArg (fun g => va_up g c (nI (ch1.1.length + 1))) (hk1 51 (by decide))))
    have e53 : ar2 53 = va_up (arJ 53) ((4 * c) + ch1.1.length) (-1) := ((hk2 53 (by decide)).trans hs1)
    obtain ⟨f2, m2⟩ := mputB_pure (ar' := ar2) m1 (by omega) h10 h20 (fun j j1 j2 => by rw [hk2 j j1, hk1 j j2]) e51 e53
    exact ⟨rfl, rfl, sc, _, P2, rfl, f1.tr f2, by unfold cPutB; rw [← e1]; exact m2⟩
  refine g_aload_n B 0 dX12_putsBarrier_0 rfl ?_
  refine m_geta B P F_X12_114_12 (by decide) (Or.inl rfl) dX12_putsBarrier_1 ?_
  refine g_iload_n B 1 dX12_putsBarrier_4 rfl ?_
  refine m_ld B P (by decide) rfl rfl (by show _ < 54; omega) (by decide) (show _ = (nI ch.2.1.length) from h46) dX12_putsBarrier_5 ?_
  refine g_if_leN (tgt := 14) B (by omega) dX12_putsBarrier_6 (by decide) (fun c1 => ?_) (fun c1 => ?_)
  · exact J _ _ ar ch P mFr.rf ⟨h46, h47, h48, h51, t, h52, hnil, hb⟩ (by rw [if_neg (by omega)]) (by omega) (by omega) (hage (by omega))
  · refine g_aload_n B 0 dX12_putsBarrier_9 rfl ?_
    refine g_iload_n B 1 dX12_putsBarrier_10 rfl ?_
    refine g_callV (rest := []) B M_X12_closes q2728 q2730 qs67 (P.1.choose_spec.choose_spec) rfl (c_M_closes P hc ⟨h46, h47, h48, h51, t, h52, hnil, hb⟩ (by omega) ho) rfl rfl (by decide) (by decide) (by decide) (Nat.le_refl _) (Nat.le_refl _) dX12_putsBarrier_11 (xkN (fun T2 O2 R2 le2 p2 => ?_))
    obtain ⟨rfl, sc2, ar2, Q2, hsc2, f2, m2⟩ := p2
    have P2 := P.rebase Q2
    subst hsc2
    exact J _ _ _ _ P2 f2 m2 (by rw [if_pos (by omega)]) (by show (ch.1 ++ [some ch.2.1]).length < 4; rw [List.length_append]; show ch.1.length + 1 < 4; omega) rfl rfl
theorem c_M_pops {G : xG} {T : xT} {O R : xO} {m : Nat} {ad : Nat → Nat} {sc : Nat → Int32} {ar : Nat → Nat → Int32} {c : Nat} {b0 : Option (List aRec)} {rest : List (Option (List aRec))} {op : List aRec} {age : Nat} (P : PM m ad O R sc ar T O R) (hc : c < 54) (h : mCh (b0 :: rest, op, age) c ar) (hq : rest.length < 4) : xCtr G yX12_pops cX12_pops 4 none 0 0 0 0 [.ref m, .int (nI c)] (T, O, R) (xN (mPostN m ad T O R (fun sc2 ar2 => sc2 = sc ∧ mFr c ar ar2 ∧ mCh (rest, op, age) c ar2))) := by
  refine xCtr.of (by decide +kernel) (Nat.le_of_ble_eq_true rfl) ?_
  intro Z B E hz hnm
  change xV Z (T, O, R) 0 [(0, .ref m), (1, .int (nI c))] [] 0 0
  have hm := h
  obtain ⟨h46, h47, h48, h51, t, h52, hnil, hb⟩ := h
  have L : ∀ (d x : Nat) (O1 R1 : xO) (ar1 : Nat → Nat → Int32), d = rest.length - x → x ≤ rest.length → PM m ad O R sc ar1 T O1 R1 → (∀ j, (j < 53 ∨ 56 < j) → ar1 j = ar j) → (∀ y, y < x → ar1 53 (4 * c + y) = ar 53 (4 * c + y + 1)) → (∀ y, y < x → ∀ k, k < 4 → ar1 54 (4 * (4 * c + y) + k) = ar 54 (4 * (4 * c + y + 1) + k) ∧ ar1 55 (4 * (4 * c + y) + k) = ar 55 (4 * (4 * c + y + 1) + k) ∧ ar1 56 (4 * (4 * c + y) + k) = ar 56 (4 * (4 * c + y + 1) + k)) → (∀ y, (y < 4 * c ∨ 4 * c + x ≤ y) → ar1 53 y = ar 53 y) → (∀ y, (y < 16 * c ∨ 4 * (4 * c + x) ≤ y) → ar1 54 y = ar 54 y ∧ ar1 55 y = ar 55 y ∧ ar1 56 y = ar 56 y) → xV Z (T, O1, R1) 4 [(2, .int (nI (4 * c + x))), (0, .ref m), (1, .int (nI c))] [] 0 0 := by
    intro d
    induction d using Nat.strongRecOn with
    | _ d ih =>
      intro x O1 R1 ar1 hd hx P1 i1 i2 i3 i4 i5
      refine g_iload_n B 0 dX12_pops_4 rfl ?_
      refine g_iconst (v := nI 1) B dX12_pops_5 (by decide) ?_
      refine g_iaddN B dX12_pops_6 ?_
      refine g_iconst (v := nI 4) B dX12_pops_7 (by decide) ?_
      refine g_iload_n B 2 dX12_pops_8 rfl ?_
      refine g_imulN B dX12_pops_9 ?_
      refine g_aload_n B 1 dX12_pops_10 rfl ?_
      refine m_geta B P1 F_X12_129_12 (by decide) (Or.inl rfl) dX12_pops_11 ?_
      refine g_iload_n B 2 dX12_pops_14 rfl ?_
      refine m_ld B P1 (by decide) rfl rfl (by show _ < 54; omega) (by decide) (show _ = (nI (rest.length + 1)) from ((congrFun (i1 51 (by omega)) c).trans h51)) dX12_pops_15 ?_
      refine g_iaddN B dX12_pops_16 ?_
      refine g_icmp_geN (tgt := 119) B (by omega) (by omega) dX12_pops_17 (by decide) (fun c31 => ?_) (fun c31 => ?_)
      · refine g_aload_n B 1 dX12_pops_119 rfl ?_
        refine m_geta B P1 F_X12_129_12 (by decide) (Or.inl rfl) dX12_pops_120 ?_
        refine g_iload_n B 2 dX12_pops_123 rfl ?_
        refine g_dup2 B dX12_pops_124 rfl rfl ?_
        refine m_ld B P1 (by decide) rfl rfl (by show _ < 54; omega) (by decide) (show _ = (nI (rest.length + 1)) from ((congrFun (i1 51 (by omega)) c).trans h51)) dX12_pops_125 ?_
        refine g_iconst (v := nI 1) B dX12_pops_126 (by decide) ?_
        refine g_isubN B (by omega) dX12_pops_127 ?_
        refine m_st B P1 (by decide) rfl rfl (by show _ < 54; omega) (by decide) dX12_pops_128 (fun R32 ar32 hs32 hk32 P32 => ?_)
        refine g_aload_n B 1 dX12_pops_129 rfl ?_
        refine m_geta B P32 F_X12_132_12 (by decide) (Or.inl rfl) dX12_pops_130 ?_
        refine g_iload_n B 2 dX12_pops_133 rfl ?_
        refine g_iconst (v := nI 0) B dX12_pops_134 (by decide) ?_
        refine m_st B P32 (by decide) rfl rfl (by show _ < 54; omega) (by decide) dX12_pops_135 (fun R33 ar33 hs33 hk33 P33 => ?_)
        refine g_vret B E rfl dX12_pops_136 ?_
        have e51 : ar33 51 = va_up (ar1 51) c (nI ((rest.length + 1) - 1)) := ((hk33 51 (by decide)).trans hs32)
        have e52 : ar33 52 = va_up (ar1 52) c (nI 0) := (hs33.trans (congrArg (fun g => va_up g c (nI 0)) (hk32 52 (by decide))))
        have hx2 : x = rest.length := by omega
        subst hx2
        refine ⟨rfl, rfl, sc, _, P33, rfl, mpop_pure (ar' := ar33) hm hq (fun j hj => by rw [hk33 j (by omega), hk32 j (by omega)]; exact i1 j (by omega)) (by rw [e51, i1 51 (by omega), Nat.add_sub_cancel]) (by rw [e52, i1 52 (by omega)]) ?_ ?_ ?_ ?_⟩
        · intro y hy; rw [hk33 53 (by decide), hk32 53 (by decide)]; exact i2 y hy
        · intro y hy k hk; rw [hk33 54 (by decide), hk32 54 (by decide)]; rw [hk33 55 (by decide), hk32 55 (by decide)]; rw [hk33 56 (by decide), hk32 56 (by decide)]; exact i3 y hy k hk
        · intro y hy; rw [hk33 53 (by decide), hk32 53 (by decide)]; exact i4 y hy
        · intro y hy; rw [hk33 54 (by decide), hk32 54 (by decide)]; rw [hk33 55 (by decide), hk32 55 (by decide)]; rw [hk33 56 (by decide), hk32 56 (by decide)]; exact i5 y hy
      · refine g_aload_n B 1 dX12_pops_20 rfl ?_
        refine m_geta B P1 F_X12_135_12 (by decide) (Or.inl rfl) dX12_pops_21 ?_
        refine g_iload_n B 0 dX12_pops_24 rfl ?_
        refine g_aload_n B 1 dX12_pops_25 rfl ?_
        refine m_geta B P1 F_X12_135_12 (by decide) (Or.inl rfl) dX12_pops_26 ?_
        refine g_iload_n B 0 dX12_pops_29 rfl ?_
        refine g_iconst (v := nI 1) B dX12_pops_30 (by decide) ?_
        refine g_iaddN B dX12_pops_31 ?_
        refine m_ld B P1 (by decide) rfl rfl (by show _ < 216; omega) (by decide) (show _ = (ar 53 (4 * c + x + 1)) from (i4 _ (by omega))) dX12_pops_32 ?_
        refine m_st B P1 (by decide) rfl rfl (by show _ < 216; omega) (by decide) dX12_pops_33 (fun R34 ar34 hs34 hk34 P34 => ?_)
        refine g_iconst (v := nI 0) B dX12_pops_34 (by decide) ?_
        refine g_istore_n (lv2 := [(3, _), (2, _), (0, _), (1, _)]) B dX12_pops_35 (by decide) rfl ?_
        have L2 : ∀ (d2 k : Nat) (O2 R2 : xO) (ar2 : Nat → Nat → Int32), d2 = 4 - k → k ≤ 4 → PM m ad O R sc ar2 T O2 R2 → (∀ j, (j < 53 ∨ 56 < j) → ar2 j = ar j) → (∀ y, y < x + 1 → ar2 53 (4 * c + y) = ar 53 (4 * c + y + 1)) → (∀ y, y < x → ∀ k, k < 4 → ar2 54 (4 * (4 * c + y) + k) = ar 54 (4 * (4 * c + y + 1) + k) ∧ ar2 55 (4 * (4 * c + y) + k) = ar 55 (4 * (4 * c + y + 1) + k) ∧ ar2 56 (4 * (4 * c + y) + k) = ar 56 (4 * (4 * c + y + 1) + k)) → (∀ y, y < k → ar2 54 (4 * (4 * c + x) + y) = ar 54 (4 * (4 * c + x + 1) + y) ∧ ar2 55 (4 * (4 * c + x) + y) = ar 55 (4 * (4 * c + x + 1) + y) ∧ ar2 56 (4 * (4 * c + x) + y) = ar 56 (4 * (4 * c + x + 1) + y)) → (∀ y, (y < 4 * c ∨ 4 * c + x + 1 ≤ y) → ar2 53 y = ar 53 y) → (∀ y, (y < 16 * c ∨ 4 * (4 * c + x) + k ≤ y) → ar2 54 y = ar 54 y ∧ ar2 55 y = ar 55 y ∧ ar2 56 y = ar 56 y) → xV Z (T, O2, R2) 36 [(3, .int (nI k)), (2, .int (nI (4 * c + x))), (0, .ref m), (1, .int (nI c))] [] 0 0 := by
          intro d2
          induction d2 using Nat.strongRecOn with
          | _ d2 ih2 =>
            intro k O2 R2 ar2 hd2 hk2 P2 j1 j2 j3 j4 j5a j5
            refine g_iload_n B 0 dX12_pops_36 rfl ?_
            refine g_iconst (v := nI 4) B dX12_pops_37 (by decide) ?_
            refine g_icmp_geN (tgt := 113) B (by omega) (by omega) dX12_pops_38 (by decide) (fun c11 => ?_) (fun c11 => ?_)
            · refine g_iinc (v := nI ((4 * c + x) + 1)) (lv2 := [(2, _), (3, _), (0, _), (1, _)]) B 1 dX12_pops_113 rfl (nI_1 _) (by decide) rfl ?_
              refine g_goto (tgt := 4) B dX12_pops_116 (by decide) ?_
              have hk4 : k = 4 := by omega
              subst hk4
              refine xV.w [0, 2, 3] rfl ?_
              refine ih (rest.length - (x + 1)) (by omega) (x + 1) _ _ _ rfl (by omega) P2 j1 j2 (fun y hy => ?_) j5a (fun y hy => j5 y (by omega))
              rcases Nat.lt_or_ge y x with h | h
              · exact j3 y h
              · have hyx : y = x := by omega
                subst hyx
                exact j4
            · refine g_aload_n B 2 dX12_pops_41 rfl ?_
              refine m_geta B P2 F_X12_138_12 (by decide) (Or.inl rfl) dX12_pops_42 ?_
              refine g_iconst (v := nI 4) B dX12_pops_45 (by decide) ?_
              refine g_iload_n B 1 dX12_pops_46 rfl ?_
              refine g_imulN B dX12_pops_47 ?_
              refine g_iload_n B 0 dX12_pops_48 rfl ?_
              refine g_iaddN B dX12_pops_49 ?_
              refine g_aload_n B 2 dX12_pops_50 rfl ?_
              refine m_geta B P2 F_X12_138_12 (by decide) (Or.inl rfl) dX12_pops_51 ?_
              refine g_iconst (v := nI 4) B dX12_pops_54 (by decide) ?_
              refine g_iload_n B 1 dX12_pops_55 rfl ?_
              refine g_iconst (v := nI 1) B dX12_pops_56 (by decide) ?_
              refine g_iaddN B dX12_pops_57 ?_
              refine g_imulN B dX12_pops_58 ?_
              refine g_iload_n B 0 dX12_pops_59 rfl ?_
              refine g_iaddN B dX12_pops_60 ?_
              refine m_ld B P2 (by decide) rfl rfl (by show _ < 864; omega) (by decide) (show _ = (ar 54 (4 * (4 * c + x + 1) + k)) from (j5 _ (by omega)).1) dX12_pops_61 ?_
              refine m_st B P2 (by decide) rfl rfl (by show _ < 864; omega) (by decide) dX12_pops_62 (fun R12 ar12 hs12 hk12 P12 => ?_)
              refine g_aload_n B 2 dX12_pops_63 rfl ?_
              refine m_geta B P12 F_X12_141_12 (by decide) (Or.inl rfl) dX12_pops_64 ?_
              refine g_iconst (v := nI 4) B dX12_pops_67 (by decide) ?_
              refine g_iload_n B 1 dX12_pops_68 rfl ?_
              refine g_imulN B dX12_pops_69 ?_
              refine g_iload_n B 0 dX12_pops_70 rfl ?_
              refine g_iaddN B dX12_pops_71 ?_
              refine g_aload_n B 2 dX12_pops_72 rfl ?_
              refine m_geta B P12 F_X12_141_12 (by decide) (Or.inl rfl) dX12_pops_73 ?_
              refine g_iconst (v := nI 4) B dX12_pops_76 (by decide) ?_
              refine g_iload_n B 1 dX12_pops_77 rfl ?_
              refine g_iconst (v := nI 1) B dX12_pops_78 (by decide) ?_
              refine g_iaddN B dX12_pops_79 ?_
              refine g_imulN B dX12_pops_80 ?_
              refine g_iload_n B 0 dX12_pops_81 rfl ?_
              refine g_iaddN B dX12_pops_82 ?_
              refine m_ld B P12 (by decide) rfl rfl (by show _ < 864; omega) (by decide) (show _ = (ar 55 (4 * (4 * c + x + 1) + k)) from ((congrFun (hk12 55 (by decide)) _).trans (j5 _ (by omega)).2.1)) dX12_pops_83 ?_
              refine m_st B P12 (by decide) rfl rfl (by show _ < 864; omega) (by decide) dX12_pops_84 (fun R13 ar13 hs13 hk13 P13 => ?_)
              refine g_aload_n B 2 dX12_pops_85 rfl ?_
              refine m_geta B P13 F_X12_144_12 (by decide) (Or.inl rfl) dX12_pops_86 ?_
              refine g_iconst (v := nI 4) B dX12_pops_89 (by decide) ?_
              refine g_iload_n B 1 dX12_pops_90 rfl ?_
              refine g_imulN B dX12_pops_91 ?_
              refine g_iload_n B 0 dX12_pops_92 rfl ?_
              refine g_iaddN B dX12_pops_93 ?_
              refine g_aload_n B 2 dX12_pops_94 rfl ?_
              refine m_geta B P13 F_X12_144_12 (by decide) (Or.inl rfl) dX12_pops_95 ?_
              refine g_iconst (v := nI 4) B dX12_pops_98 (by decide) ?_
              refine g_iload_n B 1 dX12_pops_99 rfl ?_
              refine g_iconst (v := nI 1) B dX12_pops_100 (by decide) ?_
              refine g_iaddN B dX12_pops_101 ?_
              refine g_imulN B dX12_pops_102 ?_
              refine g_iload_n B 0 dX12_pops_103 rfl ?_
              refine g_iaddN B dX12_pops_104 ?_
              refine m_ld B P13 (by decide) rfl rfl (by show _ < 864; omega) (by decide) (show _ = (ar 56 (4 * (4 * c + x + 1) + k)) from ((congrFun (hk13 56 (by decide)) _).trans ((congrFun (hk12 56 (by decide)) _).trans (j5 _ (by omega)).2.2))) dX12_pops_105 ?_
              refine m_st B P13 (by decide) rfl rfl (by show _ < 864; omega) (by decide) dX12_pops_106 (fun R14 ar14 hs14 hk14 P14 => ?_)
              refine g_iinc (v := nI (k + 1)) (lv2 := [(3, _), (2, _), (0, _), (1, _)]) B 0 dX12_pops_107 rfl (nI_1 _) (by decide) rfl ?_
              refine g_goto (tgt := 36) B dX12_pops_110 (by decide) ?_
              have e53 : ar14 53 = ar2 53 := ((hk14 53 (by decide)).trans ((hk13 53 (by decide)).trans (hk12 53 (by decide))))
              have e54 : ar14 54 = va_up (ar2 54) ((4 * (4 * c + x)) + k) (ar 54 (4 * (4 * c + x + 1) + k)) := ((hk14 54 (by decide)).trans ((hk13 54 (by decide)).trans hs12))
              have e55 : ar14 55 = va_up (ar2 55) ((4 * (4 * c + x)) + k) (ar 55 (4 * (4 * c + x + 1) + k)) := ((hk14 55 (by decide)).trans (hs13.trans (congrArg (fun g => va_up g ((4 * (4 * c + x)) + k) (ar 55 (4 * (4 * c + x + 1) + k))) (hk12 55 (by decide)))))
              have e56 : ar14 56 = va_up (ar2 56) ((4 * (4 * c + x)) + k) (ar 56 (4 * (4 * c + x + 1) + k)) := (hs14.trans (congrArg (fun g => va_up g ((4 * (4 * c + x)) + k) (ar 56 (4 * (4 * c + x + 1) + k))) ((hk13 56 (by decide)).trans (hk12 56 (by decide)))))
              refine ih2 (4 - (k + 1)) (by omega) (k + 1) _ _ _ rfl (by omega) P14 ?_ ?_ ?_ ?_ ?_ ?_
              · exact fun j hj => by rw [hk14 j (by omega), hk13 j (by omega), hk12 j (by omega)]; exact j1 j hj
              · rw [e53]; exact j2
              · intro y hy k3 hk3
                rw [e54, e55, e56, va_upe (by omega), va_upe (by omega), va_upe (by omega)]
                exact j3 y hy k3 hk3
              · intro y hy
                by_cases hyk : y = k
                · subst hyk
                  rw [e54, e55, e56, va_ups, va_ups, va_ups]
                  exact ⟨rfl, rfl, rfl⟩
                · rw [e54, e55, e56, va_upe (by omega), va_upe (by omega), va_upe (by omega)]
                  exact j4 y (by omega)
              · rw [e53]; exact j5a
              · intro y hy
                rw [e54, e55, e56, va_upe (by omega), va_upe (by omega), va_upe (by omega)]
                exact j5 y (by omega)
        have e53 : ar34 53 = va_up (ar1 53) (4 * c + x) (ar 53 (4 * c + x + 1)) := hs34
        refine L2 4 0 _ _ _ rfl (Nat.zero_le _) P34 (fun j hj => by rw [hk34 j (by omega)]; exact i1 j hj) (fun y hy => ?_) (fun y hy k hk => by rw [hk34 54 (by decide), hk34 55 (by decide), hk34 56 (by decide)]; exact i3 y hy k hk) (fun y hy => absurd hy (Nat.not_lt_zero y)) (fun y hy => by rw [e53, va_upe (by omega)]; exact i4 y (by omega)) (fun y hy => by rw [hk34 54 (by decide), hk34 55 (by decide), hk34 56 (by decide)]; exact i5 y (by omega))
        rw [e53]
        by_cases hyx : y = x
        · subst hyx; exact va_ups
        · rw [va_upe (by omega)]; exact i2 y (by omega)
  refine g_iconst (v := nI 4) B dX12_pops_0 (by decide) ?_
  refine g_iload_n B 1 dX12_pops_1 rfl ?_
  refine g_imulN B dX12_pops_2 ?_
  refine g_istore_n (lv2 := [(2, _), (0, _), (1, _)]) B dX12_pops_3 (by decide) rfl ?_
  exact L _ 0 _ _ _ rfl (Nat.zero_le _) P (fun j hj => rfl) (fun y hy => absurd hy (Nat.not_lt_zero y)) (fun y hy => absurd hy (Nat.not_lt_zero y)) (fun y hy => rfl) (fun y hy => ⟨rfl, rfl, rfl⟩)
