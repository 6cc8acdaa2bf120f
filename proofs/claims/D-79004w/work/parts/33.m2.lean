set_option maxRecDepth 100000
theorem nI1 {b : Bool} (h : b = true) : Value.int (nI 1) = .int (bI b) := by rw [h]; rfl
theorem nI0 {b : Bool} (h : b = false) : Value.int (nI 0) = .int (bI b) := by rw [h]; rfl
theorem c_M_takesRecord {G : xG} {T : xT} {O R : xO} {m : Nat} {ad : Nat → Nat} {sc : Nat → Int32} {ar : Nat → Nat → Int32} {c : Nat} {ch : aCh} {bs cr : Nat}  (P : PM m ad O R sc ar T O R) (hc : c < 54) (h : mCh ch c ar) (hbs : sc 7 = nI bs) (hcr : sc 9 = nI cr) (hb4 : bs ≤ 4) (hc4 : cr ≤ 4) (hq : ch.1.length ≤ 4) (ho : ch.2.1.length ≤ 4) : xCtr G yX12_takesRecord cX12_takesRecord 2 (some Jvm.ClassFile.FieldType.boolean) 0 0 0 0 [.ref m, .int (nI c)] (T, O, R) (xA (fun v T2 O2 R2 => v = .int (bI (cFit bs cr ch)) ∧ T2 = T ∧ O2 = O ∧ R2 = R)) := by
  obtain ⟨h46, h47, h48, h51, t, h52, hnil, hb⟩ := h
  refine xCtr.of (by decide +kernel) (Nat.le_of_ble_eq_true rfl) ?_
  intro Z B E hz hnm
  change xV Z (T, O, R) 0 [(0, .ref m), (1, .int (nI c))] [] 0 0
  refine g_aload_n B 0 dX12_takesRecord_0 rfl ?_
  refine m_geta B P F_X12_114_12 (by decide) (Or.inl rfl) dX12_takesRecord_1 ?_
  refine g_iload_n B 1 dX12_takesRecord_4 rfl ?_
  refine m_ld B P (by decide) rfl rfl (by show _ < 54; omega) (by decide) (show _ = (nI ch.2.1.length) from h46) dX12_takesRecord_5 ?_
  refine g_aload_n B 0 dX12_takesRecord_6 rfl ?_
  refine m_get B P F_X12_25_12 (by decide) (Or.inl rfl) (show _ = (nI bs) from hbs) dX12_takesRecord_7 ?_
  refine g_icmp_ltN (tgt := 26) B (by omega) (by omega) dX12_takesRecord_10 (by decide) (fun c1 => ?_) (fun c1 => ?_)
  · refine g_iconst (v := nI 1) B dX12_takesRecord_26 (by decide) ?_
    refine g_goto (tgt := 31) B dX12_takesRecord_27 (by decide) ?_
    refine g_iret B E rfl rfl dX12_takesRecord_31 ?_
    exact ⟨_, rfl, (nI1 (by simp only [cFit, Bool.or_eq_true, decide_eq_true_eq]; omega)), rfl, rfl, rfl⟩
  · refine g_aload_n B 0 dX12_takesRecord_13 rfl ?_
    refine m_geta B P F_X12_129_12 (by decide) (Or.inl rfl) dX12_takesRecord_14 ?_
    refine g_iload_n B 1 dX12_takesRecord_17 rfl ?_
    refine m_ld B P (by decide) rfl rfl (by show _ < 54; omega) (by decide) (show _ = (nI ch.1.length) from h51) dX12_takesRecord_18 ?_
    refine g_aload_n B 0 dX12_takesRecord_19 rfl ?_
    refine m_get B P F_X12_32_12 (by decide) (Or.inl rfl) (show _ = (nI cr) from hcr) dX12_takesRecord_20 ?_
    refine g_icmp_geN (tgt := 30) B (by omega) (by omega) dX12_takesRecord_23 (by decide) (fun c2 => ?_) (fun c2 => ?_)
    · refine g_iconst (v := nI 0) B dX12_takesRecord_30 (by decide) ?_
      refine g_iret B E rfl rfl dX12_takesRecord_31 ?_
      exact ⟨_, rfl, (nI0 (by simp only [cFit, Bool.or_eq_false_iff, decide_eq_false_iff_not]; omega)), rfl, rfl, rfl⟩
    · refine g_iconst (v := nI 1) B dX12_takesRecord_26 (by decide) ?_
      refine g_goto (tgt := 31) B dX12_takesRecord_27 (by decide) ?_
      refine g_iret B E rfl rfl dX12_takesRecord_31 ?_
      exact ⟨_, rfl, (nI1 (by simp only [cFit, Bool.or_eq_true, decide_eq_true_eq]; omega)), rfl, rfl, rfl⟩
theorem c_M_takesBarrier {G : xG} {T : xT} {O R : xO} {m : Nat} {ad : Nat → Nat} {sc : Nat → Int32} {ar : Nat → Nat → Int32} {c : Nat} {ch : aCh} {cr : Nat} (P : PM m ad O R sc ar T O R) (hc : c < 54) (h : mCh ch c ar) (hcr : sc 9 = nI cr) (hc4 : cr ≤ 4) (hq : ch.1.length ≤ 4) (ho : ch.2.1.length ≤ 4) : xCtr G yX12_takesBarrier cX12_takesBarrier 2 (some Jvm.ClassFile.FieldType.boolean) 0 0 0 0 [.ref m, .int (nI c)] (T, O, R) (xA (fun v T2 O2 R2 => v = .int (bI (cFitB cr ch)) ∧ T2 = T ∧ O2 = O ∧ R2 = R)) := by
  obtain ⟨h46, h47, h48, h51, t, h52, hnil, hb⟩ := h
  refine xCtr.of (by decide +kernel) (Nat.le_of_ble_eq_true rfl) ?_
  intro Z B E hz hnm
  change xV Z (T, O, R) 0 [(0, .ref m), (1, .int (nI c))] [] 0 0
  refine g_aload_n B 0 dX12_takesBarrier_0 rfl ?_
  refine m_geta B P F_X12_129_12 (by decide) (Or.inl rfl) dX12_takesBarrier_1 ?_
  refine g_iload_n B 1 dX12_takesBarrier_4 rfl ?_
  refine m_ld B P (by decide) rfl rfl (by show _ < 54; omega) (by decide) (show _ = (nI ch.1.length) from h51) dX12_takesBarrier_5 ?_
  refine g_aload_n B 0 dX12_takesBarrier_6 rfl ?_
  refine m_geta B P F_X12_114_12 (by decide) (Or.inl rfl) dX12_takesBarrier_7 ?_
  refine g_iload_n B 1 dX12_takesBarrier_10 rfl ?_
  refine m_ld B P (by decide) rfl rfl (by show _ < 54; omega) (by decide) (show _ = (nI ch.2.1.length) from h46) dX12_takesBarrier_11 ?_
  refine g_if_leN (tgt := 19) B (by omega) dX12_takesBarrier_12 (by decide) (fun c1 => ?_) (fun c1 => ?_)
  · refine g_iconst (v := nI 0) B dX12_takesBarrier_19 (by decide) ?_
    refine g_iaddN B dX12_takesBarrier_20 ?_
    refine g_aload_n B 0 dX12_takesBarrier_21 rfl ?_
    refine m_get B P F_X12_32_12 (by decide) (Or.inl rfl) (show _ = (nI cr) from hcr) dX12_takesBarrier_22 ?_
    refine g_icmp_geN (tgt := 32) B (by omega) (by omega) dX12_takesBarrier_25 (by decide) (fun c2 => ?_) (fun c2 => ?_)
    · refine g_iconst (v := nI 0) B dX12_takesBarrier_32 (by decide) ?_
      refine g_iret B E rfl rfl dX12_takesBarrier_33 ?_
      exact ⟨_, rfl, (nI0 (by simp only [cFitB, decide_eq_false_iff_not]; split <;> omega)), rfl, rfl, rfl⟩
    · refine g_iconst (v := nI 1) B dX12_takesBarrier_28 (by decide) ?_
      refine g_goto (tgt := 33) B dX12_takesBarrier_29 (by decide) ?_
      refine g_iret B E rfl rfl dX12_takesBarrier_33 ?_
      exact ⟨_, rfl, (nI1 (by simp only [cFitB, decide_eq_true_eq]; split <;> omega)), rfl, rfl, rfl⟩
  · refine g_iconst (v := nI 1) B dX12_takesBarrier_15 (by decide) ?_
    refine g_goto (tgt := 20) B dX12_takesBarrier_16 (by decide) ?_
    refine g_iaddN B dX12_takesBarrier_20 ?_
    refine g_aload_n B 0 dX12_takesBarrier_21 rfl ?_
    refine m_get B P F_X12_32_12 (by decide) (Or.inl rfl) (show _ = (nI cr) from hcr) dX12_takesBarrier_22 ?_
    refine g_icmp_geN (tgt := 32) B (by omega) (by omega) dX12_takesBarrier_25 (by decide) (fun c3 => ?_) (fun c3 => ?_)
    · refine g_iconst (v := nI 0) B dX12_takesBarrier_32 (by decide) ?_
      refine g_iret B E rfl rfl dX12_takesBarrier_33 ?_
      exact ⟨_, rfl, (nI0 (by simp only [cFitB, decide_eq_false_iff_not]; split <;> omega)), rfl, rfl, rfl⟩
    · refine g_iconst (v := nI 1) B dX12_takesBarrier_28 (by decide) ?_
      refine g_goto (tgt := 33) B dX12_takesBarrier_29 (by decide) ?_
      refine g_iret B E rfl rfl dX12_takesBarrier_33 ?_
      exact ⟨_, rfl, (nI1 (by simp only [cFitB, decide_eq_true_eq]; split <;> omega)), rfl, rfl, rfl⟩
theorem cPut_eq (bs cr : Nat) (c : aCh) (r : aRec) : cPut bs cr c r = if ((if c.2.1.length = bs then cClose c else c).2.1 ++ [r]).length = bs ∧ (if c.2.1.length = bs then cClose c else c).1.length < cr then cClose ((if c.2.1.length = bs then cClose c else c).1, (if c.2.1.length = bs then cClose c else c).2.1 ++ [r], (if c.2.1.length = bs then cClose c else c).2.2) else ((if c.2.1.length = bs then cClose c else c).1, (if c.2.1.length = bs then cClose c else c).2.1 ++ [r], (if c.2.1.length = bs then cClose c else c).2.2) := rfl
/-- a record joins the pending batch -/
theorem mput_pure {ch : aCh} {c : Nat} {r : aRec} {ar ar' : Nat → Nat → Int32} (h : mCh ch c ar) (ho : ch.2.1.length < 4) (e : ∀ j, j ≠ 46 → j ≠ 48 → j ≠ 49 → j ≠ 50 → ar' j = ar j) (e46 : ar' 46 = va_up (ar 46) c (nI (ch.2.1.length + 1))) (e48 : ar' 48 = va_up (ar 48) (4 * c + ch.2.1.length) (nI r.1)) (e49 : ar' 49 = va_up (ar 49) (4 * c + ch.2.1.length) r.2.1) (e50 : ar' 50 = va_up (ar 50) (4 * c + ch.2.1.length) (nI r.2.2)) : mFr c ar ar' ∧ mCh (ch.1, ch.2.1 ++ [r], ch.2.2) c ar' := by
  obtain ⟨g46, g47, g48, g51, t, g52, gnil, gb⟩ := h
  have e47 := e 47 (by omega) (by omega) (by omega) (by omega)
  have e51 := e 51 (by omega) (by omega) (by omega) (by omega)
  have e52 := e 52 (by omega) (by omega) (by omega) (by omega)
  have e53 := e 53 (by omega) (by omega) (by omega) (by omega)
  have e54 := e 54 (by omega) (by omega) (by omega) (by omega)
  have e55 := e 55 (by omega) (by omega) (by omega) (by omega)
  have e56 := e 56 (by omega) (by omega) (by omega) (by omega)
  refine ⟨⟨fun k hk => e k (by omega) (by omega) (by omega) (by omega), fun x hx => ?_, fun x hx => ?_, fun x hx => ?_⟩, ?_⟩
  · rw [e46, e47, e51, e52, va_upe hx]; exact ⟨rfl, rfl, rfl, rfl⟩
  · rw [e48, e49, e50, e53, va_upe (by omega), va_upe (by omega), va_upe (by omega)]; exact ⟨rfl, rfl, rfl, rfl⟩
  · rw [e54, e55, e56]; exact ⟨rfl, rfl, rfl⟩
  · refine ⟨by rw [e46, va_ups]; simp, by rw [e47]; exact g47, fun k hk => ?_, by rw [e51]; exact g51, t, by rw [e52]; exact g52, gnil, fun q hq => by rw [e53, e54, e55, e56]; exact gb q hq⟩
    rw [e48, e49, e50]
    have hk2 : k < ch.2.1.length + 1 := by simpa using hk
    by_cases hl : k < ch.2.1.length
    · rw [va_upe (by omega), va_upe (by omega), va_upe (by omega)]
      rw [show (ch.2.1 ++ [r]).getD k r0 = ch.2.1.getD k r0 by simp [List.getD_eq_getElem?_getD, List.getElem?_append_left hl]]
      exact g48 k hl
    · have hke : k = ch.2.1.length := by omega
      subst hke
      rw [va_ups, va_ups, va_ups]
      simp [List.getD_eq_getElem?_getD]
theorem c_M_puts {G : xG} {T : xT} {O R : xO} {m : Nat} {ad : Nat → Nat} {sc : Nat → Int32} {ar : Nat → Nat → Int32} {c : Nat} {ch : aCh} {bs cr : Nat} {r : aRec} (P : PM m ad O R sc ar T O R) (hc : c < 54) (h : mCh ch c ar) (hbs : sc 7 = nI bs) (hcr : sc 9 = nI cr) (hb1 : 0 < bs) (hb4 : bs ≤ 4) (hc4 : cr ≤ 4) (hq : ch.1.length ≤ 4) (ho : ch.2.1.length ≤ bs) (hf : cFit bs cr ch = true) : xCtr G yX12_puts cX12_puts 5 none 1 23 0 0 [.ref m, .int (nI c), .int (nI r.1), .int r.2.1, .int (nI r.2.2)] (T, O, R) (xN (mPostN m ad T O R (fun sc2 ar2 => sc2 = sc ∧ mFr c ar ar2 ∧ mCh (cPut bs cr ch r) c ar2))) := by
  obtain ⟨h46, h47, h48, h51, t, h52, hnil, hb⟩ := h
  refine xCtr.of (by decide +kernel) (Nat.le_of_ble_eq_true rfl) ?_
  intro Z B E hz hnm
  change xV Z (T, O, R) 0 [(0, .ref m), (1, .int (nI c)), (2, .int (nI r.1)), (3, .int r.2.1), (4, .int (nI r.2.2))] [] 0 0
  have hfit : ch.2.1.length < bs ∨ ch.1.length < cr := by simpa only [cFit, Bool.or_eq_true, decide_eq_true_eq] using hf
  have J : ∀ (O1 R1 : xO) (arJ : Nat → Nat → Int32) (ch1 : aCh), PM m ad O R sc arJ T O1 R1 → mFr c ar arJ → mCh ch1 c arJ → ch1 = (if ch.2.1.length = bs then cClose ch else ch) → ch1.1.length ≤ 4 ∨ ch1.1.length < cr → ch1.2.1.length < bs → xV Z (T, O1, R1) 18 [(0, .ref m), (1, .int (nI c)), (2, .int (nI r.1)), (3, .int r.2.1), (4, .int (nI r.2.2))] [] 0 0 := by
    intro O1 R1 arJ ch1 PJ f1 m1 e1 hq1 ho1
    refine g_aload_n B 0 dX12_puts_18 rfl ?_
    refine m_geta B PJ F_X12_120_12 (by decide) (Or.inl rfl) dX12_puts_19 ?_
    refine g_iconst (v := nI 4) B dX12_puts_22 (by decide) ?_
    refine g_iload_n B 1 dX12_puts_23 rfl ?_
    refine g_imulN B dX12_puts_24 ?_
    refine g_aload_n B 0 dX12_puts_25 rfl ?_
    refine m_geta B PJ F_X12_114_12 (by decide) (Or.inl rfl) dX12_puts_26 ?_
    refine g_iload_n B 1 dX12_puts_29 rfl ?_
    refine m_ld B PJ (by decide) rfl rfl (by show _ < 54; omega) (by decide) (show _ = (nI ch1.2.1.length) from m1.1) dX12_puts_30 ?_
    refine g_iaddN B dX12_puts_31 ?_
    refine g_iload_n B 2 dX12_puts_32 rfl ?_
    refine m_st B PJ (by decide) rfl rfl (by show _ < 216; omega) (by decide) dX12_puts_33 (fun R1 ar1 hs1 hk1 P1 => ?_)
    refine g_aload_n B 0 dX12_puts_34 rfl ?_
    refine m_geta B P1 F_X12_123_12 (by decide) (Or.inl rfl) dX12_puts_35 ?_
    refine g_iconst (v := nI 4) B dX12_puts_38 (by decide) ?_
    refine g_iload_n B 1 dX12_puts_39 rfl ?_
    refine g_imulN B dX12_puts_40 ?_
    refine g_aload_n B 0 dX12_puts_41 rfl ?_
    refine m_geta B P1 F_X12_114_12 (by decide) (Or.inl rfl) dX12_puts_42 ?_
    refine g_iload_n B 1 dX12_puts_45 rfl ?_
    refine m_ld B P1 (by decide) rfl rfl (by show _ < 54; omega) (by decide) (show _ = (nI ch1.2.1.length) from ((congrFun (hk1 46 (by decide)) _).trans m1.1)) dX12_puts_46 ?_
    refine g_iaddN B dX12_puts_47 ?_
    refine g_iload_n B 3 dX12_puts_48 rfl ?_
    refine m_st B P1 (by decide) rfl rfl (by show _ < 216; omega) (by decide) dX12_puts_49 (fun R2 ar2 hs2 hk2 P2 => ?_)
    refine g_aload_n B 0 dX12_puts_50 rfl ?_
    refine m_geta B P2 F_X12_126_12 (by decide) (Or.inl rfl) dX12_puts_51 ?_
    refine g_iconst (v := nI 4) B dX12_puts_54 (by decide) ?_
    refine g_iload_n B 1 dX12_puts_55 rfl ?_
    refine g_imulN B dX12_puts_56 ?_
    refine g_aload_n B 0 dX12_puts_57 rfl ?_
    refine m_geta B P2 F_X12_114_12 (by decide) (Or.inl rfl) dX12_puts_58 ?_
    refine g_iload_n B 1 dX12_puts_61 rfl ?_
    refine m_ld B P2 (by decide) rfl rfl (by show _ < 54; omega) (by decide) (show _ = (nI ch1.2.1.length) from ((congrFun (hk2 46 (by decide)) _).trans ((congrFun (hk1 46 (by decide)) _).trans m1.1))) dX12_puts_62 ?_
    refine g_iaddN B dX12_puts_63 ?_
    refine g_iload B 4 dX12_puts_64 rfl ?_
    refine m_st B P2 (by decide) rfl rfl (by show _ < 216; omega) (by decide) dX12_puts_66 (fun R3 ar3 hs3 hk3 P3 => ?_)
    refine g_aload_n B 0 dX12_puts_67 rfl ?_
    refine m_geta B P3 F_X12_114_12 (by decide) (Or.inl rfl) dX12_puts_68 ?_
    refine g_iload_n B 1 dX12_puts_71 rfl ?_
    refine g_dup2 B dX12_puts_72 rfl rfl ?_
    refine m_ld B P3 (by decide) rfl rfl (by show _ < 54; omega) (by decide) (show _ = (nI ch1.2.1.length) from ((congrFun (hk3 46 (by decide)) _).trans ((congrFun (hk2 46 (by decide)) _).trans ((congrFun (hk1 46 (by decide)) _).trans m1.1)))) dX12_puts_73 ?_
    refine g_iconst (v := nI 1) B dX12_puts_74 (by decide) ?_
    refine g_iaddN B dX12_puts_75 ?_
    refine m_st B P3 (by decide) rfl rfl (by show _ < 54; omega) (by decide) dX12_puts_76 (fun R4 ar4 hs4 hk4 P4 => ?_)
    have e46 : ar4 46 = va_up (arJ 46) c (nI (ch1.2.1.length + 1)) := (hs4.trans (congrArg (fun g => va_up g c (nI (ch1.2.1.length + 1))) ((hk3 46 (by decide)).trans ((hk2 46 (by decide)).trans (hk1 46 (by decide))))))
    have e48 : ar4 48 = va_up (arJ 48) ((4 * c) + ch1.2.1.length) (nI r.1) := ((hk4 48 (by decide)).trans ((hk3 48 (by decide)).trans ((hk2 48 (by decide)).trans hs1)))
    have e49 : ar4 49 = va_up (arJ 49) ((4 * c) + ch1.2.1.length) r.2.1 := ((hk4 49 (by decide)).trans ((hk3 49 (by decide)).trans (hs2.trans (congrArg (fun g => va_up g ((4 * c) + ch1.2.1.length) r.2.1) (hk1 49 (by decide))))))
    have e50 : ar4 50 = va_up (arJ 50) ((4 * c) + ch1.2.1.length) (nI r.2.2) := ((hk4 50 (by decide)).trans (hs3.trans (congrArg (fun g => va_up g ((4 * c) + ch1.2.1.length) (nI r.2.2)) ((hk2 50 (by decide)).trans (hk1 50 (by decide))))))
    obtain ⟨f2, m2⟩ := mput_pure (r := r) (ar' := ar4) m1 (by omega) (fun j j1 j2 j3 j4 => by rw [hk4 j j1, hk3 j j4, hk2 j j3, hk1 j j2]) e46 e48 e49 e50
    have hlen : (ch1.2.1 ++ [r]).length = ch1.2.1.length + 1 := by rw [List.length_append]; rfl
    refine g_aload_n B 0 dX12_puts_77 rfl ?_
    refine m_geta B P4 F_X12_114_12 (by decide) (Or.inl rfl) dX12_puts_78 ?_
    refine g_iload_n B 1 dX12_puts_81 rfl ?_
    refine m_ld B P4 (by decide) rfl rfl (by show _ < 54; omega) (by decide) (show _ = (nI (ch1.2.1.length + 1)) from ((congrFun hs4 _).trans va_ups)) dX12_puts_82 ?_
    refine g_aload_n B 0 dX12_puts_83 rfl ?_
    refine m_get B P4 F_X12_25_12 (by decide) (Or.inl rfl) (show _ = (nI bs) from hbs) dX12_puts_84 ?_
    refine g_icmp_neN (tgt := 108) B (by omega) (by omega) dX12_puts_87 (by decide) (fun c5 => ?_) (fun c5 => ?_)
    · refine g_vret B E rfl dX12_puts_108 ?_
      exact ⟨rfl, rfl, sc, _, P4, rfl, f1.tr f2, by rw [cPut_eq, ← e1, if_neg (by rw [hlen]; omega)]; exact m2⟩
    · refine g_aload_n B 0 dX12_puts_90 rfl ?_
      refine m_geta B P4 F_X12_129_12 (by decide) (Or.inl rfl) dX12_puts_91 ?_
      refine g_iload_n B 1 dX12_puts_94 rfl ?_
      refine m_ld B P4 (by decide) rfl rfl (by show _ < 54; omega) (by decide) (show _ = (nI ch1.1.length) from ((congrFun (hk4 51 (by decide)) _).trans ((congrFun (hk3 51 (by decide)) _).trans ((congrFun (hk2 51 (by decide)) _).trans ((congrFun (hk1 51 (by decide)) _).trans m1.2.2.2.1))))) dX12_puts_95 ?_
      refine g_aload_n B 0 dX12_puts_96 rfl ?_
      refine m_get B P4 F_X12_32_12 (by decide) (Or.inl rfl) (show _ = (nI cr) from hcr) dX12_puts_97 ?_
      refine g_icmp_geN (tgt := 108) B (by omega) (by omega) dX12_puts_100 (by decide) (fun c6 => ?_) (fun c6 => ?_)
      · refine g_vret B E rfl dX12_puts_108 ?_
        exact ⟨rfl, rfl, sc, _, P4, rfl, f1.tr f2, by rw [cPut_eq, ← e1, if_neg (by rw [hlen]; omega)]; exact m2⟩
      · refine g_aload_n B 0 dX12_puts_103 rfl ?_
        refine g_iload_n B 1 dX12_puts_104 rfl ?_
        refine g_callV (rest := []) B M_X12_closes q2728 q2730 qs67 (P4.1.choose_spec.choose_spec) rfl (c_M_closes P4.self hc m2 (by show ch1.1.length < 4; omega) (by show (ch1.2.1 ++ [r]).length ≤ 4; omega)) rfl rfl (by decide) (by decide) (by decide) (Nat.le_refl _) (Nat.le_refl _) dX12_puts_105 (xkN (fun T7 O7 R7 le7 p7 => ?_))
        obtain ⟨rfl, sc7, ar7, Q7, hsc7, f7, m7⟩ := p7
        have P7 := P4.rebase Q7
        refine g_vret B E rfl dX12_puts_108 ?_
        exact ⟨rfl, rfl, sc7, _, P7, hsc7, (f1.tr f2).tr f7, by rw [cPut_eq, ← e1, if_pos (by rw [hlen]; exact ⟨by omega, by omega⟩)]; exact m7⟩
  refine g_aload_n B 0 dX12_puts_0 rfl ?_
  refine m_geta B P F_X12_114_12 (by decide) (Or.inl rfl) dX12_puts_1 ?_
  refine g_iload_n B 1 dX12_puts_4 rfl ?_
  refine m_ld B P (by decide) rfl rfl (by show _ < 54; omega) (by decide) (show _ = (nI ch.2.1.length) from h46) dX12_puts_5 ?_
  refine g_aload_n B 0 dX12_puts_6 rfl ?_
  refine m_get B P F_X12_25_12 (by decide) (Or.inl rfl) (show _ = (nI bs) from hbs) dX12_puts_7 ?_
  refine g_icmp_neN (tgt := 18) B (by omega) (by omega) dX12_puts_10 (by decide) (fun c1 => ?_) (fun c1 => ?_)
  · exact J _ _ ar ch P mFr.rf ⟨h46, h47, h48, h51, t, h52, hnil, hb⟩ (by rw [if_neg (by omega)]) (by omega) (by omega)
  · refine g_aload_n B 0 dX12_puts_13 rfl ?_
    refine g_iload_n B 1 dX12_puts_14 rfl ?_
    refine g_callV (rest := []) B M_X12_closes q2728 q2730 qs67 (P.1.choose_spec.choose_spec) rfl (c_M_closes P hc ⟨h46, h47, h48, h51, t, h52, hnil, hb⟩ (by omega) (by omega)) rfl rfl (by decide) (by decide) (by decide) (Nat.le_refl _) (Nat.le_refl _) dX12_puts_15 (xkN (fun T2 O2 R2 le2 p2 => ?_))
    obtain ⟨rfl, sc2, ar2, Q2, hsc2, f2, m2⟩ := p2
    have P2 := P.rebase Q2
    subst hsc2
    exact J _ _ _ _ P2 f2 m2 (by rw [if_pos (by omega)]) (by show (ch.1 ++ [some ch.2.1]).length ≤ 4 ∨ _; rw [List.length_append]; show ch.1.length + 1 ≤ 4 ∨ _; omega) (by show 0 < bs; omega)
