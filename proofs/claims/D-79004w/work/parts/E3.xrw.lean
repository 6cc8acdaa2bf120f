set_option maxRecDepth 100000
theorem inB_1k {x : Int32} {k : Nat} (hk : k < 2 ^ 31) : inB x (nI 1) (nI k) = true ↔ (inB x (nI 0) (nI k) = true ∧ ¬ x = 0) := by
  constructor
  · intro h
    obtain ⟨j, h1, h2, rfl⟩ := inB1_nI hk h
    exact ⟨inB_of hk (by omega), fun e => by have := nI_inj' (show j < 2 ^ 31 by omega) (show 0 < 2 ^ 31 by decide) e; omega⟩
  · rintro ⟨h, hne⟩
    obtain ⟨j, h1, rfl⟩ := inB_nI hk h
    have hj : 1 ≤ j := by
      rcases Nat.eq_zero_or_pos j with e | e
      · exact absurd (by rw [e]; rfl) hne
      · exact e
    unfold inB
    rw [Bool.and_eq_true, decide_eq_true_eq, decide_eq_true_eq]
    exact ⟨Int32.le_iff_toInt_le.mpr (by rw [nI_toInt (by decide), nI_toInt (by omega)]; omega), Int32.le_iff_toInt_le.mpr (by rw [nI_toInt (by omega), nI_toInt hk]; omega)⟩
theorem failF_sOk {a : aA} (h : sOk a) : sOk a.failF.2 := h
