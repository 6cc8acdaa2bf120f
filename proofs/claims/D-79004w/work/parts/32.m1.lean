set_option maxRecDepth 100000
theorem c_M_spot {G : xG} {T : xT} {O R : xO} {o i : Nat}  : xCtr G yX12_spot cX12_spot 2 (some Jvm.ClassFile.FieldType.int) 0 0 0 0 [.int (nI o), .int (nI i)] (T, O, R) (xA (fun v T2 O2 R2 => v = .int (nI (3 * o + i)) ∧ T2 = T ∧ O2 = O ∧ R2 = R)) := by
  refine xCtr.of (by decide +kernel) (Nat.le_of_ble_eq_true rfl) ?_
  intro Z B E hz hnm
  change xV Z (T, O, R) 0 [(0, .int (nI o)), (1, .int (nI i))] [] 0 0
  refine g_iconst (v := nI 3) B dX12_spot_0 (by decide) ?_
  refine g_iload_n B 0 dX12_spot_1 rfl ?_
  refine g_imulN B dX12_spot_2 ?_
  refine g_iload_n B 1 dX12_spot_3 rfl ?_
  refine g_iaddN B dX12_spot_4 ?_
  refine g_iret B E rfl rfl dX12_spot_5 ?_
  exact ⟨_, rfl, rfl, rfl, rfl, rfl⟩
theorem c_M_line {G : xG} {T : xT} {O R : xO} {o i j : Nat}  : xCtr G yX12_line cX12_line 3 (some Jvm.ClassFile.FieldType.int) 0 0 0 0 [.int (nI o), .int (nI i), .int (nI j)] (T, O, R) (xA (fun v T2 O2 R2 => v = .int (nI (mLn o i j)) ∧ T2 = T ∧ O2 = O ∧ R2 = R)) := by
  refine xCtr.of (by decide +kernel) (Nat.le_of_ble_eq_true rfl) ?_
  intro Z B E hz hnm
  change xV Z (T, O, R) 0 [(0, .int (nI o)), (1, .int (nI i)), (2, .int (nI j))] [] 0 0
  refine g_iconst (v := nI 3) B dX12_line_0 (by decide) ?_
  refine g_iconst (v := nI 3) B dX12_line_1 (by decide) ?_
  refine g_iload_n B 0 dX12_line_2 rfl ?_
  refine g_imulN B dX12_line_3 ?_
  refine g_iload_n B 1 dX12_line_4 rfl ?_
  refine g_iaddN B dX12_line_5 ?_
  refine g_imulN B dX12_line_6 ?_
  refine g_iload_n B 2 dX12_line_7 rfl ?_
  refine g_iaddN B dX12_line_8 ?_
  refine g_iret B E rfl rfl dX12_line_9 ?_
  exact ⟨_, rfl, rfl, rfl, rfl, rfl⟩
/-- the pure law of closes -/
theorem mclose_pure {ch : aCh} {c : Nat} {ar ar1 ar' : Nat → Nat → Int32} (h : mCh ch c ar) (hq : ch.1.length < 4) (ho : ch.2.1.length ≤ 4) (h1 : ∀ j, (j < 53 ∨ 56 < j) → ar1 j = ar j) (h53 : ar1 53 = va_up (ar 53) (4 * c + ch.1.length) (nI ch.2.1.length)) (hn : ∀ x, (x < 4 * (4 * c + ch.1.length) ∨ 4 * (4 * c + ch.1.length) + ch.2.1.length ≤ x) → ar1 54 x = ar 54 x ∧ ar1 55 x = ar 55 x ∧ ar1 56 x = ar 56 x) (hy : ∀ x, x < ch.2.1.length → ar1 54 (4 * (4 * c + ch.1.length) + x) = ar 48 (4 * c + x) ∧ ar1 55 (4 * (4 * c + ch.1.length) + x) = ar 49 (4 * c + x) ∧ ar1 56 (4 * (4 * c + ch.1.length) + x) = ar 50 (4 * c + x)) (e : ∀ j, j ≠ 46 → j ≠ 47 → j ≠ 51 → ar' j = ar1 j) (e51 : ar' 51 = va_up (ar 51) c (nI (ch.1.length + 1))) (e46 : ar' 46 = va_up (ar 46) c (nI 0)) (e47 : ar' 47 = va_up (ar 47) c (nI 0)) : mFr c ar ar' ∧ mCh (cClose ch) c ar' := by
  obtain ⟨g46, g47, g48, g51, t, g52, gnil, gb⟩ := h
  have f53 : ∀ x, x ≠ 4 * c + ch.1.length → ar' 53 x = ar 53 x := fun x hx => by rw [e 53 (by omega) (by omega) (by omega), h53, va_upe hx]
  have fq : ∀ x, (x < 4 * (4 * c + ch.1.length) ∨ 4 * (4 * c + ch.1.length) + ch.2.1.length ≤ x) → ar' 54 x = ar 54 x ∧ ar' 55 x = ar 55 x ∧ ar' 56 x = ar 56 x := fun x hx => by
    rw [e 54 (by omega) (by omega) (by omega), e 55 (by omega) (by omega) (by omega), e 56 (by omega) (by omega) (by omega)]
    exact hn x hx
  refine ⟨⟨fun k hk => ?_, fun x hx => ?_, fun x hx => ?_, fun x hx => fq x (by omega)⟩, ?_⟩
  · rw [e k (by omega) (by omega) (by omega), h1 k (by omega)]
  · rw [e46, e47, e51, va_upe hx, va_upe hx, va_upe hx, e 52 (by omega) (by omega) (by omega), h1 52 (by omega)]
    exact ⟨rfl, rfl, rfl, rfl⟩
  · rw [e 48 (by omega) (by omega) (by omega), h1 48 (by omega), e 49 (by omega) (by omega) (by omega), h1 49 (by omega), e 50 (by omega) (by omega) (by omega), h1 50 (by omega), f53 x (by omega)]
    exact ⟨rfl, rfl, rfl, rfl⟩
  · refine ⟨by rw [e46, va_ups]; rfl, by rw [e47, va_ups]; rfl, fun k hk => absurd hk (Nat.not_lt_zero k), by rw [e51, va_ups]; simp [cClose], t, by rw [e 52 (by omega) (by omega) (by omega), h1 52 (by omega)]; exact g52, fun hh => by simp [cClose] at hh, fun q hq2 => ?_⟩
    have hq3 : q < ch.1.length + 1 := by simpa [cClose] using hq2
    by_cases hl : q < ch.1.length
    · rw [show (cClose ch).1.getD q none = ch.1.getD q none by simp [cClose, List.getD_eq_getElem?_getD, List.getElem?_append_left hl]]
      refine (gb q hl).same (f53 _ (by omega)) fun x hx1 hx2 => fq x (by omega)
    · have hqe : q = ch.1.length := by omega
      subst hqe
      rw [show (cClose ch).1.getD ch.1.length none = some ch.2.1 by simp [cClose, List.getD_eq_getElem?_getD]]
      have ht : (if ch.1.length = 0 then t else 0) = 0 := by
        split
        · rename_i h0
          exact gnil (List.eq_nil_of_length_eq_zero h0)
        · rfl
      rw [ht]
      refine ⟨by rw [e 53 (by omega) (by omega) (by omega), h53, va_ups, Nat.zero_add], by omega, fun k hk => ?_⟩
      obtain ⟨y1, y2, y3⟩ := hy k hk
      obtain ⟨g1, g2, g3⟩ := g48 k hk
      rw [e 54 (by omega) (by omega) (by omega), e 55 (by omega) (by omega) (by omega), e 56 (by omega) (by omega) (by omega), Nat.add_zero]
      exact ⟨y1.trans g1, y2.trans g2, y3.trans g3⟩
theorem c_M_closes {G : xG} {T : xT} {O R : xO} {m : Nat} {ad : Nat → Nat} {sc : Nat → Int32} {ar : Nat → Nat → Int32} {c : Nat} {ch : aCh} (P : PM m ad O R sc ar T O R) (hc : c < 54) (h : mCh ch c ar) (hq : ch.1.length < 4) (ho : ch.2.1.length ≤ 4) : xCtr G yX12_closes cX12_closes 4 none 0 0 0 0 [.ref m, .int (nI c)] (T, O, R) (xN (mPostN m ad T O R (fun sc2 ar2 => sc2 = sc ∧ mFr c ar ar2 ∧ mCh (cClose ch) c ar2))) := by
  obtain ⟨h46, h47, h48, h51, t, h52, hnil, hb⟩ := h
  refine xCtr.of (by decide +kernel) (Nat.le_of_ble_eq_true rfl) ?_
  intro Z B E hz hnm
  change xV Z (T, O, R) 0 [(0, .ref m), (1, .int (nI c))] [] 0 0
  have L : ∀ (d k : Nat) (O1 R1 : xO) (ar1 : Nat → Nat → Int32), d = ch.2.1.length - k → k ≤ ch.2.1.length → PM m ad O R sc ar1 T O1 R1 → (∀ j, (j < 53 ∨ 56 < j) → ar1 j = ar j) → ar1 53 = va_up (ar 53) (4 * c + ch.1.length) (nI ch.2.1.length) → (∀ x, (x < 4 * (4 * c + ch.1.length) ∨ 4 * (4 * c + ch.1.length) + k ≤ x) → ar1 54 x = ar 54 x ∧ ar1 55 x = ar 55 x ∧ ar1 56 x = ar 56 x) → (∀ x, x < k → ar1 54 (4 * (4 * c + ch.1.length) + x) = ar 48 (4 * c + x) ∧ ar1 55 (4 * (4 * c + ch.1.length) + x) = ar 49 (4 * c + x) ∧ ar1 56 (4 * (4 * c + ch.1.length) + x) = ar 50 (4 * c + x)) → xV Z (T, O1, R1) 25 [(3, .int (nI k)), (2, .int (nI (4 * c + ch.1.length))), (0, .ref m), (1, .int (nI c))] [] 0 0 := by
    intro d
    induction d using Nat.strongRecOn with
    | _ d ih =>
      intro k O1 R1 ar1 hd hk P1 i1 i2 i3 i4
      refine g_iload_n B 0 dX12_closes_25 rfl ?_
      refine g_aload_n B 2 dX12_closes_26 rfl ?_
      refine m_geta B P1 F_X12_114_12 (by decide) (Or.inl rfl) dX12_closes_27 ?_
      refine g_iload_n B 3 dX12_closes_30 rfl ?_
      refine m_ld B P1 (by decide) rfl rfl (by show _ < 54; omega) (by decide) (show _ = (nI ch.2.1.length) from ((congrFun (i1 46 (by omega)) c).trans h46)) dX12_closes_31 ?_
      refine g_icmp_geN (tgt := 101) B (by omega) (by omega) dX12_closes_32 (by decide) (fun c1 => ?_) (fun c1 => ?_)
      · refine g_aload_n B 2 dX12_closes_101 rfl ?_
        refine m_geta B P1 F_X12_129_12 (by decide) (Or.inl rfl) dX12_closes_102 ?_
        refine g_iload_n B 3 dX12_closes_105 rfl ?_
        refine g_dup2 B dX12_closes_106 rfl rfl ?_
        refine m_ld B P1 (by decide) rfl rfl (by show _ < 54; omega) (by decide) (show _ = (nI ch.1.length) from ((congrFun (i1 51 (by omega)) c).trans h51)) dX12_closes_107 ?_
        refine g_iconst (v := nI 1) B dX12_closes_108 (by decide) ?_
        refine g_iaddN B dX12_closes_109 ?_
        refine m_st B P1 (by decide) rfl rfl (by show _ < 54; omega) (by decide) dX12_closes_110 (fun R2 ar2 hs2 hk2 P2 => ?_)
        refine g_aload_n B 2 dX12_closes_111 rfl ?_
        refine m_geta B P2 F_X12_114_12 (by decide) (Or.inl rfl) dX12_closes_112 ?_
        refine g_iload_n B 3 dX12_closes_115 rfl ?_
        refine g_iconst (v := nI 0) B dX12_closes_116 (by decide) ?_
        refine m_st B P2 (by decide) rfl rfl (by show _ < 54; omega) (by decide) dX12_closes_117 (fun R3 ar3 hs3 hk3 P3 => ?_)
        refine g_aload_n B 2 dX12_closes_118 rfl ?_
        refine m_geta B P3 F_X12_117_12 (by decide) (Or.inl rfl) dX12_closes_119 ?_
        refine g_iload_n B 3 dX12_closes_122 rfl ?_
        refine g_iconst (v := nI 0) B dX12_closes_123 (by decide) ?_
        refine m_st B P3 (by decide) rfl rfl (by show _ < 54; omega) (by decide) dX12_closes_124 (fun R4 ar4 hs4 hk4 P4 => ?_)
        refine g_vret B E rfl dX12_closes_125 ?_
        have hk2 : k = ch.2.1.length := by omega
        subst hk2
        have e51 : ar4 51 = va_up (ar1 51) c (nI (ch.1.length + 1)) := ((hk4 51 (by decide)).trans ((hk3 51 (by decide)).trans hs2))
        have e46 : ar4 46 = va_up (ar1 46) c (nI 0) := ((hk4 46 (by decide)).trans (hs3.trans (congrArg (fun g => va_up g c (nI 0)) (hk2 46 (by decide)))))
        have e47 : ar4 47 = va_up (ar1 47) c (nI 0) := (hs4.trans (congrArg (fun g => va_up g c (nI 0)) ((hk3 47 (by decide)).trans (hk2 47 (by decide)))))
        exact ⟨rfl, rfl, sc, _, P4, rfl, mclose_pure ⟨h46, h47, h48, h51, t, h52, hnil, hb⟩ hq ho i1 i2 i3 i4 (fun j j1 j2 j3 => by rw [hk4 j j2, hk3 j j1, hk2 j j3]) (by rw [e51, i1 51 (by omega)]) (by rw [e46, i1 46 (by omega)]) (by rw [e47, i1 47 (by omega)])⟩
      · refine g_aload_n B 2 dX12_closes_35 rfl ?_
        refine m_geta B P1 F_X12_138_12 (by decide) (Or.inl rfl) dX12_closes_36 ?_
        refine g_iconst (v := nI 4) B dX12_closes_39 (by decide) ?_
        refine g_iload_n B 1 dX12_closes_40 rfl ?_
        refine g_imulN B dX12_closes_41 ?_
        refine g_iload_n B 0 dX12_closes_42 rfl ?_
        refine g_iaddN B dX12_closes_43 ?_
        refine g_aload_n B 2 dX12_closes_44 rfl ?_
        refine m_geta B P1 F_X12_120_12 (by decide) (Or.inl rfl) dX12_closes_45 ?_
        refine g_iconst (v := nI 4) B dX12_closes_48 (by decide) ?_
        refine g_iload_n B 3 dX12_closes_49 rfl ?_
        refine g_imulN B dX12_closes_50 ?_
        refine g_iload_n B 0 dX12_closes_51 rfl ?_
        refine g_iaddN B dX12_closes_52 ?_
        refine m_ld B P1 (by decide) rfl rfl (by show _ < 216; omega) (by decide) (show _ = (ar 48 (4 * c + k)) from (congrFun (i1 48 (by omega)) _)) dX12_closes_53 ?_
        refine m_st B P1 (by decide) rfl rfl (by show _ < 864; omega) (by decide) dX12_closes_54 (fun R5 ar5 hs5 hk5 P5 => ?_)
        refine g_aload_n B 2 dX12_closes_55 rfl ?_
        refine m_geta B P5 F_X12_141_12 (by decide) (Or.inl rfl) dX12_closes_56 ?_
        refine g_iconst (v := nI 4) B dX12_closes_59 (by decide) ?_
        refine g_iload_n B 1 dX12_closes_60 rfl ?_
        refine g_imulN B dX12_closes_61 ?_
        refine g_iload_n B 0 dX12_closes_62 rfl ?_
        refine g_iaddN B dX12_closes_63 ?_
        refine g_aload_n B 2 dX12_closes_64 rfl ?_
        refine m_geta B P5 F_X12_123_12 (by decide) (Or.inl rfl) dX12_closes_65 ?_
        refine g_iconst (v := nI 4) B dX12_closes_68 (by decide) ?_
        refine g_iload_n B 3 dX12_closes_69 rfl ?_
        refine g_imulN B dX12_closes_70 ?_
        refine g_iload_n B 0 dX12_closes_71 rfl ?_
        refine g_iaddN B dX12_closes_72 ?_
        refine m_ld B P5 (by decide) rfl rfl (by show _ < 216; omega) (by decide) (show _ = (ar 49 (4 * c + k)) from ((congrFun (hk5 49 (by decide)) _).trans (congrFun (i1 49 (by omega)) _))) dX12_closes_73 ?_
        refine m_st B P5 (by decide) rfl rfl (by show _ < 864; omega) (by decide) dX12_closes_74 (fun R6 ar6 hs6 hk6 P6 => ?_)
        refine g_aload_n B 2 dX12_closes_75 rfl ?_
        refine m_geta B P6 F_X12_144_12 (by decide) (Or.inl rfl) dX12_closes_76 ?_
        refine g_iconst (v := nI 4) B dX12_closes_79 (by decide) ?_
        refine g_iload_n B 1 dX12_closes_80 rfl ?_
        refine g_imulN B dX12_closes_81 ?_
        refine g_iload_n B 0 dX12_closes_82 rfl ?_
        refine g_iaddN B dX12_closes_83 ?_
        refine g_aload_n B 2 dX12_closes_84 rfl ?_
        refine m_geta B P6 F_X12_126_12 (by decide) (Or.inl rfl) dX12_closes_85 ?_
        refine g_iconst (v := nI 4) B dX12_closes_88 (by decide) ?_
        refine g_iload_n B 3 dX12_closes_89 rfl ?_
        refine g_imulN B dX12_closes_90 ?_
        refine g_iload_n B 0 dX12_closes_91 rfl ?_
        refine g_iaddN B dX12_closes_92 ?_
        refine m_ld B P6 (by decide) rfl rfl (by show _ < 216; omega) (by decide) (show _ = (ar 50 (4 * c + k)) from ((congrFun (hk6 50 (by decide)) _).trans ((congrFun (hk5 50 (by decide)) _).trans (congrFun (i1 50 (by omega)) _)))) dX12_closes_93 ?_
        refine m_st B P6 (by decide) rfl rfl (by show _ < 864; omega) (by decide) dX12_closes_94 (fun R7 ar7 hs7 hk7 P7 => ?_)
        refine g_iinc (v := nI (k + 1)) (lv2 := [(3, _), (2, _), (0, _), (1, _)]) B 0 dX12_closes_95 rfl (nI_1 _) (by decide) rfl ?_
        refine g_goto (tgt := 25) B dX12_closes_98 (by decide) ?_
        have e53 : ar7 53 = ar1 53 := ((hk7 53 (by decide)).trans ((hk6 53 (by decide)).trans (hk5 53 (by decide))))
        have e54 : ar7 54 = va_up (ar1 54) ((4 * (4 * c + ch.1.length)) + k) (ar 48 (4 * c + k)) := ((hk7 54 (by decide)).trans ((hk6 54 (by decide)).trans hs5))
        have e55 : ar7 55 = va_up (ar1 55) ((4 * (4 * c + ch.1.length)) + k) (ar 49 (4 * c + k)) := ((hk7 55 (by decide)).trans (hs6.trans (congrArg (fun g => va_up g ((4 * (4 * c + ch.1.length)) + k) (ar 49 (4 * c + k))) (hk5 55 (by decide)))))
        have e56 : ar7 56 = va_up (ar1 56) ((4 * (4 * c + ch.1.length)) + k) (ar 50 (4 * c + k)) := (hs7.trans (congrArg (fun g => va_up g ((4 * (4 * c + ch.1.length)) + k) (ar 50 (4 * c + k))) ((hk6 56 (by decide)).trans (hk5 56 (by decide)))))
        refine ih (ch.2.1.length - (k + 1)) (by omega) (k + 1) _ _ _ rfl (by omega) P7 ?_ ?_ ?_ ?_
        · exact fun j hj => by rw [hk7 j (by omega), hk6 j (by omega), hk5 j (by omega)]; exact i1 j hj
        · rw [e53]; exact i2
        · intro x hx
          have hne : x ≠ 4 * (4 * c + ch.1.length) + k := by omega
          rw [e54, e55, e56, va_upe hne, va_upe hne, va_upe hne]
          exact i3 x (by omega)
        · intro x hx
          by_cases hxk : x = k
          · subst hxk
            rw [e54, e55, e56, va_ups, va_ups, va_ups]
            exact ⟨rfl, rfl, rfl⟩
          · have hne : 4 * (4 * c + ch.1.length) + x ≠ 4 * (4 * c + ch.1.length) + k := by omega
            rw [e54, e55, e56, va_upe hne, va_upe hne, va_upe hne]
            exact i4 x (by omega)
  refine g_iconst (v := nI 4) B dX12_closes_0 (by decide) ?_
  refine g_iload_n B 1 dX12_closes_1 rfl ?_
  refine g_imulN B dX12_closes_2 ?_
  refine g_aload_n B 0 dX12_closes_3 rfl ?_
  refine m_geta B P F_X12_129_12 (by decide) (Or.inl rfl) dX12_closes_4 ?_
  refine g_iload_n B 1 dX12_closes_7 rfl ?_
  refine m_ld B P (by decide) rfl rfl (by show _ < 54; omega) (by decide) (show _ = (nI ch.1.length) from h51) dX12_closes_8 ?_
  refine g_iaddN B dX12_closes_9 ?_
  refine g_istore_n (lv2 := [(2, _), (0, _), (1, _)]) B dX12_closes_10 (by decide) rfl ?_
  refine g_aload_n B 1 dX12_closes_11 rfl ?_
  refine m_geta B P F_X12_135_12 (by decide) (Or.inl rfl) dX12_closes_12 ?_
  refine g_iload_n B 0 dX12_closes_15 rfl ?_
  refine g_aload_n B 1 dX12_closes_16 rfl ?_
  refine m_geta B P F_X12_114_12 (by decide) (Or.inl rfl) dX12_closes_17 ?_
  refine g_iload_n B 2 dX12_closes_20 rfl ?_
  refine m_ld B P (by decide) rfl rfl (by show _ < 54; omega) (by decide) (show _ = (nI ch.2.1.length) from h46) dX12_closes_21 ?_
  refine m_st B P (by decide) rfl rfl (by show _ < 216; omega) (by decide) dX12_closes_22 (fun R1 ar1 hs1 hk1 P1 => ?_)
  refine g_iconst (v := nI 0) B dX12_closes_23 (by decide) ?_
  refine g_istore_n (lv2 := [(3, _), (2, _), (0, _), (1, _)]) B dX12_closes_24 (by decide) rfl ?_
  exact L _ 0 _ _ _ rfl (Nat.zero_le _) P1 (fun j hj => hk1 j (by omega)) hs1 (fun x hx => ⟨congrFun (hk1 54 (by decide)) x, congrFun (hk1 55 (by decide)) x, congrFun (hk1 56 (by decide)) x⟩) (fun x hx => absurd hx (Nat.not_lt_zero x))
