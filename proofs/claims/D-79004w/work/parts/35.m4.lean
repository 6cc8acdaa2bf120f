set_option maxRecDepth 100000
theorem qLen_take {q : List (Option (List aRec))} {x : Nat} (h : x < q.length) : qLen (q.take (x + 1)) = qLen (q.take x) + ((q.getD x none).getD []).length := by
  unfold qLen
  rw [List.take_add_one, List.map_append, List.sum_append]
  congr 1
  rw [List.getElem?_eq_getElem h, List.getD_eq_getElem?_getD, List.getElem?_eq_getElem h]
  simp
theorem nI_cancel (a b c : Nat) : nI a - nI b + nI (b + c) = nI (a + c) - nI 0 := by
  rw [← nI_add, ← nI_add, nI_0]
  grind
theorem nI_sub0 (a : Nat) : nI a - nI 0 = nI a := by rw [nI_0]; grind
theorem nI_m1 : ¬ (0 : Int32) < -1 := by decide
theorem c_M_inside {G : xG} {T : xT} {O R : xO} {m : Nat} {ad : Nat → Nat} {sc : Nat → Int32} {ar : Nat → Nat → Int32} {c : Nat} {q : List (Option (List aRec))} {op : List aRec} {age : Nat} (P : PM m ad O R sc ar T O R) (hc : c < 54) (h : mCh (q, op, age) c ar) (hq : q.length ≤ 4) : xCtr G yX12_inside cX12_inside 4 (some Jvm.ClassFile.FieldType.int) 0 0 0 0 [.ref m, .int (nI c)] (T, O, R) (xA (fun v T2 O2 R2 => v = .int (nI (cRecs (q, op, age))) ∧ T2 = T ∧ O2 = O ∧ R2 = R)) := by
  obtain ⟨h46, h47, h48, h51, t, h52, hnil, hb⟩ := h
  refine xCtr.of (by decide +kernel) (Nat.le_of_ble_eq_true rfl) ?_
  intro Z B E hz hnm
  change xV Z (T, O, R) 0 [(0, .ref m), (1, .int (nI c))] [] 0 0
  have L : ∀ (d x : Nat), d = q.length - x → x ≤ q.length → xV Z (T, O, R) 16 [(3, .int (nI x)), (2, .int (nI (op.length + qLen (q.take x)) - nI (if x = 0 then t else 0))), (0, .ref m), (1, .int (nI c))] [] 0 0 := by
    intro d
    induction d using Nat.strongRecOn with
    | _ d ih =>
      intro x hd hx
      have K : ∀ y : Int32, x < q.length → (nI (op.length + qLen (q.take x)) - nI (if x = 0 then t else 0)) + y = nI (op.length + qLen (q.take (x + 1))) - nI (if x + 1 = 0 then t else 0) → xV Z (T, O, R) 54 [(3, .int (nI x)), (2, .int (nI (op.length + qLen (q.take x)) - nI (if x = 0 then t else 0))), (0, .ref m), (1, .int (nI c))] [.int y, .int (nI (op.length + qLen (q.take x)) - nI (if x = 0 then t else 0))] 0 0 := by
        intro y hxl ey
        refine g_iadd B dX12_inside_54 ?_
        rw [ey]
        refine g_istore_n (lv2 := [(2, _), (3, _), (0, _), (1, _)]) B dX12_inside_55 (by decide) rfl ?_
        refine g_iinc (v := nI (x + 1)) (lv2 := [(3, _), (2, _), (0, _), (1, _)]) B 1 dX12_inside_56 rfl (nI_1 _) (by decide) rfl ?_
        refine g_goto (tgt := 16) B dX12_inside_59 (by decide) ?_
        refine xV.w [0, 1, 2, 3] rfl ?_
        exact ih (q.length - (x + 1)) (by omega) (x + 1) rfl (by omega)
      refine g_iload_n B 0 dX12_inside_16 rfl ?_
      refine g_aload_n B 2 dX12_inside_17 rfl ?_
      refine m_geta B P F_X12_129_12 (by decide) (Or.inl rfl) dX12_inside_18 ?_
      refine g_iload_n B 3 dX12_inside_21 rfl ?_
      refine m_ld B P (by decide) rfl rfl (by show _ < 54; omega) (by decide) (show _ = (nI q.length) from h51) dX12_inside_22 ?_
      refine g_icmp_geN (tgt := 62) B (by omega) (by omega) dX12_inside_23 (by decide) (fun c11 => ?_) (fun c11 => ?_)
      · refine g_iload_n B 1 dX12_inside_62 rfl ?_
        refine g_iret B E rfl rfl dX12_inside_63 ?_
        have hx2 : x = q.length := by omega
        subst hx2
        refine ⟨_, rfl, ?_, rfl, rfl, rfl⟩
        rw [List.take_length]
        have ht0 : (if q.length = 0 then t else 0) = 0 := by
          split
          · rename_i h0; exact hnil (List.eq_nil_of_length_eq_zero h0)
          · rfl
        rw [ht0, nI_sub0, Nat.add_comm]
        rfl
      · have hbx := hb x (by omega)
        have hqt := qLen_take (q := q) (x := x) (by omega)
        cases hbq : q.getD x none with
        | none =>
          rw [hbq] at hbx
          have hz : ar 53 (4 * c + x) = -1 := hbx.1
          have ht0 := hbx.2
          rw [hbq] at hqt
          refine g_iload_n B 1 dX12_inside_26 rfl ?_
          refine g_aload_n B 2 dX12_inside_27 rfl ?_
          refine m_geta B P F_X12_135_12 (by decide) (Or.inl rfl) dX12_inside_28 ?_
          refine g_iconst (v := nI 4) B dX12_inside_31 (by decide) ?_
          refine g_iload_n B 3 dX12_inside_32 rfl ?_
          refine g_imulN B dX12_inside_33 ?_
          refine g_iload_n B 0 dX12_inside_34 rfl ?_
          refine g_iaddN B dX12_inside_35 ?_
          refine m_ld B P (by decide) rfl rfl (by show _ < 216; omega) (by decide) (show _ = (-1) from hz) dX12_inside_36 ?_
          refine g_if_le (tgt := 53) B dX12_inside_37 (by decide) (fun c21 => ?_) (fun c21 => ?_)
          · refine g_iconst (v := nI 0) B dX12_inside_53 (by decide) ?_
            refine K _ (by omega) (by rw [if_neg (Nat.succ_ne_zero x), hqt, ht0, nI_sub0, nI_sub0, nI_add]; rfl)
          · refine g_aload_n B 2 dX12_inside_40 rfl ?_
            refine m_geta B P F_X12_135_12 (by decide) (Or.inl rfl) dX12_inside_41 ?_
            refine g_iconst (v := nI 4) B dX12_inside_44 (by decide) ?_
            refine g_iload_n B 3 dX12_inside_45 rfl ?_
            refine g_imulN B dX12_inside_46 ?_
            refine g_iload_n B 0 dX12_inside_47 rfl ?_
            refine g_iaddN B dX12_inside_48 ?_
            refine m_ld B P (by decide) rfl rfl (by show _ < 216; omega) (by decide) (show _ = (-1) from hz) dX12_inside_49 ?_
            refine g_goto (tgt := 54) B dX12_inside_50 (by decide) ?_
            exact absurd (by decide) c21
        | some l =>
          rw [hbq] at hbx
          have hz : ar 53 (4 * c + x) = nI ((if x = 0 then t else 0) + l.length) := hbx.1
          have hzb := hbx.2.1
          rw [hbq] at hqt
          refine g_iload_n B 1 dX12_inside_26 rfl ?_
          refine g_aload_n B 2 dX12_inside_27 rfl ?_
          refine m_geta B P F_X12_135_12 (by decide) (Or.inl rfl) dX12_inside_28 ?_
          refine g_iconst (v := nI 4) B dX12_inside_31 (by decide) ?_
          refine g_iload_n B 3 dX12_inside_32 rfl ?_
          refine g_imulN B dX12_inside_33 ?_
          refine g_iload_n B 0 dX12_inside_34 rfl ?_
          refine g_iaddN B dX12_inside_35 ?_
          refine m_ld B P (by decide) rfl rfl (by show _ < 216; omega) (by decide) (show _ = (nI ((if x = 0 then t else 0) + l.length)) from hz) dX12_inside_36 ?_
          refine g_if_leN (tgt := 53) B (by omega) dX12_inside_37 (by decide) (fun c21 => ?_) (fun c21 => ?_)
          · refine g_iconst (v := nI 0) B dX12_inside_53 (by decide) ?_
            refine K _ (by omega) (by rw [if_neg (Nat.succ_ne_zero x), hqt, nI_sub0]; rw [show (if x = 0 then t else 0) = 0 from (by omega), nI_sub0, nI_add]; congr 1; show _ = op.length + (qLen (q.take x) + l.length); omega)
          · refine g_aload_n B 2 dX12_inside_40 rfl ?_
            refine m_geta B P F_X12_135_12 (by decide) (Or.inl rfl) dX12_inside_41 ?_
            refine g_iconst (v := nI 4) B dX12_inside_44 (by decide) ?_
            refine g_iload_n B 3 dX12_inside_45 rfl ?_
            refine g_imulN B dX12_inside_46 ?_
            refine g_iload_n B 0 dX12_inside_47 rfl ?_
            refine g_iaddN B dX12_inside_48 ?_
            refine m_ld B P (by decide) rfl rfl (by show _ < 216; omega) (by decide) (show _ = (nI ((if x = 0 then t else 0) + l.length)) from hz) dX12_inside_49 ?_
            refine g_goto (tgt := 54) B dX12_inside_50 (by decide) ?_
            refine K _ (by omega) (by rw [if_neg (Nat.succ_ne_zero x), hqt, nI_cancel]; rw [Nat.add_assoc]; rfl)
  refine g_aload_n B 0 dX12_inside_0 rfl ?_
  refine m_geta B P F_X12_114_12 (by decide) (Or.inl rfl) dX12_inside_1 ?_
  refine g_iload_n B 1 dX12_inside_4 rfl ?_
  refine m_ld B P (by decide) rfl rfl (by show _ < 54; omega) (by decide) (show _ = (nI op.length) from h46) dX12_inside_5 ?_
  refine g_aload_n B 0 dX12_inside_6 rfl ?_
  refine m_geta B P F_X12_132_12 (by decide) (Or.inl rfl) dX12_inside_7 ?_
  refine g_iload_n B 1 dX12_inside_10 rfl ?_
  refine m_ld B P (by decide) rfl rfl (by show _ < 54; omega) (by decide) (show _ = (nI t) from h52) dX12_inside_11 ?_
  refine g_isub B dX12_inside_12 ?_
  refine g_istore_n (lv2 := [(2, _), (0, _), (1, _)]) B dX12_inside_13 (by decide) rfl ?_
  refine g_iconst (v := nI 0) B dX12_inside_14 (by decide) ?_
  refine g_istore_n (lv2 := [(3, _), (2, _), (0, _), (1, _)]) B dX12_inside_15 (by decide) rfl ?_
  have e0 : nI op.length - nI t = nI (op.length + qLen (q.take 0)) - nI (if 0 = 0 then t else 0) := by rw [if_pos rfl]; rfl
  rw [e0]
  exact L _ 0 rfl (Nat.zero_le _)
theorem c_M_sink {G : xG} {T : xT} {O R : xO} {m : Nat} {ad : Nat → Nat} {sc : Nat → Int32} {ar : Nat → Nat → Int32} {k : Nat} (P : PM m ad O R sc ar T O R) (hk : sc 2 = nI k) : xCtr G yX12_sink cX12_sink 1 (some Jvm.ClassFile.FieldType.int) 0 0 0 0 [.ref m] (T, O, R) (xA (fun v T2 O2 R2 => v = .int (nI (k + 1)) ∧ T2 = T ∧ O2 = O ∧ R2 = R)) := by
  refine xCtr.of (by decide +kernel) (Nat.le_of_ble_eq_true rfl) ?_
  intro Z B E hz hnm
  change xV Z (T, O, R) 0 [(0, .ref m)] [] 0 0
  refine g_aload_n B 0 dX12_sink_0 rfl ?_
  refine m_get B P F_X12_196_12 (by decide) (Or.inl rfl) (show _ = (nI k) from hk) dX12_sink_1 ?_
  refine g_iconst (v := nI 1) B dX12_sink_4 (by decide) ?_
  refine g_iaddN B dX12_sink_5 ?_
  refine g_iret B E rfl rfl dX12_sink_6 ?_
  exact ⟨_, rfl, rfl, rfl, rfl, rfl⟩
theorem c_M_isKeyed {G : xG} {T : xT} {O R : xO} {m : Nat} {ad : Nat → Nat} {sc : Nat → Int32} {ar : Nat → Nat → Int32} {o : Nat} (P : PM m ad O R sc ar T O R) {a : aA} (H : RepM a sc ar) (ho : o < a.n) (hn : a.n ≤ 6) (hk : a.kd o ≤ 8) : xCtr G yX12_isKeyed cX12_isKeyed 2 (some Jvm.ClassFile.FieldType.boolean) 0 0 0 0 [.ref m, .int (nI o)] (T, O, R) (xA (fun v T2 O2 R2 => v = .int (bI (a.ky o)) ∧ T2 = T ∧ O2 = O ∧ R2 = R)) := by
  have hR := H
  obtain ⟨Htxt, Hop, Hinp, Hnm, Hstt, ⟨Hs0, Hs1, Hs2⟩, ⟨Hc0, Hc1, Hc2⟩, Hls, Hsp, Hpt, Hhd, Hch, Hex, Hwr⟩ := H
  refine xCtr.of (by decide +kernel) (Nat.le_of_ble_eq_true rfl) ?_
  intro Z B E hz hnm
  change xV Z (T, O, R) 0 [(0, .ref m), (1, .int (nI o))] [] 0 0
  refine g_aload_n B 0 dX12_isKeyed_0 rfl ?_
  refine m_geta B P F_X12_13_12 (by decide) (Or.inl rfl) dX12_isKeyed_1 ?_
  refine g_iload_n B 1 dX12_isKeyed_4 rfl ?_
  refine m_ld B P (by decide) rfl rfl (by show _ < 6; omega) (by decide) (show _ = (nI (a.kd o)) from (Hop.2 o (by omega)).1) dX12_isKeyed_5 ?_
  refine g_iconst (v := nI 4) B dX12_isKeyed_6 (by decide) ?_
  refine g_icmp_eqN (tgt := 42) B (by omega) (by omega) dX12_isKeyed_7 (by decide) (fun c1 => ?_) (fun c1 => ?_)
  · refine g_iconst (v := nI 1) B dX12_isKeyed_42 (by decide) ?_
    refine g_goto (tgt := 47) B dX12_isKeyed_43 (by decide) ?_
    refine g_iret B E rfl rfl dX12_isKeyed_47 ?_
    exact ⟨_, rfl, (nI1 (by simp only [aA.ky, kKey, Bool.or_eq_true, beq_iff_eq]; omega)), rfl, rfl, rfl⟩
  · refine g_aload_n B 0 dX12_isKeyed_10 rfl ?_
    refine m_geta B P F_X12_13_12 (by decide) (Or.inl rfl) dX12_isKeyed_11 ?_
    refine g_iload_n B 1 dX12_isKeyed_14 rfl ?_
    refine m_ld B P (by decide) rfl rfl (by show _ < 6; omega) (by decide) (show _ = (nI (a.kd o)) from (Hop.2 o (by omega)).1) dX12_isKeyed_15 ?_
    refine g_iconst (v := nI 5) B dX12_isKeyed_16 (by decide) ?_
    refine g_icmp_eqN (tgt := 42) B (by omega) (by omega) dX12_isKeyed_17 (by decide) (fun c2 => ?_) (fun c2 => ?_)
    · refine g_iconst (v := nI 1) B dX12_isKeyed_42 (by decide) ?_
      refine g_goto (tgt := 47) B dX12_isKeyed_43 (by decide) ?_
      refine g_iret B E rfl rfl dX12_isKeyed_47 ?_
      exact ⟨_, rfl, (nI1 (by simp only [aA.ky, kKey, Bool.or_eq_true, beq_iff_eq]; omega)), rfl, rfl, rfl⟩
    · refine g_aload_n B 0 dX12_isKeyed_20 rfl ?_
      refine m_geta B P F_X12_13_12 (by decide) (Or.inl rfl) dX12_isKeyed_21 ?_
      refine g_iload_n B 1 dX12_isKeyed_24 rfl ?_
      refine m_ld B P (by decide) rfl rfl (by show _ < 6; omega) (by decide) (show _ = (nI (a.kd o)) from (Hop.2 o (by omega)).1) dX12_isKeyed_25 ?_
      refine g_bipush (v := nI 6) B dX12_isKeyed_26 (by decide) ?_
      refine g_icmp_eqN (tgt := 42) B (by omega) (by omega) dX12_isKeyed_28 (by decide) (fun c3 => ?_) (fun c3 => ?_)
      · refine g_iconst (v := nI 1) B dX12_isKeyed_42 (by decide) ?_
        refine g_goto (tgt := 47) B dX12_isKeyed_43 (by decide) ?_
        refine g_iret B E rfl rfl dX12_isKeyed_47 ?_
        exact ⟨_, rfl, (nI1 (by simp only [aA.ky, kKey, Bool.or_eq_true, beq_iff_eq]; omega)), rfl, rfl, rfl⟩
      · refine g_aload_n B 0 dX12_isKeyed_31 rfl ?_
        refine m_geta B P F_X12_13_12 (by decide) (Or.inl rfl) dX12_isKeyed_32 ?_
        refine g_iload_n B 1 dX12_isKeyed_35 rfl ?_
        refine m_ld B P (by decide) rfl rfl (by show _ < 6; omega) (by decide) (show _ = (nI (a.kd o)) from (Hop.2 o (by omega)).1) dX12_isKeyed_36 ?_
        refine g_bipush (v := nI 8) B dX12_isKeyed_37 (by decide) ?_
        refine g_icmp_neN (tgt := 46) B (by omega) (by omega) dX12_isKeyed_39 (by decide) (fun c4 => ?_) (fun c4 => ?_)
        · refine g_iconst (v := nI 0) B dX12_isKeyed_46 (by decide) ?_
          refine g_iret B E rfl rfl dX12_isKeyed_47 ?_
          exact ⟨_, rfl, (nI0 (by simp only [aA.ky, kKey, Bool.or_eq_false_iff, beq_eq_false_iff_ne, ne_eq]; omega)), rfl, rfl, rfl⟩
        · refine g_iconst (v := nI 1) B dX12_isKeyed_42 (by decide) ?_
          refine g_goto (tgt := 47) B dX12_isKeyed_43 (by decide) ?_
          refine g_iret B E rfl rfl dX12_isKeyed_47 ?_
          exact ⟨_, rfl, (nI1 (by simp only [aA.ky, kKey, Bool.or_eq_true, beq_iff_eq]; omega)), rfl, rfl, rfl⟩
theorem c_M_home {G : xG} {T : xT} {O R : xO} {m : Nat} {ad : Nat → Nat} {sc : Nat → Int32} {ar : Nat → Nat → Int32} {o key : Nat} (P : PM m ad O R sc ar T O R) {a : aA} (H : RepM a sc ar) (ho : o < a.n) (hn : a.n ≤ 6) (hk : key < 16) (hp : a.p o ≤ 3) : xCtr G yX12_home cX12_home 3 (some Jvm.ClassFile.FieldType.int) 0 0 0 0 [.ref m, .int (nI o), .int (nI key)] (T, O, R) (xA (fun v T2 O2 R2 => v = .int (nI (aHome key (a.p o))) ∧ T2 = T ∧ O2 = O ∧ R2 = R)) := by
  have hR := H
  obtain ⟨Htxt, Hop, Hinp, Hnm, Hstt, ⟨Hs0, Hs1, Hs2⟩, ⟨Hc0, Hc1, Hc2⟩, Hls, Hsp, Hpt, Hhd, Hch, Hex, Hwr⟩ := H
  have hx : key % 8 * a.p o ≤ 7 * 3 := Nat.mul_le_mul (by omega) hp
  refine xCtr.of (by decide +kernel) (Nat.le_of_ble_eq_true rfl) ?_
  intro Z B E hz hnm
  change xV Z (T, O, R) 0 [(0, .ref m), (1, .int (nI o)), (2, .int (nI key))] [] 0 0
  refine g_iload_n B 2 dX12_home_0 rfl ?_
  refine g_bipush (v := nI 8) B dX12_home_1 (by decide) ?_
  refine g_iremN B (by omega) (by omega) (by omega) dX12_home_3 ?_
  refine g_aload_n B 0 dX12_home_4 rfl ?_
  refine m_geta B P F_X12_22_12 (by decide) (Or.inl rfl) dX12_home_5 ?_
  refine g_iload_n B 1 dX12_home_8 rfl ?_
  refine m_ld B P (by decide) rfl rfl (by show _ < 6; omega) (by decide) (show _ = (nI (a.p o)) from (Hop.2 o (by omega)).2.2.2) dX12_home_9 ?_
  refine g_imulN B dX12_home_10 ?_
  refine g_bipush (v := nI 8) B dX12_home_11 (by decide) ?_
  refine g_idivN B (by omega) (by omega) (by omega) dX12_home_13 ?_
  refine g_iret B E rfl rfl dX12_home_14 ?_
  exact ⟨_, rfl, rfl, rfl, rfl, rfl⟩
