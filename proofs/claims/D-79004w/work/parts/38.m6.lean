set_option maxRecDepth 100000
theorem aProc_0 {pa pb : Int32} {s : Option (Int32 × Int32)} {key : Nat} {v : Int32} : aProc 0 pa pb s key v = ([(key, v * pa + pb)], s) := rfl
theorem aProc_1 {pa pb : Int32} {s : Option (Int32 × Int32)} {key : Nat} {v : Int32} : aProc 1 pa pb s key v = ((if (if pa = 0 then v < pb else if pa = 1 then v = pb else pb < v) then [(key, v)] else []), s) := rfl
theorem aProc_2 {pa pb : Int32} {s : Option (Int32 × Int32)} {key : Nat} {v : Int32} : aProc 2 pa pb s key v = ([(aRk (nI key * pa + pb), v)], s) := rfl
theorem aProc_3 {pa pb : Int32} {s : Option (Int32 × Int32)} {key : Nat} {v : Int32} : aProc 3 pa pb s key v = ((List.range pa.toNatClampNeg).map (fun j => (key, v + nI j)), s) := rfl
theorem aProc_4 {pa pb : Int32} {s : Option (Int32 × Int32)} {key : Nat} {v : Int32} : aProc 4 pa pb s key v = (if (s.getD (0, 0)).2 + 1 < pa then ([], some ((s.getD (0, 0)).1 + v, (s.getD (0, 0)).2 + 1)) else ([(key, (s.getD (0, 0)).1 + v)], none)) := rfl
theorem aProc_5 {pa pb : Int32} {s : Option (Int32 × Int32)} {key : Nat} {v : Int32} : aProc 5 pa pb s key v = ((if s.isSome = true ∧ (s.getD (0, 0)).1 = v then [] else [(key, v)]), some (v, 0)) := rfl
theorem aProc_6 {pa pb : Int32} {s : Option (Int32 × Int32)} {key : Nat} {v : Int32} : aProc 6 pa pb s key v = (if s.isSome = true ∧ v ≤ (s.getD (0, 0)).1 then ([], s) else ([(key, v)], some (v, 0))) := rfl
theorem aProc_7 {pa pb : Int32} {s : Option (Int32 × Int32)} {key : Nat} {v : Int32} : aProc 7 pa pb s key v = ([(key, v)], s) := rfl
theorem aProc_8 {pa pb : Int32} {s : Option (Int32 × Int32)} {key : Nat} {v : Int32} : aProc 8 pa pb s key v = ([], some ((s.getD (0, 0)).1 + v, (s.getD (0, 0)).2 + 1)) := rfl
theorem i32_z (x : Int32) : 0 + x = x := by grind
theorem getD_no {s : Option (Int32 × Int32)} (h : s.isSome = false) : s.getD (0, 0) = (0, 0) := by cases s <;> simp_all
/-- what processes leaves -/
def mProcOk (q : List (Nat × Int32) × Option (Int32 × Int32)) (KH K1 K2 idx : Nat) (sc : Nat → Int32) (ar : Nat → Nat → Int32) (sc2 : Nat → Int32) (ar2 : Nat → Nat → Int32) : Prop :=
  sc2 68 = nI q.1.length ∧ q.1.length ≤ 3 ∧ (∀ j, j ≠ 68 → sc2 j = sc j) ∧ (∀ j, j < q.1.length → ar2 66 j = nI (q.1.getD j (0, 0)).1 ∧ ar2 67 j = (q.1.getD j (0, 0)).2) ∧
  (∀ k, k ≠ 66 → k ≠ 67 → k ≠ KH → k ≠ K1 → k ≠ K2 → ar2 k = ar k) ∧ (∀ x, x ≠ idx → ar2 KH x = ar KH x ∧ ar2 K1 x = ar K1 x ∧ ar2 K2 x = ar K2 x) ∧
  ar2 KH idx = bI q.2.isSome ∧ (q.2.isSome = true → ar2 K1 idx = (q.2.getD (0, 0)).1 ∧ ar2 K2 idx = (q.2.getD (0, 0)).2)
/-- what must hold of an operator's numbers and a key's state -/
def pOk (k : Nat) (pa : Int32) (s : Option (Int32 × Int32)) : Prop := k ≤ 8 ∧ k ≠ 7 ∧ (k = 3 → ∃ n, n ≤ 3 ∧ pa = nI n) ∧ (k = 4 → (s.getD (0, 0)).2 + 1 < pa ∨ (s.getD (0, 0)).2 + 1 = pa) ∧ (k = 6 → (s.getD (0, 0)).2 = 0)
theorem c_M_proc24 {G : xG} {T : xT} {O R : xO} {m : Nat} {ad : Nat → Nat} {sc : Nat → Int32} {ar : Nat → Nat → Int32} {o key : Nat} {v : Int32} {s : Option (Int32 × Int32)} (P : PM m ad O R sc ar T O R) {a : aA} (H : RepM a sc ar) (ho : o < a.n) (hn : a.n ≤ 6) (hky : key < 16) (hpo : pOk (a.kd o) (a.pa o) s) (hs : ar 24 (16 * o + key) = bI s.isSome ∧ (s.isSome = true → ar 27 (16 * o + key) = (s.getD (0, 0)).1 ∧ ar 30 (16 * o + key) = (s.getD (0, 0)).2)) : xCtr G yX12_processes cX12_processes 10 none 1 22 0 0 [.ref m, .int (nI o), .int (nI key), .int v, .ref (ad 24), .ref (ad 27), .ref (ad 30)] (T, O, R) (xN (mPostN m ad T O R (fun sc2 ar2 => mProcOk (aProc (a.kd o) (a.pa o) (a.pb o) s key v) 24 27 30 (16 * o + key) sc ar sc2 ar2))) := by
  have hR := H
  obtain ⟨Htxt, Hop, Hinp, Hnm, Hstt, ⟨Hs0, Hs1, Hs2⟩, ⟨Hc0, Hc1, Hc2⟩, Hls, Hsp, Hpt, Hhd, Hch, Hex, Hwr⟩ := H
  refine xCtr.of (by decide +kernel) (Nat.le_of_ble_eq_true rfl) ?_
  intro Z B E hz hnm
  change xV Z (T, O, R) 0 [(0, .ref m), (1, .int (nI o)), (2, .int (nI key)), (3, .int v), (4, .ref (ad 24)), (5, .ref (ad 27)), (6, .ref (ad 30))] [] 0 0
  refine g_aload_n B 0 dX12_processes_0 rfl ?_
  refine g_iconst (v := nI 0) B dX12_processes_1 (by decide) ?_
  refine m_put B P F_X12_291_12 (by decide) (Or.inl rfl) rfl rfl rfl dX12_processes_2 (fun O1 sc1 hs1 hk1 P1 => ?_)
  refine g_bipush (v := nI 16) B dX12_processes_5 (by decide) ?_
  refine g_iload_n B 1 dX12_processes_7 rfl ?_
  refine g_imulN B dX12_processes_8 ?_
  refine g_iload_n B 2 dX12_processes_9 rfl ?_
  refine g_iaddN B dX12_processes_10 ?_
  refine g_istore (lv2 := [(7, _), (0, _), (1, _), (2, _), (3, _), (4, _), (5, _), (6, _)]) B dX12_processes_11 (by decide) rfl ?_
  refine g_aload B 5 dX12_processes_13 rfl ?_
  refine g_iload B 0 dX12_processes_15 rfl ?_
  refine m_ldz B P1 (by decide) rfl rfl (by show _ < 96; omega) (by decide) (show _ = (bI s.isSome) from hs.1) dX12_processes_17 ?_
  refine g_istore (lv2 := [(8, _), (7, _), (0, _), (1, _), (2, _), (3, _), (4, _), (5, _), (6, _)]) B dX12_processes_18 (by decide) rfl ?_
  refine g_aload_n B 2 dX12_processes_20 rfl ?_
  refine m_geta B P1 F_X12_13_12 (by decide) (Or.inl rfl) dX12_processes_21 ?_
  refine g_iload_n B 3 dX12_processes_24 rfl ?_
  refine m_ld B P1 (by decide) rfl rfl (by show _ < 6; omega) (by decide) (show _ = (nI (a.kd o)) from (Hop.2 o (by omega)).1) dX12_processes_25 ?_
  have hkc : a.kd o = 0 ∨ a.kd o = 1 ∨ a.kd o = 2 ∨ a.kd o = 3 ∨ a.kd o = 5 ∨ a.kd o = 6 ∨ a.kd o = 4 ∨ a.kd o = 8 := by have := hpo.1; have := hpo.2.1; omega
  rcases hkc with hkd | hkd | hkd | hkd | hkd | hkd | hkd | hkd
  · refine g_top (show Value.int (nI (a.kd o)) = .int 0 by rw [hkd]; rfl) ?_
    refine g_tableIn (tgt := 68) B dX12_processes_26 (by decide) (by decide) rfl (by decide) ?_
    refine g_aload_n B 2 dX12_processes_68 rfl ?_
    refine g_iload_n B 4 dX12_processes_69 rfl ?_
    refine g_iload_n B 5 dX12_processes_70 rfl ?_
    refine g_aload_n B 2 dX12_processes_71 rfl ?_
    refine m_geta B P1 F_X12_16_12 (by decide) (Or.inl rfl) dX12_processes_72 ?_
    refine g_iload_n B 3 dX12_processes_75 rfl ?_
    refine m_ld B P1 (by decide) rfl rfl (by show _ < 6; omega) (by decide) (show _ = (a.pa o) from (Hop.2 o (by omega)).2.1) dX12_processes_76 ?_
    refine g_imul B dX12_processes_77 ?_
    refine g_aload_n B 2 dX12_processes_78 rfl ?_
    refine m_geta B P1 F_X12_19_12 (by decide) (Or.inl rfl) dX12_processes_79 ?_
    refine g_iload_n B 3 dX12_processes_82 rfl ?_
    refine m_ld B P1 (by decide) rfl rfl (by show _ < 6; omega) (by decide) (show _ = (a.pb o) from (Hop.2 o (by omega)).2.2.1) dX12_processes_83 ?_
    refine g_iadd B dX12_processes_84 ?_
    refine g_callV (rest := []) B M_X12_gives q2818 q2820 qs88 (P1.1.choose_spec.choose_spec) rfl (c_M_gives P1.self (key := key) (k := 0) (v := ((v * (a.pa o)) + (a.pb o))) hs1 (by omega)) rfl rfl (Nat.le_of_ble_eq_true rfl) (Nat.le_of_ble_eq_true rfl) (Nat.le_of_ble_eq_true rfl) (Nat.le_refl _) (Nat.le_refl _) dX12_processes_85 (xkN (fun T2 O2 R2 le2 p2 => ?_))
    obtain ⟨rfl, sc2, ar2, Q2, hs2, hk2, g32, g42, g52⟩ := p2
    have P2 := P1.rebase Q2
    refine g_vret B E rfl dX12_processes_88 ?_
    have e66 : ar2 66 = va_up (ar 66) 0 (nI key) := g32
    have e67 : ar2 67 = va_up (ar 67) 0 ((v * (a.pa o)) + (a.pb o)) := g42
    have e24 : ar2 24 = ar 24 := (g52 24 (by decide) (by decide))
    have e27 : ar2 27 = ar 27 := (g52 27 (by decide) (by decide))
    have e30 : ar2 30 = ar 30 := (g52 30 (by decide) (by decide))
    have n68 : sc2 68 = (nI (0 + 1)) := hs2
    have hp : aProc (a.kd o) (a.pa o) (a.pb o) s key v = ([(key, v * a.pa o + a.pb o)], s) := by rw [hkd, aProc_0]
    refine ⟨rfl, rfl, sc2, ar2, P2, ?_⟩
    rw [hp]
    exact ⟨n68, (by simp), fun j hj => (hk2 j hj).trans (hk1 j hj), fun j hj => (by have hj0 : j = 0 := (by simpa using hj); subst hj0; rw [e66, e67]; exact ⟨va_ups, va_ups⟩), fun k h66 h67 hH h1 h2 => (g52 k h66 h67), fun x hx => ⟨by rw [e24], by rw [e27], by rw [e30]⟩, by rw [e24]; exact hs.1, fun h => by rw [e27, e30]; exact hs.2 h⟩
  · refine g_top (show Value.int (nI (a.kd o)) = .int 1 by rw [hkd]; rfl) ?_
    refine g_tableIn (tgt := 89) B dX12_processes_26 (by decide) (by decide) rfl (by decide) ?_
    refine g_aload_n B 2 dX12_processes_89 rfl ?_
    refine m_geta B P1 F_X12_16_12 (by decide) (Or.inl rfl) dX12_processes_90 ?_
    refine g_iload_n B 3 dX12_processes_93 rfl ?_
    refine m_ld B P1 (by decide) rfl rfl (by show _ < 6; omega) (by decide) (show _ = (a.pa o) from (Hop.2 o (by omega)).2.1) dX12_processes_94 ?_
    refine g_if_ne (tgt := 111) B dX12_processes_95 (by decide) (fun c3 => ?_) (fun c3 => ?_)
    · refine g_aload_n B 2 dX12_processes_111 rfl ?_
      refine m_geta B P1 F_X12_16_12 (by decide) (Or.inl rfl) dX12_processes_112 ?_
      refine g_iload_n B 3 dX12_processes_115 rfl ?_
      refine m_ld B P1 (by decide) rfl rfl (by show _ < 6; omega) (by decide) (show _ = (a.pa o) from (Hop.2 o (by omega)).2.1) dX12_processes_116 ?_
      refine g_iconst (v := nI 1) B dX12_processes_117 (by decide) ?_
      refine g_icmp_ne (tgt := 134) B dX12_processes_118 (by decide) (fun c4 => ?_) (fun c4 => ?_)
      · refine g_iload_n B 5 dX12_processes_134 rfl ?_
        refine g_aload_n B 2 dX12_processes_135 rfl ?_
        refine m_geta B P1 F_X12_19_12 (by decide) (Or.inl rfl) dX12_processes_136 ?_
        refine g_iload_n B 3 dX12_processes_139 rfl ?_
        refine m_ld B P1 (by decide) rfl rfl (by show _ < 6; omega) (by decide) (show _ = (a.pb o) from (Hop.2 o (by omega)).2.2.1) dX12_processes_140 ?_
        refine g_icmp_le (tgt := 150) B dX12_processes_141 (by decide) (fun c5 => ?_) (fun c5 => ?_)
        · refine g_vret B E rfl dX12_processes_150 ?_
          have e66 : ar 66 = ar 66 := rfl
          have e67 : ar 67 = ar 67 := rfl
          have e24 : ar 24 = ar 24 := rfl
          have e27 : ar 27 = ar 27 := rfl
          have e30 : ar 30 = ar 30 := rfl
          have n68 : sc1 68 = (nI 0) := hs1
          have hp : aProc (a.kd o) (a.pa o) (a.pb o) s key v = ([], s) := by rw [hkd, aProc_1, if_neg (by rw [if_neg c3, if_neg (show ¬ a.pa o = 1 from c4)]; exact fun h => absurd h (Int32.not_lt.mpr c5))]
          refine ⟨rfl, rfl, sc1, ar, P1, ?_⟩
          rw [hp]
          exact ⟨n68, (by simp), fun j hj => (hk1 j hj), fun j hj => absurd hj (Nat.not_lt_zero j), fun k h66 h67 hH h1 h2 => rfl, fun x hx => ⟨by rw [e24], by rw [e27], by rw [e30]⟩, by rw [e24]; exact hs.1, fun h => by rw [e27, e30]; exact hs.2 h⟩
        · refine g_aload_n B 2 dX12_processes_144 rfl ?_
          refine g_iload_n B 4 dX12_processes_145 rfl ?_
          refine g_iload_n B 5 dX12_processes_146 rfl ?_
          refine g_callV (rest := []) B M_X12_gives q2818 q2820 qs88 (P1.1.choose_spec.choose_spec) rfl (c_M_gives P1.self (key := key) (k := 0) (v := v) hs1 (by omega)) rfl rfl (Nat.le_of_ble_eq_true rfl) (Nat.le_of_ble_eq_true rfl) (Nat.le_of_ble_eq_true rfl) (Nat.le_refl _) (Nat.le_refl _) dX12_processes_147 (xkN (fun T6 O6 R6 le6 p6 => ?_))
          obtain ⟨rfl, sc6, ar6, Q6, hs6, hk6, g36, g46, g56⟩ := p6
          have P6 := P1.rebase Q6
          refine g_vret B E rfl dX12_processes_150 ?_
          have e66 : ar6 66 = va_up (ar 66) 0 (nI key) := g36
          have e67 : ar6 67 = va_up (ar 67) 0 v := g46
          have e24 : ar6 24 = ar 24 := (g56 24 (by decide) (by decide))
          have e27 : ar6 27 = ar 27 := (g56 27 (by decide) (by decide))
          have e30 : ar6 30 = ar 30 := (g56 30 (by decide) (by decide))
          have n68 : sc6 68 = (nI (0 + 1)) := hs6
          have hp : aProc (a.kd o) (a.pa o) (a.pb o) s key v = ([(key, v)], s) := by rw [hkd, aProc_1, if_pos (by rw [if_neg c3, if_neg (show ¬ a.pa o = 1 from c4)]; exact Int32.not_le.mp c5)]
          refine ⟨rfl, rfl, sc6, ar6, P6, ?_⟩
          rw [hp]
          exact ⟨n68, (by simp), fun j hj => (hk6 j hj).trans (hk1 j hj), fun j hj => (by have hj0 : j = 0 := (by simpa using hj); subst hj0; rw [e66, e67]; exact ⟨va_ups, va_ups⟩), fun k h66 h67 hH h1 h2 => (g56 k h66 h67), fun x hx => ⟨by rw [e24], by rw [e27], by rw [e30]⟩, by rw [e24]; exact hs.1, fun h => by rw [e27, e30]; exact hs.2 h⟩
      · refine g_iload_n B 5 dX12_processes_121 rfl ?_
        refine g_aload_n B 2 dX12_processes_122 rfl ?_
        refine m_geta B P1 F_X12_19_12 (by decide) (Or.inl rfl) dX12_processes_123 ?_
        refine g_iload_n B 3 dX12_processes_126 rfl ?_
        refine m_ld B P1 (by decide) rfl rfl (by show _ < 6; omega) (by decide) (show _ = (a.pb o) from (Hop.2 o (by omega)).2.2.1) dX12_processes_127 ?_
        refine g_icmp_ne (tgt := 150) B dX12_processes_128 (by decide) (fun c7 => ?_) (fun c7 => ?_)
        · refine g_vret B E rfl dX12_processes_150 ?_
          have e66 : ar 66 = ar 66 := rfl
          have e67 : ar 67 = ar 67 := rfl
          have e24 : ar 24 = ar 24 := rfl
          have e27 : ar 27 = ar 27 := rfl
          have e30 : ar 30 = ar 30 := rfl
          have n68 : sc1 68 = (nI 0) := hs1
          have hp : aProc (a.kd o) (a.pa o) (a.pb o) s key v = ([], s) := by rw [hkd, aProc_1, if_neg (by rw [if_neg c3, if_pos (show a.pa o = 1 from c4)]; exact c7)]
          refine ⟨rfl, rfl, sc1, ar, P1, ?_⟩
          rw [hp]
          exact ⟨n68, (by simp), fun j hj => (hk1 j hj), fun j hj => absurd hj (Nat.not_lt_zero j), fun k h66 h67 hH h1 h2 => rfl, fun x hx => ⟨by rw [e24], by rw [e27], by rw [e30]⟩, by rw [e24]; exact hs.1, fun h => by rw [e27, e30]; exact hs.2 h⟩
        · refine g_goto (tgt := 144) B dX12_processes_131 (by decide) ?_
          refine g_aload_n B 2 dX12_processes_144 rfl ?_
          refine g_iload_n B 4 dX12_processes_145 rfl ?_
          refine g_iload_n B 5 dX12_processes_146 rfl ?_
          refine g_callV (rest := []) B M_X12_gives q2818 q2820 qs88 (P1.1.choose_spec.choose_spec) rfl (c_M_gives P1.self (key := key) (k := 0) (v := v) hs1 (by omega)) rfl rfl (Nat.le_of_ble_eq_true rfl) (Nat.le_of_ble_eq_true rfl) (Nat.le_of_ble_eq_true rfl) (Nat.le_refl _) (Nat.le_refl _) dX12_processes_147 (xkN (fun T8 O8 R8 le8 p8 => ?_))
          obtain ⟨rfl, sc8, ar8, Q8, hs8, hk8, g38, g48, g58⟩ := p8
          have P8 := P1.rebase Q8
          refine g_vret B E rfl dX12_processes_150 ?_
          have e66 : ar8 66 = va_up (ar 66) 0 (nI key) := g38
          have e67 : ar8 67 = va_up (ar 67) 0 v := g48
          have e24 : ar8 24 = ar 24 := (g58 24 (by decide) (by decide))
          have e27 : ar8 27 = ar 27 := (g58 27 (by decide) (by decide))
          have e30 : ar8 30 = ar 30 := (g58 30 (by decide) (by decide))
          have n68 : sc8 68 = (nI (0 + 1)) := hs8
          have hp : aProc (a.kd o) (a.pa o) (a.pb o) s key v = ([(key, v)], s) := by rw [hkd, aProc_1, if_pos (by rw [if_neg c3, if_pos (show a.pa o = 1 from c4)]; exact c7)]
          refine ⟨rfl, rfl, sc8, ar8, P8, ?_⟩
          rw [hp]
          exact ⟨n68, (by simp), fun j hj => (hk8 j hj).trans (hk1 j hj), fun j hj => (by have hj0 : j = 0 := (by simpa using hj); subst hj0; rw [e66, e67]; exact ⟨va_ups, va_ups⟩), fun k h66 h67 hH h1 h2 => (g58 k h66 h67), fun x hx => ⟨by rw [e24], by rw [e27], by rw [e30]⟩, by rw [e24]; exact hs.1, fun h => by rw [e27, e30]; exact hs.2 h⟩
    · refine g_iload_n B 5 dX12_processes_98 rfl ?_
      refine g_aload_n B 2 dX12_processes_99 rfl ?_
      refine m_geta B P1 F_X12_19_12 (by decide) (Or.inl rfl) dX12_processes_100 ?_
      refine g_iload_n B 3 dX12_processes_103 rfl ?_
      refine m_ld B P1 (by decide) rfl rfl (by show _ < 6; omega) (by decide) (show _ = (a.pb o) from (Hop.2 o (by omega)).2.2.1) dX12_processes_104 ?_
      refine g_icmp_ge (tgt := 150) B dX12_processes_105 (by decide) (fun c9 => ?_) (fun c9 => ?_)
      · refine g_vret B E rfl dX12_processes_150 ?_
        have e66 : ar 66 = ar 66 := rfl
        have e67 : ar 67 = ar 67 := rfl
        have e24 : ar 24 = ar 24 := rfl
        have e27 : ar 27 = ar 27 := rfl
        have e30 : ar 30 = ar 30 := rfl
        have n68 : sc1 68 = (nI 0) := hs1
        have hp : aProc (a.kd o) (a.pa o) (a.pb o) s key v = ([], s) := by rw [hkd, aProc_1, if_neg (by rw [if_pos c3]; exact fun h => absurd h (Int32.not_lt.mpr c9))]
        refine ⟨rfl, rfl, sc1, ar, P1, ?_⟩
        rw [hp]
        exact ⟨n68, (by simp), fun j hj => (hk1 j hj), fun j hj => absurd hj (Nat.not_lt_zero j), fun k h66 h67 hH h1 h2 => rfl, fun x hx => ⟨by rw [e24], by rw [e27], by rw [e30]⟩, by rw [e24]; exact hs.1, fun h => by rw [e27, e30]; exact hs.2 h⟩
      · refine g_goto (tgt := 144) B dX12_processes_108 (by decide) ?_
        refine g_aload_n B 2 dX12_processes_144 rfl ?_
        refine g_iload_n B 4 dX12_processes_145 rfl ?_
        refine g_iload_n B 5 dX12_processes_146 rfl ?_
        refine g_callV (rest := []) B M_X12_gives q2818 q2820 qs88 (P1.1.choose_spec.choose_spec) rfl (c_M_gives P1.self (key := key) (k := 0) (v := v) hs1 (by omega)) rfl rfl (Nat.le_of_ble_eq_true rfl) (Nat.le_of_ble_eq_true rfl) (Nat.le_of_ble_eq_true rfl) (Nat.le_refl _) (Nat.le_refl _) dX12_processes_147 (xkN (fun T10 O10 R10 le10 p10 => ?_))
        obtain ⟨rfl, sc10, ar10, Q10, hs10, hk10, g310, g410, g510⟩ := p10
        have P10 := P1.rebase Q10
        refine g_vret B E rfl dX12_processes_150 ?_
        have e66 : ar10 66 = va_up (ar 66) 0 (nI key) := g310
        have e67 : ar10 67 = va_up (ar 67) 0 v := g410
        have e24 : ar10 24 = ar 24 := (g510 24 (by decide) (by decide))
        have e27 : ar10 27 = ar 27 := (g510 27 (by decide) (by decide))
        have e30 : ar10 30 = ar 30 := (g510 30 (by decide) (by decide))
        have n68 : sc10 68 = (nI (0 + 1)) := hs10
        have hp : aProc (a.kd o) (a.pa o) (a.pb o) s key v = ([(key, v)], s) := by rw [hkd, aProc_1, if_pos (by rw [if_pos c3]; exact Int32.not_le.mp c9)]
        refine ⟨rfl, rfl, sc10, ar10, P10, ?_⟩
        rw [hp]
        exact ⟨n68, (by simp), fun j hj => (hk10 j hj).trans (hk1 j hj), fun j hj => (by have hj0 : j = 0 := (by simpa using hj); subst hj0; rw [e66, e67]; exact ⟨va_ups, va_ups⟩), fun k h66 h67 hH h1 h2 => (g510 k h66 h67), fun x hx => ⟨by rw [e24], by rw [e27], by rw [e30]⟩, by rw [e24]; exact hs.1, fun h => by rw [e27, e30]; exact hs.2 h⟩
  · refine g_top (show Value.int (nI (a.kd o)) = .int 2 by rw [hkd]; rfl) ?_
    refine g_tableIn (tgt := 151) B dX12_processes_26 (by decide) (by decide) rfl (by decide) ?_
    refine g_aload_n B 2 dX12_processes_151 rfl ?_
    refine g_iload_n B 4 dX12_processes_152 rfl ?_
    refine g_aload_n B 2 dX12_processes_153 rfl ?_
    refine m_geta B P1 F_X12_16_12 (by decide) (Or.inl rfl) dX12_processes_154 ?_
    refine g_iload_n B 3 dX12_processes_157 rfl ?_
    refine m_ld B P1 (by decide) rfl rfl (by show _ < 6; omega) (by decide) (show _ = (a.pa o) from (Hop.2 o (by omega)).2.1) dX12_processes_158 ?_
    refine g_imul B dX12_processes_159 ?_
    refine g_aload_n B 2 dX12_processes_160 rfl ?_
    refine m_geta B P1 F_X12_19_12 (by decide) (Or.inl rfl) dX12_processes_161 ?_
    refine g_iload_n B 3 dX12_processes_164 rfl ?_
    refine m_ld B P1 (by decide) rfl rfl (by show _ < 6; omega) (by decide) (show _ = (a.pb o) from (Hop.2 o (by omega)).2.2.1) dX12_processes_165 ?_
    refine g_iadd B dX12_processes_166 ?_
    refine g_callS (rest := [_]) B M_X12_rest q2822 q2823 (c_M_rest (x := (((nI key) * (a.pa o)) + (a.pb o)))) rfl rfl (Nat.le_of_ble_eq_true rfl) (Nat.le_of_ble_eq_true rfl) (Nat.le_of_ble_eq_true rfl) (Nat.le_refl _) (Nat.le_refl _) dX12_processes_167 (xkA (fun v11 T11 O11 R11 le11 p11 => ?_))
    obtain ⟨rfl, rfl, rfl, rfl⟩ := p11
    refine g_iload_n B 5 dX12_processes_170 rfl ?_
    refine g_callV (rest := []) B M_X12_gives q2818 q2820 qs88 (P1.1.choose_spec.choose_spec) rfl (c_M_gives P1.self (key := (aRk (((nI key) * (a.pa o)) + (a.pb o)))) (k := 0) (v := v) hs1 (by omega)) rfl rfl (Nat.le_of_ble_eq_true rfl) (Nat.le_of_ble_eq_true rfl) (Nat.le_of_ble_eq_true rfl) (Nat.le_refl _) (Nat.le_refl _) dX12_processes_171 (xkN (fun T12 O12 R12 le12 p12 => ?_))
    obtain ⟨rfl, sc12, ar12, Q12, hs12, hk12, g312, g412, g512⟩ := p12
    have P12 := P1.rebase Q12
    refine g_vret B E rfl dX12_processes_174 ?_
    have e66 : ar12 66 = va_up (ar 66) 0 (nI (aRk (((nI key) * (a.pa o)) + (a.pb o)))) := g312
    have e67 : ar12 67 = va_up (ar 67) 0 v := g412
    have e24 : ar12 24 = ar 24 := (g512 24 (by decide) (by decide))
    have e27 : ar12 27 = ar 27 := (g512 27 (by decide) (by decide))
    have e30 : ar12 30 = ar 30 := (g512 30 (by decide) (by decide))
    have n68 : sc12 68 = (nI (0 + 1)) := hs12
    have hp : aProc (a.kd o) (a.pa o) (a.pb o) s key v = ([(aRk (nI key * a.pa o + a.pb o), v)], s) := by rw [hkd, aProc_2]
    refine ⟨rfl, rfl, sc12, ar12, P12, ?_⟩
    rw [hp]
    exact ⟨n68, (by simp), fun j hj => (hk12 j hj).trans (hk1 j hj), fun j hj => (by have hj0 : j = 0 := (by simpa using hj); subst hj0; rw [e66, e67]; exact ⟨va_ups, va_ups⟩), fun k h66 h67 hH h1 h2 => (g512 k h66 h67), fun x hx => ⟨by rw [e24], by rw [e27], by rw [e30]⟩, by rw [e24]; exact hs.1, fun h => by rw [e27, e30]; exact hs.2 h⟩
  · refine g_top (show Value.int (nI (a.kd o)) = .int 3 by rw [hkd]; rfl) ?_
    refine g_tableIn (tgt := 175) B dX12_processes_26 (by decide) (by decide) rfl (by decide) ?_
    refine g_iconst (v := nI 0) B dX12_processes_175 (by decide) ?_
    refine g_istore (lv2 := [(9, _), (8, _), (7, _), (0, _), (1, _), (2, _), (3, _), (4, _), (5, _), (6, _)]) B dX12_processes_176 (by decide) rfl ?_
    obtain ⟨n, hn3, hpa⟩ := hpo.2.2.1 hkd
    have L : ∀ (d x : Nat) (O1 R1 : xO) (sc1 : Nat → Int32) (ar1 : Nat → Nat → Int32), d = n - x → x ≤ n → PM m ad O R sc1 ar1 T O1 R1 → sc1 68 = nI x → (∀ j, j ≠ 68 → sc1 j = sc j) → (∀ j, j < x → ar1 66 j = nI key ∧ ar1 67 j = v + nI j) → (∀ k, k ≠ 66 → k ≠ 67 → ar1 k = ar k) → xV Z (T, O1, R1) 178 [(9, .int (nI x)), (8, .int (bI s.isSome)), (7, .int (nI (16 * o + key))), (0, .ref m), (1, .int (nI o)), (2, .int (nI key)), (3, .int v), (4, .ref (ad 24)), (5, .ref (ad 27)), (6, .ref (ad 30))] [] 0 0 := by
      intro d
      induction d using Nat.strongRecOn with
      | _ d ih =>
        intro x O1 R1 sc1 ar1 hd hx P1 i1 i2 i3 i4
        refine g_iload B 0 dX12_processes_178 rfl ?_
        refine g_aload_n B 3 dX12_processes_180 rfl ?_
        refine m_geta B P1 F_X12_16_12 (by decide) (Or.inl rfl) dX12_processes_181 ?_
        refine g_iload_n B 4 dX12_processes_184 rfl ?_
        refine m_ld B P1 (by decide) rfl rfl (by show _ < 6; omega) (by decide) (show _ = (nI n) from ((congrFun (i4 4 (by decide) (by decide)) _).trans ((Hop.2 o (by omega)).2.1.trans hpa))) dX12_processes_185 ?_
        refine g_icmp_geN (tgt := 204) B (by omega) (by omega) dX12_processes_186 (by decide) (fun c61 => ?_) (fun c61 => ?_)
        · refine g_vret B E rfl dX12_processes_204 ?_
          have hxn : x = n := by omega
          subst hxn
          have hcl : (a.pa o).toNatClampNeg = x := by rw [hpa]; exact nI_clamp (by omega)
          have hp : aProc (a.kd o) (a.pa o) (a.pb o) s key v = ((List.range x).map (fun j => (key, v + nI j)), s) := by rw [hkd, aProc_3, hcl]
          refine ⟨rfl, rfl, sc1, ar1, P1, ?_⟩
          rw [hp]
          refine ⟨by rw [i1]; simp, by simp; omega, i2, fun j hj => ?_, fun k h66 h67 _ _ _ => i4 k h66 h67, fun y _ => ⟨by rw [i4 24 (by decide) (by decide)], by rw [i4 27 (by decide) (by decide)], by rw [i4 30 (by decide) (by decide)]⟩, by rw [i4 24 (by decide) (by decide)]; exact hs.1, fun h => by rw [i4 27 (by decide) (by decide), i4 30 (by decide) (by decide)]; exact hs.2 h⟩
          have hj2 : j < x := by simpa using hj
          have hg : (((List.range x).map (fun j => (key, v + nI j))).getD j (0, 0)) = (key, v + nI j) := by simp [List.getD_eq_getElem?_getD, hj2]
          show ar1 66 j = nI (((List.range x).map (fun j => (key, v + nI j))).getD j (0, 0)).1 ∧ ar1 67 j = (((List.range x).map (fun j => (key, v + nI j))).getD j (0, 0)).2
          rw [hg]
          exact i3 j hj2
        · refine g_aload_n B 3 dX12_processes_189 rfl ?_
          refine g_iload_n B 5 dX12_processes_190 rfl ?_
          refine g_iload_n B 6 dX12_processes_191 rfl ?_
          refine g_iload B 0 dX12_processes_192 rfl ?_
          refine g_iadd B dX12_processes_194 ?_
          refine g_callV (rest := []) B M_X12_gives q2818 q2820 qs88 (P1.1.choose_spec.choose_spec) rfl (c_M_gives P1.self (key := key) (k := x) (v := (v + (nI x))) i1 (by omega)) rfl rfl (Nat.le_of_ble_eq_true rfl) (Nat.le_of_ble_eq_true rfl) (Nat.le_of_ble_eq_true rfl) (Nat.le_refl _) (Nat.le_refl _) dX12_processes_195 (xkN (fun T62 O62 R62 le62 p62 => ?_))
          obtain ⟨rfl, sc62, ar62, Q62, hs62, hk62, g362, g462, g562⟩ := p62
          have P62 := P1.rebase Q62
          refine g_iinc (v := nI (x + 1)) (lv2 := [(9, _), (8, _), (7, _), (0, _), (1, _), (2, _), (3, _), (4, _), (5, _), (6, _)]) B 0 dX12_processes_198 rfl (nI_1 _) (by decide) rfl ?_
          refine g_goto (tgt := 178) B dX12_processes_201 (by decide) ?_
          refine ih (n - (x + 1)) (by omega) (x + 1) _ _ _ _ rfl (by omega) P62 hs62 (fun j hj => (hk62 j hj).trans (i2 j hj)) (fun j hj => ?_) (fun k h66 h67 => (g562 k h66 h67).trans (i4 k h66 h67))
          rw [g362, g462]
          by_cases hjx : j = x
          · subst hjx; rw [va_ups, va_ups]; exact ⟨rfl, rfl⟩
          · rw [va_upe hjx, va_upe hjx]; exact i3 j (by omega)
    exact L _ 0 _ _ _ _ rfl (Nat.zero_le _) P1 hs1 (fun j hj => hk1 j hj) (fun j hj => absurd hj (Nat.not_lt_zero j)) (fun k _ _ => rfl)
  · refine g_top (show Value.int (nI (a.kd o)) = .int 5 by rw [hkd]; rfl) ?_
    refine g_tableIn (tgt := 205) B dX12_processes_26 (by decide) (by decide) rfl (by decide) ?_
    refine g_iload B 0 dX12_processes_205 rfl ?_
    refine g_if_eqB (tgt := 219) B dX12_processes_207 (by decide) (fun c13 => ?_) (fun c13 => ?_)
    · refine g_aload_n B 2 dX12_processes_219 rfl ?_
      refine g_iload_n B 4 dX12_processes_220 rfl ?_
      refine g_iload_n B 5 dX12_processes_221 rfl ?_
      refine g_callV (rest := []) B M_X12_gives q2818 q2820 qs88 (P1.1.choose_spec.choose_spec) rfl (c_M_gives P1.self (key := key) (k := 0) (v := v) hs1 (by omega)) rfl rfl (Nat.le_of_ble_eq_true rfl) (Nat.le_of_ble_eq_true rfl) (Nat.le_of_ble_eq_true rfl) (Nat.le_refl _) (Nat.le_refl _) dX12_processes_222 (xkN (fun T14 O14 R14 le14 p14 => ?_))
      obtain ⟨rfl, sc14, ar14, Q14, hs14, hk14, g314, g414, g514⟩ := p14
      have P14 := P1.rebase Q14
      refine g_aload B 7 dX12_processes_225 rfl ?_
      refine g_iload B 1 dX12_processes_227 rfl ?_
      refine g_iload_n B 5 dX12_processes_229 rfl ?_
      refine m_st B P14 (by decide) rfl rfl (by show _ < 96; omega) (by decide) dX12_processes_230 (fun R15 ar15 hs15 hk15 P15 => ?_)
      refine g_aload B 8 dX12_processes_231 rfl ?_
      refine g_iload B 1 dX12_processes_233 rfl ?_
      refine g_iconst (v := nI 0) B dX12_processes_235 (by decide) ?_
      refine m_st B P15 (by decide) rfl rfl (by show _ < 96; omega) (by decide) dX12_processes_236 (fun R16 ar16 hs16 hk16 P16 => ?_)
      refine g_goto (tgt := 358) B dX12_processes_237 (by decide) ?_
      refine g_aload B 6 dX12_processes_358 rfl ?_
      refine g_iload B 1 dX12_processes_360 rfl ?_
      refine g_iconst (v := nI 1) B dX12_processes_362 (by decide) ?_
      refine m_stz B P16 (by decide) rfl rfl (by show _ < 96; omega) (by decide) rfl dX12_processes_363 (fun R17 ar17 hs17 hk17 P17 => ?_)
      refine g_vret B E rfl dX12_processes_364 ?_
      have e66 : ar17 66 = va_up (ar 66) 0 (nI key) := ((hk17 66 (by decide)).trans ((hk16 66 (by decide)).trans ((hk15 66 (by decide)).trans g314)))
      have e67 : ar17 67 = va_up (ar 67) 0 v := ((hk17 67 (by decide)).trans ((hk16 67 (by decide)).trans ((hk15 67 (by decide)).trans g414)))
      have e24 : ar17 24 = va_up (ar 24) ((16 * o) + key) (nI 1) := (hs17.trans (congrArg (fun g => va_up g ((16 * o) + key) (nI 1)) ((hk16 24 (by decide)).trans ((hk15 24 (by decide)).trans (g514 24 (by decide) (by decide))))))
      have e27 : ar17 27 = va_up (ar 27) ((16 * o) + key) v := ((hk17 27 (by decide)).trans ((hk16 27 (by decide)).trans (hs15.trans (congrArg (fun g => va_up g ((16 * o) + key) v) (g514 27 (by decide) (by decide))))))
      have e30 : ar17 30 = va_up (ar 30) ((16 * o) + key) (nI 0) := ((hk17 30 (by decide)).trans (hs16.trans (congrArg (fun g => va_up g ((16 * o) + key) (nI 0)) ((hk15 30 (by decide)).trans (g514 30 (by decide) (by decide))))))
      have n68 : sc14 68 = (nI (0 + 1)) := hs14
      have hp : aProc (a.kd o) (a.pa o) (a.pb o) s key v = ([(key, v)], some (v, 0)) := by rw [hkd, aProc_5, if_neg (fun h => by rw [h.1] at c13; cases c13)]
      refine ⟨rfl, rfl, sc14, ar17, P17, ?_⟩
      rw [hp]
      exact ⟨n68, (by simp), fun j hj => (hk14 j hj).trans (hk1 j hj), fun j hj => (by have hj0 : j = 0 := (by simpa using hj); subst hj0; rw [e66, e67]; exact ⟨va_ups, va_ups⟩), fun k h66 h67 hH h1 h2 => ((hk17 k hH).trans ((hk16 k h2).trans ((hk15 k h1).trans (g514 k h66 h67)))), fun x hx => ⟨by rw [e24, va_upe hx], by rw [e27, va_upe hx], by rw [e30, va_upe hx]⟩, by rw [e24, va_ups]; rfl, fun _ => ⟨(congrFun e27 _).trans va_ups, (congrFun e30 _).trans va_ups⟩⟩
    · refine g_aload B 7 dX12_processes_210 rfl ?_
      refine g_iload B 1 dX12_processes_212 rfl ?_
      refine m_ld B P1 (by decide) rfl rfl (by show _ < 96; omega) (by decide) (show _ = (s.getD (0, 0)).1 from (hs.2 c13).1) dX12_processes_214 ?_
      refine g_iload_n B 5 dX12_processes_215 rfl ?_
      refine g_icmp_eq (tgt := 225) B dX12_processes_216 (by decide) (fun c18 => ?_) (fun c18 => ?_)
      · refine g_aload B 7 dX12_processes_225 rfl ?_
        refine g_iload B 1 dX12_processes_227 rfl ?_
        refine g_iload_n B 5 dX12_processes_229 rfl ?_
        refine m_st B P1 (by decide) rfl rfl (by show _ < 96; omega) (by decide) dX12_processes_230 (fun R19 ar19 hs19 hk19 P19 => ?_)
        refine g_aload B 8 dX12_processes_231 rfl ?_
        refine g_iload B 1 dX12_processes_233 rfl ?_
        refine g_iconst (v := nI 0) B dX12_processes_235 (by decide) ?_
        refine m_st B P19 (by decide) rfl rfl (by show _ < 96; omega) (by decide) dX12_processes_236 (fun R20 ar20 hs20 hk20 P20 => ?_)
        refine g_goto (tgt := 358) B dX12_processes_237 (by decide) ?_
        refine g_aload B 6 dX12_processes_358 rfl ?_
        refine g_iload B 1 dX12_processes_360 rfl ?_
        refine g_iconst (v := nI 1) B dX12_processes_362 (by decide) ?_
        refine m_stz B P20 (by decide) rfl rfl (by show _ < 96; omega) (by decide) rfl dX12_processes_363 (fun R21 ar21 hs21 hk21 P21 => ?_)
        refine g_vret B E rfl dX12_processes_364 ?_
        have e66 : ar21 66 = ar 66 := ((hk21 66 (by decide)).trans ((hk20 66 (by decide)).trans (hk19 66 (by decide))))
        have e67 : ar21 67 = ar 67 := ((hk21 67 (by decide)).trans ((hk20 67 (by decide)).trans (hk19 67 (by decide))))
        have e24 : ar21 24 = va_up (ar 24) ((16 * o) + key) (nI 1) := (hs21.trans (congrArg (fun g => va_up g ((16 * o) + key) (nI 1)) ((hk20 24 (by decide)).trans (hk19 24 (by decide)))))
        have e27 : ar21 27 = va_up (ar 27) ((16 * o) + key) v := ((hk21 27 (by decide)).trans ((hk20 27 (by decide)).trans hs19))
        have e30 : ar21 30 = va_up (ar 30) ((16 * o) + key) (nI 0) := ((hk21 30 (by decide)).trans (hs20.trans (congrArg (fun g => va_up g ((16 * o) + key) (nI 0)) (hk19 30 (by decide)))))
        have n68 : sc1 68 = (nI 0) := hs1
        have hp : aProc (a.kd o) (a.pa o) (a.pb o) s key v = ([], some (v, 0)) := by rw [hkd, aProc_5, if_pos ⟨c13, c18⟩]
        refine ⟨rfl, rfl, sc1, ar21, P21, ?_⟩
        rw [hp]
        exact ⟨n68, (by simp), fun j hj => (hk1 j hj), fun j hj => absurd hj (Nat.not_lt_zero j), fun k h66 h67 hH h1 h2 => ((hk21 k hH).trans ((hk20 k h2).trans (hk19 k h1))), fun x hx => ⟨by rw [e24, va_upe hx], by rw [e27, va_upe hx], by rw [e30, va_upe hx]⟩, by rw [e24, va_ups]; rfl, fun _ => ⟨(congrFun e27 _).trans va_ups, (congrFun e30 _).trans va_ups⟩⟩
      · refine g_aload_n B 2 dX12_processes_219 rfl ?_
        refine g_iload_n B 4 dX12_processes_220 rfl ?_
        refine g_iload_n B 5 dX12_processes_221 rfl ?_
        refine g_callV (rest := []) B M_X12_gives q2818 q2820 qs88 (P1.1.choose_spec.choose_spec) rfl (c_M_gives P1.self (key := key) (k := 0) (v := v) hs1 (by omega)) rfl rfl (Nat.le_of_ble_eq_true rfl) (Nat.le_of_ble_eq_true rfl) (Nat.le_of_ble_eq_true rfl) (Nat.le_refl _) (Nat.le_refl _) dX12_processes_222 (xkN (fun T22 O22 R22 le22 p22 => ?_))
        obtain ⟨rfl, sc22, ar22, Q22, hs22, hk22, g322, g422, g522⟩ := p22
        have P22 := P1.rebase Q22
        refine g_aload B 7 dX12_processes_225 rfl ?_
        refine g_iload B 1 dX12_processes_227 rfl ?_
        refine g_iload_n B 5 dX12_processes_229 rfl ?_
        refine m_st B P22 (by decide) rfl rfl (by show _ < 96; omega) (by decide) dX12_processes_230 (fun R23 ar23 hs23 hk23 P23 => ?_)
        refine g_aload B 8 dX12_processes_231 rfl ?_
        refine g_iload B 1 dX12_processes_233 rfl ?_
        refine g_iconst (v := nI 0) B dX12_processes_235 (by decide) ?_
        refine m_st B P23 (by decide) rfl rfl (by show _ < 96; omega) (by decide) dX12_processes_236 (fun R24 ar24 hs24 hk24 P24 => ?_)
        refine g_goto (tgt := 358) B dX12_processes_237 (by decide) ?_
        refine g_aload B 6 dX12_processes_358 rfl ?_
        refine g_iload B 1 dX12_processes_360 rfl ?_
        refine g_iconst (v := nI 1) B dX12_processes_362 (by decide) ?_
        refine m_stz B P24 (by decide) rfl rfl (by show _ < 96; omega) (by decide) rfl dX12_processes_363 (fun R25 ar25 hs25 hk25 P25 => ?_)
        refine g_vret B E rfl dX12_processes_364 ?_
        have e66 : ar25 66 = va_up (ar 66) 0 (nI key) := ((hk25 66 (by decide)).trans ((hk24 66 (by decide)).trans ((hk23 66 (by decide)).trans g322)))
        have e67 : ar25 67 = va_up (ar 67) 0 v := ((hk25 67 (by decide)).trans ((hk24 67 (by decide)).trans ((hk23 67 (by decide)).trans g422)))
        have e24 : ar25 24 = va_up (ar 24) ((16 * o) + key) (nI 1) := (hs25.trans (congrArg (fun g => va_up g ((16 * o) + key) (nI 1)) ((hk24 24 (by decide)).trans ((hk23 24 (by decide)).trans (g522 24 (by decide) (by decide))))))
        have e27 : ar25 27 = va_up (ar 27) ((16 * o) + key) v := ((hk25 27 (by decide)).trans ((hk24 27 (by decide)).trans (hs23.trans (congrArg (fun g => va_up g ((16 * o) + key) v) (g522 27 (by decide) (by decide))))))
        have e30 : ar25 30 = va_up (ar 30) ((16 * o) + key) (nI 0) := ((hk25 30 (by decide)).trans (hs24.trans (congrArg (fun g => va_up g ((16 * o) + key) (nI 0)) ((hk23 30 (by decide)).trans (g522 30 (by decide) (by decide))))))
        have n68 : sc22 68 = (nI (0 + 1)) := hs22
        have hp : aProc (a.kd o) (a.pa o) (a.pb o) s key v = ([(key, v)], some (v, 0)) := by rw [hkd, aProc_5, if_neg (fun h => c18 h.2)]
        refine ⟨rfl, rfl, sc22, ar25, P25, ?_⟩
        rw [hp]
        exact ⟨n68, (by simp), fun j hj => (hk22 j hj).trans (hk1 j hj), fun j hj => (by have hj0 : j = 0 := (by simpa using hj); subst hj0; rw [e66, e67]; exact ⟨va_ups, va_ups⟩), fun k h66 h67 hH h1 h2 => ((hk25 k hH).trans ((hk24 k h2).trans ((hk23 k h1).trans (g522 k h66 h67)))), fun x hx => ⟨by rw [e24, va_upe hx], by rw [e27, va_upe hx], by rw [e30, va_upe hx]⟩, by rw [e24, va_ups]; rfl, fun _ => ⟨(congrFun e27 _).trans va_ups, (congrFun e30 _).trans va_ups⟩⟩
  · refine g_top (show Value.int (nI (a.kd o)) = .int 6 by rw [hkd]; rfl) ?_
    refine g_tableIn (tgt := 240) B dX12_processes_26 (by decide) (by decide) rfl (by decide) ?_
    refine g_iload B 0 dX12_processes_240 rfl ?_
    refine g_if_eqB (tgt := 254) B dX12_processes_242 (by decide) (fun c26 => ?_) (fun c26 => ?_)
    · refine g_aload_n B 2 dX12_processes_254 rfl ?_
      refine g_iload_n B 4 dX12_processes_255 rfl ?_
      refine g_iload_n B 5 dX12_processes_256 rfl ?_
      refine g_callV (rest := []) B M_X12_gives q2818 q2820 qs88 (P1.1.choose_spec.choose_spec) rfl (c_M_gives P1.self (key := key) (k := 0) (v := v) hs1 (by omega)) rfl rfl (Nat.le_of_ble_eq_true rfl) (Nat.le_of_ble_eq_true rfl) (Nat.le_of_ble_eq_true rfl) (Nat.le_refl _) (Nat.le_refl _) dX12_processes_257 (xkN (fun T27 O27 R27 le27 p27 => ?_))
      obtain ⟨rfl, sc27, ar27, Q27, hs27, hk27, g327, g427, g527⟩ := p27
      have P27 := P1.rebase Q27
      refine g_aload B 7 dX12_processes_260 rfl ?_
      refine g_iload B 1 dX12_processes_262 rfl ?_
      refine g_iload_n B 5 dX12_processes_264 rfl ?_
      refine m_st B P27 (by decide) rfl rfl (by show _ < 96; omega) (by decide) dX12_processes_265 (fun R28 ar28 hs28 hk28 P28 => ?_)
      refine g_aload B 8 dX12_processes_266 rfl ?_
      refine g_iload B 1 dX12_processes_268 rfl ?_
      refine g_iconst (v := nI 0) B dX12_processes_270 (by decide) ?_
      refine m_st B P28 (by decide) rfl rfl (by show _ < 96; omega) (by decide) dX12_processes_271 (fun R29 ar29 hs29 hk29 P29 => ?_)
      refine g_goto (tgt := 358) B dX12_processes_272 (by decide) ?_
      refine g_aload B 6 dX12_processes_358 rfl ?_
      refine g_iload B 1 dX12_processes_360 rfl ?_
      refine g_iconst (v := nI 1) B dX12_processes_362 (by decide) ?_
      refine m_stz B P29 (by decide) rfl rfl (by show _ < 96; omega) (by decide) rfl dX12_processes_363 (fun R30 ar30 hs30 hk30 P30 => ?_)
      refine g_vret B E rfl dX12_processes_364 ?_
      have e66 : ar30 66 = va_up (ar 66) 0 (nI key) := ((hk30 66 (by decide)).trans ((hk29 66 (by decide)).trans ((hk28 66 (by decide)).trans g327)))
      have e67 : ar30 67 = va_up (ar 67) 0 v := ((hk30 67 (by decide)).trans ((hk29 67 (by decide)).trans ((hk28 67 (by decide)).trans g427)))
      have e24 : ar30 24 = va_up (ar 24) ((16 * o) + key) (nI 1) := (hs30.trans (congrArg (fun g => va_up g ((16 * o) + key) (nI 1)) ((hk29 24 (by decide)).trans ((hk28 24 (by decide)).trans (g527 24 (by decide) (by decide))))))
      have e27 : ar30 27 = va_up (ar 27) ((16 * o) + key) v := ((hk30 27 (by decide)).trans ((hk29 27 (by decide)).trans (hs28.trans (congrArg (fun g => va_up g ((16 * o) + key) v) (g527 27 (by decide) (by decide))))))
      have e30 : ar30 30 = va_up (ar 30) ((16 * o) + key) (nI 0) := ((hk30 30 (by decide)).trans (hs29.trans (congrArg (fun g => va_up g ((16 * o) + key) (nI 0)) ((hk28 30 (by decide)).trans (g527 30 (by decide) (by decide))))))
      have n68 : sc27 68 = (nI (0 + 1)) := hs27
      have hp : aProc (a.kd o) (a.pa o) (a.pb o) s key v = ([(key, v)], some (v, 0)) := by rw [hkd, aProc_6, if_neg (fun h => by rw [h.1] at c26; cases c26)]
      refine ⟨rfl, rfl, sc27, ar30, P30, ?_⟩
      rw [hp]
      exact ⟨n68, (by simp), fun j hj => (hk27 j hj).trans (hk1 j hj), fun j hj => (by have hj0 : j = 0 := (by simpa using hj); subst hj0; rw [e66, e67]; exact ⟨va_ups, va_ups⟩), fun k h66 h67 hH h1 h2 => ((hk30 k hH).trans ((hk29 k h2).trans ((hk28 k h1).trans (g527 k h66 h67)))), fun x hx => ⟨by rw [e24, va_upe hx], by rw [e27, va_upe hx], by rw [e30, va_upe hx]⟩, by rw [e24, va_ups]; rfl, fun _ => ⟨(congrFun e27 _).trans va_ups, (congrFun e30 _).trans va_ups⟩⟩
    · refine g_iload_n B 5 dX12_processes_245 rfl ?_
      refine g_aload B 7 dX12_processes_246 rfl ?_
      refine g_iload B 1 dX12_processes_248 rfl ?_
      refine m_ld B P1 (by decide) rfl rfl (by show _ < 96; omega) (by decide) (show _ = (s.getD (0, 0)).1 from (hs.2 c26).1) dX12_processes_250 ?_
      refine g_icmp_le (tgt := 266) B dX12_processes_251 (by decide) (fun c31 => ?_) (fun c31 => ?_)
      · refine g_aload B 8 dX12_processes_266 rfl ?_
        refine g_iload B 1 dX12_processes_268 rfl ?_
        refine g_iconst (v := nI 0) B dX12_processes_270 (by decide) ?_
        refine m_st B P1 (by decide) rfl rfl (by show _ < 96; omega) (by decide) dX12_processes_271 (fun R32 ar32 hs32 hk32 P32 => ?_)
        refine g_goto (tgt := 358) B dX12_processes_272 (by decide) ?_
        refine g_aload B 6 dX12_processes_358 rfl ?_
        refine g_iload B 1 dX12_processes_360 rfl ?_
        refine g_iconst (v := nI 1) B dX12_processes_362 (by decide) ?_
        refine m_stz B P32 (by decide) rfl rfl (by show _ < 96; omega) (by decide) rfl dX12_processes_363 (fun R33 ar33 hs33 hk33 P33 => ?_)
        refine g_vret B E rfl dX12_processes_364 ?_
        obtain ⟨sx, hsx⟩ := Option.isSome_iff_exists.mp c26
        have hse : s = some (s.getD (0, 0)) := by rw [hsx]; rfl
        have e66 : ar33 66 = ar 66 := ((hk33 66 (by decide)).trans (hk32 66 (by decide)))
        have e67 : ar33 67 = ar 67 := ((hk33 67 (by decide)).trans (hk32 67 (by decide)))
        have e24 : ar33 24 = va_up (ar 24) ((16 * o) + key) (nI 1) := (hs33.trans (congrArg (fun g => va_up g ((16 * o) + key) (nI 1)) (hk32 24 (by decide))))
        have e27 : ar33 27 = ar 27 := ((hk33 27 (by decide)).trans (hk32 27 (by decide)))
        have e30 : ar33 30 = va_up (ar 30) ((16 * o) + key) (nI 0) := ((hk33 30 (by decide)).trans hs32)
        have n68 : sc1 68 = (nI 0) := hs1
        have hp : aProc (a.kd o) (a.pa o) (a.pb o) s key v = ([], some (s.getD (0, 0))) := by rw [hkd, aProc_6, if_pos ⟨c26, c31⟩, ← hse]
        refine ⟨rfl, rfl, sc1, ar33, P33, ?_⟩
        rw [hp]
        exact ⟨n68, (by simp), fun j hj => (hk1 j hj), fun j hj => absurd hj (Nat.not_lt_zero j), fun k h66 h67 hH h1 h2 => ((hk33 k hH).trans (hk32 k h2)), fun x hx => ⟨by rw [e24, va_upe hx], by rw [e27], by rw [e30, va_upe hx]⟩, by rw [e24, va_ups]; rfl, fun _ => ⟨by rw [e27]; exact (hs.2 c26).1, (by rw [e30, va_ups]; exact (hpo.2.2.2.2 hkd).symm)⟩⟩
      · refine g_aload_n B 2 dX12_processes_254 rfl ?_
        refine g_iload_n B 4 dX12_processes_255 rfl ?_
        refine g_iload_n B 5 dX12_processes_256 rfl ?_
        refine g_callV (rest := []) B M_X12_gives q2818 q2820 qs88 (P1.1.choose_spec.choose_spec) rfl (c_M_gives P1.self (key := key) (k := 0) (v := v) hs1 (by omega)) rfl rfl (Nat.le_of_ble_eq_true rfl) (Nat.le_of_ble_eq_true rfl) (Nat.le_of_ble_eq_true rfl) (Nat.le_refl _) (Nat.le_refl _) dX12_processes_257 (xkN (fun T34 O34 R34 le34 p34 => ?_))
        obtain ⟨rfl, sc34, ar34, Q34, hs34, hk34, g334, g434, g534⟩ := p34
        have P34 := P1.rebase Q34
        refine g_aload B 7 dX12_processes_260 rfl ?_
        refine g_iload B 1 dX12_processes_262 rfl ?_
        refine g_iload_n B 5 dX12_processes_264 rfl ?_
        refine m_st B P34 (by decide) rfl rfl (by show _ < 96; omega) (by decide) dX12_processes_265 (fun R35 ar35 hs35 hk35 P35 => ?_)
        refine g_aload B 8 dX12_processes_266 rfl ?_
        refine g_iload B 1 dX12_processes_268 rfl ?_
        refine g_iconst (v := nI 0) B dX12_processes_270 (by decide) ?_
        refine m_st B P35 (by decide) rfl rfl (by show _ < 96; omega) (by decide) dX12_processes_271 (fun R36 ar36 hs36 hk36 P36 => ?_)
        refine g_goto (tgt := 358) B dX12_processes_272 (by decide) ?_
        refine g_aload B 6 dX12_processes_358 rfl ?_
        refine g_iload B 1 dX12_processes_360 rfl ?_
        refine g_iconst (v := nI 1) B dX12_processes_362 (by decide) ?_
        refine m_stz B P36 (by decide) rfl rfl (by show _ < 96; omega) (by decide) rfl dX12_processes_363 (fun R37 ar37 hs37 hk37 P37 => ?_)
        refine g_vret B E rfl dX12_processes_364 ?_
        have e66 : ar37 66 = va_up (ar 66) 0 (nI key) := ((hk37 66 (by decide)).trans ((hk36 66 (by decide)).trans ((hk35 66 (by decide)).trans g334)))
        have e67 : ar37 67 = va_up (ar 67) 0 v := ((hk37 67 (by decide)).trans ((hk36 67 (by decide)).trans ((hk35 67 (by decide)).trans g434)))
        have e24 : ar37 24 = va_up (ar 24) ((16 * o) + key) (nI 1) := (hs37.trans (congrArg (fun g => va_up g ((16 * o) + key) (nI 1)) ((hk36 24 (by decide)).trans ((hk35 24 (by decide)).trans (g534 24 (by decide) (by decide))))))
        have e27 : ar37 27 = va_up (ar 27) ((16 * o) + key) v := ((hk37 27 (by decide)).trans ((hk36 27 (by decide)).trans (hs35.trans (congrArg (fun g => va_up g ((16 * o) + key) v) (g534 27 (by decide) (by decide))))))
        have e30 : ar37 30 = va_up (ar 30) ((16 * o) + key) (nI 0) := ((hk37 30 (by decide)).trans (hs36.trans (congrArg (fun g => va_up g ((16 * o) + key) (nI 0)) ((hk35 30 (by decide)).trans (g534 30 (by decide) (by decide))))))
        have n68 : sc34 68 = (nI (0 + 1)) := hs34
        have hp : aProc (a.kd o) (a.pa o) (a.pb o) s key v = ([(key, v)], some (v, 0)) := by rw [hkd, aProc_6, if_neg (fun h => c31 h.2)]
        refine ⟨rfl, rfl, sc34, ar37, P37, ?_⟩
        rw [hp]
        exact ⟨n68, (by simp), fun j hj => (hk34 j hj).trans (hk1 j hj), fun j hj => (by have hj0 : j = 0 := (by simpa using hj); subst hj0; rw [e66, e67]; exact ⟨va_ups, va_ups⟩), fun k h66 h67 hH h1 h2 => ((hk37 k hH).trans ((hk36 k h2).trans ((hk35 k h1).trans (g534 k h66 h67)))), fun x hx => ⟨by rw [e24, va_upe hx], by rw [e27, va_upe hx], by rw [e30, va_upe hx]⟩, by rw [e24, va_ups]; rfl, fun _ => ⟨(congrFun e27 _).trans va_ups, (congrFun e30 _).trans va_ups⟩⟩
  · refine g_top (show Value.int (nI (a.kd o)) = .int 4 by rw [hkd]; rfl) ?_
    refine g_tableIn (tgt := 275) B dX12_processes_26 (by decide) (by decide) rfl (by decide) ?_
    refine g_aload B 7 dX12_processes_275 rfl ?_
    refine g_iload B 1 dX12_processes_277 rfl ?_
    refine g_iload B 0 dX12_processes_279 rfl ?_
    refine g_if_eqB (tgt := 294) B dX12_processes_281 (by decide) (fun c38 => ?_) (fun c38 => ?_)
    · refine g_iload_n B 5 dX12_processes_294 rfl ?_
      refine m_st B P1 (by decide) rfl rfl (by show _ < 96; omega) (by decide) dX12_processes_295 (fun R39 ar39 hs39 hk39 P39 => ?_)
      refine g_aload B 8 dX12_processes_296 rfl ?_
      refine g_iload B 1 dX12_processes_298 rfl ?_
      refine g_iload B 0 dX12_processes_300 rfl ?_
      refine g_if_eqB (tgt := 315) B dX12_processes_302 (by decide) (fun c40 => ?_) (fun c40 => Bool.noConfusion (c38.symm.trans c40))
      refine g_iconst (v := nI 1) B dX12_processes_315 (by decide) ?_
      refine m_st B P39 (by decide) rfl rfl (by show _ < 96; omega) (by decide) dX12_processes_316 (fun R41 ar41 hs41 hk41 P41 => ?_)
      refine g_aload_n B 2 dX12_processes_317 rfl ?_
      refine m_geta B P41 F_X12_13_12 (by decide) (Or.inl rfl) dX12_processes_318 ?_
      refine g_iload_n B 3 dX12_processes_321 rfl ?_
      refine m_ld B P41 (by decide) rfl rfl (by show _ < 6; omega) (by decide) (show _ = (nI (a.kd o)) from ((congrFun (hk41 3 (by decide)) _).trans ((congrFun (hk39 3 (by decide)) _).trans (Hop.2 o (by omega)).1))) dX12_processes_322 ?_
      refine g_iconst (v := nI 4) B dX12_processes_323 (by decide) ?_
      refine g_icmp_neN (tgt := 358) B (by omega) (by omega) dX12_processes_324 (by decide) (fun c42 => ?_) (fun c42 => ?_)
      · exact absurd hkd c42
      refine g_aload B 8 dX12_processes_327 rfl ?_
      refine g_iload B 1 dX12_processes_329 rfl ?_
      refine m_ld B P41 (by decide) rfl rfl (by show _ < 96; omega) (by decide) (show _ = (nI 1) from ((congrFun hs41 _).trans va_ups)) dX12_processes_331 ?_
      refine g_aload_n B 2 dX12_processes_332 rfl ?_
      refine m_geta B P41 F_X12_16_12 (by decide) (Or.inl rfl) dX12_processes_333 ?_
      refine g_iload_n B 3 dX12_processes_336 rfl ?_
      refine m_ld B P41 (by decide) rfl rfl (by show _ < 6; omega) (by decide) (show _ = (a.pa o) from ((congrFun (hk41 4 (by decide)) _).trans ((congrFun (hk39 4 (by decide)) _).trans (Hop.2 o (by omega)).2.1))) dX12_processes_337 ?_
      refine g_icmp_ne (tgt := 358) B dX12_processes_338 (by decide) (fun c43 => ?_) (fun c43 => ?_)
      · refine g_aload B 6 dX12_processes_358 rfl ?_
        refine g_iload B 1 dX12_processes_360 rfl ?_
        refine g_iconst (v := nI 1) B dX12_processes_362 (by decide) ?_
        refine m_stz B P41 (by decide) rfl rfl (by show _ < 96; omega) (by decide) rfl dX12_processes_363 (fun R44 ar44 hs44 hk44 P44 => ?_)
        refine g_vret B E rfl dX12_processes_364 ?_
        have h4 := (hpo.2.2.2.1 hkd)
        rw [getD_no c38, i32_z] at h4
        have h5 : 1 < a.pa o := h4.resolve_right c43
        have e66 : ar44 66 = ar 66 := ((hk44 66 (by decide)).trans ((hk41 66 (by decide)).trans (hk39 66 (by decide))))
        have e67 : ar44 67 = ar 67 := ((hk44 67 (by decide)).trans ((hk41 67 (by decide)).trans (hk39 67 (by decide))))
        have e24 : ar44 24 = va_up (ar 24) ((16 * o) + key) (nI 1) := (hs44.trans (congrArg (fun g => va_up g ((16 * o) + key) (nI 1)) ((hk41 24 (by decide)).trans (hk39 24 (by decide)))))
        have e27 : ar44 27 = va_up (ar 27) ((16 * o) + key) v := ((hk44 27 (by decide)).trans ((hk41 27 (by decide)).trans hs39))
        have e30 : ar44 30 = va_up (ar 30) ((16 * o) + key) (nI 1) := ((hk44 30 (by decide)).trans (hs41.trans (congrArg (fun g => va_up g ((16 * o) + key) (nI 1)) (hk39 30 (by decide)))))
        have n68 : sc1 68 = (nI 0) := hs1
        have hp : aProc (a.kd o) (a.pa o) (a.pb o) s key v = ([], some (v, 1)) := by rw [hkd, aProc_4, getD_no c38, i32_z, i32_z, if_pos h5]
        refine ⟨rfl, rfl, sc1, ar44, P44, ?_⟩
        rw [hp]
        exact ⟨n68, (by simp), fun j hj => (hk1 j hj), fun j hj => absurd hj (Nat.not_lt_zero j), fun k h66 h67 hH h1 h2 => ((hk44 k hH).trans ((hk41 k h2).trans (hk39 k h1))), fun x hx => ⟨by rw [e24, va_upe hx], by rw [e27, va_upe hx], by rw [e30, va_upe hx]⟩, by rw [e24, va_ups]; rfl, fun _ => ⟨(congrFun e27 _).trans va_ups, (congrFun e30 _).trans va_ups⟩⟩
      · refine g_aload_n B 2 dX12_processes_341 rfl ?_
        refine g_iload_n B 4 dX12_processes_342 rfl ?_
        refine g_aload B 7 dX12_processes_343 rfl ?_
        refine g_iload B 1 dX12_processes_345 rfl ?_
        refine m_ld B P41 (by decide) rfl rfl (by show _ < 96; omega) (by decide) (show _ = v from ((congrFun (hk41 27 (by decide)) _).trans ((congrFun hs39 _).trans va_ups))) dX12_processes_347 ?_
        refine g_callV (rest := []) B M_X12_gives q2818 q2820 qs88 (P41.1.choose_spec.choose_spec) rfl (c_M_gives P41.self (key := key) (k := 0) (v := v) hs1 (by omega)) rfl rfl (Nat.le_of_ble_eq_true rfl) (Nat.le_of_ble_eq_true rfl) (Nat.le_of_ble_eq_true rfl) (Nat.le_refl _) (Nat.le_refl _) dX12_processes_348 (xkN (fun T45 O45 R45 le45 p45 => ?_))
        obtain ⟨rfl, sc45, ar45, Q45, hs45, hk45, g345, g445, g545⟩ := p45
        have P45 := P41.rebase Q45
        refine g_aload B 6 dX12_processes_351 rfl ?_
        refine g_iload B 1 dX12_processes_353 rfl ?_
        refine g_iconst (v := nI 0) B dX12_processes_355 (by decide) ?_
        refine m_stz B P45 (by decide) rfl rfl (by show _ < 96; omega) (by decide) rfl dX12_processes_356 (fun R46 ar46 hs46 hk46 P46 => ?_)
        refine g_vret B E rfl dX12_processes_357 ?_
        have h4 := (hpo.2.2.2.1 hkd)
        rw [getD_no c38, i32_z] at h4
        have h5 : ¬ 1 < a.pa o := fun h => by rw [show 1 = a.pa o from c43] at h; exact Int32.lt_irrefl h
        have e66 : ar46 66 = va_up (ar 66) 0 (nI key) := ((hk46 66 (by decide)).trans (g345.trans (congrArg (fun g => va_up g 0 (nI key)) ((hk41 66 (by decide)).trans (hk39 66 (by decide))))))
        have e67 : ar46 67 = va_up (ar 67) 0 v := ((hk46 67 (by decide)).trans (g445.trans (congrArg (fun g => va_up g 0 v) ((hk41 67 (by decide)).trans (hk39 67 (by decide))))))
        have e24 : ar46 24 = va_up (ar 24) ((16 * o) + key) (nI 0) := (hs46.trans (congrArg (fun g => va_up g ((16 * o) + key) (nI 0)) ((g545 24 (by decide) (by decide)).trans ((hk41 24 (by decide)).trans (hk39 24 (by decide))))))
        have e27 : ar46 27 = va_up (ar 27) ((16 * o) + key) v := ((hk46 27 (by decide)).trans ((g545 27 (by decide) (by decide)).trans ((hk41 27 (by decide)).trans hs39)))
        have e30 : ar46 30 = va_up (ar 30) ((16 * o) + key) (nI 1) := ((hk46 30 (by decide)).trans ((g545 30 (by decide) (by decide)).trans (hs41.trans (congrArg (fun g => va_up g ((16 * o) + key) (nI 1)) (hk39 30 (by decide))))))
        have n68 : sc45 68 = (nI (0 + 1)) := hs45
        have hp : aProc (a.kd o) (a.pa o) (a.pb o) s key v = ([(key, v)], none) := by rw [hkd, aProc_4, getD_no c38, i32_z, i32_z, if_neg h5]
        refine ⟨rfl, rfl, sc45, ar46, P46, ?_⟩
        rw [hp]
        exact ⟨n68, (by simp), fun j hj => (hk45 j hj).trans (hk1 j hj), fun j hj => (by have hj0 : j = 0 := (by simpa using hj); subst hj0; rw [e66, e67]; exact ⟨va_ups, va_ups⟩), fun k h66 h67 hH h1 h2 => ((hk46 k hH).trans ((g545 k h66 h67).trans ((hk41 k h2).trans (hk39 k h1)))), fun x hx => ⟨by rw [e24, va_upe hx], by rw [e27, va_upe hx], by rw [e30, va_upe hx]⟩, by rw [e24, va_ups]; rfl, fun h => by cases h⟩
    · refine g_aload B 7 dX12_processes_284 rfl ?_
      refine g_iload B 1 dX12_processes_286 rfl ?_
      refine m_ld B P1 (by decide) rfl rfl (by show _ < 96; omega) (by decide) (show _ = (s.getD (0, 0)).1 from (hs.2 c38).1) dX12_processes_288 ?_
      refine g_iload_n B 5 dX12_processes_289 rfl ?_
      refine g_iadd B dX12_processes_290 ?_
      refine g_goto (tgt := 295) B dX12_processes_291 (by decide) ?_
      refine m_st B P1 (by decide) rfl rfl (by show _ < 96; omega) (by decide) dX12_processes_295 (fun R47 ar47 hs47 hk47 P47 => ?_)
      refine g_aload B 8 dX12_processes_296 rfl ?_
      refine g_iload B 1 dX12_processes_298 rfl ?_
      refine g_iload B 0 dX12_processes_300 rfl ?_
      refine g_if_eqB (tgt := 315) B dX12_processes_302 (by decide) (fun c48 => Bool.noConfusion (c38.symm.trans c48)) (fun c48 => ?_)
      refine g_aload B 8 dX12_processes_305 rfl ?_
      refine g_iload B 1 dX12_processes_307 rfl ?_
      refine m_ld B P47 (by decide) rfl rfl (by show _ < 96; omega) (by decide) (show _ = (s.getD (0, 0)).2 from ((congrFun (hk47 30 (by decide)) _).trans (hs.2 c48).2)) dX12_processes_309 ?_
      refine g_iconst (v := nI 1) B dX12_processes_310 (by decide) ?_
      refine g_iadd B dX12_processes_311 ?_
      refine g_goto (tgt := 316) B dX12_processes_312 (by decide) ?_
      refine m_st B P47 (by decide) rfl rfl (by show _ < 96; omega) (by decide) dX12_processes_316 (fun R49 ar49 hs49 hk49 P49 => ?_)
      refine g_aload_n B 2 dX12_processes_317 rfl ?_
      refine m_geta B P49 F_X12_13_12 (by decide) (Or.inl rfl) dX12_processes_318 ?_
      refine g_iload_n B 3 dX12_processes_321 rfl ?_
      refine m_ld B P49 (by decide) rfl rfl (by show _ < 6; omega) (by decide) (show _ = (nI (a.kd o)) from ((congrFun (hk49 3 (by decide)) _).trans ((congrFun (hk47 3 (by decide)) _).trans (Hop.2 o (by omega)).1))) dX12_processes_322 ?_
      refine g_iconst (v := nI 4) B dX12_processes_323 (by decide) ?_
      refine g_icmp_neN (tgt := 358) B (by omega) (by omega) dX12_processes_324 (by decide) (fun c50 => ?_) (fun c50 => ?_)
      · exact absurd hkd c50
      refine g_aload B 8 dX12_processes_327 rfl ?_
      refine g_iload B 1 dX12_processes_329 rfl ?_
      refine m_ld B P49 (by decide) rfl rfl (by show _ < 96; omega) (by decide) (show _ = ((s.getD (0, 0)).2 + (nI 1)) from ((congrFun hs49 _).trans va_ups)) dX12_processes_331 ?_
      refine g_aload_n B 2 dX12_processes_332 rfl ?_
      refine m_geta B P49 F_X12_16_12 (by decide) (Or.inl rfl) dX12_processes_333 ?_
      refine g_iload_n B 3 dX12_processes_336 rfl ?_
      refine m_ld B P49 (by decide) rfl rfl (by show _ < 6; omega) (by decide) (show _ = (a.pa o) from ((congrFun (hk49 4 (by decide)) _).trans ((congrFun (hk47 4 (by decide)) _).trans (Hop.2 o (by omega)).2.1))) dX12_processes_337 ?_
      refine g_icmp_ne (tgt := 358) B dX12_processes_338 (by decide) (fun c51 => ?_) (fun c51 => ?_)
      · refine g_aload B 6 dX12_processes_358 rfl ?_
        refine g_iload B 1 dX12_processes_360 rfl ?_
        refine g_iconst (v := nI 1) B dX12_processes_362 (by decide) ?_
        refine m_stz B P49 (by decide) rfl rfl (by show _ < 96; omega) (by decide) rfl dX12_processes_363 (fun R52 ar52 hs52 hk52 P52 => ?_)
        refine g_vret B E rfl dX12_processes_364 ?_
        have h4 := (hpo.2.2.2.1 hkd)
        have h5 : (s.getD (0, 0)).2 + 1 < a.pa o := h4.resolve_right c51
        have e66 : ar52 66 = ar 66 := ((hk52 66 (by decide)).trans ((hk49 66 (by decide)).trans (hk47 66 (by decide))))
        have e67 : ar52 67 = ar 67 := ((hk52 67 (by decide)).trans ((hk49 67 (by decide)).trans (hk47 67 (by decide))))
        have e24 : ar52 24 = va_up (ar 24) ((16 * o) + key) (nI 1) := (hs52.trans (congrArg (fun g => va_up g ((16 * o) + key) (nI 1)) ((hk49 24 (by decide)).trans (hk47 24 (by decide)))))
        have e27 : ar52 27 = va_up (ar 27) ((16 * o) + key) ((s.getD (0, 0)).1 + v) := ((hk52 27 (by decide)).trans ((hk49 27 (by decide)).trans hs47))
        have e30 : ar52 30 = va_up (ar 30) ((16 * o) + key) ((s.getD (0, 0)).2 + (nI 1)) := ((hk52 30 (by decide)).trans (hs49.trans (congrArg (fun g => va_up g ((16 * o) + key) ((s.getD (0, 0)).2 + (nI 1))) (hk47 30 (by decide)))))
        have n68 : sc1 68 = (nI 0) := hs1
        have hp : aProc (a.kd o) (a.pa o) (a.pb o) s key v = ([], some ((s.getD (0, 0)).1 + v, (s.getD (0, 0)).2 + 1)) := by rw [hkd, aProc_4, if_pos h5]
        refine ⟨rfl, rfl, sc1, ar52, P52, ?_⟩
        rw [hp]
        exact ⟨n68, (by simp), fun j hj => (hk1 j hj), fun j hj => absurd hj (Nat.not_lt_zero j), fun k h66 h67 hH h1 h2 => ((hk52 k hH).trans ((hk49 k h2).trans (hk47 k h1))), fun x hx => ⟨by rw [e24, va_upe hx], by rw [e27, va_upe hx], by rw [e30, va_upe hx]⟩, by rw [e24, va_ups]; rfl, fun _ => ⟨(congrFun e27 _).trans va_ups, (congrFun e30 _).trans va_ups⟩⟩
      · refine g_aload_n B 2 dX12_processes_341 rfl ?_
        refine g_iload_n B 4 dX12_processes_342 rfl ?_
        refine g_aload B 7 dX12_processes_343 rfl ?_
        refine g_iload B 1 dX12_processes_345 rfl ?_
        refine m_ld B P49 (by decide) rfl rfl (by show _ < 96; omega) (by decide) (show _ = ((s.getD (0, 0)).1 + v) from ((congrFun (hk49 27 (by decide)) _).trans ((congrFun hs47 _).trans va_ups))) dX12_processes_347 ?_
        refine g_callV (rest := []) B M_X12_gives q2818 q2820 qs88 (P49.1.choose_spec.choose_spec) rfl (c_M_gives P49.self (key := key) (k := 0) (v := ((s.getD (0, 0)).1 + v)) hs1 (by omega)) rfl rfl (Nat.le_of_ble_eq_true rfl) (Nat.le_of_ble_eq_true rfl) (Nat.le_of_ble_eq_true rfl) (Nat.le_refl _) (Nat.le_refl _) dX12_processes_348 (xkN (fun T53 O53 R53 le53 p53 => ?_))
        obtain ⟨rfl, sc53, ar53, Q53, hs53, hk53, g353, g453, g553⟩ := p53
        have P53 := P49.rebase Q53
        refine g_aload B 6 dX12_processes_351 rfl ?_
        refine g_iload B 1 dX12_processes_353 rfl ?_
        refine g_iconst (v := nI 0) B dX12_processes_355 (by decide) ?_
        refine m_stz B P53 (by decide) rfl rfl (by show _ < 96; omega) (by decide) rfl dX12_processes_356 (fun R54 ar54 hs54 hk54 P54 => ?_)
        refine g_vret B E rfl dX12_processes_357 ?_
        have h4 := (hpo.2.2.2.1 hkd)
        have h5 : ¬ (s.getD (0, 0)).2 + 1 < a.pa o := fun h => by rw [show (s.getD (0, 0)).2 + 1 = a.pa o from c51] at h; exact Int32.lt_irrefl h
        have e66 : ar54 66 = va_up (ar 66) 0 (nI key) := ((hk54 66 (by decide)).trans (g353.trans (congrArg (fun g => va_up g 0 (nI key)) ((hk49 66 (by decide)).trans (hk47 66 (by decide))))))
        have e67 : ar54 67 = va_up (ar 67) 0 ((s.getD (0, 0)).1 + v) := ((hk54 67 (by decide)).trans (g453.trans (congrArg (fun g => va_up g 0 ((s.getD (0, 0)).1 + v)) ((hk49 67 (by decide)).trans (hk47 67 (by decide))))))
        have e24 : ar54 24 = va_up (ar 24) ((16 * o) + key) (nI 0) := (hs54.trans (congrArg (fun g => va_up g ((16 * o) + key) (nI 0)) ((g553 24 (by decide) (by decide)).trans ((hk49 24 (by decide)).trans (hk47 24 (by decide))))))
        have e27 : ar54 27 = va_up (ar 27) ((16 * o) + key) ((s.getD (0, 0)).1 + v) := ((hk54 27 (by decide)).trans ((g553 27 (by decide) (by decide)).trans ((hk49 27 (by decide)).trans hs47)))
        have e30 : ar54 30 = va_up (ar 30) ((16 * o) + key) ((s.getD (0, 0)).2 + (nI 1)) := ((hk54 30 (by decide)).trans ((g553 30 (by decide) (by decide)).trans (hs49.trans (congrArg (fun g => va_up g ((16 * o) + key) ((s.getD (0, 0)).2 + (nI 1))) (hk47 30 (by decide))))))
        have n68 : sc53 68 = (nI (0 + 1)) := hs53
        have hp : aProc (a.kd o) (a.pa o) (a.pb o) s key v = ([(key, (s.getD (0, 0)).1 + v)], none) := by rw [hkd, aProc_4, if_neg h5]
        refine ⟨rfl, rfl, sc53, ar54, P54, ?_⟩
        rw [hp]
        exact ⟨n68, (by simp), fun j hj => (hk53 j hj).trans (hk1 j hj), fun j hj => (by have hj0 : j = 0 := (by simpa using hj); subst hj0; rw [e66, e67]; exact ⟨va_ups, va_ups⟩), fun k h66 h67 hH h1 h2 => ((hk54 k hH).trans ((g553 k h66 h67).trans ((hk49 k h2).trans (hk47 k h1)))), fun x hx => ⟨by rw [e24, va_upe hx], by rw [e27, va_upe hx], by rw [e30, va_upe hx]⟩, by rw [e24, va_ups]; rfl, fun h => by cases h⟩
  · refine g_top (show Value.int (nI (a.kd o)) = .int 8 by rw [hkd]; rfl) ?_
    refine g_tableOut (tgt := 275) B dX12_processes_26 (by decide) (by decide) ?_
    refine g_aload B 7 dX12_processes_275 rfl ?_
    refine g_iload B 1 dX12_processes_277 rfl ?_
    refine g_iload B 0 dX12_processes_279 rfl ?_
    refine g_if_eqB (tgt := 294) B dX12_processes_281 (by decide) (fun c55 => ?_) (fun c55 => ?_)
    · refine g_iload_n B 5 dX12_processes_294 rfl ?_
      refine m_st B P1 (by decide) rfl rfl (by show _ < 96; omega) (by decide) dX12_processes_295 (fun R56 ar56 hs56 hk56 P56 => ?_)
      refine g_aload B 8 dX12_processes_296 rfl ?_
      refine g_iload B 1 dX12_processes_298 rfl ?_
      refine g_iload B 0 dX12_processes_300 rfl ?_
      refine g_if_eqB (tgt := 315) B dX12_processes_302 (by decide) (fun c57 => ?_) (fun c57 => Bool.noConfusion (c55.symm.trans c57))
      refine g_iconst (v := nI 1) B dX12_processes_315 (by decide) ?_
      refine m_st B P56 (by decide) rfl rfl (by show _ < 96; omega) (by decide) dX12_processes_316 (fun R58 ar58 hs58 hk58 P58 => ?_)
      refine g_aload_n B 2 dX12_processes_317 rfl ?_
      refine m_geta B P58 F_X12_13_12 (by decide) (Or.inl rfl) dX12_processes_318 ?_
      refine g_iload_n B 3 dX12_processes_321 rfl ?_
      refine m_ld B P58 (by decide) rfl rfl (by show _ < 6; omega) (by decide) (show _ = (nI (a.kd o)) from ((congrFun (hk58 3 (by decide)) _).trans ((congrFun (hk56 3 (by decide)) _).trans (Hop.2 o (by omega)).1))) dX12_processes_322 ?_
      refine g_iconst (v := nI 4) B dX12_processes_323 (by decide) ?_
      refine g_icmp_neN (tgt := 358) B (by omega) (by omega) dX12_processes_324 (by decide) (fun c59 => ?_) (fun c59 => ?_)
      rotate_left
      · exact absurd (hkd.symm.trans c59) (by decide)
      refine g_aload B 6 dX12_processes_358 rfl ?_
      refine g_iload B 1 dX12_processes_360 rfl ?_
      refine g_iconst (v := nI 1) B dX12_processes_362 (by decide) ?_
      refine m_stz B P58 (by decide) rfl rfl (by show _ < 96; omega) (by decide) rfl dX12_processes_363 (fun R60 ar60 hs60 hk60 P60 => ?_)
      refine g_vret B E rfl dX12_processes_364 ?_
      have e66 : ar60 66 = ar 66 := ((hk60 66 (by decide)).trans ((hk58 66 (by decide)).trans (hk56 66 (by decide))))
      have e67 : ar60 67 = ar 67 := ((hk60 67 (by decide)).trans ((hk58 67 (by decide)).trans (hk56 67 (by decide))))
      have e24 : ar60 24 = va_up (ar 24) ((16 * o) + key) (nI 1) := (hs60.trans (congrArg (fun g => va_up g ((16 * o) + key) (nI 1)) ((hk58 24 (by decide)).trans (hk56 24 (by decide)))))
      have e27 : ar60 27 = va_up (ar 27) ((16 * o) + key) v := ((hk60 27 (by decide)).trans ((hk58 27 (by decide)).trans hs56))
      have e30 : ar60 30 = va_up (ar 30) ((16 * o) + key) (nI 1) := ((hk60 30 (by decide)).trans (hs58.trans (congrArg (fun g => va_up g ((16 * o) + key) (nI 1)) (hk56 30 (by decide)))))
      have n68 : sc1 68 = (nI 0) := hs1
      have hp : aProc (a.kd o) (a.pa o) (a.pb o) s key v = ([], some (v, 1)) := by rw [hkd, aProc_8, getD_no c55, i32_z, i32_z]
      refine ⟨rfl, rfl, sc1, ar60, P60, ?_⟩
      rw [hp]
      exact ⟨n68, (by simp), fun j hj => (hk1 j hj), fun j hj => absurd hj (Nat.not_lt_zero j), fun k h66 h67 hH h1 h2 => ((hk60 k hH).trans ((hk58 k h2).trans (hk56 k h1))), fun x hx => ⟨by rw [e24, va_upe hx], by rw [e27, va_upe hx], by rw [e30, va_upe hx]⟩, by rw [e24, va_ups]; rfl, fun _ => ⟨(congrFun e27 _).trans va_ups, (congrFun e30 _).trans va_ups⟩⟩
    · refine g_aload B 7 dX12_processes_284 rfl ?_
      refine g_iload B 1 dX12_processes_286 rfl ?_
      refine m_ld B P1 (by decide) rfl rfl (by show _ < 96; omega) (by decide) (show _ = (s.getD (0, 0)).1 from (hs.2 c55).1) dX12_processes_288 ?_
      refine g_iload_n B 5 dX12_processes_289 rfl ?_
      refine g_iadd B dX12_processes_290 ?_
      refine g_goto (tgt := 295) B dX12_processes_291 (by decide) ?_
      refine m_st B P1 (by decide) rfl rfl (by show _ < 96; omega) (by decide) dX12_processes_295 (fun R61 ar61 hs61 hk61 P61 => ?_)
      refine g_aload B 8 dX12_processes_296 rfl ?_
      refine g_iload B 1 dX12_processes_298 rfl ?_
      refine g_iload B 0 dX12_processes_300 rfl ?_
      refine g_if_eqB (tgt := 315) B dX12_processes_302 (by decide) (fun c62 => Bool.noConfusion (c55.symm.trans c62)) (fun c62 => ?_)
      refine g_aload B 8 dX12_processes_305 rfl ?_
      refine g_iload B 1 dX12_processes_307 rfl ?_
      refine m_ld B P61 (by decide) rfl rfl (by show _ < 96; omega) (by decide) (show _ = (s.getD (0, 0)).2 from ((congrFun (hk61 30 (by decide)) _).trans (hs.2 c62).2)) dX12_processes_309 ?_
      refine g_iconst (v := nI 1) B dX12_processes_310 (by decide) ?_
      refine g_iadd B dX12_processes_311 ?_
      refine g_goto (tgt := 316) B dX12_processes_312 (by decide) ?_
      refine m_st B P61 (by decide) rfl rfl (by show _ < 96; omega) (by decide) dX12_processes_316 (fun R63 ar63 hs63 hk63 P63 => ?_)
      refine g_aload_n B 2 dX12_processes_317 rfl ?_
      refine m_geta B P63 F_X12_13_12 (by decide) (Or.inl rfl) dX12_processes_318 ?_
      refine g_iload_n B 3 dX12_processes_321 rfl ?_
      refine m_ld B P63 (by decide) rfl rfl (by show _ < 6; omega) (by decide) (show _ = (nI (a.kd o)) from ((congrFun (hk63 3 (by decide)) _).trans ((congrFun (hk61 3 (by decide)) _).trans (Hop.2 o (by omega)).1))) dX12_processes_322 ?_
      refine g_iconst (v := nI 4) B dX12_processes_323 (by decide) ?_
      refine g_icmp_neN (tgt := 358) B (by omega) (by omega) dX12_processes_324 (by decide) (fun c64 => ?_) (fun c64 => ?_)
      rotate_left
      · exact absurd (hkd.symm.trans c64) (by decide)
      refine g_aload B 6 dX12_processes_358 rfl ?_
      refine g_iload B 1 dX12_processes_360 rfl ?_
      refine g_iconst (v := nI 1) B dX12_processes_362 (by decide) ?_
      refine m_stz B P63 (by decide) rfl rfl (by show _ < 96; omega) (by decide) rfl dX12_processes_363 (fun R65 ar65 hs65 hk65 P65 => ?_)
      refine g_vret B E rfl dX12_processes_364 ?_
      have e66 : ar65 66 = ar 66 := ((hk65 66 (by decide)).trans ((hk63 66 (by decide)).trans (hk61 66 (by decide))))
      have e67 : ar65 67 = ar 67 := ((hk65 67 (by decide)).trans ((hk63 67 (by decide)).trans (hk61 67 (by decide))))
      have e24 : ar65 24 = va_up (ar 24) ((16 * o) + key) (nI 1) := (hs65.trans (congrArg (fun g => va_up g ((16 * o) + key) (nI 1)) ((hk63 24 (by decide)).trans (hk61 24 (by decide)))))
      have e27 : ar65 27 = va_up (ar 27) ((16 * o) + key) ((s.getD (0, 0)).1 + v) := ((hk65 27 (by decide)).trans ((hk63 27 (by decide)).trans hs61))
      have e30 : ar65 30 = va_up (ar 30) ((16 * o) + key) ((s.getD (0, 0)).2 + (nI 1)) := ((hk65 30 (by decide)).trans (hs63.trans (congrArg (fun g => va_up g ((16 * o) + key) ((s.getD (0, 0)).2 + (nI 1))) (hk61 30 (by decide)))))
      have n68 : sc1 68 = (nI 0) := hs1
      have hp : aProc (a.kd o) (a.pa o) (a.pb o) s key v = ([], some ((s.getD (0, 0)).1 + v, (s.getD (0, 0)).2 + 1)) := by rw [hkd, aProc_8]
      refine ⟨rfl, rfl, sc1, ar65, P65, ?_⟩
      rw [hp]
      exact ⟨n68, (by simp), fun j hj => (hk1 j hj), fun j hj => absurd hj (Nat.not_lt_zero j), fun k h66 h67 hH h1 h2 => ((hk65 k hH).trans ((hk63 k h2).trans (hk61 k h1))), fun x hx => ⟨by rw [e24, va_upe hx], by rw [e27, va_upe hx], by rw [e30, va_upe hx]⟩, by rw [e24, va_ups]; rfl, fun _ => ⟨(congrFun e27 _).trans va_ups, (congrFun e30 _).trans va_ups⟩⟩
theorem c_M_proc69 {G : xG} {T : xT} {O R : xO} {m : Nat} {ad : Nat → Nat} {sc : Nat → Int32} {ar : Nat → Nat → Int32} {o key : Nat} {v : Int32} {s : Option (Int32 × Int32)} (P : PM m ad O R sc ar T O R) {a : aA} (H : RepM a sc ar) (ho : o < a.n) (hn : a.n ≤ 6) (hky : key < 16) (hpo : pOk (a.kd o) (a.pa o) s) (hs : ar 69 (16 * o + key) = bI s.isSome ∧ (s.isSome = true → ar 70 (16 * o + key) = (s.getD (0, 0)).1 ∧ ar 71 (16 * o + key) = (s.getD (0, 0)).2)) : xCtr G yX12_processes cX12_processes 10 none 1 22 0 0 [.ref m, .int (nI o), .int (nI key), .int v, .ref (ad 69), .ref (ad 70), .ref (ad 71)] (T, O, R) (xN (mPostN m ad T O R (fun sc2 ar2 => mProcOk (aProc (a.kd o) (a.pa o) (a.pb o) s key v) 69 70 71 (16 * o + key) sc ar sc2 ar2))) := by
  have hR := H
  obtain ⟨Htxt, Hop, Hinp, Hnm, Hstt, ⟨Hs0, Hs1, Hs2⟩, ⟨Hc0, Hc1, Hc2⟩, Hls, Hsp, Hpt, Hhd, Hch, Hex, Hwr⟩ := H
  refine xCtr.of (by decide +kernel) (Nat.le_of_ble_eq_true rfl) ?_
  intro Z B E hz hnm
  change xV Z (T, O, R) 0 [(0, .ref m), (1, .int (nI o)), (2, .int (nI key)), (3, .int v), (4, .ref (ad 69)), (5, .ref (ad 70)), (6, .ref (ad 71))] [] 0 0
  refine g_aload_n B 0 dX12_processes_0 rfl ?_
  refine g_iconst (v := nI 0) B dX12_processes_1 (by decide) ?_
  refine m_put B P F_X12_291_12 (by decide) (Or.inl rfl) rfl rfl rfl dX12_processes_2 (fun O1 sc1 hs1 hk1 P1 => ?_)
  refine g_bipush (v := nI 16) B dX12_processes_5 (by decide) ?_
  refine g_iload_n B 1 dX12_processes_7 rfl ?_
  refine g_imulN B dX12_processes_8 ?_
  refine g_iload_n B 2 dX12_processes_9 rfl ?_
  refine g_iaddN B dX12_processes_10 ?_
  refine g_istore (lv2 := [(7, _), (0, _), (1, _), (2, _), (3, _), (4, _), (5, _), (6, _)]) B dX12_processes_11 (by decide) rfl ?_
  refine g_aload B 5 dX12_processes_13 rfl ?_
  refine g_iload B 0 dX12_processes_15 rfl ?_
  refine m_ldz B P1 (by decide) rfl rfl (by show _ < 96; omega) (by decide) (show _ = (bI s.isSome) from hs.1) dX12_processes_17 ?_
  refine g_istore (lv2 := [(8, _), (7, _), (0, _), (1, _), (2, _), (3, _), (4, _), (5, _), (6, _)]) B dX12_processes_18 (by decide) rfl ?_
  refine g_aload_n B 2 dX12_processes_20 rfl ?_
  refine m_geta B P1 F_X12_13_12 (by decide) (Or.inl rfl) dX12_processes_21 ?_
  refine g_iload_n B 3 dX12_processes_24 rfl ?_
  refine m_ld B P1 (by decide) rfl rfl (by show _ < 6; omega) (by decide) (show _ = (nI (a.kd o)) from (Hop.2 o (by omega)).1) dX12_processes_25 ?_
  have hkc : a.kd o = 0 ∨ a.kd o = 1 ∨ a.kd o = 2 ∨ a.kd o = 3 ∨ a.kd o = 5 ∨ a.kd o = 6 ∨ a.kd o = 4 ∨ a.kd o = 8 := by have := hpo.1; have := hpo.2.1; omega
  rcases hkc with hkd | hkd | hkd | hkd | hkd | hkd | hkd | hkd
  · refine g_top (show Value.int (nI (a.kd o)) = .int 0 by rw [hkd]; rfl) ?_
    refine g_tableIn (tgt := 68) B dX12_processes_26 (by decide) (by decide) rfl (by decide) ?_
    refine g_aload_n B 2 dX12_processes_68 rfl ?_
    refine g_iload_n B 4 dX12_processes_69 rfl ?_
    refine g_iload_n B 5 dX12_processes_70 rfl ?_
    refine g_aload_n B 2 dX12_processes_71 rfl ?_
    refine m_geta B P1 F_X12_16_12 (by decide) (Or.inl rfl) dX12_processes_72 ?_
    refine g_iload_n B 3 dX12_processes_75 rfl ?_
    refine m_ld B P1 (by decide) rfl rfl (by show _ < 6; omega) (by decide) (show _ = (a.pa o) from (Hop.2 o (by omega)).2.1) dX12_processes_76 ?_
    refine g_imul B dX12_processes_77 ?_
    refine g_aload_n B 2 dX12_processes_78 rfl ?_
    refine m_geta B P1 F_X12_19_12 (by decide) (Or.inl rfl) dX12_processes_79 ?_
    refine g_iload_n B 3 dX12_processes_82 rfl ?_
    refine m_ld B P1 (by decide) rfl rfl (by show _ < 6; omega) (by decide) (show _ = (a.pb o) from (Hop.2 o (by omega)).2.2.1) dX12_processes_83 ?_
    refine g_iadd B dX12_processes_84 ?_
    refine g_callV (rest := []) B M_X12_gives q2818 q2820 qs88 (P1.1.choose_spec.choose_spec) rfl (c_M_gives P1.self (key := key) (k := 0) (v := ((v * (a.pa o)) + (a.pb o))) hs1 (by omega)) rfl rfl (Nat.le_of_ble_eq_true rfl) (Nat.le_of_ble_eq_true rfl) (Nat.le_of_ble_eq_true rfl) (Nat.le_refl _) (Nat.le_refl _) dX12_processes_85 (xkN (fun T2 O2 R2 le2 p2 => ?_))
    obtain ⟨rfl, sc2, ar2, Q2, hs2, hk2, g32, g42, g52⟩ := p2
    have P2 := P1.rebase Q2
    refine g_vret B E rfl dX12_processes_88 ?_
    have e66 : ar2 66 = va_up (ar 66) 0 (nI key) := g32
    have e67 : ar2 67 = va_up (ar 67) 0 ((v * (a.pa o)) + (a.pb o)) := g42
    have e69 : ar2 69 = ar 69 := (g52 69 (by decide) (by decide))
    have e70 : ar2 70 = ar 70 := (g52 70 (by decide) (by decide))
    have e71 : ar2 71 = ar 71 := (g52 71 (by decide) (by decide))
    have n68 : sc2 68 = (nI (0 + 1)) := hs2
    have hp : aProc (a.kd o) (a.pa o) (a.pb o) s key v = ([(key, v * a.pa o + a.pb o)], s) := by rw [hkd, aProc_0]
    refine ⟨rfl, rfl, sc2, ar2, P2, ?_⟩
    rw [hp]
    exact ⟨n68, (by simp), fun j hj => (hk2 j hj).trans (hk1 j hj), fun j hj => (by have hj0 : j = 0 := (by simpa using hj); subst hj0; rw [e66, e67]; exact ⟨va_ups, va_ups⟩), fun k h66 h67 hH h1 h2 => (g52 k h66 h67), fun x hx => ⟨by rw [e69], by rw [e70], by rw [e71]⟩, by rw [e69]; exact hs.1, fun h => by rw [e70, e71]; exact hs.2 h⟩
  · refine g_top (show Value.int (nI (a.kd o)) = .int 1 by rw [hkd]; rfl) ?_
    refine g_tableIn (tgt := 89) B dX12_processes_26 (by decide) (by decide) rfl (by decide) ?_
    refine g_aload_n B 2 dX12_processes_89 rfl ?_
    refine m_geta B P1 F_X12_16_12 (by decide) (Or.inl rfl) dX12_processes_90 ?_
    refine g_iload_n B 3 dX12_processes_93 rfl ?_
    refine m_ld B P1 (by decide) rfl rfl (by show _ < 6; omega) (by decide) (show _ = (a.pa o) from (Hop.2 o (by omega)).2.1) dX12_processes_94 ?_
    refine g_if_ne (tgt := 111) B dX12_processes_95 (by decide) (fun c3 => ?_) (fun c3 => ?_)
    · refine g_aload_n B 2 dX12_processes_111 rfl ?_
      refine m_geta B P1 F_X12_16_12 (by decide) (Or.inl rfl) dX12_processes_112 ?_
      refine g_iload_n B 3 dX12_processes_115 rfl ?_
      refine m_ld B P1 (by decide) rfl rfl (by show _ < 6; omega) (by decide) (show _ = (a.pa o) from (Hop.2 o (by omega)).2.1) dX12_processes_116 ?_
      refine g_iconst (v := nI 1) B dX12_processes_117 (by decide) ?_
      refine g_icmp_ne (tgt := 134) B dX12_processes_118 (by decide) (fun c4 => ?_) (fun c4 => ?_)
      · refine g_iload_n B 5 dX12_processes_134 rfl ?_
        refine g_aload_n B 2 dX12_processes_135 rfl ?_
        refine m_geta B P1 F_X12_19_12 (by decide) (Or.inl rfl) dX12_processes_136 ?_
        refine g_iload_n B 3 dX12_processes_139 rfl ?_
        refine m_ld B P1 (by decide) rfl rfl (by show _ < 6; omega) (by decide) (show _ = (a.pb o) from (Hop.2 o (by omega)).2.2.1) dX12_processes_140 ?_
        refine g_icmp_le (tgt := 150) B dX12_processes_141 (by decide) (fun c5 => ?_) (fun c5 => ?_)
        · refine g_vret B E rfl dX12_processes_150 ?_
          have e66 : ar 66 = ar 66 := rfl
          have e67 : ar 67 = ar 67 := rfl
          have e69 : ar 69 = ar 69 := rfl
          have e70 : ar 70 = ar 70 := rfl
          have e71 : ar 71 = ar 71 := rfl
          have n68 : sc1 68 = (nI 0) := hs1
          have hp : aProc (a.kd o) (a.pa o) (a.pb o) s key v = ([], s) := by rw [hkd, aProc_1, if_neg (by rw [if_neg c3, if_neg (show ¬ a.pa o = 1 from c4)]; exact fun h => absurd h (Int32.not_lt.mpr c5))]
          refine ⟨rfl, rfl, sc1, ar, P1, ?_⟩
          rw [hp]
          exact ⟨n68, (by simp), fun j hj => (hk1 j hj), fun j hj => absurd hj (Nat.not_lt_zero j), fun k h66 h67 hH h1 h2 => rfl, fun x hx => ⟨by rw [e69], by rw [e70], by rw [e71]⟩, by rw [e69]; exact hs.1, fun h => by rw [e70, e71]; exact hs.2 h⟩
        · refine g_aload_n B 2 dX12_processes_144 rfl ?_
          refine g_iload_n B 4 dX12_processes_145 rfl ?_
          refine g_iload_n B 5 dX12_processes_146 rfl ?_
          refine g_callV (rest := []) B M_X12_gives q2818 q2820 qs88 (P1.1.choose_spec.choose_spec) rfl (c_M_gives P1.self (key := key) (k := 0) (v := v) hs1 (by omega)) rfl rfl (Nat.le_of_ble_eq_true rfl) (Nat.le_of_ble_eq_true rfl) (Nat.le_of_ble_eq_true rfl) (Nat.le_refl _) (Nat.le_refl _) dX12_processes_147 (xkN (fun T6 O6 R6 le6 p6 => ?_))
          obtain ⟨rfl, sc6, ar6, Q6, hs6, hk6, g36, g46, g56⟩ := p6
          have P6 := P1.rebase Q6
          refine g_vret B E rfl dX12_processes_150 ?_
          have e66 : ar6 66 = va_up (ar 66) 0 (nI key) := g36
          have e67 : ar6 67 = va_up (ar 67) 0 v := g46
          have e69 : ar6 69 = ar 69 := (g56 69 (by decide) (by decide))
          have e70 : ar6 70 = ar 70 := (g56 70 (by decide) (by decide))
          have e71 : ar6 71 = ar 71 := (g56 71 (by decide) (by decide))
          have n68 : sc6 68 = (nI (0 + 1)) := hs6
          have hp : aProc (a.kd o) (a.pa o) (a.pb o) s key v = ([(key, v)], s) := by rw [hkd, aProc_1, if_pos (by rw [if_neg c3, if_neg (show ¬ a.pa o = 1 from c4)]; exact Int32.not_le.mp c5)]
          refine ⟨rfl, rfl, sc6, ar6, P6, ?_⟩
          rw [hp]
          exact ⟨n68, (by simp), fun j hj => (hk6 j hj).trans (hk1 j hj), fun j hj => (by have hj0 : j = 0 := (by simpa using hj); subst hj0; rw [e66, e67]; exact ⟨va_ups, va_ups⟩), fun k h66 h67 hH h1 h2 => (g56 k h66 h67), fun x hx => ⟨by rw [e69], by rw [e70], by rw [e71]⟩, by rw [e69]; exact hs.1, fun h => by rw [e70, e71]; exact hs.2 h⟩
      · refine g_iload_n B 5 dX12_processes_121 rfl ?_
        refine g_aload_n B 2 dX12_processes_122 rfl ?_
        refine m_geta B P1 F_X12_19_12 (by decide) (Or.inl rfl) dX12_processes_123 ?_
        refine g_iload_n B 3 dX12_processes_126 rfl ?_
        refine m_ld B P1 (by decide) rfl rfl (by show _ < 6; omega) (by decide) (show _ = (a.pb o) from (Hop.2 o (by omega)).2.2.1) dX12_processes_127 ?_
        refine g_icmp_ne (tgt := 150) B dX12_processes_128 (by decide) (fun c7 => ?_) (fun c7 => ?_)
        · refine g_vret B E rfl dX12_processes_150 ?_
          have e66 : ar 66 = ar 66 := rfl
          have e67 : ar 67 = ar 67 := rfl
          have e69 : ar 69 = ar 69 := rfl
          have e70 : ar 70 = ar 70 := rfl
          have e71 : ar 71 = ar 71 := rfl
          have n68 : sc1 68 = (nI 0) := hs1
          have hp : aProc (a.kd o) (a.pa o) (a.pb o) s key v = ([], s) := by rw [hkd, aProc_1, if_neg (by rw [if_neg c3, if_pos (show a.pa o = 1 from c4)]; exact c7)]
          refine ⟨rfl, rfl, sc1, ar, P1, ?_⟩
          rw [hp]
          exact ⟨n68, (by simp), fun j hj => (hk1 j hj), fun j hj => absurd hj (Nat.not_lt_zero j), fun k h66 h67 hH h1 h2 => rfl, fun x hx => ⟨by rw [e69], by rw [e70], by rw [e71]⟩, by rw [e69]; exact hs.1, fun h => by rw [e70, e71]; exact hs.2 h⟩
        · refine g_goto (tgt := 144) B dX12_processes_131 (by decide) ?_
          refine g_aload_n B 2 dX12_processes_144 rfl ?_
          refine g_iload_n B 4 dX12_processes_145 rfl ?_
          refine g_iload_n B 5 dX12_processes_146 rfl ?_
          refine g_callV (rest := []) B M_X12_gives q2818 q2820 qs88 (P1.1.choose_spec.choose_spec) rfl (c_M_gives P1.self (key := key) (k := 0) (v := v) hs1 (by omega)) rfl rfl (Nat.le_of_ble_eq_true rfl) (Nat.le_of_ble_eq_true rfl) (Nat.le_of_ble_eq_true rfl) (Nat.le_refl _) (Nat.le_refl _) dX12_processes_147 (xkN (fun T8 O8 R8 le8 p8 => ?_))
          obtain ⟨rfl, sc8, ar8, Q8, hs8, hk8, g38, g48, g58⟩ := p8
          have P8 := P1.rebase Q8
          refine g_vret B E rfl dX12_processes_150 ?_
          have e66 : ar8 66 = va_up (ar 66) 0 (nI key) := g38
          have e67 : ar8 67 = va_up (ar 67) 0 v := g48
          have e69 : ar8 69 = ar 69 := (g58 69 (by decide) (by decide))
          have e70 : ar8 70 = ar 70 := (g58 70 (by decide) (by decide))
          have e71 : ar8 71 = ar 71 := (g58 71 (by decide) (by decide))
          have n68 : sc8 68 = (nI (0 + 1)) := hs8
          have hp : aProc (a.kd o) (a.pa o) (a.pb o) s key v = ([(key, v)], s) := by rw [hkd, aProc_1, if_pos (by rw [if_neg c3, if_pos (show a.pa o = 1 from c4)]; exact c7)]
          refine ⟨rfl, rfl, sc8, ar8, P8, ?_⟩
          rw [hp]
          exact ⟨n68, (by simp), fun j hj => (hk8 j hj).trans (hk1 j hj), fun j hj => (by have hj0 : j = 0 := (by simpa using hj); subst hj0; rw [e66, e67]; exact ⟨va_ups, va_ups⟩), fun k h66 h67 hH h1 h2 => (g58 k h66 h67), fun x hx => ⟨by rw [e69], by rw [e70], by rw [e71]⟩, by rw [e69]; exact hs.1, fun h => by rw [e70, e71]; exact hs.2 h⟩
    · refine g_iload_n B 5 dX12_processes_98 rfl ?_
      refine g_aload_n B 2 dX12_processes_99 rfl ?_
      refine m_geta B P1 F_X12_19_12 (by decide) (Or.inl rfl) dX12_processes_100 ?_
      refine g_iload_n B 3 dX12_processes_103 rfl ?_
      refine m_ld B P1 (by decide) rfl rfl (by show _ < 6; omega) (by decide) (show _ = (a.pb o) from (Hop.2 o (by omega)).2.2.1) dX12_processes_104 ?_
      refine g_icmp_ge (tgt := 150) B dX12_processes_105 (by decide) (fun c9 => ?_) (fun c9 => ?_)
      · refine g_vret B E rfl dX12_processes_150 ?_
        have e66 : ar 66 = ar 66 := rfl
        have e67 : ar 67 = ar 67 := rfl
        have e69 : ar 69 = ar 69 := rfl
        have e70 : ar 70 = ar 70 := rfl
        have e71 : ar 71 = ar 71 := rfl
        have n68 : sc1 68 = (nI 0) := hs1
        have hp : aProc (a.kd o) (a.pa o) (a.pb o) s key v = ([], s) := by rw [hkd, aProc_1, if_neg (by rw [if_pos c3]; exact fun h => absurd h (Int32.not_lt.mpr c9))]
        refine ⟨rfl, rfl, sc1, ar, P1, ?_⟩
        rw [hp]
        exact ⟨n68, (by simp), fun j hj => (hk1 j hj), fun j hj => absurd hj (Nat.not_lt_zero j), fun k h66 h67 hH h1 h2 => rfl, fun x hx => ⟨by rw [e69], by rw [e70], by rw [e71]⟩, by rw [e69]; exact hs.1, fun h => by rw [e70, e71]; exact hs.2 h⟩
      · refine g_goto (tgt := 144) B dX12_processes_108 (by decide) ?_
        refine g_aload_n B 2 dX12_processes_144 rfl ?_
        refine g_iload_n B 4 dX12_processes_145 rfl ?_
        refine g_iload_n B 5 dX12_processes_146 rfl ?_
        refine g_callV (rest := []) B M_X12_gives q2818 q2820 qs88 (P1.1.choose_spec.choose_spec) rfl (c_M_gives P1.self (key := key) (k := 0) (v := v) hs1 (by omega)) rfl rfl (Nat.le_of_ble_eq_true rfl) (Nat.le_of_ble_eq_true rfl) (Nat.le_of_ble_eq_true rfl) (Nat.le_refl _) (Nat.le_refl _) dX12_processes_147 (xkN (fun T10 O10 R10 le10 p10 => ?_))
        obtain ⟨rfl, sc10, ar10, Q10, hs10, hk10, g310, g410, g510⟩ := p10
        have P10 := P1.rebase Q10
        refine g_vret B E rfl dX12_processes_150 ?_
        have e66 : ar10 66 = va_up (ar 66) 0 (nI key) := g310
        have e67 : ar10 67 = va_up (ar 67) 0 v := g410
        have e69 : ar10 69 = ar 69 := (g510 69 (by decide) (by decide))
        have e70 : ar10 70 = ar 70 := (g510 70 (by decide) (by decide))
        have e71 : ar10 71 = ar 71 := (g510 71 (by decide) (by decide))
        have n68 : sc10 68 = (nI (0 + 1)) := hs10
        have hp : aProc (a.kd o) (a.pa o) (a.pb o) s key v = ([(key, v)], s) := by rw [hkd, aProc_1, if_pos (by rw [if_pos c3]; exact Int32.not_le.mp c9)]
        refine ⟨rfl, rfl, sc10, ar10, P10, ?_⟩
        rw [hp]
        exact ⟨n68, (by simp), fun j hj => (hk10 j hj).trans (hk1 j hj), fun j hj => (by have hj0 : j = 0 := (by simpa using hj); subst hj0; rw [e66, e67]; exact ⟨va_ups, va_ups⟩), fun k h66 h67 hH h1 h2 => (g510 k h66 h67), fun x hx => ⟨by rw [e69], by rw [e70], by rw [e71]⟩, by rw [e69]; exact hs.1, fun h => by rw [e70, e71]; exact hs.2 h⟩
  · refine g_top (show Value.int (nI (a.kd o)) = .int 2 by rw [hkd]; rfl) ?_
    refine g_tableIn (tgt := 151) B dX12_processes_26 (by decide) (by decide) rfl (by decide) ?_
    refine g_aload_n B 2 dX12_processes_151 rfl ?_
    refine g_iload_n B 4 dX12_processes_152 rfl ?_
    refine g_aload_n B 2 dX12_processes_153 rfl ?_
    refine m_geta B P1 F_X12_16_12 (by decide) (Or.inl rfl) dX12_processes_154 ?_
    refine g_iload_n B 3 dX12_processes_157 rfl ?_
    refine m_ld B P1 (by decide) rfl rfl (by show _ < 6; omega) (by decide) (show _ = (a.pa o) from (Hop.2 o (by omega)).2.1) dX12_processes_158 ?_
    refine g_imul B dX12_processes_159 ?_
    refine g_aload_n B 2 dX12_processes_160 rfl ?_
    refine m_geta B P1 F_X12_19_12 (by decide) (Or.inl rfl) dX12_processes_161 ?_
    refine g_iload_n B 3 dX12_processes_164 rfl ?_
    refine m_ld B P1 (by decide) rfl rfl (by show _ < 6; omega) (by decide) (show _ = (a.pb o) from (Hop.2 o (by omega)).2.2.1) dX12_processes_165 ?_
    refine g_iadd B dX12_processes_166 ?_
    refine g_callS (rest := [_]) B M_X12_rest q2822 q2823 (c_M_rest (x := (((nI key) * (a.pa o)) + (a.pb o)))) rfl rfl (Nat.le_of_ble_eq_true rfl) (Nat.le_of_ble_eq_true rfl) (Nat.le_of_ble_eq_true rfl) (Nat.le_refl _) (Nat.le_refl _) dX12_processes_167 (xkA (fun v11 T11 O11 R11 le11 p11 => ?_))
    obtain ⟨rfl, rfl, rfl, rfl⟩ := p11
    refine g_iload_n B 5 dX12_processes_170 rfl ?_
    refine g_callV (rest := []) B M_X12_gives q2818 q2820 qs88 (P1.1.choose_spec.choose_spec) rfl (c_M_gives P1.self (key := (aRk (((nI key) * (a.pa o)) + (a.pb o)))) (k := 0) (v := v) hs1 (by omega)) rfl rfl (Nat.le_of_ble_eq_true rfl) (Nat.le_of_ble_eq_true rfl) (Nat.le_of_ble_eq_true rfl) (Nat.le_refl _) (Nat.le_refl _) dX12_processes_171 (xkN (fun T12 O12 R12 le12 p12 => ?_))
    obtain ⟨rfl, sc12, ar12, Q12, hs12, hk12, g312, g412, g512⟩ := p12
    have P12 := P1.rebase Q12
    refine g_vret B E rfl dX12_processes_174 ?_
    have e66 : ar12 66 = va_up (ar 66) 0 (nI (aRk (((nI key) * (a.pa o)) + (a.pb o)))) := g312
    have e67 : ar12 67 = va_up (ar 67) 0 v := g412
    have e69 : ar12 69 = ar 69 := (g512 69 (by decide) (by decide))
    have e70 : ar12 70 = ar 70 := (g512 70 (by decide) (by decide))
    have e71 : ar12 71 = ar 71 := (g512 71 (by decide) (by decide))
    have n68 : sc12 68 = (nI (0 + 1)) := hs12
    have hp : aProc (a.kd o) (a.pa o) (a.pb o) s key v = ([(aRk (nI key * a.pa o + a.pb o), v)], s) := by rw [hkd, aProc_2]
    refine ⟨rfl, rfl, sc12, ar12, P12, ?_⟩
    rw [hp]
    exact ⟨n68, (by simp), fun j hj => (hk12 j hj).trans (hk1 j hj), fun j hj => (by have hj0 : j = 0 := (by simpa using hj); subst hj0; rw [e66, e67]; exact ⟨va_ups, va_ups⟩), fun k h66 h67 hH h1 h2 => (g512 k h66 h67), fun x hx => ⟨by rw [e69], by rw [e70], by rw [e71]⟩, by rw [e69]; exact hs.1, fun h => by rw [e70, e71]; exact hs.2 h⟩
  · refine g_top (show Value.int (nI (a.kd o)) = .int 3 by rw [hkd]; rfl) ?_
    refine g_tableIn (tgt := 175) B dX12_processes_26 (by decide) (by decide) rfl (by decide) ?_
    refine g_iconst (v := nI 0) B dX12_processes_175 (by decide) ?_
    refine g_istore (lv2 := [(9, _), (8, _), (7, _), (0, _), (1, _), (2, _), (3, _), (4, _), (5, _), (6, _)]) B dX12_processes_176 (by decide) rfl ?_
    obtain ⟨n, hn3, hpa⟩ := hpo.2.2.1 hkd
    have L : ∀ (d x : Nat) (O1 R1 : xO) (sc1 : Nat → Int32) (ar1 : Nat → Nat → Int32), d = n - x → x ≤ n → PM m ad O R sc1 ar1 T O1 R1 → sc1 68 = nI x → (∀ j, j ≠ 68 → sc1 j = sc j) → (∀ j, j < x → ar1 66 j = nI key ∧ ar1 67 j = v + nI j) → (∀ k, k ≠ 66 → k ≠ 67 → ar1 k = ar k) → xV Z (T, O1, R1) 178 [(9, .int (nI x)), (8, .int (bI s.isSome)), (7, .int (nI (16 * o + key))), (0, .ref m), (1, .int (nI o)), (2, .int (nI key)), (3, .int v), (4, .ref (ad 69)), (5, .ref (ad 70)), (6, .ref (ad 71))] [] 0 0 := by
      intro d
      induction d using Nat.strongRecOn with
      | _ d ih =>
        intro x O1 R1 sc1 ar1 hd hx P1 i1 i2 i3 i4
        refine g_iload B 0 dX12_processes_178 rfl ?_
        refine g_aload_n B 3 dX12_processes_180 rfl ?_
        refine m_geta B P1 F_X12_16_12 (by decide) (Or.inl rfl) dX12_processes_181 ?_
        refine g_iload_n B 4 dX12_processes_184 rfl ?_
        refine m_ld B P1 (by decide) rfl rfl (by show _ < 6; omega) (by decide) (show _ = (nI n) from ((congrFun (i4 4 (by decide) (by decide)) _).trans ((Hop.2 o (by omega)).2.1.trans hpa))) dX12_processes_185 ?_
        refine g_icmp_geN (tgt := 204) B (by omega) (by omega) dX12_processes_186 (by decide) (fun c61 => ?_) (fun c61 => ?_)
        · refine g_vret B E rfl dX12_processes_204 ?_
          have hxn : x = n := by omega
          subst hxn
          have hcl : (a.pa o).toNatClampNeg = x := by rw [hpa]; exact nI_clamp (by omega)
          have hp : aProc (a.kd o) (a.pa o) (a.pb o) s key v = ((List.range x).map (fun j => (key, v + nI j)), s) := by rw [hkd, aProc_3, hcl]
          refine ⟨rfl, rfl, sc1, ar1, P1, ?_⟩
          rw [hp]
          refine ⟨by rw [i1]; simp, by simp; omega, i2, fun j hj => ?_, fun k h66 h67 _ _ _ => i4 k h66 h67, fun y _ => ⟨by rw [i4 69 (by decide) (by decide)], by rw [i4 70 (by decide) (by decide)], by rw [i4 71 (by decide) (by decide)]⟩, by rw [i4 69 (by decide) (by decide)]; exact hs.1, fun h => by rw [i4 70 (by decide) (by decide), i4 71 (by decide) (by decide)]; exact hs.2 h⟩
          have hj2 : j < x := by simpa using hj
          have hg : (((List.range x).map (fun j => (key, v + nI j))).getD j (0, 0)) = (key, v + nI j) := by simp [List.getD_eq_getElem?_getD, hj2]
          show ar1 66 j = nI (((List.range x).map (fun j => (key, v + nI j))).getD j (0, 0)).1 ∧ ar1 67 j = (((List.range x).map (fun j => (key, v + nI j))).getD j (0, 0)).2
          rw [hg]
          exact i3 j hj2
        · refine g_aload_n B 3 dX12_processes_189 rfl ?_
          refine g_iload_n B 5 dX12_processes_190 rfl ?_
          refine g_iload_n B 6 dX12_processes_191 rfl ?_
          refine g_iload B 0 dX12_processes_192 rfl ?_
          refine g_iadd B dX12_processes_194 ?_
          refine g_callV (rest := []) B M_X12_gives q2818 q2820 qs88 (P1.1.choose_spec.choose_spec) rfl (c_M_gives P1.self (key := key) (k := x) (v := (v + (nI x))) i1 (by omega)) rfl rfl (Nat.le_of_ble_eq_true rfl) (Nat.le_of_ble_eq_true rfl) (Nat.le_of_ble_eq_true rfl) (Nat.le_refl _) (Nat.le_refl _) dX12_processes_195 (xkN (fun T62 O62 R62 le62 p62 => ?_))
          obtain ⟨rfl, sc62, ar62, Q62, hs62, hk62, g362, g462, g562⟩ := p62
          have P62 := P1.rebase Q62
          refine g_iinc (v := nI (x + 1)) (lv2 := [(9, _), (8, _), (7, _), (0, _), (1, _), (2, _), (3, _), (4, _), (5, _), (6, _)]) B 0 dX12_processes_198 rfl (nI_1 _) (by decide) rfl ?_
          refine g_goto (tgt := 178) B dX12_processes_201 (by decide) ?_
          refine ih (n - (x + 1)) (by omega) (x + 1) _ _ _ _ rfl (by omega) P62 hs62 (fun j hj => (hk62 j hj).trans (i2 j hj)) (fun j hj => ?_) (fun k h66 h67 => (g562 k h66 h67).trans (i4 k h66 h67))
          rw [g362, g462]
          by_cases hjx : j = x
          · subst hjx; rw [va_ups, va_ups]; exact ⟨rfl, rfl⟩
          · rw [va_upe hjx, va_upe hjx]; exact i3 j (by omega)
    exact L _ 0 _ _ _ _ rfl (Nat.zero_le _) P1 hs1 (fun j hj => hk1 j hj) (fun j hj => absurd hj (Nat.not_lt_zero j)) (fun k _ _ => rfl)
  · refine g_top (show Value.int (nI (a.kd o)) = .int 5 by rw [hkd]; rfl) ?_
    refine g_tableIn (tgt := 205) B dX12_processes_26 (by decide) (by decide) rfl (by decide) ?_
    refine g_iload B 0 dX12_processes_205 rfl ?_
    refine g_if_eqB (tgt := 219) B dX12_processes_207 (by decide) (fun c13 => ?_) (fun c13 => ?_)
    · refine g_aload_n B 2 dX12_processes_219 rfl ?_
      refine g_iload_n B 4 dX12_processes_220 rfl ?_
      refine g_iload_n B 5 dX12_processes_221 rfl ?_
      refine g_callV (rest := []) B M_X12_gives q2818 q2820 qs88 (P1.1.choose_spec.choose_spec) rfl (c_M_gives P1.self (key := key) (k := 0) (v := v) hs1 (by omega)) rfl rfl (Nat.le_of_ble_eq_true rfl) (Nat.le_of_ble_eq_true rfl) (Nat.le_of_ble_eq_true rfl) (Nat.le_refl _) (Nat.le_refl _) dX12_processes_222 (xkN (fun T14 O14 R14 le14 p14 => ?_))
      obtain ⟨rfl, sc14, ar14, Q14, hs14, hk14, g314, g414, g514⟩ := p14
      have P14 := P1.rebase Q14
      refine g_aload B 7 dX12_processes_225 rfl ?_
      refine g_iload B 1 dX12_processes_227 rfl ?_
      refine g_iload_n B 5 dX12_processes_229 rfl ?_
      refine m_st B P14 (by decide) rfl rfl (by show _ < 96; omega) (by decide) dX12_processes_230 (fun R15 ar15 hs15 hk15 P15 => ?_)
      refine g_aload B 8 dX12_processes_231 rfl ?_
      refine g_iload B 1 dX12_processes_233 rfl ?_
      refine g_iconst (v := nI 0) B dX12_processes_235 (by decide) ?_
      refine m_st B P15 (by decide) rfl rfl (by show _ < 96; omega) (by decide) dX12_processes_236 (fun R16 ar16 hs16 hk16 P16 => ?_)
      refine g_goto (tgt := 358) B dX12_processes_237 (by decide) ?_
      refine g_aload B 6 dX12_processes_358 rfl ?_
      refine g_iload B 1 dX12_processes_360 rfl ?_
      refine g_iconst (v := nI 1) B dX12_processes_362 (by decide) ?_
      refine m_stz B P16 (by decide) rfl rfl (by show _ < 96; omega) (by decide) rfl dX12_processes_363 (fun R17 ar17 hs17 hk17 P17 => ?_)
      refine g_vret B E rfl dX12_processes_364 ?_
      have e66 : ar17 66 = va_up (ar 66) 0 (nI key) := ((hk17 66 (by decide)).trans ((hk16 66 (by decide)).trans ((hk15 66 (by decide)).trans g314)))
      have e67 : ar17 67 = va_up (ar 67) 0 v := ((hk17 67 (by decide)).trans ((hk16 67 (by decide)).trans ((hk15 67 (by decide)).trans g414)))
      have e69 : ar17 69 = va_up (ar 69) ((16 * o) + key) (nI 1) := (hs17.trans (congrArg (fun g => va_up g ((16 * o) + key) (nI 1)) ((hk16 69 (by decide)).trans ((hk15 69 (by decide)).trans (g514 69 (by decide) (by decide))))))
      have e70 : ar17 70 = va_up (ar 70) ((16 * o) + key) v := ((hk17 70 (by decide)).trans ((hk16 70 (by decide)).trans (hs15.trans (congrArg (fun g => va_up g ((16 * o) + key) v) (g514 70 (by decide) (by decide))))))
      have e71 : ar17 71 = va_up (ar 71) ((16 * o) + key) (nI 0) := ((hk17 71 (by decide)).trans (hs16.trans (congrArg (fun g => va_up g ((16 * o) + key) (nI 0)) ((hk15 71 (by decide)).trans (g514 71 (by decide) (by decide))))))
      have n68 : sc14 68 = (nI (0 + 1)) := hs14
      have hp : aProc (a.kd o) (a.pa o) (a.pb o) s key v = ([(key, v)], some (v, 0)) := by rw [hkd, aProc_5, if_neg (fun h => by rw [h.1] at c13; cases c13)]
      refine ⟨rfl, rfl, sc14, ar17, P17, ?_⟩
      rw [hp]
      exact ⟨n68, (by simp), fun j hj => (hk14 j hj).trans (hk1 j hj), fun j hj => (by have hj0 : j = 0 := (by simpa using hj); subst hj0; rw [e66, e67]; exact ⟨va_ups, va_ups⟩), fun k h66 h67 hH h1 h2 => ((hk17 k hH).trans ((hk16 k h2).trans ((hk15 k h1).trans (g514 k h66 h67)))), fun x hx => ⟨by rw [e69, va_upe hx], by rw [e70, va_upe hx], by rw [e71, va_upe hx]⟩, by rw [e69, va_ups]; rfl, fun _ => ⟨(congrFun e70 _).trans va_ups, (congrFun e71 _).trans va_ups⟩⟩
    · refine g_aload B 7 dX12_processes_210 rfl ?_
      refine g_iload B 1 dX12_processes_212 rfl ?_
      refine m_ld B P1 (by decide) rfl rfl (by show _ < 96; omega) (by decide) (show _ = (s.getD (0, 0)).1 from (hs.2 c13).1) dX12_processes_214 ?_
      refine g_iload_n B 5 dX12_processes_215 rfl ?_
      refine g_icmp_eq (tgt := 225) B dX12_processes_216 (by decide) (fun c18 => ?_) (fun c18 => ?_)
      · refine g_aload B 7 dX12_processes_225 rfl ?_
        refine g_iload B 1 dX12_processes_227 rfl ?_
        refine g_iload_n B 5 dX12_processes_229 rfl ?_
        refine m_st B P1 (by decide) rfl rfl (by show _ < 96; omega) (by decide) dX12_processes_230 (fun R19 ar19 hs19 hk19 P19 => ?_)
        refine g_aload B 8 dX12_processes_231 rfl ?_
        refine g_iload B 1 dX12_processes_233 rfl ?_
        refine g_iconst (v := nI 0) B dX12_processes_235 (by decide) ?_
        refine m_st B P19 (by decide) rfl rfl (by show _ < 96; omega) (by decide) dX12_processes_236 (fun R20 ar20 hs20 hk20 P20 => ?_)
        refine g_goto (tgt := 358) B dX12_processes_237 (by decide) ?_
        refine g_aload B 6 dX12_processes_358 rfl ?_
        refine g_iload B 1 dX12_processes_360 rfl ?_
        refine g_iconst (v := nI 1) B dX12_processes_362 (by decide) ?_
        refine m_stz B P20 (by decide) rfl rfl (by show _ < 96; omega) (by decide) rfl dX12_processes_363 (fun R21 ar21 hs21 hk21 P21 => ?_)
        refine g_vret B E rfl dX12_processes_364 ?_
        have e66 : ar21 66 = ar 66 := ((hk21 66 (by decide)).trans ((hk20 66 (by decide)).trans (hk19 66 (by decide))))
        have e67 : ar21 67 = ar 67 := ((hk21 67 (by decide)).trans ((hk20 67 (by decide)).trans (hk19 67 (by decide))))
        have e69 : ar21 69 = va_up (ar 69) ((16 * o) + key) (nI 1) := (hs21.trans (congrArg (fun g => va_up g ((16 * o) + key) (nI 1)) ((hk20 69 (by decide)).trans (hk19 69 (by decide)))))
        have e70 : ar21 70 = va_up (ar 70) ((16 * o) + key) v := ((hk21 70 (by decide)).trans ((hk20 70 (by decide)).trans hs19))
        have e71 : ar21 71 = va_up (ar 71) ((16 * o) + key) (nI 0) := ((hk21 71 (by decide)).trans (hs20.trans (congrArg (fun g => va_up g ((16 * o) + key) (nI 0)) (hk19 71 (by decide)))))
        have n68 : sc1 68 = (nI 0) := hs1
        have hp : aProc (a.kd o) (a.pa o) (a.pb o) s key v = ([], some (v, 0)) := by rw [hkd, aProc_5, if_pos ⟨c13, c18⟩]
        refine ⟨rfl, rfl, sc1, ar21, P21, ?_⟩
        rw [hp]
        exact ⟨n68, (by simp), fun j hj => (hk1 j hj), fun j hj => absurd hj (Nat.not_lt_zero j), fun k h66 h67 hH h1 h2 => ((hk21 k hH).trans ((hk20 k h2).trans (hk19 k h1))), fun x hx => ⟨by rw [e69, va_upe hx], by rw [e70, va_upe hx], by rw [e71, va_upe hx]⟩, by rw [e69, va_ups]; rfl, fun _ => ⟨(congrFun e70 _).trans va_ups, (congrFun e71 _).trans va_ups⟩⟩
      · refine g_aload_n B 2 dX12_processes_219 rfl ?_
        refine g_iload_n B 4 dX12_processes_220 rfl ?_
        refine g_iload_n B 5 dX12_processes_221 rfl ?_
        refine g_callV (rest := []) B M_X12_gives q2818 q2820 qs88 (P1.1.choose_spec.choose_spec) rfl (c_M_gives P1.self (key := key) (k := 0) (v := v) hs1 (by omega)) rfl rfl (Nat.le_of_ble_eq_true rfl) (Nat.le_of_ble_eq_true rfl) (Nat.le_of_ble_eq_true rfl) (Nat.le_refl _) (Nat.le_refl _) dX12_processes_222 (xkN (fun T22 O22 R22 le22 p22 => ?_))
        obtain ⟨rfl, sc22, ar22, Q22, hs22, hk22, g322, g422, g522⟩ := p22
        have P22 := P1.rebase Q22
        refine g_aload B 7 dX12_processes_225 rfl ?_
        refine g_iload B 1 dX12_processes_227 rfl ?_
        refine g_iload_n B 5 dX12_processes_229 rfl ?_
        refine m_st B P22 (by decide) rfl rfl (by show _ < 96; omega) (by decide) dX12_processes_230 (fun R23 ar23 hs23 hk23 P23 => ?_)
        refine g_aload B 8 dX12_processes_231 rfl ?_
        refine g_iload B 1 dX12_processes_233 rfl ?_
        refine g_iconst (v := nI 0) B dX12_processes_235 (by decide) ?_
        refine m_st B P23 (by decide) rfl rfl (by show _ < 96; omega) (by decide) dX12_processes_236 (fun R24 ar24 hs24 hk24 P24 => ?_)
        refine g_goto (tgt := 358) B dX12_processes_237 (by decide) ?_
        refine g_aload B 6 dX12_processes_358 rfl ?_
        refine g_iload B 1 dX12_processes_360 rfl ?_
        refine g_iconst (v := nI 1) B dX12_processes_362 (by decide) ?_
        refine m_stz B P24 (by decide) rfl rfl (by show _ < 96; omega) (by decide) rfl dX12_processes_363 (fun R25 ar25 hs25 hk25 P25 => ?_)
        refine g_vret B E rfl dX12_processes_364 ?_
        have e66 : ar25 66 = va_up (ar 66) 0 (nI key) := ((hk25 66 (by decide)).trans ((hk24 66 (by decide)).trans ((hk23 66 (by decide)).trans g322)))
        have e67 : ar25 67 = va_up (ar 67) 0 v := ((hk25 67 (by decide)).trans ((hk24 67 (by decide)).trans ((hk23 67 (by decide)).trans g422)))
        have e69 : ar25 69 = va_up (ar 69) ((16 * o) + key) (nI 1) := (hs25.trans (congrArg (fun g => va_up g ((16 * o) + key) (nI 1)) ((hk24 69 (by decide)).trans ((hk23 69 (by decide)).trans (g522 69 (by decide) (by decide))))))
        have e70 : ar25 70 = va_up (ar 70) ((16 * o) + key) v := ((hk25 70 (by decide)).trans ((hk24 70 (by decide)).trans (hs23.trans (congrArg (fun g => va_up g ((16 * o) + key) v) (g522 70 (by decide) (by decide))))))
        have e71 : ar25 71 = va_up (ar 71) ((16 * o) + key) (nI 0) := ((hk25 71 (by decide)).trans (hs24.trans (congrArg (fun g => va_up g ((16 * o) + key) (nI 0)) ((hk23 71 (by decide)).trans (g522 71 (by decide) (by decide))))))
        have n68 : sc22 68 = (nI (0 + 1)) := hs22
        have hp : aProc (a.kd o) (a.pa o) (a.pb o) s key v = ([(key, v)], some (v, 0)) := by rw [hkd, aProc_5, if_neg (fun h => c18 h.2)]
        refine ⟨rfl, rfl, sc22, ar25, P25, ?_⟩
        rw [hp]
        exact ⟨n68, (by simp), fun j hj => (hk22 j hj).trans (hk1 j hj), fun j hj => (by have hj0 : j = 0 := (by simpa using hj); subst hj0; rw [e66, e67]; exact ⟨va_ups, va_ups⟩), fun k h66 h67 hH h1 h2 => ((hk25 k hH).trans ((hk24 k h2).trans ((hk23 k h1).trans (g522 k h66 h67)))), fun x hx => ⟨by rw [e69, va_upe hx], by rw [e70, va_upe hx], by rw [e71, va_upe hx]⟩, by rw [e69, va_ups]; rfl, fun _ => ⟨(congrFun e70 _).trans va_ups, (congrFun e71 _).trans va_ups⟩⟩
  · refine g_top (show Value.int (nI (a.kd o)) = .int 6 by rw [hkd]; rfl) ?_
    refine g_tableIn (tgt := 240) B dX12_processes_26 (by decide) (by decide) rfl (by decide) ?_
    refine g_iload B 0 dX12_processes_240 rfl ?_
    refine g_if_eqB (tgt := 254) B dX12_processes_242 (by decide) (fun c26 => ?_) (fun c26 => ?_)
    · refine g_aload_n B 2 dX12_processes_254 rfl ?_
      refine g_iload_n B 4 dX12_processes_255 rfl ?_
      refine g_iload_n B 5 dX12_processes_256 rfl ?_
      refine g_callV (rest := []) B M_X12_gives q2818 q2820 qs88 (P1.1.choose_spec.choose_spec) rfl (c_M_gives P1.self (key := key) (k := 0) (v := v) hs1 (by omega)) rfl rfl (Nat.le_of_ble_eq_true rfl) (Nat.le_of_ble_eq_true rfl) (Nat.le_of_ble_eq_true rfl) (Nat.le_refl _) (Nat.le_refl _) dX12_processes_257 (xkN (fun T27 O27 R27 le27 p27 => ?_))
      obtain ⟨rfl, sc27, ar27, Q27, hs27, hk27, g327, g427, g527⟩ := p27
      have P27 := P1.rebase Q27
      refine g_aload B 7 dX12_processes_260 rfl ?_
      refine g_iload B 1 dX12_processes_262 rfl ?_
      refine g_iload_n B 5 dX12_processes_264 rfl ?_
      refine m_st B P27 (by decide) rfl rfl (by show _ < 96; omega) (by decide) dX12_processes_265 (fun R28 ar28 hs28 hk28 P28 => ?_)
      refine g_aload B 8 dX12_processes_266 rfl ?_
      refine g_iload B 1 dX12_processes_268 rfl ?_
      refine g_iconst (v := nI 0) B dX12_processes_270 (by decide) ?_
      refine m_st B P28 (by decide) rfl rfl (by show _ < 96; omega) (by decide) dX12_processes_271 (fun R29 ar29 hs29 hk29 P29 => ?_)
      refine g_goto (tgt := 358) B dX12_processes_272 (by decide) ?_
      refine g_aload B 6 dX12_processes_358 rfl ?_
      refine g_iload B 1 dX12_processes_360 rfl ?_
      refine g_iconst (v := nI 1) B dX12_processes_362 (by decide) ?_
      refine m_stz B P29 (by decide) rfl rfl (by show _ < 96; omega) (by decide) rfl dX12_processes_363 (fun R30 ar30 hs30 hk30 P30 => ?_)
      refine g_vret B E rfl dX12_processes_364 ?_
      have e66 : ar30 66 = va_up (ar 66) 0 (nI key) := ((hk30 66 (by decide)).trans ((hk29 66 (by decide)).trans ((hk28 66 (by decide)).trans g327)))
      have e67 : ar30 67 = va_up (ar 67) 0 v := ((hk30 67 (by decide)).trans ((hk29 67 (by decide)).trans ((hk28 67 (by decide)).trans g427)))
      have e69 : ar30 69 = va_up (ar 69) ((16 * o) + key) (nI 1) := (hs30.trans (congrArg (fun g => va_up g ((16 * o) + key) (nI 1)) ((hk29 69 (by decide)).trans ((hk28 69 (by decide)).trans (g527 69 (by decide) (by decide))))))
      have e70 : ar30 70 = va_up (ar 70) ((16 * o) + key) v := ((hk30 70 (by decide)).trans ((hk29 70 (by decide)).trans (hs28.trans (congrArg (fun g => va_up g ((16 * o) + key) v) (g527 70 (by decide) (by decide))))))
      have e71 : ar30 71 = va_up (ar 71) ((16 * o) + key) (nI 0) := ((hk30 71 (by decide)).trans (hs29.trans (congrArg (fun g => va_up g ((16 * o) + key) (nI 0)) ((hk28 71 (by decide)).trans (g527 71 (by decide) (by decide))))))
      have n68 : sc27 68 = (nI (0 + 1)) := hs27
      have hp : aProc (a.kd o) (a.pa o) (a.pb o) s key v = ([(key, v)], some (v, 0)) := by rw [hkd, aProc_6, if_neg (fun h => by rw [h.1] at c26; cases c26)]
      refine ⟨rfl, rfl, sc27, ar30, P30, ?_⟩
      rw [hp]
      exact ⟨n68, (by simp), fun j hj => (hk27 j hj).trans (hk1 j hj), fun j hj => (by have hj0 : j = 0 := (by simpa using hj); subst hj0; rw [e66, e67]; exact ⟨va_ups, va_ups⟩), fun k h66 h67 hH h1 h2 => ((hk30 k hH).trans ((hk29 k h2).trans ((hk28 k h1).trans (g527 k h66 h67)))), fun x hx => ⟨by rw [e69, va_upe hx], by rw [e70, va_upe hx], by rw [e71, va_upe hx]⟩, by rw [e69, va_ups]; rfl, fun _ => ⟨(congrFun e70 _).trans va_ups, (congrFun e71 _).trans va_ups⟩⟩
    · refine g_iload_n B 5 dX12_processes_245 rfl ?_
      refine g_aload B 7 dX12_processes_246 rfl ?_
      refine g_iload B 1 dX12_processes_248 rfl ?_
      refine m_ld B P1 (by decide) rfl rfl (by show _ < 96; omega) (by decide) (show _ = (s.getD (0, 0)).1 from (hs.2 c26).1) dX12_processes_250 ?_
      refine g_icmp_le (tgt := 266) B dX12_processes_251 (by decide) (fun c31 => ?_) (fun c31 => ?_)
      · refine g_aload B 8 dX12_processes_266 rfl ?_
        refine g_iload B 1 dX12_processes_268 rfl ?_
        refine g_iconst (v := nI 0) B dX12_processes_270 (by decide) ?_
        refine m_st B P1 (by decide) rfl rfl (by show _ < 96; omega) (by decide) dX12_processes_271 (fun R32 ar32 hs32 hk32 P32 => ?_)
        refine g_goto (tgt := 358) B dX12_processes_272 (by decide) ?_
        refine g_aload B 6 dX12_processes_358 rfl ?_
        refine g_iload B 1 dX12_processes_360 rfl ?_
        refine g_iconst (v := nI 1) B dX12_processes_362 (by decide) ?_
        refine m_stz B P32 (by decide) rfl rfl (by show _ < 96; omega) (by decide) rfl dX12_processes_363 (fun R33 ar33 hs33 hk33 P33 => ?_)
        refine g_vret B E rfl dX12_processes_364 ?_
        obtain ⟨sx, hsx⟩ := Option.isSome_iff_exists.mp c26
        have hse : s = some (s.getD (0, 0)) := by rw [hsx]; rfl
        have e66 : ar33 66 = ar 66 := ((hk33 66 (by decide)).trans (hk32 66 (by decide)))
        have e67 : ar33 67 = ar 67 := ((hk33 67 (by decide)).trans (hk32 67 (by decide)))
        have e69 : ar33 69 = va_up (ar 69) ((16 * o) + key) (nI 1) := (hs33.trans (congrArg (fun g => va_up g ((16 * o) + key) (nI 1)) (hk32 69 (by decide))))
        have e70 : ar33 70 = ar 70 := ((hk33 70 (by decide)).trans (hk32 70 (by decide)))
        have e71 : ar33 71 = va_up (ar 71) ((16 * o) + key) (nI 0) := ((hk33 71 (by decide)).trans hs32)
        have n68 : sc1 68 = (nI 0) := hs1
        have hp : aProc (a.kd o) (a.pa o) (a.pb o) s key v = ([], some (s.getD (0, 0))) := by rw [hkd, aProc_6, if_pos ⟨c26, c31⟩, ← hse]
        refine ⟨rfl, rfl, sc1, ar33, P33, ?_⟩
        rw [hp]
        exact ⟨n68, (by simp), fun j hj => (hk1 j hj), fun j hj => absurd hj (Nat.not_lt_zero j), fun k h66 h67 hH h1 h2 => ((hk33 k hH).trans (hk32 k h2)), fun x hx => ⟨by rw [e69, va_upe hx], by rw [e70], by rw [e71, va_upe hx]⟩, by rw [e69, va_ups]; rfl, fun _ => ⟨by rw [e70]; exact (hs.2 c26).1, (by rw [e71, va_ups]; exact (hpo.2.2.2.2 hkd).symm)⟩⟩
      · refine g_aload_n B 2 dX12_processes_254 rfl ?_
        refine g_iload_n B 4 dX12_processes_255 rfl ?_
        refine g_iload_n B 5 dX12_processes_256 rfl ?_
        refine g_callV (rest := []) B M_X12_gives q2818 q2820 qs88 (P1.1.choose_spec.choose_spec) rfl (c_M_gives P1.self (key := key) (k := 0) (v := v) hs1 (by omega)) rfl rfl (Nat.le_of_ble_eq_true rfl) (Nat.le_of_ble_eq_true rfl) (Nat.le_of_ble_eq_true rfl) (Nat.le_refl _) (Nat.le_refl _) dX12_processes_257 (xkN (fun T34 O34 R34 le34 p34 => ?_))
        obtain ⟨rfl, sc34, ar34, Q34, hs34, hk34, g334, g434, g534⟩ := p34
        have P34 := P1.rebase Q34
        refine g_aload B 7 dX12_processes_260 rfl ?_
        refine g_iload B 1 dX12_processes_262 rfl ?_
        refine g_iload_n B 5 dX12_processes_264 rfl ?_
        refine m_st B P34 (by decide) rfl rfl (by show _ < 96; omega) (by decide) dX12_processes_265 (fun R35 ar35 hs35 hk35 P35 => ?_)
        refine g_aload B 8 dX12_processes_266 rfl ?_
        refine g_iload B 1 dX12_processes_268 rfl ?_
        refine g_iconst (v := nI 0) B dX12_processes_270 (by decide) ?_
        refine m_st B P35 (by decide) rfl rfl (by show _ < 96; omega) (by decide) dX12_processes_271 (fun R36 ar36 hs36 hk36 P36 => ?_)
        refine g_goto (tgt := 358) B dX12_processes_272 (by decide) ?_
        refine g_aload B 6 dX12_processes_358 rfl ?_
        refine g_iload B 1 dX12_processes_360 rfl ?_
        refine g_iconst (v := nI 1) B dX12_processes_362 (by decide) ?_
        refine m_stz B P36 (by decide) rfl rfl (by show _ < 96; omega) (by decide) rfl dX12_processes_363 (fun R37 ar37 hs37 hk37 P37 => ?_)
        refine g_vret B E rfl dX12_processes_364 ?_
        have e66 : ar37 66 = va_up (ar 66) 0 (nI key) := ((hk37 66 (by decide)).trans ((hk36 66 (by decide)).trans ((hk35 66 (by decide)).trans g334)))
        have e67 : ar37 67 = va_up (ar 67) 0 v := ((hk37 67 (by decide)).trans ((hk36 67 (by decide)).trans ((hk35 67 (by decide)).trans g434)))
        have e69 : ar37 69 = va_up (ar 69) ((16 * o) + key) (nI 1) := (hs37.trans (congrArg (fun g => va_up g ((16 * o) + key) (nI 1)) ((hk36 69 (by decide)).trans ((hk35 69 (by decide)).trans (g534 69 (by decide) (by decide))))))
        have e70 : ar37 70 = va_up (ar 70) ((16 * o) + key) v := ((hk37 70 (by decide)).trans ((hk36 70 (by decide)).trans (hs35.trans (congrArg (fun g => va_up g ((16 * o) + key) v) (g534 70 (by decide) (by decide))))))
        have e71 : ar37 71 = va_up (ar 71) ((16 * o) + key) (nI 0) := ((hk37 71 (by decide)).trans (hs36.trans (congrArg (fun g => va_up g ((16 * o) + key) (nI 0)) ((hk35 71 (by decide)).trans (g534 71 (by decide) (by decide))))))
        have n68 : sc34 68 = (nI (0 + 1)) := hs34
        have hp : aProc (a.kd o) (a.pa o) (a.pb o) s key v = ([(key, v)], some (v, 0)) := by rw [hkd, aProc_6, if_neg (fun h => c31 h.2)]
        refine ⟨rfl, rfl, sc34, ar37, P37, ?_⟩
        rw [hp]
        exact ⟨n68, (by simp), fun j hj => (hk34 j hj).trans (hk1 j hj), fun j hj => (by have hj0 : j = 0 := (by simpa using hj); subst hj0; rw [e66, e67]; exact ⟨va_ups, va_ups⟩), fun k h66 h67 hH h1 h2 => ((hk37 k hH).trans ((hk36 k h2).trans ((hk35 k h1).trans (g534 k h66 h67)))), fun x hx => ⟨by rw [e69, va_upe hx], by rw [e70, va_upe hx], by rw [e71, va_upe hx]⟩, by rw [e69, va_ups]; rfl, fun _ => ⟨(congrFun e70 _).trans va_ups, (congrFun e71 _).trans va_ups⟩⟩
  · refine g_top (show Value.int (nI (a.kd o)) = .int 4 by rw [hkd]; rfl) ?_
    refine g_tableIn (tgt := 275) B dX12_processes_26 (by decide) (by decide) rfl (by decide) ?_
    refine g_aload B 7 dX12_processes_275 rfl ?_
    refine g_iload B 1 dX12_processes_277 rfl ?_
    refine g_iload B 0 dX12_processes_279 rfl ?_
    refine g_if_eqB (tgt := 294) B dX12_processes_281 (by decide) (fun c38 => ?_) (fun c38 => ?_)
    · refine g_iload_n B 5 dX12_processes_294 rfl ?_
      refine m_st B P1 (by decide) rfl rfl (by show _ < 96; omega) (by decide) dX12_processes_295 (fun R39 ar39 hs39 hk39 P39 => ?_)
      refine g_aload B 8 dX12_processes_296 rfl ?_
      refine g_iload B 1 dX12_processes_298 rfl ?_
      refine g_iload B 0 dX12_processes_300 rfl ?_
      refine g_if_eqB (tgt := 315) B dX12_processes_302 (by decide) (fun c40 => ?_) (fun c40 => Bool.noConfusion (c38.symm.trans c40))
      refine g_iconst (v := nI 1) B dX12_processes_315 (by decide) ?_
      refine m_st B P39 (by decide) rfl rfl (by show _ < 96; omega) (by decide) dX12_processes_316 (fun R41 ar41 hs41 hk41 P41 => ?_)
      refine g_aload_n B 2 dX12_processes_317 rfl ?_
      refine m_geta B P41 F_X12_13_12 (by decide) (Or.inl rfl) dX12_processes_318 ?_
      refine g_iload_n B 3 dX12_processes_321 rfl ?_
      refine m_ld B P41 (by decide) rfl rfl (by show _ < 6; omega) (by decide) (show _ = (nI (a.kd o)) from ((congrFun (hk41 3 (by decide)) _).trans ((congrFun (hk39 3 (by decide)) _).trans (Hop.2 o (by omega)).1))) dX12_processes_322 ?_
      refine g_iconst (v := nI 4) B dX12_processes_323 (by decide) ?_
      refine g_icmp_neN (tgt := 358) B (by omega) (by omega) dX12_processes_324 (by decide) (fun c42 => ?_) (fun c42 => ?_)
      · exact absurd hkd c42
      refine g_aload B 8 dX12_processes_327 rfl ?_
      refine g_iload B 1 dX12_processes_329 rfl ?_
      refine m_ld B P41 (by decide) rfl rfl (by show _ < 96; omega) (by decide) (show _ = (nI 1) from ((congrFun hs41 _).trans va_ups)) dX12_processes_331 ?_
      refine g_aload_n B 2 dX12_processes_332 rfl ?_
      refine m_geta B P41 F_X12_16_12 (by decide) (Or.inl rfl) dX12_processes_333 ?_
      refine g_iload_n B 3 dX12_processes_336 rfl ?_
      refine m_ld B P41 (by decide) rfl rfl (by show _ < 6; omega) (by decide) (show _ = (a.pa o) from ((congrFun (hk41 4 (by decide)) _).trans ((congrFun (hk39 4 (by decide)) _).trans (Hop.2 o (by omega)).2.1))) dX12_processes_337 ?_
      refine g_icmp_ne (tgt := 358) B dX12_processes_338 (by decide) (fun c43 => ?_) (fun c43 => ?_)
      · refine g_aload B 6 dX12_processes_358 rfl ?_
        refine g_iload B 1 dX12_processes_360 rfl ?_
        refine g_iconst (v := nI 1) B dX12_processes_362 (by decide) ?_
        refine m_stz B P41 (by decide) rfl rfl (by show _ < 96; omega) (by decide) rfl dX12_processes_363 (fun R44 ar44 hs44 hk44 P44 => ?_)
        refine g_vret B E rfl dX12_processes_364 ?_
        have h4 := (hpo.2.2.2.1 hkd)
        rw [getD_no c38, i32_z] at h4
        have h5 : 1 < a.pa o := h4.resolve_right c43
        have e66 : ar44 66 = ar 66 := ((hk44 66 (by decide)).trans ((hk41 66 (by decide)).trans (hk39 66 (by decide))))
        have e67 : ar44 67 = ar 67 := ((hk44 67 (by decide)).trans ((hk41 67 (by decide)).trans (hk39 67 (by decide))))
        have e69 : ar44 69 = va_up (ar 69) ((16 * o) + key) (nI 1) := (hs44.trans (congrArg (fun g => va_up g ((16 * o) + key) (nI 1)) ((hk41 69 (by decide)).trans (hk39 69 (by decide)))))
        have e70 : ar44 70 = va_up (ar 70) ((16 * o) + key) v := ((hk44 70 (by decide)).trans ((hk41 70 (by decide)).trans hs39))
        have e71 : ar44 71 = va_up (ar 71) ((16 * o) + key) (nI 1) := ((hk44 71 (by decide)).trans (hs41.trans (congrArg (fun g => va_up g ((16 * o) + key) (nI 1)) (hk39 71 (by decide)))))
        have n68 : sc1 68 = (nI 0) := hs1
        have hp : aProc (a.kd o) (a.pa o) (a.pb o) s key v = ([], some (v, 1)) := by rw [hkd, aProc_4, getD_no c38, i32_z, i32_z, if_pos h5]
        refine ⟨rfl, rfl, sc1, ar44, P44, ?_⟩
        rw [hp]
        exact ⟨n68, (by simp), fun j hj => (hk1 j hj), fun j hj => absurd hj (Nat.not_lt_zero j), fun k h66 h67 hH h1 h2 => ((hk44 k hH).trans ((hk41 k h2).trans (hk39 k h1))), fun x hx => ⟨by rw [e69, va_upe hx], by rw [e70, va_upe hx], by rw [e71, va_upe hx]⟩, by rw [e69, va_ups]; rfl, fun _ => ⟨(congrFun e70 _).trans va_ups, (congrFun e71 _).trans va_ups⟩⟩
      · refine g_aload_n B 2 dX12_processes_341 rfl ?_
        refine g_iload_n B 4 dX12_processes_342 rfl ?_
        refine g_aload B 7 dX12_processes_343 rfl ?_
        refine g_iload B 1 dX12_processes_345 rfl ?_
        refine m_ld B P41 (by decide) rfl rfl (by show _ < 96; omega) (by decide) (show _ = v from ((congrFun (hk41 70 (by decide)) _).trans ((congrFun hs39 _).trans va_ups))) dX12_processes_347 ?_
        refine g_callV (rest := []) B M_X12_gives q2818 q2820 qs88 (P41.1.choose_spec.choose_spec) rfl (c_M_gives P41.self (key := key) (k := 0) (v := v) hs1 (by omega)) rfl rfl (Nat.le_of_ble_eq_true rfl) (Nat.le_of_ble_eq_true rfl) (Nat.le_of_ble_eq_true rfl) (Nat.le_refl _) (Nat.le_refl _) dX12_processes_348 (xkN (fun T45 O45 R45 le45 p45 => ?_))
        obtain ⟨rfl, sc45, ar45, Q45, hs45, hk45, g345, g445, g545⟩ := p45
        have P45 := P41.rebase Q45
        refine g_aload B 6 dX12_processes_351 rfl ?_
        refine g_iload B 1 dX12_processes_353 rfl ?_
        refine g_iconst (v := nI 0) B dX12_processes_355 (by decide) ?_
        refine m_stz B P45 (by decide) rfl rfl (by show _ < 96; omega) (by decide) rfl dX12_processes_356 (fun R46 ar46 hs46 hk46 P46 => ?_)
        refine g_vret B E rfl dX12_processes_357 ?_
        have h4 := (hpo.2.2.2.1 hkd)
        rw [getD_no c38, i32_z] at h4
        have h5 : ¬ 1 < a.pa o := fun h => by rw [show 1 = a.pa o from c43] at h; exact Int32.lt_irrefl h
        have e66 : ar46 66 = va_up (ar 66) 0 (nI key) := ((hk46 66 (by decide)).trans (g345.trans (congrArg (fun g => va_up g 0 (nI key)) ((hk41 66 (by decide)).trans (hk39 66 (by decide))))))
        have e67 : ar46 67 = va_up (ar 67) 0 v := ((hk46 67 (by decide)).trans (g445.trans (congrArg (fun g => va_up g 0 v) ((hk41 67 (by decide)).trans (hk39 67 (by decide))))))
        have e69 : ar46 69 = va_up (ar 69) ((16 * o) + key) (nI 0) := (hs46.trans (congrArg (fun g => va_up g ((16 * o) + key) (nI 0)) ((g545 69 (by decide) (by decide)).trans ((hk41 69 (by decide)).trans (hk39 69 (by decide))))))
        have e70 : ar46 70 = va_up (ar 70) ((16 * o) + key) v := ((hk46 70 (by decide)).trans ((g545 70 (by decide) (by decide)).trans ((hk41 70 (by decide)).trans hs39)))
        have e71 : ar46 71 = va_up (ar 71) ((16 * o) + key) (nI 1) := ((hk46 71 (by decide)).trans ((g545 71 (by decide) (by decide)).trans (hs41.trans (congrArg (fun g => va_up g ((16 * o) + key) (nI 1)) (hk39 71 (by decide))))))
        have n68 : sc45 68 = (nI (0 + 1)) := hs45
        have hp : aProc (a.kd o) (a.pa o) (a.pb o) s key v = ([(key, v)], none) := by rw [hkd, aProc_4, getD_no c38, i32_z, i32_z, if_neg h5]
        refine ⟨rfl, rfl, sc45, ar46, P46, ?_⟩
        rw [hp]
        exact ⟨n68, (by simp), fun j hj => (hk45 j hj).trans (hk1 j hj), fun j hj => (by have hj0 : j = 0 := (by simpa using hj); subst hj0; rw [e66, e67]; exact ⟨va_ups, va_ups⟩), fun k h66 h67 hH h1 h2 => ((hk46 k hH).trans ((g545 k h66 h67).trans ((hk41 k h2).trans (hk39 k h1)))), fun x hx => ⟨by rw [e69, va_upe hx], by rw [e70, va_upe hx], by rw [e71, va_upe hx]⟩, by rw [e69, va_ups]; rfl, fun h => by cases h⟩
    · refine g_aload B 7 dX12_processes_284 rfl ?_
      refine g_iload B 1 dX12_processes_286 rfl ?_
      refine m_ld B P1 (by decide) rfl rfl (by show _ < 96; omega) (by decide) (show _ = (s.getD (0, 0)).1 from (hs.2 c38).1) dX12_processes_288 ?_
      refine g_iload_n B 5 dX12_processes_289 rfl ?_
      refine g_iadd B dX12_processes_290 ?_
      refine g_goto (tgt := 295) B dX12_processes_291 (by decide) ?_
      refine m_st B P1 (by decide) rfl rfl (by show _ < 96; omega) (by decide) dX12_processes_295 (fun R47 ar47 hs47 hk47 P47 => ?_)
      refine g_aload B 8 dX12_processes_296 rfl ?_
      refine g_iload B 1 dX12_processes_298 rfl ?_
      refine g_iload B 0 dX12_processes_300 rfl ?_
      refine g_if_eqB (tgt := 315) B dX12_processes_302 (by decide) (fun c48 => Bool.noConfusion (c38.symm.trans c48)) (fun c48 => ?_)
      refine g_aload B 8 dX12_processes_305 rfl ?_
      refine g_iload B 1 dX12_processes_307 rfl ?_
      refine m_ld B P47 (by decide) rfl rfl (by show _ < 96; omega) (by decide) (show _ = (s.getD (0, 0)).2 from ((congrFun (hk47 71 (by decide)) _).trans (hs.2 c48).2)) dX12_processes_309 ?_
      refine g_iconst (v := nI 1) B dX12_processes_310 (by decide) ?_
      refine g_iadd B dX12_processes_311 ?_
      refine g_goto (tgt := 316) B dX12_processes_312 (by decide) ?_
      refine m_st B P47 (by decide) rfl rfl (by show _ < 96; omega) (by decide) dX12_processes_316 (fun R49 ar49 hs49 hk49 P49 => ?_)
      refine g_aload_n B 2 dX12_processes_317 rfl ?_
      refine m_geta B P49 F_X12_13_12 (by decide) (Or.inl rfl) dX12_processes_318 ?_
      refine g_iload_n B 3 dX12_processes_321 rfl ?_
      refine m_ld B P49 (by decide) rfl rfl (by show _ < 6; omega) (by decide) (show _ = (nI (a.kd o)) from ((congrFun (hk49 3 (by decide)) _).trans ((congrFun (hk47 3 (by decide)) _).trans (Hop.2 o (by omega)).1))) dX12_processes_322 ?_
      refine g_iconst (v := nI 4) B dX12_processes_323 (by decide) ?_
      refine g_icmp_neN (tgt := 358) B (by omega) (by omega) dX12_processes_324 (by decide) (fun c50 => ?_) (fun c50 => ?_)
      · exact absurd hkd c50
      refine g_aload B 8 dX12_processes_327 rfl ?_
      refine g_iload B 1 dX12_processes_329 rfl ?_
      refine m_ld B P49 (by decide) rfl rfl (by show _ < 96; omega) (by decide) (show _ = ((s.getD (0, 0)).2 + (nI 1)) from ((congrFun hs49 _).trans va_ups)) dX12_processes_331 ?_
      refine g_aload_n B 2 dX12_processes_332 rfl ?_
      refine m_geta B P49 F_X12_16_12 (by decide) (Or.inl rfl) dX12_processes_333 ?_
      refine g_iload_n B 3 dX12_processes_336 rfl ?_
      refine m_ld B P49 (by decide) rfl rfl (by show _ < 6; omega) (by decide) (show _ = (a.pa o) from ((congrFun (hk49 4 (by decide)) _).trans ((congrFun (hk47 4 (by decide)) _).trans (Hop.2 o (by omega)).2.1))) dX12_processes_337 ?_
      refine g_icmp_ne (tgt := 358) B dX12_processes_338 (by decide) (fun c51 => ?_) (fun c51 => ?_)
      · refine g_aload B 6 dX12_processes_358 rfl ?_
        refine g_iload B 1 dX12_processes_360 rfl ?_
        refine g_iconst (v := nI 1) B dX12_processes_362 (by decide) ?_
        refine m_stz B P49 (by decide) rfl rfl (by show _ < 96; omega) (by decide) rfl dX12_processes_363 (fun R52 ar52 hs52 hk52 P52 => ?_)
        refine g_vret B E rfl dX12_processes_364 ?_
        have h4 := (hpo.2.2.2.1 hkd)
        have h5 : (s.getD (0, 0)).2 + 1 < a.pa o := h4.resolve_right c51
        have e66 : ar52 66 = ar 66 := ((hk52 66 (by decide)).trans ((hk49 66 (by decide)).trans (hk47 66 (by decide))))
        have e67 : ar52 67 = ar 67 := ((hk52 67 (by decide)).trans ((hk49 67 (by decide)).trans (hk47 67 (by decide))))
        have e69 : ar52 69 = va_up (ar 69) ((16 * o) + key) (nI 1) := (hs52.trans (congrArg (fun g => va_up g ((16 * o) + key) (nI 1)) ((hk49 69 (by decide)).trans (hk47 69 (by decide)))))
        have e70 : ar52 70 = va_up (ar 70) ((16 * o) + key) ((s.getD (0, 0)).1 + v) := ((hk52 70 (by decide)).trans ((hk49 70 (by decide)).trans hs47))
        have e71 : ar52 71 = va_up (ar 71) ((16 * o) + key) ((s.getD (0, 0)).2 + (nI 1)) := ((hk52 71 (by decide)).trans (hs49.trans (congrArg (fun g => va_up g ((16 * o) + key) ((s.getD (0, 0)).2 + (nI 1))) (hk47 71 (by decide)))))
        have n68 : sc1 68 = (nI 0) := hs1
        have hp : aProc (a.kd o) (a.pa o) (a.pb o) s key v = ([], some ((s.getD (0, 0)).1 + v, (s.getD (0, 0)).2 + 1)) := by rw [hkd, aProc_4, if_pos h5]
        refine ⟨rfl, rfl, sc1, ar52, P52, ?_⟩
        rw [hp]
        exact ⟨n68, (by simp), fun j hj => (hk1 j hj), fun j hj => absurd hj (Nat.not_lt_zero j), fun k h66 h67 hH h1 h2 => ((hk52 k hH).trans ((hk49 k h2).trans (hk47 k h1))), fun x hx => ⟨by rw [e69, va_upe hx], by rw [e70, va_upe hx], by rw [e71, va_upe hx]⟩, by rw [e69, va_ups]; rfl, fun _ => ⟨(congrFun e70 _).trans va_ups, (congrFun e71 _).trans va_ups⟩⟩
      · refine g_aload_n B 2 dX12_processes_341 rfl ?_
        refine g_iload_n B 4 dX12_processes_342 rfl ?_
        refine g_aload B 7 dX12_processes_343 rfl ?_
        refine g_iload B 1 dX12_processes_345 rfl ?_
        refine m_ld B P49 (by decide) rfl rfl (by show _ < 96; omega) (by decide) (show _ = ((s.getD (0, 0)).1 + v) from ((congrFun (hk49 70 (by decide)) _).trans ((congrFun hs47 _).trans va_ups))) dX12_processes_347 ?_
        refine g_callV (rest := []) B M_X12_gives q2818 q2820 qs88 (P49.1.choose_spec.choose_spec) rfl (c_M_gives P49.self (key := key) (k := 0) (v := ((s.getD (0, 0)).1 + v)) hs1 (by omega)) rfl rfl (Nat.le_of_ble_eq_true rfl) (Nat.le_of_ble_eq_true rfl) (Nat.le_of_ble_eq_true rfl) (Nat.le_refl _) (Nat.le_refl _) dX12_processes_348 (xkN (fun T53 O53 R53 le53 p53 => ?_))
        obtain ⟨rfl, sc53, ar53, Q53, hs53, hk53, g353, g453, g553⟩ := p53
        have P53 := P49.rebase Q53
        refine g_aload B 6 dX12_processes_351 rfl ?_
        refine g_iload B 1 dX12_processes_353 rfl ?_
        refine g_iconst (v := nI 0) B dX12_processes_355 (by decide) ?_
        refine m_stz B P53 (by decide) rfl rfl (by show _ < 96; omega) (by decide) rfl dX12_processes_356 (fun R54 ar54 hs54 hk54 P54 => ?_)
        refine g_vret B E rfl dX12_processes_357 ?_
        have h4 := (hpo.2.2.2.1 hkd)
        have h5 : ¬ (s.getD (0, 0)).2 + 1 < a.pa o := fun h => by rw [show (s.getD (0, 0)).2 + 1 = a.pa o from c51] at h; exact Int32.lt_irrefl h
        have e66 : ar54 66 = va_up (ar 66) 0 (nI key) := ((hk54 66 (by decide)).trans (g353.trans (congrArg (fun g => va_up g 0 (nI key)) ((hk49 66 (by decide)).trans (hk47 66 (by decide))))))
        have e67 : ar54 67 = va_up (ar 67) 0 ((s.getD (0, 0)).1 + v) := ((hk54 67 (by decide)).trans (g453.trans (congrArg (fun g => va_up g 0 ((s.getD (0, 0)).1 + v)) ((hk49 67 (by decide)).trans (hk47 67 (by decide))))))
        have e69 : ar54 69 = va_up (ar 69) ((16 * o) + key) (nI 0) := (hs54.trans (congrArg (fun g => va_up g ((16 * o) + key) (nI 0)) ((g553 69 (by decide) (by decide)).trans ((hk49 69 (by decide)).trans (hk47 69 (by decide))))))
        have e70 : ar54 70 = va_up (ar 70) ((16 * o) + key) ((s.getD (0, 0)).1 + v) := ((hk54 70 (by decide)).trans ((g553 70 (by decide) (by decide)).trans ((hk49 70 (by decide)).trans hs47)))
        have e71 : ar54 71 = va_up (ar 71) ((16 * o) + key) ((s.getD (0, 0)).2 + (nI 1)) := ((hk54 71 (by decide)).trans ((g553 71 (by decide) (by decide)).trans (hs49.trans (congrArg (fun g => va_up g ((16 * o) + key) ((s.getD (0, 0)).2 + (nI 1))) (hk47 71 (by decide))))))
        have n68 : sc53 68 = (nI (0 + 1)) := hs53
        have hp : aProc (a.kd o) (a.pa o) (a.pb o) s key v = ([(key, (s.getD (0, 0)).1 + v)], none) := by rw [hkd, aProc_4, if_neg h5]
        refine ⟨rfl, rfl, sc53, ar54, P54, ?_⟩
        rw [hp]
        exact ⟨n68, (by simp), fun j hj => (hk53 j hj).trans (hk1 j hj), fun j hj => (by have hj0 : j = 0 := (by simpa using hj); subst hj0; rw [e66, e67]; exact ⟨va_ups, va_ups⟩), fun k h66 h67 hH h1 h2 => ((hk54 k hH).trans ((g553 k h66 h67).trans ((hk49 k h2).trans (hk47 k h1)))), fun x hx => ⟨by rw [e69, va_upe hx], by rw [e70, va_upe hx], by rw [e71, va_upe hx]⟩, by rw [e69, va_ups]; rfl, fun h => by cases h⟩
  · refine g_top (show Value.int (nI (a.kd o)) = .int 8 by rw [hkd]; rfl) ?_
    refine g_tableOut (tgt := 275) B dX12_processes_26 (by decide) (by decide) ?_
    refine g_aload B 7 dX12_processes_275 rfl ?_
    refine g_iload B 1 dX12_processes_277 rfl ?_
    refine g_iload B 0 dX12_processes_279 rfl ?_
    refine g_if_eqB (tgt := 294) B dX12_processes_281 (by decide) (fun c55 => ?_) (fun c55 => ?_)
    · refine g_iload_n B 5 dX12_processes_294 rfl ?_
      refine m_st B P1 (by decide) rfl rfl (by show _ < 96; omega) (by decide) dX12_processes_295 (fun R56 ar56 hs56 hk56 P56 => ?_)
      refine g_aload B 8 dX12_processes_296 rfl ?_
      refine g_iload B 1 dX12_processes_298 rfl ?_
      refine g_iload B 0 dX12_processes_300 rfl ?_
      refine g_if_eqB (tgt := 315) B dX12_processes_302 (by decide) (fun c57 => ?_) (fun c57 => Bool.noConfusion (c55.symm.trans c57))
      refine g_iconst (v := nI 1) B dX12_processes_315 (by decide) ?_
      refine m_st B P56 (by decide) rfl rfl (by show _ < 96; omega) (by decide) dX12_processes_316 (fun R58 ar58 hs58 hk58 P58 => ?_)
      refine g_aload_n B 2 dX12_processes_317 rfl ?_
      refine m_geta B P58 F_X12_13_12 (by decide) (Or.inl rfl) dX12_processes_318 ?_
      refine g_iload_n B 3 dX12_processes_321 rfl ?_
      refine m_ld B P58 (by decide) rfl rfl (by show _ < 6; omega) (by decide) (show _ = (nI (a.kd o)) from ((congrFun (hk58 3 (by decide)) _).trans ((congrFun (hk56 3 (by decide)) _).trans (Hop.2 o (by omega)).1))) dX12_processes_322 ?_
      refine g_iconst (v := nI 4) B dX12_processes_323 (by decide) ?_
      refine g_icmp_neN (tgt := 358) B (by omega) (by omega) dX12_processes_324 (by decide) (fun c59 => ?_) (fun c59 => ?_)
      rotate_left
      · exact absurd (hkd.symm.trans c59) (by decide)
      refine g_aload B 6 dX12_processes_358 rfl ?_
      refine g_iload B 1 dX12_processes_360 rfl ?_
      refine g_iconst (v := nI 1) B dX12_processes_362 (by decide) ?_
      refine m_stz B P58 (by decide) rfl rfl (by show _ < 96; omega) (by decide) rfl dX12_processes_363 (fun R60 ar60 hs60 hk60 P60 => ?_)
      refine g_vret B E rfl dX12_processes_364 ?_
      have e66 : ar60 66 = ar 66 := ((hk60 66 (by decide)).trans ((hk58 66 (by decide)).trans (hk56 66 (by decide))))
      have e67 : ar60 67 = ar 67 := ((hk60 67 (by decide)).trans ((hk58 67 (by decide)).trans (hk56 67 (by decide))))
      have e69 : ar60 69 = va_up (ar 69) ((16 * o) + key) (nI 1) := (hs60.trans (congrArg (fun g => va_up g ((16 * o) + key) (nI 1)) ((hk58 69 (by decide)).trans (hk56 69 (by decide)))))
      have e70 : ar60 70 = va_up (ar 70) ((16 * o) + key) v := ((hk60 70 (by decide)).trans ((hk58 70 (by decide)).trans hs56))
      have e71 : ar60 71 = va_up (ar 71) ((16 * o) + key) (nI 1) := ((hk60 71 (by decide)).trans (hs58.trans (congrArg (fun g => va_up g ((16 * o) + key) (nI 1)) (hk56 71 (by decide)))))
      have n68 : sc1 68 = (nI 0) := hs1
      have hp : aProc (a.kd o) (a.pa o) (a.pb o) s key v = ([], some (v, 1)) := by rw [hkd, aProc_8, getD_no c55, i32_z, i32_z]
      refine ⟨rfl, rfl, sc1, ar60, P60, ?_⟩
      rw [hp]
      exact ⟨n68, (by simp), fun j hj => (hk1 j hj), fun j hj => absurd hj (Nat.not_lt_zero j), fun k h66 h67 hH h1 h2 => ((hk60 k hH).trans ((hk58 k h2).trans (hk56 k h1))), fun x hx => ⟨by rw [e69, va_upe hx], by rw [e70, va_upe hx], by rw [e71, va_upe hx]⟩, by rw [e69, va_ups]; rfl, fun _ => ⟨(congrFun e70 _).trans va_ups, (congrFun e71 _).trans va_ups⟩⟩
    · refine g_aload B 7 dX12_processes_284 rfl ?_
      refine g_iload B 1 dX12_processes_286 rfl ?_
      refine m_ld B P1 (by decide) rfl rfl (by show _ < 96; omega) (by decide) (show _ = (s.getD (0, 0)).1 from (hs.2 c55).1) dX12_processes_288 ?_
      refine g_iload_n B 5 dX12_processes_289 rfl ?_
      refine g_iadd B dX12_processes_290 ?_
      refine g_goto (tgt := 295) B dX12_processes_291 (by decide) ?_
      refine m_st B P1 (by decide) rfl rfl (by show _ < 96; omega) (by decide) dX12_processes_295 (fun R61 ar61 hs61 hk61 P61 => ?_)
      refine g_aload B 8 dX12_processes_296 rfl ?_
      refine g_iload B 1 dX12_processes_298 rfl ?_
      refine g_iload B 0 dX12_processes_300 rfl ?_
      refine g_if_eqB (tgt := 315) B dX12_processes_302 (by decide) (fun c62 => Bool.noConfusion (c55.symm.trans c62)) (fun c62 => ?_)
      refine g_aload B 8 dX12_processes_305 rfl ?_
      refine g_iload B 1 dX12_processes_307 rfl ?_
      refine m_ld B P61 (by decide) rfl rfl (by show _ < 96; omega) (by decide) (show _ = (s.getD (0, 0)).2 from ((congrFun (hk61 71 (by decide)) _).trans (hs.2 c62).2)) dX12_processes_309 ?_
      refine g_iconst (v := nI 1) B dX12_processes_310 (by decide) ?_
      refine g_iadd B dX12_processes_311 ?_
      refine g_goto (tgt := 316) B dX12_processes_312 (by decide) ?_
      refine m_st B P61 (by decide) rfl rfl (by show _ < 96; omega) (by decide) dX12_processes_316 (fun R63 ar63 hs63 hk63 P63 => ?_)
      refine g_aload_n B 2 dX12_processes_317 rfl ?_
      refine m_geta B P63 F_X12_13_12 (by decide) (Or.inl rfl) dX12_processes_318 ?_
      refine g_iload_n B 3 dX12_processes_321 rfl ?_
      refine m_ld B P63 (by decide) rfl rfl (by show _ < 6; omega) (by decide) (show _ = (nI (a.kd o)) from ((congrFun (hk63 3 (by decide)) _).trans ((congrFun (hk61 3 (by decide)) _).trans (Hop.2 o (by omega)).1))) dX12_processes_322 ?_
      refine g_iconst (v := nI 4) B dX12_processes_323 (by decide) ?_
      refine g_icmp_neN (tgt := 358) B (by omega) (by omega) dX12_processes_324 (by decide) (fun c64 => ?_) (fun c64 => ?_)
      rotate_left
      · exact absurd (hkd.symm.trans c64) (by decide)
      refine g_aload B 6 dX12_processes_358 rfl ?_
      refine g_iload B 1 dX12_processes_360 rfl ?_
      refine g_iconst (v := nI 1) B dX12_processes_362 (by decide) ?_
      refine m_stz B P63 (by decide) rfl rfl (by show _ < 96; omega) (by decide) rfl dX12_processes_363 (fun R65 ar65 hs65 hk65 P65 => ?_)
      refine g_vret B E rfl dX12_processes_364 ?_
      have e66 : ar65 66 = ar 66 := ((hk65 66 (by decide)).trans ((hk63 66 (by decide)).trans (hk61 66 (by decide))))
      have e67 : ar65 67 = ar 67 := ((hk65 67 (by decide)).trans ((hk63 67 (by decide)).trans (hk61 67 (by decide))))
      have e69 : ar65 69 = va_up (ar 69) ((16 * o) + key) (nI 1) := (hs65.trans (congrArg (fun g => va_up g ((16 * o) + key) (nI 1)) ((hk63 69 (by decide)).trans (hk61 69 (by decide)))))
      have e70 : ar65 70 = va_up (ar 70) ((16 * o) + key) ((s.getD (0, 0)).1 + v) := ((hk65 70 (by decide)).trans ((hk63 70 (by decide)).trans hs61))
      have e71 : ar65 71 = va_up (ar 71) ((16 * o) + key) ((s.getD (0, 0)).2 + (nI 1)) := ((hk65 71 (by decide)).trans (hs63.trans (congrArg (fun g => va_up g ((16 * o) + key) ((s.getD (0, 0)).2 + (nI 1))) (hk61 71 (by decide)))))
      have n68 : sc1 68 = (nI 0) := hs1
      have hp : aProc (a.kd o) (a.pa o) (a.pb o) s key v = ([], some ((s.getD (0, 0)).1 + v, (s.getD (0, 0)).2 + 1)) := by rw [hkd, aProc_8]
      refine ⟨rfl, rfl, sc1, ar65, P65, ?_⟩
      rw [hp]
      exact ⟨n68, (by simp), fun j hj => (hk1 j hj), fun j hj => absurd hj (Nat.not_lt_zero j), fun k h66 h67 hH h1 h2 => ((hk65 k hH).trans ((hk63 k h2).trans (hk61 k h1))), fun x hx => ⟨by rw [e69, va_upe hx], by rw [e70, va_upe hx], by rw [e71, va_upe hx]⟩, by rw [e69, va_ups]; rfl, fun _ => ⟨(congrFun e70 _).trans va_ups, (congrFun e71 _).trans va_ups⟩⟩
