set_option maxRecDepth 100000
def aA.cbit (a : aA) (o i : Nat) : Nat := ((List.range 3).find? (fun f => !(a.sp o i f))).getD 3
def aA.rsnB (a : aA) (o i : Nat) : Nat × Nat := if o = 0 then (if a.of 0 = a.inp.length then (4, 0) else (5, 0)) else if (a.ready o i).isSome = true then (5, 0) else if aBits (a.sp o i) = 0 then (4, 0) else (3, a.cbit o i)
def aA.rsnA (a : aA) (o i : Nat) : Nat × Nat := if a.hd o i = true then (match a.bar o i with | some f => (2, f) | none => a.rsnB o i) else a.rsnB o i
/-- why an instance waits, and for which one -/
def aA.rsn (a : aA) (o i : Nat) : Nat × Nat := match a.ls o i with
  | [] => a.rsnA o i
  | r :: _ => if cFit (a.cf 0) (a.cf 2) (a.ch o i (a.goal o i r)) = true then a.rsnA o i else (1, a.goal o i r)
/-- not all channels of an instance are stopped -/
def aA.spf (a : aA) : Prop := ∀ o i, 0 < o → o < a.n → i < a.p o → ∃ f, f < a.p (o - 1) ∧ a.sp o i f = false
theorem aA.cbit_at {a : aA} {o i x : Nat} (hx : x < 3) (h : ∀ j, j < x → a.sp o i j = true) (hn : a.sp o i x = false) : a.cbit o i = x := by
  unfold aA.cbit
  rw [find_some hx (fun j hj => by rw [h j hj]; rfl) (by rw [hn]; rfl)]
  rfl
theorem bI_1 {b : Bool} : bI b = nI 1 ↔ b = true := by cases b <;> decide
theorem aBits_le (s : Nat → Bool) : aBits s ≤ 7 := by
  unfold aBits
  generalize s 0 = x; generalize s 1 = y; generalize s 2 = z
  revert x y z; decide
theorem aA.rsn_nil {a : aA} {o i : Nat} (h : (a.ls o i).length = 0) : a.rsn o i = a.rsnA o i := by
  unfold aA.rsn; rw [List.eq_nil_of_length_eq_zero h]
theorem aA.rsn_fit {a : aA} {o i : Nat} {r : aRec} {rest : List aRec} (h : a.ls o i = r :: rest) (hf : cFit (a.cf 0) (a.cf 2) (a.ch o i (a.goal o i r)) = true) : a.rsn o i = a.rsnA o i := by
  unfold aA.rsn; rw [h]; exact if_pos hf
theorem aA.rsn_1 {a : aA} {o i : Nat} {r : aRec} {rest : List aRec} (h : a.ls o i = r :: rest) (hf : cFit (a.cf 0) (a.cf 2) (a.ch o i (a.goal o i r)) = false) : a.rsn o i = (1, a.goal o i r) := by
  unfold aA.rsn; rw [h]; exact if_neg (by rw [hf]; decide)
theorem aA.rsnA_0 {a : aA} {o i : Nat} (h : a.hd o i = false) : a.rsnA o i = a.rsnB o i := by
  unfold aA.rsnA; rw [if_neg (by rw [h]; decide)]
theorem aA.rsnA_n {a : aA} {o i : Nat} (h : a.hd o i = true) (hb : a.bar o i = none) : a.rsnA o i = a.rsnB o i := by
  unfold aA.rsnA; rw [if_pos h, hb]
theorem aA.rsnA_s {a : aA} {o i f : Nat} (h : a.hd o i = true) (hb : a.bar o i = some f) : a.rsnA o i = (2, f) := by
  unfold aA.rsnA; rw [if_pos h, hb]
theorem aA.used {B : Nat} {a : aA} (W : WF B a) {o i : Nat} (h : 0 < (a.ls o i).length) : o + 1 < a.n ∧ i < a.p o := Classical.byContradiction fun e => by
  rw [W.lsu o i e] at h; exact absurd h (Nat.lt_irrefl 0)
theorem aA.usedh {B : Nat} {a : aA} (W : WF B a) {o i : Nat} (h : a.hd o i = true) : o + 1 < a.n ∧ i < a.p o := Classical.byContradiction fun e => by
  rw [W.hdu o i e] at h; cases h
theorem c_M_reasonOf {G : xG} {T : xT} {O R : xO} {m : Nat} {ad : Nat → Nat} {sc : Nat → Int32} {ar : Nat → Nat → Int32} {Bd : Nat} {o i : Nat} (P : PM m ad O R sc ar T O R) {a : aA} (H : RepM a sc ar) (W : WF Bd a) (hB : Bd ≤ 2 ^ 30) (hspf : a.spf) (ho : o < a.n) (hi : i < a.p o) : xCtr G yX12_reasonOf cX12_reasonOf 4 (some Jvm.ClassFile.FieldType.int) 2 47 0 0 [.ref m, .int (nI o), .int (nI i)] (T, O, R) (xA (mPost m ad T O R (fun v sc2 ar2 => v = .int (nI (a.rsn o i).1) ∧ ((a.rsn o i).1 ≤ 3 → sc2 78 = nI (a.rsn o i).2) ∧ ar2 = ar ∧ ∀ k, k ≠ 78 → sc2 k = sc k))) := by
  have hR := H
  obtain ⟨Htxt, Hop, Hinp, Hnm, Hstt, ⟨Hs0, Hs1, Hs2⟩, ⟨Hc0, Hc1, Hc2⟩, Hls, Hsp, Hpt, Hhd, Hch, Hex, Hwr⟩ := H
  have hn2 := W.n2
  have hn6 := W.n6
  have hp3 := (W.p1 o ho).2
  have hi3 : i < 3 := by omega
  have hl3 := (W.ls o i).1
  refine xCtr.of (by decide +kernel) (Nat.le_of_ble_eq_true rfl) ?_
  intro Z B E hz hnm
  change xV Z (T, O, R) 0 [(0, .ref m), (1, .int (nI o)), (2, .int (nI i))] [] 0 0
  refine g_iload_n B 1 dX12_reasonOf_0 rfl ?_
  refine g_iload_n B 2 dX12_reasonOf_1 rfl ?_
  refine g_callS (rest := []) B M_X12_spot q2744 q2745 (c_M_spot (o := o) (i := i)) rfl rfl (Nat.le_of_ble_eq_true rfl) (Nat.le_of_ble_eq_true rfl) (Nat.le_of_ble_eq_true rfl) (Nat.le_refl _) (Nat.le_refl _) dX12_reasonOf_2 (xkA (fun v1 T1 O1 R1 le1 p1 => ?_))
  obtain ⟨rfl, eT1, eO1, eR1⟩ := p1
  obtain rfl := eT1.symm
  obtain rfl := eO1.symm
  obtain rfl := eR1.symm
  refine g_istore_n (lv2 := [(3, _), (0, _), (1, _), (2, _)]) B dX12_reasonOf_5 (by decide) rfl ?_
  refine g_aload_n B 1 dX12_reasonOf_6 rfl ?_
  refine m_geta B P F_X12_93_12 (by decide) (Or.inl rfl) dX12_reasonOf_7 ?_
  refine g_iload_n B 0 dX12_reasonOf_10 rfl ?_
  refine m_ld B P (by decide) rfl rfl (by show _ < 18; omega) (by decide) (show _ = (nI ((a.ls o i).length)) from (Hls o (by omega) i (by omega)).1) dX12_reasonOf_11 ?_
  refine g_if_leN (tgt := 61) B (by omega) dX12_reasonOf_12 (by decide) (fun c2 => ?_) (fun c2 => ?_)
  · have hA : a.rsn o i = a.rsnA o i := aA.rsn_nil (by omega)
    refine g_aload_n B 1 dX12_reasonOf_61 rfl ?_
    refine m_geta B P F_X12_111_12 (by decide) (Or.inr rfl) dX12_reasonOf_62 ?_
    refine g_iload_n B 0 dX12_reasonOf_65 rfl ?_
    refine m_ldz B P (by decide) rfl rfl (by show _ < 18; omega) (by decide) (show _ = (bI (a.hd o i)) from (Hhd o (by omega) i (by omega))) dX12_reasonOf_66 ?_
    refine g_if_eqB (tgt := 91) B dX12_reasonOf_67 (by decide) (fun c3 => ?_) (fun c3 => ?_)
    · have hA2 := hA.trans (aA.rsnA_0 c3)
      have hof := W.ofs 0
      have hinl := W.inp
      refine g_iload_n B 2 dX12_reasonOf_91 rfl ?_
      refine g_if_neN (tgt := 112) B (by omega) dX12_reasonOf_92 (by decide) (fun c4 => ?_) (fun c4 => ?_)
      · refine g_aload_n B 1 dX12_reasonOf_112 rfl ?_
        refine g_iload_n B 2 dX12_reasonOf_113 rfl ?_
        refine g_iload_n B 3 dX12_reasonOf_114 rfl ?_
        refine g_callV (rest := []) B M_X12_ready q2790 q2792 qs81 (P.1.choose_spec.choose_spec) rfl (c_M_ready (o := o) (i := i) P.self hR W (by omega) ho hi) rfl rfl (Nat.le_of_ble_eq_true rfl) (Nat.le_of_ble_eq_true rfl) (Nat.le_of_ble_eq_true rfl) (Nat.le_refl _) (Nat.le_refl _) dX12_reasonOf_115 (xkA (fun v5 T5 O5 R5 le5 p5 => ?_))
        obtain ⟨rfl, eT5, eO5, eR5⟩ := p5
        obtain rfl := eT5.symm
        obtain rfl := eO5.symm
        obtain rfl := eR5.symm
        have hpq := W.p1 (o - 1) (by omega)
        rcases hrd : a.ready o i with _ | f
        · refine g_top (show Value.int _ = .int (-1) from rfl) ?_
          refine g_if_lt (tgt := 123) B dX12_reasonOf_118 (by decide) (fun c => ?_) (fun c => absurd (by decide) c)
          have hb7 := aBits_le (a.sp o i)
          refine g_aload_n B 1 dX12_reasonOf_123 rfl ?_
          refine m_geta B P F_X12_105_12 (by decide) (Or.inl rfl) dX12_reasonOf_124 ?_
          refine g_iload_n B 0 dX12_reasonOf_127 rfl ?_
          refine m_ld B P (by decide) rfl rfl (by show _ < 18; omega) (by decide) (show _ = (nI (aBits (a.sp o i))) from (Hsp o (by omega) i (by omega))) dX12_reasonOf_128 ?_
          refine g_if_neN (tgt := 134) B (by omega) dX12_reasonOf_129 (by decide) (fun c6 => ?_) (fun c6 => ?_)
          · refine g_aload_n B 1 dX12_reasonOf_134 rfl ?_
            refine g_iconst (v := nI 0) B dX12_reasonOf_135 (by decide) ?_
            refine m_put B P F_X12_393_12 (by decide) (Or.inl rfl) rfl rfl rfl dX12_reasonOf_136 (fun O7 sc7 hs7 hk7 P7 => ?_)
            obtain ⟨g, hg, hgs⟩ := hspf o i (by omega) ho hi
            have L : ∀ (d : Nat) (x : Nat) (O1 R1 : xO) (sc1 : Nat → Int32) (ar1 : Nat → Nat → Int32), d = g - x → PM m ad O R sc1 ar1 T O1 R1 → (sc1 78 = nI x) → (∀ k, k ≠ 78 → sc1 k = sc k) → (ar1 = ar) → (∀ j, j < x → a.sp o i j = true) → xV Z (T, O1, R1) 139 [(3, .int (nI (3 * o + i))), (0, .ref m), (1, .int (nI o)), (2, .int (nI i))] [] 0 0 := by
              intro d
              induction d using Nat.strongRecOn with
              | _ d ih =>
                intro x O1 R1 sc1 ar1 hd P1 i1 i2 i3 i4
                have hxg : x ≤ g := by rcases Nat.lt_or_ge g x with e | e; (rw [i4 g e] at hgs; cases hgs); exact e
                refine g_aload_n B 1 dX12_reasonOf_139 rfl ?_
                refine m_geta B P1 F_X12_105_12 (by decide) (Or.inl rfl) dX12_reasonOf_140 ?_
                refine g_iload_n B 0 dX12_reasonOf_143 rfl ?_
                refine m_ld B P1 (by decide) rfl rfl (by show _ < 18; omega) (by decide) (show _ = (nI (aBits (a.sp o i))) from ((congrFun (congrFun i3 43) _).trans (Hsp o (by omega) i (by omega)))) dX12_reasonOf_144 ?_
                refine g_aload_n B 1 dX12_reasonOf_145 rfl ?_
                refine m_get B P1 F_X12_393_12 (by decide) (Or.inl rfl) (show _ = (nI x) from i1) dX12_reasonOf_146 ?_
                refine g_ishr B dX12_reasonOf_149 ?_
                refine g_iconst (v := nI 1) B dX12_reasonOf_150 (by decide) ?_
                refine g_iand B dX12_reasonOf_151 ?_
                refine g_top (show Value.int _ = .int (bI (a.sp o i x)) from by rw [aBits_bit (by omega)]) ?_
                refine g_iconst (v := nI 1) B dX12_reasonOf_152 (by decide) ?_
                refine g_icmp_ne (tgt := 169) B dX12_reasonOf_153 (by decide) (fun c301 => ?_) (fun c301 => ?_)
                · refine g_iconst (v := nI 3) B dX12_reasonOf_169 (by decide) ?_
                  have hb : a.sp o i x = false := by cases hq : a.sp o i x; rfl; exact absurd (by rw [hq]; rfl) c301
                  have hR0 : a.rsn o i = (3, x) := by rw [hA2, aA.rsnB, if_neg c4, hrd, if_neg (by decide), if_neg c6, aA.cbit_at (by omega) i4 hb]
                  refine g_iret B E rfl rfl dX12_reasonOf_170 ?_
                  exact ⟨_, rfl, rfl, _, _, P1, by rw [hR0], by rw [hR0]; exact fun _ => i1, i3, i2⟩
                · refine g_aload_n B 1 dX12_reasonOf_156 rfl ?_
                  refine g_dup B dX12_reasonOf_157 rfl ?_
                  refine m_get B P1 F_X12_393_12 (by decide) (Or.inl rfl) (show _ = (nI x) from i1) dX12_reasonOf_158 ?_
                  refine g_iconst (v := nI 1) B dX12_reasonOf_161 (by decide) ?_
                  refine g_iaddN B dX12_reasonOf_162 ?_
                  refine m_put B P1 F_X12_393_12 (by decide) (Or.inl rfl) rfl rfl rfl dX12_reasonOf_163 (fun O302 sc302 hs302 hk302 P302 => ?_)
                  refine g_goto (tgt := 139) B dX12_reasonOf_166 (by decide) ?_
                  have hb := bI_1.mp c301
                  have hxg2 : x < g := by rcases Nat.lt_or_ge x g with e | e; exact e; (have e2 : x = g := by omega); rw [e2, hgs] at hb; cases hb
                  exact ih (g - (x + 1)) (by omega) (x + 1) _ _ _ _ rfl P302 hs302 (fun k hk => (hk302 k hk).trans (i2 k hk)) i3 (fun j hj => by rcases (show j < x ∨ j = x by omega) with e | e; exact i4 j e; rw [e]; exact hb)
            exact L _ 0 _ _ _ _ rfl P7 hs7 hk7 rfl (fun j hj => absurd hj (Nat.not_lt_zero j))
          · refine g_iconst (v := nI 4) B dX12_reasonOf_132 (by decide) ?_
            refine g_iret B E rfl rfl dX12_reasonOf_133 ?_
            have hR0 : a.rsn o i = (4, 0) := by rw [hA2, aA.rsnB, if_neg c4, hrd, if_neg (by decide), if_pos (by omega)]
            exact ⟨_, rfl, rfl, _, _, P, by rw [hR0], by rw [hR0]; exact fun h => absurd h (by decide), rfl, fun _ _ => rfl⟩
        · refine g_top (show Value.int _ = .int (nI f) from rfl) ?_
          obtain ⟨hf, -, -⟩ := aA.ready_some hrd (by omega)
          refine g_if_ltN (tgt := 123) B (by omega) dX12_reasonOf_118 (by decide) ?_
          refine g_iconst (v := nI 5) B dX12_reasonOf_121 (by decide) ?_
          refine g_iret B E rfl rfl dX12_reasonOf_122 ?_
          have hR0 : a.rsn o i = (5, 0) := by rw [hA2, aA.rsnB, if_neg c4, hrd]; rfl
          exact ⟨_, rfl, rfl, _, _, P, by rw [hR0], by rw [hR0]; exact fun h => absurd h (by decide), rfl, fun _ _ => rfl⟩
      · refine g_aload_n B 1 dX12_reasonOf_95 rfl ?_
        refine m_get B P F_X12_271_12 (by decide) (Or.inl rfl) (show _ = (nI (a.of 0)) from Hnm.2.1.1) dX12_reasonOf_96 ?_
        refine g_aload_n B 1 dX12_reasonOf_99 rfl ?_
        refine m_get B P F_X12_275_12 (by decide) (Or.inl rfl) (show _ = (nI a.inp.length) from Hinp.1) dX12_reasonOf_100 ?_
        refine g_icmp_neN (tgt := 110) B (by omega) (by omega) dX12_reasonOf_103 (by decide) (fun c8 => ?_) (fun c8 => ?_)
        · refine g_iconst (v := nI 5) B dX12_reasonOf_110 (by decide) ?_
          refine g_iret B E rfl rfl dX12_reasonOf_111 ?_
          have hR0 : a.rsn o i = (5, 0) := by rw [hA2, aA.rsnB, if_pos c4, if_neg c8]
          exact ⟨_, rfl, rfl, _, _, P, by rw [hR0], by rw [hR0]; exact fun h => absurd h (by decide), rfl, fun _ _ => rfl⟩
        · refine g_iconst (v := nI 4) B dX12_reasonOf_106 (by decide) ?_
          refine g_goto (tgt := 111) B dX12_reasonOf_107 (by decide) ?_
          refine g_iret B E rfl rfl dX12_reasonOf_111 ?_
          have hR0 : a.rsn o i = (4, 0) := by rw [hA2, aA.rsnB, if_pos c4, if_pos c8]
          exact ⟨_, rfl, rfl, _, _, P, by rw [hR0], by rw [hR0]; exact fun h => absurd h (by decide), rfl, fun _ _ => rfl⟩
    · refine g_aload_n B 1 dX12_reasonOf_70 rfl ?_
      refine g_iload_n B 2 dX12_reasonOf_71 rfl ?_
      refine g_iload_n B 3 dX12_reasonOf_72 rfl ?_
      refine g_callV (rest := []) B M_X12_refusing q2770 q2772 qs76 (P.1.choose_spec.choose_spec) rfl (c_M_refusing (o := o) (i := i) P.self hR W (aA.usedh W c3).1 (by omega)) rfl rfl (Nat.le_of_ble_eq_true rfl) (Nat.le_of_ble_eq_true rfl) (Nat.le_of_ble_eq_true rfl) (Nat.le_refl _) (Nat.le_refl _) dX12_reasonOf_73 (xkA (fun v9 T9 O9 R9 le9 p9 => ?_))
      obtain ⟨rfl, eT9, eO9, eR9⟩ := p9
      obtain rfl := eT9.symm
      obtain rfl := eO9.symm
      obtain rfl := eR9.symm
      rcases hbr : a.bar o i with _ | f
      · refine g_top (show Value.int _ = .int (-1) from rfl) ?_
        refine g_if_lt (tgt := 91) B dX12_reasonOf_76 (by decide) (fun c => ?_) (fun c => absurd (by decide) c)
        have hA2 := hA.trans (aA.rsnA_n c3 hbr)
        have hof := W.ofs 0
        have hinl := W.inp
        refine g_iload_n B 2 dX12_reasonOf_91 rfl ?_
        refine g_if_neN (tgt := 112) B (by omega) dX12_reasonOf_92 (by decide) (fun c10 => ?_) (fun c10 => ?_)
        · refine g_aload_n B 1 dX12_reasonOf_112 rfl ?_
          refine g_iload_n B 2 dX12_reasonOf_113 rfl ?_
          refine g_iload_n B 3 dX12_reasonOf_114 rfl ?_
          refine g_callV (rest := []) B M_X12_ready q2790 q2792 qs81 (P.1.choose_spec.choose_spec) rfl (c_M_ready (o := o) (i := i) P.self hR W (by omega) ho hi) rfl rfl (Nat.le_of_ble_eq_true rfl) (Nat.le_of_ble_eq_true rfl) (Nat.le_of_ble_eq_true rfl) (Nat.le_refl _) (Nat.le_refl _) dX12_reasonOf_115 (xkA (fun v11 T11 O11 R11 le11 p11 => ?_))
          obtain ⟨rfl, eT11, eO11, eR11⟩ := p11
          obtain rfl := eT11.symm
          obtain rfl := eO11.symm
          obtain rfl := eR11.symm
          have hpq := W.p1 (o - 1) (by omega)
          rcases hrd : a.ready o i with _ | f
          · refine g_top (show Value.int _ = .int (-1) from rfl) ?_
            refine g_if_lt (tgt := 123) B dX12_reasonOf_118 (by decide) (fun c => ?_) (fun c => absurd (by decide) c)
            have hb7 := aBits_le (a.sp o i)
            refine g_aload_n B 1 dX12_reasonOf_123 rfl ?_
            refine m_geta B P F_X12_105_12 (by decide) (Or.inl rfl) dX12_reasonOf_124 ?_
            refine g_iload_n B 0 dX12_reasonOf_127 rfl ?_
            refine m_ld B P (by decide) rfl rfl (by show _ < 18; omega) (by decide) (show _ = (nI (aBits (a.sp o i))) from (Hsp o (by omega) i (by omega))) dX12_reasonOf_128 ?_
            refine g_if_neN (tgt := 134) B (by omega) dX12_reasonOf_129 (by decide) (fun c12 => ?_) (fun c12 => ?_)
            · refine g_aload_n B 1 dX12_reasonOf_134 rfl ?_
              refine g_iconst (v := nI 0) B dX12_reasonOf_135 (by decide) ?_
              refine m_put B P F_X12_393_12 (by decide) (Or.inl rfl) rfl rfl rfl dX12_reasonOf_136 (fun O13 sc13 hs13 hk13 P13 => ?_)
              obtain ⟨g, hg, hgs⟩ := hspf o i (by omega) ho hi
              have L : ∀ (d : Nat) (x : Nat) (O1 R1 : xO) (sc1 : Nat → Int32) (ar1 : Nat → Nat → Int32), d = g - x → PM m ad O R sc1 ar1 T O1 R1 → (sc1 78 = nI x) → (∀ k, k ≠ 78 → sc1 k = sc k) → (ar1 = ar) → (∀ j, j < x → a.sp o i j = true) → xV Z (T, O1, R1) 139 [(3, .int (nI (3 * o + i))), (0, .ref m), (1, .int (nI o)), (2, .int (nI i))] [] 0 0 := by
                intro d
                induction d using Nat.strongRecOn with
                | _ d ih =>
                  intro x O1 R1 sc1 ar1 hd P1 i1 i2 i3 i4
                  have hxg : x ≤ g := by rcases Nat.lt_or_ge g x with e | e; (rw [i4 g e] at hgs; cases hgs); exact e
                  refine g_aload_n B 1 dX12_reasonOf_139 rfl ?_
                  refine m_geta B P1 F_X12_105_12 (by decide) (Or.inl rfl) dX12_reasonOf_140 ?_
                  refine g_iload_n B 0 dX12_reasonOf_143 rfl ?_
                  refine m_ld B P1 (by decide) rfl rfl (by show _ < 18; omega) (by decide) (show _ = (nI (aBits (a.sp o i))) from ((congrFun (congrFun i3 43) _).trans (Hsp o (by omega) i (by omega)))) dX12_reasonOf_144 ?_
                  refine g_aload_n B 1 dX12_reasonOf_145 rfl ?_
                  refine m_get B P1 F_X12_393_12 (by decide) (Or.inl rfl) (show _ = (nI x) from i1) dX12_reasonOf_146 ?_
                  refine g_ishr B dX12_reasonOf_149 ?_
                  refine g_iconst (v := nI 1) B dX12_reasonOf_150 (by decide) ?_
                  refine g_iand B dX12_reasonOf_151 ?_
                  refine g_top (show Value.int _ = .int (bI (a.sp o i x)) from by rw [aBits_bit (by omega)]) ?_
                  refine g_iconst (v := nI 1) B dX12_reasonOf_152 (by decide) ?_
                  refine g_icmp_ne (tgt := 169) B dX12_reasonOf_153 (by decide) (fun c301 => ?_) (fun c301 => ?_)
                  · refine g_iconst (v := nI 3) B dX12_reasonOf_169 (by decide) ?_
                    have hb : a.sp o i x = false := by cases hq : a.sp o i x; rfl; exact absurd (by rw [hq]; rfl) c301
                    have hR0 : a.rsn o i = (3, x) := by rw [hA2, aA.rsnB, if_neg c10, hrd, if_neg (by decide), if_neg c12, aA.cbit_at (by omega) i4 hb]
                    refine g_iret B E rfl rfl dX12_reasonOf_170 ?_
                    exact ⟨_, rfl, rfl, _, _, P1, by rw [hR0], by rw [hR0]; exact fun _ => i1, i3, i2⟩
                  · refine g_aload_n B 1 dX12_reasonOf_156 rfl ?_
                    refine g_dup B dX12_reasonOf_157 rfl ?_
                    refine m_get B P1 F_X12_393_12 (by decide) (Or.inl rfl) (show _ = (nI x) from i1) dX12_reasonOf_158 ?_
                    refine g_iconst (v := nI 1) B dX12_reasonOf_161 (by decide) ?_
                    refine g_iaddN B dX12_reasonOf_162 ?_
                    refine m_put B P1 F_X12_393_12 (by decide) (Or.inl rfl) rfl rfl rfl dX12_reasonOf_163 (fun O302 sc302 hs302 hk302 P302 => ?_)
                    refine g_goto (tgt := 139) B dX12_reasonOf_166 (by decide) ?_
                    have hb := bI_1.mp c301
                    have hxg2 : x < g := by rcases Nat.lt_or_ge x g with e | e; exact e; (have e2 : x = g := by omega); rw [e2, hgs] at hb; cases hb
                    exact ih (g - (x + 1)) (by omega) (x + 1) _ _ _ _ rfl P302 hs302 (fun k hk => (hk302 k hk).trans (i2 k hk)) i3 (fun j hj => by rcases (show j < x ∨ j = x by omega) with e | e; exact i4 j e; rw [e]; exact hb)
              exact L _ 0 _ _ _ _ rfl P13 hs13 hk13 rfl (fun j hj => absurd hj (Nat.not_lt_zero j))
            · refine g_iconst (v := nI 4) B dX12_reasonOf_132 (by decide) ?_
              refine g_iret B E rfl rfl dX12_reasonOf_133 ?_
              have hR0 : a.rsn o i = (4, 0) := by rw [hA2, aA.rsnB, if_neg c10, hrd, if_neg (by decide), if_pos (by omega)]
              exact ⟨_, rfl, rfl, _, _, P, by rw [hR0], by rw [hR0]; exact fun h => absurd h (by decide), rfl, fun _ _ => rfl⟩
          · refine g_top (show Value.int _ = .int (nI f) from rfl) ?_
            obtain ⟨hf, -, -⟩ := aA.ready_some hrd (by omega)
            refine g_if_ltN (tgt := 123) B (by omega) dX12_reasonOf_118 (by decide) ?_
            refine g_iconst (v := nI 5) B dX12_reasonOf_121 (by decide) ?_
            refine g_iret B E rfl rfl dX12_reasonOf_122 ?_
            have hR0 : a.rsn o i = (5, 0) := by rw [hA2, aA.rsnB, if_neg c10, hrd]; rfl
            exact ⟨_, rfl, rfl, _, _, P, by rw [hR0], by rw [hR0]; exact fun h => absurd h (by decide), rfl, fun _ _ => rfl⟩
        · refine g_aload_n B 1 dX12_reasonOf_95 rfl ?_
          refine m_get B P F_X12_271_12 (by decide) (Or.inl rfl) (show _ = (nI (a.of 0)) from Hnm.2.1.1) dX12_reasonOf_96 ?_
          refine g_aload_n B 1 dX12_reasonOf_99 rfl ?_
          refine m_get B P F_X12_275_12 (by decide) (Or.inl rfl) (show _ = (nI a.inp.length) from Hinp.1) dX12_reasonOf_100 ?_
          refine g_icmp_neN (tgt := 110) B (by omega) (by omega) dX12_reasonOf_103 (by decide) (fun c14 => ?_) (fun c14 => ?_)
          · refine g_iconst (v := nI 5) B dX12_reasonOf_110 (by decide) ?_
            refine g_iret B E rfl rfl dX12_reasonOf_111 ?_
            have hR0 : a.rsn o i = (5, 0) := by rw [hA2, aA.rsnB, if_pos c10, if_neg c14]
            exact ⟨_, rfl, rfl, _, _, P, by rw [hR0], by rw [hR0]; exact fun h => absurd h (by decide), rfl, fun _ _ => rfl⟩
          · refine g_iconst (v := nI 4) B dX12_reasonOf_106 (by decide) ?_
            refine g_goto (tgt := 111) B dX12_reasonOf_107 (by decide) ?_
            refine g_iret B E rfl rfl dX12_reasonOf_111 ?_
            have hR0 : a.rsn o i = (4, 0) := by rw [hA2, aA.rsnB, if_pos c10, if_pos c14]
            exact ⟨_, rfl, rfl, _, _, P, by rw [hR0], by rw [hR0]; exact fun h => absurd h (by decide), rfl, fun _ _ => rfl⟩
      · refine g_top (show Value.int _ = .int (nI f) from rfl) ?_
        have hfl : f < 2 ^ 31 := by have := List.mem_range.mp (List.mem_of_find?_eq_some hbr); have := W.p1 (o + 1) (aA.usedh W c3).1; omega
        refine g_if_ltN (tgt := 91) B hfl dX12_reasonOf_76 (by decide) ?_
        refine g_aload_n B 1 dX12_reasonOf_79 rfl ?_
        refine g_aload_n B 1 dX12_reasonOf_80 rfl ?_
        refine g_iload_n B 2 dX12_reasonOf_81 rfl ?_
        refine g_iload_n B 3 dX12_reasonOf_82 rfl ?_
        refine g_callV (rest := [_]) B M_X12_refusing q2770 q2772 qs76 (P.1.choose_spec.choose_spec) rfl (c_M_refusing (o := o) (i := i) P.self hR W (aA.usedh W c3).1 (by omega)) rfl rfl (Nat.le_of_ble_eq_true rfl) (Nat.le_of_ble_eq_true rfl) (Nat.le_of_ble_eq_true rfl) (Nat.le_refl _) (Nat.le_refl _) dX12_reasonOf_83 (xkA (fun v15 T15 O15 R15 le15 p15 => ?_))
        obtain ⟨rfl, eT15, eO15, eR15⟩ := p15
        obtain rfl := eT15.symm
        obtain rfl := eO15.symm
        obtain rfl := eR15.symm
        rw [hbr]
        refine g_top (show Value.int _ = .int (nI f) from rfl) ?_
        refine m_put B P F_X12_393_12 (by decide) (Or.inl rfl) rfl rfl rfl dX12_reasonOf_86 (fun O16 sc16 hs16 hk16 P16 => ?_)
        refine g_iconst (v := nI 2) B dX12_reasonOf_89 (by decide) ?_
        refine g_iret B E rfl rfl dX12_reasonOf_90 ?_
        have hR0 : a.rsn o i = (2, f) := hA.trans (aA.rsnA_s c3 hbr)
        exact ⟨_, rfl, rfl, _, _, P16, by rw [hR0], by rw [hR0]; exact fun _ => hs16, rfl, hk16⟩
  · obtain ⟨hon, -⟩ := aA.used W (show 0 < (a.ls o i).length by omega)
    rcases hls : a.ls o i with _ | ⟨r, rest⟩
    · have hll0 : (a.ls o i).length = 0 := by rw [hls]; rfl
      omega
    have hrec := (Hls o (by omega) i (by omega)).2
    rw [hls] at hrec
    have hr0 := hrec 0 (Nat.succ_pos _)
    obtain ⟨hr40, hr41, hr42⟩ : ar 40 (3 * (3 * o + i)) = nI r.1 ∧ ar 41 (3 * (3 * o + i)) = r.2.1 ∧ ar 42 (3 * (3 * o + i)) = nI r.2.2 := hr0
    have hrk : r.1 < 16 := ((W.ls o i).2 r (by rw [hls]; exact List.mem_cons_self ..)).1
    have hpp := W.p1 (o + 1) hon
    have hgl : a.goal o i r < a.p (o + 1) := W.goal hon
    have hln : mLn o i (a.goal o i r) < 54 := by unfold mLn; omega
    have hctB := W.ctl o i
    refine g_aload_n B 1 dX12_reasonOf_15 rfl ?_
    refine g_iload_n B 2 dX12_reasonOf_16 rfl ?_
    refine g_iload_n B 3 dX12_reasonOf_17 rfl ?_
    refine g_aload_n B 1 dX12_reasonOf_18 rfl ?_
    refine g_iload_n B 2 dX12_reasonOf_19 rfl ?_
    refine g_iload_n B 3 dX12_reasonOf_20 rfl ?_
    refine g_aload_n B 1 dX12_reasonOf_21 rfl ?_
    refine m_geta B P F_X12_96_12 (by decide) (Or.inl rfl) dX12_reasonOf_22 ?_
    refine g_iconst (v := nI 3) B dX12_reasonOf_25 (by decide) ?_
    refine g_iload_n B 0 dX12_reasonOf_26 rfl ?_
    refine g_imulN B dX12_reasonOf_27 ?_
    refine m_ld B P (by decide) rfl rfl (by show _ < 54; omega) (by decide) (show _ = (nI r.1) from hr40) dX12_reasonOf_28 ?_
    refine g_callV (rest := [_, _, _]) B M_X12_goal q2747 q2749 qs71 (P.1.choose_spec.choose_spec) rfl (c_M_goal (o := o) (i := i) (r := r) P.self hR hon (by omega) (by omega) (W.kd8 hon) hrk (W.p1 _ hon) (by omega)) rfl rfl (Nat.le_of_ble_eq_true rfl) (Nat.le_of_ble_eq_true rfl) (Nat.le_of_ble_eq_true rfl) (Nat.le_refl _) (Nat.le_refl _) dX12_reasonOf_29 (xkA (fun v17 T17 O17 R17 le17 p17 => ?_))
    obtain ⟨rfl, eT17, eO17, eR17⟩ := p17
    obtain rfl := eT17.symm
    obtain rfl := eO17.symm
    obtain rfl := eR17.symm
    refine g_callS (rest := [_]) B M_X12_line q2759 q2760 (c_M_line (o := o) (i := i) (j := (a.goal o i r))) rfl rfl (Nat.le_of_ble_eq_true rfl) (Nat.le_of_ble_eq_true rfl) (Nat.le_of_ble_eq_true rfl) (Nat.le_refl _) (Nat.le_refl _) dX12_reasonOf_32 (xkA (fun v18 T18 O18 R18 le18 p18 => ?_))
    obtain ⟨rfl, eT18, eO18, eR18⟩ := p18
    obtain rfl := eT18.symm
    obtain rfl := eO18.symm
    obtain rfl := eR18.symm
    refine g_callV (rest := []) B M_X12_takesRecord q2762 q2764 qs74 (P.1.choose_spec.choose_spec) rfl (c_M_takesRecord (bs := a.cf 0) (cr := a.cf 2) P.self hln (Hch o (by omega) i (by omega) (a.goal o i r) (by omega)) Hnm.1.1 Hnm.1.2.2.1 W.cf.1.2 W.cf.2.2.1.2 (W.chl o (by omega) i (by omega) _ (by omega)).1 (W.chl o (by omega) i (by omega) _ (by omega)).2) rfl rfl (Nat.le_of_ble_eq_true rfl) (Nat.le_of_ble_eq_true rfl) (Nat.le_of_ble_eq_true rfl) (Nat.le_refl _) (Nat.le_refl _) dX12_reasonOf_35 (xkA (fun v19 T19 O19 R19 le19 p19 => ?_))
    obtain ⟨rfl, eT19, eO19, eR19⟩ := p19
    obtain rfl := eT19.symm
    obtain rfl := eO19.symm
    obtain rfl := eR19.symm
    refine g_if_neB (tgt := 61) B dX12_reasonOf_38 (by decide) (fun c20 => ?_) (fun c20 => ?_)
    · have hA : a.rsn o i = a.rsnA o i := aA.rsn_fit hls c20
      refine g_aload_n B 1 dX12_reasonOf_61 rfl ?_
      refine m_geta B P F_X12_111_12 (by decide) (Or.inr rfl) dX12_reasonOf_62 ?_
      refine g_iload_n B 0 dX12_reasonOf_65 rfl ?_
      refine m_ldz B P (by decide) rfl rfl (by show _ < 18; omega) (by decide) (show _ = (bI (a.hd o i)) from (Hhd o (by omega) i (by omega))) dX12_reasonOf_66 ?_
      refine g_if_eqB (tgt := 91) B dX12_reasonOf_67 (by decide) (fun c21 => ?_) (fun c21 => ?_)
      · have hA2 := hA.trans (aA.rsnA_0 c21)
        have hof := W.ofs 0
        have hinl := W.inp
        refine g_iload_n B 2 dX12_reasonOf_91 rfl ?_
        refine g_if_neN (tgt := 112) B (by omega) dX12_reasonOf_92 (by decide) (fun c22 => ?_) (fun c22 => ?_)
        · refine g_aload_n B 1 dX12_reasonOf_112 rfl ?_
          refine g_iload_n B 2 dX12_reasonOf_113 rfl ?_
          refine g_iload_n B 3 dX12_reasonOf_114 rfl ?_
          refine g_callV (rest := []) B M_X12_ready q2790 q2792 qs81 (P.1.choose_spec.choose_spec) rfl (c_M_ready (o := o) (i := i) P.self hR W (by omega) ho hi) rfl rfl (Nat.le_of_ble_eq_true rfl) (Nat.le_of_ble_eq_true rfl) (Nat.le_of_ble_eq_true rfl) (Nat.le_refl _) (Nat.le_refl _) dX12_reasonOf_115 (xkA (fun v23 T23 O23 R23 le23 p23 => ?_))
          obtain ⟨rfl, eT23, eO23, eR23⟩ := p23
          obtain rfl := eT23.symm
          obtain rfl := eO23.symm
          obtain rfl := eR23.symm
          have hpq := W.p1 (o - 1) (by omega)
          rcases hrd : a.ready o i with _ | f
          · refine g_top (show Value.int _ = .int (-1) from rfl) ?_
            refine g_if_lt (tgt := 123) B dX12_reasonOf_118 (by decide) (fun c => ?_) (fun c => absurd (by decide) c)
            have hb7 := aBits_le (a.sp o i)
            refine g_aload_n B 1 dX12_reasonOf_123 rfl ?_
            refine m_geta B P F_X12_105_12 (by decide) (Or.inl rfl) dX12_reasonOf_124 ?_
            refine g_iload_n B 0 dX12_reasonOf_127 rfl ?_
            refine m_ld B P (by decide) rfl rfl (by show _ < 18; omega) (by decide) (show _ = (nI (aBits (a.sp o i))) from (Hsp o (by omega) i (by omega))) dX12_reasonOf_128 ?_
            refine g_if_neN (tgt := 134) B (by omega) dX12_reasonOf_129 (by decide) (fun c24 => ?_) (fun c24 => ?_)
            · refine g_aload_n B 1 dX12_reasonOf_134 rfl ?_
              refine g_iconst (v := nI 0) B dX12_reasonOf_135 (by decide) ?_
              refine m_put B P F_X12_393_12 (by decide) (Or.inl rfl) rfl rfl rfl dX12_reasonOf_136 (fun O25 sc25 hs25 hk25 P25 => ?_)
              obtain ⟨g, hg, hgs⟩ := hspf o i (by omega) ho hi
              have L : ∀ (d : Nat) (x : Nat) (O1 R1 : xO) (sc1 : Nat → Int32) (ar1 : Nat → Nat → Int32), d = g - x → PM m ad O R sc1 ar1 T O1 R1 → (sc1 78 = nI x) → (∀ k, k ≠ 78 → sc1 k = sc k) → (ar1 = ar) → (∀ j, j < x → a.sp o i j = true) → xV Z (T, O1, R1) 139 [(3, .int (nI (3 * o + i))), (0, .ref m), (1, .int (nI o)), (2, .int (nI i))] [] 0 0 := by
                intro d
                induction d using Nat.strongRecOn with
                | _ d ih =>
                  intro x O1 R1 sc1 ar1 hd P1 i1 i2 i3 i4
                  have hxg : x ≤ g := by rcases Nat.lt_or_ge g x with e | e; (rw [i4 g e] at hgs; cases hgs); exact e
                  refine g_aload_n B 1 dX12_reasonOf_139 rfl ?_
                  refine m_geta B P1 F_X12_105_12 (by decide) (Or.inl rfl) dX12_reasonOf_140 ?_
                  refine g_iload_n B 0 dX12_reasonOf_143 rfl ?_
                  refine m_ld B P1 (by decide) rfl rfl (by show _ < 18; omega) (by decide) (show _ = (nI (aBits (a.sp o i))) from ((congrFun (congrFun i3 43) _).trans (Hsp o (by omega) i (by omega)))) dX12_reasonOf_144 ?_
                  refine g_aload_n B 1 dX12_reasonOf_145 rfl ?_
                  refine m_get B P1 F_X12_393_12 (by decide) (Or.inl rfl) (show _ = (nI x) from i1) dX12_reasonOf_146 ?_
                  refine g_ishr B dX12_reasonOf_149 ?_
                  refine g_iconst (v := nI 1) B dX12_reasonOf_150 (by decide) ?_
                  refine g_iand B dX12_reasonOf_151 ?_
                  refine g_top (show Value.int _ = .int (bI (a.sp o i x)) from by rw [aBits_bit (by omega)]) ?_
                  refine g_iconst (v := nI 1) B dX12_reasonOf_152 (by decide) ?_
                  refine g_icmp_ne (tgt := 169) B dX12_reasonOf_153 (by decide) (fun c301 => ?_) (fun c301 => ?_)
                  · refine g_iconst (v := nI 3) B dX12_reasonOf_169 (by decide) ?_
                    have hb : a.sp o i x = false := by cases hq : a.sp o i x; rfl; exact absurd (by rw [hq]; rfl) c301
                    have hR0 : a.rsn o i = (3, x) := by rw [hA2, aA.rsnB, if_neg c22, hrd, if_neg (by decide), if_neg c24, aA.cbit_at (by omega) i4 hb]
                    refine g_iret B E rfl rfl dX12_reasonOf_170 ?_
                    exact ⟨_, rfl, rfl, _, _, P1, by rw [hR0], by rw [hR0]; exact fun _ => i1, i3, i2⟩
                  · refine g_aload_n B 1 dX12_reasonOf_156 rfl ?_
                    refine g_dup B dX12_reasonOf_157 rfl ?_
                    refine m_get B P1 F_X12_393_12 (by decide) (Or.inl rfl) (show _ = (nI x) from i1) dX12_reasonOf_158 ?_
                    refine g_iconst (v := nI 1) B dX12_reasonOf_161 (by decide) ?_
                    refine g_iaddN B dX12_reasonOf_162 ?_
                    refine m_put B P1 F_X12_393_12 (by decide) (Or.inl rfl) rfl rfl rfl dX12_reasonOf_163 (fun O302 sc302 hs302 hk302 P302 => ?_)
                    refine g_goto (tgt := 139) B dX12_reasonOf_166 (by decide) ?_
                    have hb := bI_1.mp c301
                    have hxg2 : x < g := by rcases Nat.lt_or_ge x g with e | e; exact e; (have e2 : x = g := by omega); rw [e2, hgs] at hb; cases hb
                    exact ih (g - (x + 1)) (by omega) (x + 1) _ _ _ _ rfl P302 hs302 (fun k hk => (hk302 k hk).trans (i2 k hk)) i3 (fun j hj => by rcases (show j < x ∨ j = x by omega) with e | e; exact i4 j e; rw [e]; exact hb)
              exact L _ 0 _ _ _ _ rfl P25 hs25 hk25 rfl (fun j hj => absurd hj (Nat.not_lt_zero j))
            · refine g_iconst (v := nI 4) B dX12_reasonOf_132 (by decide) ?_
              refine g_iret B E rfl rfl dX12_reasonOf_133 ?_
              have hR0 : a.rsn o i = (4, 0) := by rw [hA2, aA.rsnB, if_neg c22, hrd, if_neg (by decide), if_pos (by omega)]
              exact ⟨_, rfl, rfl, _, _, P, by rw [hR0], by rw [hR0]; exact fun h => absurd h (by decide), rfl, fun _ _ => rfl⟩
          · refine g_top (show Value.int _ = .int (nI f) from rfl) ?_
            obtain ⟨hf, -, -⟩ := aA.ready_some hrd (by omega)
            refine g_if_ltN (tgt := 123) B (by omega) dX12_reasonOf_118 (by decide) ?_
            refine g_iconst (v := nI 5) B dX12_reasonOf_121 (by decide) ?_
            refine g_iret B E rfl rfl dX12_reasonOf_122 ?_
            have hR0 : a.rsn o i = (5, 0) := by rw [hA2, aA.rsnB, if_neg c22, hrd]; rfl
            exact ⟨_, rfl, rfl, _, _, P, by rw [hR0], by rw [hR0]; exact fun h => absurd h (by decide), rfl, fun _ _ => rfl⟩
        · refine g_aload_n B 1 dX12_reasonOf_95 rfl ?_
          refine m_get B P F_X12_271_12 (by decide) (Or.inl rfl) (show _ = (nI (a.of 0)) from Hnm.2.1.1) dX12_reasonOf_96 ?_
          refine g_aload_n B 1 dX12_reasonOf_99 rfl ?_
          refine m_get B P F_X12_275_12 (by decide) (Or.inl rfl) (show _ = (nI a.inp.length) from Hinp.1) dX12_reasonOf_100 ?_
          refine g_icmp_neN (tgt := 110) B (by omega) (by omega) dX12_reasonOf_103 (by decide) (fun c26 => ?_) (fun c26 => ?_)
          · refine g_iconst (v := nI 5) B dX12_reasonOf_110 (by decide) ?_
            refine g_iret B E rfl rfl dX12_reasonOf_111 ?_
            have hR0 : a.rsn o i = (5, 0) := by rw [hA2, aA.rsnB, if_pos c22, if_neg c26]
            exact ⟨_, rfl, rfl, _, _, P, by rw [hR0], by rw [hR0]; exact fun h => absurd h (by decide), rfl, fun _ _ => rfl⟩
          · refine g_iconst (v := nI 4) B dX12_reasonOf_106 (by decide) ?_
            refine g_goto (tgt := 111) B dX12_reasonOf_107 (by decide) ?_
            refine g_iret B E rfl rfl dX12_reasonOf_111 ?_
            have hR0 : a.rsn o i = (4, 0) := by rw [hA2, aA.rsnB, if_pos c22, if_pos c26]
            exact ⟨_, rfl, rfl, _, _, P, by rw [hR0], by rw [hR0]; exact fun h => absurd h (by decide), rfl, fun _ _ => rfl⟩
      · refine g_aload_n B 1 dX12_reasonOf_70 rfl ?_
        refine g_iload_n B 2 dX12_reasonOf_71 rfl ?_
        refine g_iload_n B 3 dX12_reasonOf_72 rfl ?_
        refine g_callV (rest := []) B M_X12_refusing q2770 q2772 qs76 (P.1.choose_spec.choose_spec) rfl (c_M_refusing (o := o) (i := i) P.self hR W (aA.usedh W c21).1 (by omega)) rfl rfl (Nat.le_of_ble_eq_true rfl) (Nat.le_of_ble_eq_true rfl) (Nat.le_of_ble_eq_true rfl) (Nat.le_refl _) (Nat.le_refl _) dX12_reasonOf_73 (xkA (fun v27 T27 O27 R27 le27 p27 => ?_))
        obtain ⟨rfl, eT27, eO27, eR27⟩ := p27
        obtain rfl := eT27.symm
        obtain rfl := eO27.symm
        obtain rfl := eR27.symm
        rcases hbr : a.bar o i with _ | f
        · refine g_top (show Value.int _ = .int (-1) from rfl) ?_
          refine g_if_lt (tgt := 91) B dX12_reasonOf_76 (by decide) (fun c => ?_) (fun c => absurd (by decide) c)
          have hA2 := hA.trans (aA.rsnA_n c21 hbr)
          have hof := W.ofs 0
          have hinl := W.inp
          refine g_iload_n B 2 dX12_reasonOf_91 rfl ?_
          refine g_if_neN (tgt := 112) B (by omega) dX12_reasonOf_92 (by decide) (fun c28 => ?_) (fun c28 => ?_)
          · refine g_aload_n B 1 dX12_reasonOf_112 rfl ?_
            refine g_iload_n B 2 dX12_reasonOf_113 rfl ?_
            refine g_iload_n B 3 dX12_reasonOf_114 rfl ?_
            refine g_callV (rest := []) B M_X12_ready q2790 q2792 qs81 (P.1.choose_spec.choose_spec) rfl (c_M_ready (o := o) (i := i) P.self hR W (by omega) ho hi) rfl rfl (Nat.le_of_ble_eq_true rfl) (Nat.le_of_ble_eq_true rfl) (Nat.le_of_ble_eq_true rfl) (Nat.le_refl _) (Nat.le_refl _) dX12_reasonOf_115 (xkA (fun v29 T29 O29 R29 le29 p29 => ?_))
            obtain ⟨rfl, eT29, eO29, eR29⟩ := p29
            obtain rfl := eT29.symm
            obtain rfl := eO29.symm
            obtain rfl := eR29.symm
            have hpq := W.p1 (o - 1) (by omega)
            rcases hrd : a.ready o i with _ | f
            · refine g_top (show Value.int _ = .int (-1) from rfl) ?_
              refine g_if_lt (tgt := 123) B dX12_reasonOf_118 (by decide) (fun c => ?_) (fun c => absurd (by decide) c)
              have hb7 := aBits_le (a.sp o i)
              refine g_aload_n B 1 dX12_reasonOf_123 rfl ?_
              refine m_geta B P F_X12_105_12 (by decide) (Or.inl rfl) dX12_reasonOf_124 ?_
              refine g_iload_n B 0 dX12_reasonOf_127 rfl ?_
              refine m_ld B P (by decide) rfl rfl (by show _ < 18; omega) (by decide) (show _ = (nI (aBits (a.sp o i))) from (Hsp o (by omega) i (by omega))) dX12_reasonOf_128 ?_
              refine g_if_neN (tgt := 134) B (by omega) dX12_reasonOf_129 (by decide) (fun c30 => ?_) (fun c30 => ?_)
              · refine g_aload_n B 1 dX12_reasonOf_134 rfl ?_
                refine g_iconst (v := nI 0) B dX12_reasonOf_135 (by decide) ?_
                refine m_put B P F_X12_393_12 (by decide) (Or.inl rfl) rfl rfl rfl dX12_reasonOf_136 (fun O31 sc31 hs31 hk31 P31 => ?_)
                obtain ⟨g, hg, hgs⟩ := hspf o i (by omega) ho hi
                have L : ∀ (d : Nat) (x : Nat) (O1 R1 : xO) (sc1 : Nat → Int32) (ar1 : Nat → Nat → Int32), d = g - x → PM m ad O R sc1 ar1 T O1 R1 → (sc1 78 = nI x) → (∀ k, k ≠ 78 → sc1 k = sc k) → (ar1 = ar) → (∀ j, j < x → a.sp o i j = true) → xV Z (T, O1, R1) 139 [(3, .int (nI (3 * o + i))), (0, .ref m), (1, .int (nI o)), (2, .int (nI i))] [] 0 0 := by
                  intro d
                  induction d using Nat.strongRecOn with
                  | _ d ih =>
                    intro x O1 R1 sc1 ar1 hd P1 i1 i2 i3 i4
                    have hxg : x ≤ g := by rcases Nat.lt_or_ge g x with e | e; (rw [i4 g e] at hgs; cases hgs); exact e
                    refine g_aload_n B 1 dX12_reasonOf_139 rfl ?_
                    refine m_geta B P1 F_X12_105_12 (by decide) (Or.inl rfl) dX12_reasonOf_140 ?_
                    refine g_iload_n B 0 dX12_reasonOf_143 rfl ?_
                    refine m_ld B P1 (by decide) rfl rfl (by show _ < 18; omega) (by decide) (show _ = (nI (aBits (a.sp o i))) from ((congrFun (congrFun i3 43) _).trans (Hsp o (by omega) i (by omega)))) dX12_reasonOf_144 ?_
                    refine g_aload_n B 1 dX12_reasonOf_145 rfl ?_
                    refine m_get B P1 F_X12_393_12 (by decide) (Or.inl rfl) (show _ = (nI x) from i1) dX12_reasonOf_146 ?_
                    refine g_ishr B dX12_reasonOf_149 ?_
                    refine g_iconst (v := nI 1) B dX12_reasonOf_150 (by decide) ?_
                    refine g_iand B dX12_reasonOf_151 ?_
                    refine g_top (show Value.int _ = .int (bI (a.sp o i x)) from by rw [aBits_bit (by omega)]) ?_
                    refine g_iconst (v := nI 1) B dX12_reasonOf_152 (by decide) ?_
                    refine g_icmp_ne (tgt := 169) B dX12_reasonOf_153 (by decide) (fun c301 => ?_) (fun c301 => ?_)
                    · refine g_iconst (v := nI 3) B dX12_reasonOf_169 (by decide) ?_
                      have hb : a.sp o i x = false := by cases hq : a.sp o i x; rfl; exact absurd (by rw [hq]; rfl) c301
                      have hR0 : a.rsn o i = (3, x) := by rw [hA2, aA.rsnB, if_neg c28, hrd, if_neg (by decide), if_neg c30, aA.cbit_at (by omega) i4 hb]
                      refine g_iret B E rfl rfl dX12_reasonOf_170 ?_
                      exact ⟨_, rfl, rfl, _, _, P1, by rw [hR0], by rw [hR0]; exact fun _ => i1, i3, i2⟩
                    · refine g_aload_n B 1 dX12_reasonOf_156 rfl ?_
                      refine g_dup B dX12_reasonOf_157 rfl ?_
                      refine m_get B P1 F_X12_393_12 (by decide) (Or.inl rfl) (show _ = (nI x) from i1) dX12_reasonOf_158 ?_
                      refine g_iconst (v := nI 1) B dX12_reasonOf_161 (by decide) ?_
                      refine g_iaddN B dX12_reasonOf_162 ?_
                      refine m_put B P1 F_X12_393_12 (by decide) (Or.inl rfl) rfl rfl rfl dX12_reasonOf_163 (fun O302 sc302 hs302 hk302 P302 => ?_)
                      refine g_goto (tgt := 139) B dX12_reasonOf_166 (by decide) ?_
                      have hb := bI_1.mp c301
                      have hxg2 : x < g := by rcases Nat.lt_or_ge x g with e | e; exact e; (have e2 : x = g := by omega); rw [e2, hgs] at hb; cases hb
                      exact ih (g - (x + 1)) (by omega) (x + 1) _ _ _ _ rfl P302 hs302 (fun k hk => (hk302 k hk).trans (i2 k hk)) i3 (fun j hj => by rcases (show j < x ∨ j = x by omega) with e | e; exact i4 j e; rw [e]; exact hb)
                exact L _ 0 _ _ _ _ rfl P31 hs31 hk31 rfl (fun j hj => absurd hj (Nat.not_lt_zero j))
              · refine g_iconst (v := nI 4) B dX12_reasonOf_132 (by decide) ?_
                refine g_iret B E rfl rfl dX12_reasonOf_133 ?_
                have hR0 : a.rsn o i = (4, 0) := by rw [hA2, aA.rsnB, if_neg c28, hrd, if_neg (by decide), if_pos (by omega)]
                exact ⟨_, rfl, rfl, _, _, P, by rw [hR0], by rw [hR0]; exact fun h => absurd h (by decide), rfl, fun _ _ => rfl⟩
            · refine g_top (show Value.int _ = .int (nI f) from rfl) ?_
              obtain ⟨hf, -, -⟩ := aA.ready_some hrd (by omega)
              refine g_if_ltN (tgt := 123) B (by omega) dX12_reasonOf_118 (by decide) ?_
              refine g_iconst (v := nI 5) B dX12_reasonOf_121 (by decide) ?_
              refine g_iret B E rfl rfl dX12_reasonOf_122 ?_
              have hR0 : a.rsn o i = (5, 0) := by rw [hA2, aA.rsnB, if_neg c28, hrd]; rfl
              exact ⟨_, rfl, rfl, _, _, P, by rw [hR0], by rw [hR0]; exact fun h => absurd h (by decide), rfl, fun _ _ => rfl⟩
          · refine g_aload_n B 1 dX12_reasonOf_95 rfl ?_
            refine m_get B P F_X12_271_12 (by decide) (Or.inl rfl) (show _ = (nI (a.of 0)) from Hnm.2.1.1) dX12_reasonOf_96 ?_
            refine g_aload_n B 1 dX12_reasonOf_99 rfl ?_
            refine m_get B P F_X12_275_12 (by decide) (Or.inl rfl) (show _ = (nI a.inp.length) from Hinp.1) dX12_reasonOf_100 ?_
            refine g_icmp_neN (tgt := 110) B (by omega) (by omega) dX12_reasonOf_103 (by decide) (fun c32 => ?_) (fun c32 => ?_)
            · refine g_iconst (v := nI 5) B dX12_reasonOf_110 (by decide) ?_
              refine g_iret B E rfl rfl dX12_reasonOf_111 ?_
              have hR0 : a.rsn o i = (5, 0) := by rw [hA2, aA.rsnB, if_pos c28, if_neg c32]
              exact ⟨_, rfl, rfl, _, _, P, by rw [hR0], by rw [hR0]; exact fun h => absurd h (by decide), rfl, fun _ _ => rfl⟩
            · refine g_iconst (v := nI 4) B dX12_reasonOf_106 (by decide) ?_
              refine g_goto (tgt := 111) B dX12_reasonOf_107 (by decide) ?_
              refine g_iret B E rfl rfl dX12_reasonOf_111 ?_
              have hR0 : a.rsn o i = (4, 0) := by rw [hA2, aA.rsnB, if_pos c28, if_pos c32]
              exact ⟨_, rfl, rfl, _, _, P, by rw [hR0], by rw [hR0]; exact fun h => absurd h (by decide), rfl, fun _ _ => rfl⟩
        · refine g_top (show Value.int _ = .int (nI f) from rfl) ?_
          have hfl : f < 2 ^ 31 := by have := List.mem_range.mp (List.mem_of_find?_eq_some hbr); have := W.p1 (o + 1) (aA.usedh W c21).1; omega
          refine g_if_ltN (tgt := 91) B hfl dX12_reasonOf_76 (by decide) ?_
          refine g_aload_n B 1 dX12_reasonOf_79 rfl ?_
          refine g_aload_n B 1 dX12_reasonOf_80 rfl ?_
          refine g_iload_n B 2 dX12_reasonOf_81 rfl ?_
          refine g_iload_n B 3 dX12_reasonOf_82 rfl ?_
          refine g_callV (rest := [_]) B M_X12_refusing q2770 q2772 qs76 (P.1.choose_spec.choose_spec) rfl (c_M_refusing (o := o) (i := i) P.self hR W (aA.usedh W c21).1 (by omega)) rfl rfl (Nat.le_of_ble_eq_true rfl) (Nat.le_of_ble_eq_true rfl) (Nat.le_of_ble_eq_true rfl) (Nat.le_refl _) (Nat.le_refl _) dX12_reasonOf_83 (xkA (fun v33 T33 O33 R33 le33 p33 => ?_))
          obtain ⟨rfl, eT33, eO33, eR33⟩ := p33
          obtain rfl := eT33.symm
          obtain rfl := eO33.symm
          obtain rfl := eR33.symm
          rw [hbr]
          refine g_top (show Value.int _ = .int (nI f) from rfl) ?_
          refine m_put B P F_X12_393_12 (by decide) (Or.inl rfl) rfl rfl rfl dX12_reasonOf_86 (fun O34 sc34 hs34 hk34 P34 => ?_)
          refine g_iconst (v := nI 2) B dX12_reasonOf_89 (by decide) ?_
          refine g_iret B E rfl rfl dX12_reasonOf_90 ?_
          have hR0 : a.rsn o i = (2, f) := hA.trans (aA.rsnA_s c21 hbr)
          exact ⟨_, rfl, rfl, _, _, P34, by rw [hR0], by rw [hR0]; exact fun _ => hs34, rfl, hk34⟩
    · refine g_aload_n B 1 dX12_reasonOf_41 rfl ?_
      refine g_aload_n B 1 dX12_reasonOf_42 rfl ?_
      refine g_iload_n B 2 dX12_reasonOf_43 rfl ?_
      refine g_iload_n B 3 dX12_reasonOf_44 rfl ?_
      refine g_aload_n B 1 dX12_reasonOf_45 rfl ?_
      refine m_geta B P F_X12_96_12 (by decide) (Or.inl rfl) dX12_reasonOf_46 ?_
      refine g_iconst (v := nI 3) B dX12_reasonOf_49 (by decide) ?_
      refine g_iload_n B 0 dX12_reasonOf_50 rfl ?_
      refine g_imulN B dX12_reasonOf_51 ?_
      refine m_ld B P (by decide) rfl rfl (by show _ < 54; omega) (by decide) (show _ = (nI r.1) from hr40) dX12_reasonOf_52 ?_
      refine g_callV (rest := [_]) B M_X12_goal q2747 q2749 qs71 (P.1.choose_spec.choose_spec) rfl (c_M_goal (o := o) (i := i) (r := r) P.self hR hon (by omega) (by omega) (W.kd8 hon) hrk (W.p1 _ hon) (by omega)) rfl rfl (Nat.le_of_ble_eq_true rfl) (Nat.le_of_ble_eq_true rfl) (Nat.le_of_ble_eq_true rfl) (Nat.le_refl _) (Nat.le_refl _) dX12_reasonOf_53 (xkA (fun v35 T35 O35 R35 le35 p35 => ?_))
      obtain ⟨rfl, eT35, eO35, eR35⟩ := p35
      obtain rfl := eT35.symm
      obtain rfl := eO35.symm
      obtain rfl := eR35.symm
      refine m_put B P F_X12_393_12 (by decide) (Or.inl rfl) rfl rfl rfl dX12_reasonOf_56 (fun O36 sc36 hs36 hk36 P36 => ?_)
      refine g_iconst (v := nI 1) B dX12_reasonOf_59 (by decide) ?_
      refine g_iret B E rfl rfl dX12_reasonOf_60 ?_
      have hR0 : a.rsn o i = (1, a.goal o i r) := aA.rsn_1 hls c20
      exact ⟨_, rfl, rfl, _, _, P36, by rw [hR0], by rw [hR0]; exact fun _ => hs36, rfl, hk36⟩
/-- the levels of an explanation -/
def aA.expl (a : aA) : Nat → Nat → Nat → List (Nat × Nat)
  | 0, _, _ => []
  | k + 1, o, i => (10 * o + i, (a.rsn o i).1) :: (if (a.rsn o i).1 < 4 then aA.expl a k (if (a.rsn o i).1 < 3 then o + 1 else o - 1) (a.rsn o i).2 else [])
theorem aA.expl_len (a : aA) (k o i : Nat) : (a.expl k o i).length ≤ k := by
  induction k generalizing o i with
  | zero => exact Nat.le_refl 0
  | succ k ih =>
    show (if (a.rsn o i).1 < 4 then aA.expl a k (if (a.rsn o i).1 < 3 then o + 1 else o - 1) (a.rsn o i).2 else []).length + 1 ≤ k + 1
    split
    · have := ih (if (a.rsn o i).1 < 3 then o + 1 else o - 1) (a.rsn o i).2
      omega
    · simp
/-- what a reason says of the next one -/
theorem WF.rsn {B : Nat} {a : aA} (W : WF B a) (hs : a.spf) {o i : Nat} (ho : o < a.n) (hi : i < a.p o) : (a.rsn o i).1 ≤ 5 ∧ ((a.rsn o i).1 < 3 → o + 1 < a.n ∧ (a.rsn o i).2 < a.p (o + 1)) ∧ ((a.rsn o i).1 = 3 → 0 < o ∧ (a.rsn o i).2 < a.p (o - 1)) := by
  have hB : (a.rsnB o i).1 ≤ 5 ∧ ((a.rsnB o i).1 < 3 → o + 1 < a.n ∧ (a.rsnB o i).2 < a.p (o + 1)) ∧ ((a.rsnB o i).1 = 3 → 0 < o ∧ (a.rsnB o i).2 < a.p (o - 1)) := by
    unfold aA.rsnB
    split
    · split
      · exact ⟨by decide, fun e => absurd e (by decide), fun e => absurd e (by decide)⟩
      · exact ⟨by decide, fun e => absurd e (by decide), fun e => absurd e (by decide)⟩
    · rename_i h0
      split
      · exact ⟨by decide, fun e => absurd e (by decide), fun e => absurd e (by decide)⟩
      · split
        · exact ⟨by decide, fun e => absurd e (by decide), fun e => absurd e (by decide)⟩
        · refine ⟨by simp, fun e => absurd e (by simp), fun _ => ⟨by omega, ?_⟩⟩
          obtain ⟨g, hg, hgs⟩ := hs o i (by omega) ho hi
          have hp := (W.p1 (o - 1) (by omega)).2
          show a.cbit o i < a.p (o - 1)
          have hm : ∃ x, x ≤ g ∧ (∀ j, j < x → a.sp o i j = true) ∧ a.sp o i x = false := by
            rcases (show g = 0 ∨ g = 1 ∨ g = 2 by omega) with rfl | rfl | rfl
            · exact ⟨0, by omega, fun j hj => by omega, hgs⟩
            · cases h0 : a.sp o i 0
              · exact ⟨0, by omega, fun j hj => by omega, h0⟩
              · exact ⟨1, by omega, fun j hj => by rw [show j = 0 by omega]; exact h0, hgs⟩
            · cases h0 : a.sp o i 0
              · exact ⟨0, by omega, fun j hj => by omega, h0⟩
              · cases h1 : a.sp o i 1
                · exact ⟨1, by omega, fun j hj => by rw [show j = 0 by omega]; exact h0, h1⟩
                · exact ⟨2, by omega, fun j hj => by rcases (show j = 0 ∨ j = 1 by omega) with rfl | rfl; exact h0; exact h1, hgs⟩
          obtain ⟨x, hx, hx1, hx2⟩ := hm
          rw [aA.cbit_at (by omega) hx1 hx2]
          omega
  have hA : (a.rsnA o i).1 ≤ 5 ∧ ((a.rsnA o i).1 < 3 → o + 1 < a.n ∧ (a.rsnA o i).2 < a.p (o + 1)) ∧ ((a.rsnA o i).1 = 3 → 0 < o ∧ (a.rsnA o i).2 < a.p (o - 1)) := by
    cases hh : a.hd o i
    · rw [aA.rsnA_0 hh]; exact hB
    · cases hb : a.bar o i with
      | none => rw [aA.rsnA_n hh hb]; exact hB
      | some f =>
        rw [aA.rsnA_s hh hb]
        exact ⟨by simp, fun _ => ⟨(aA.usedh W hh).1, List.mem_range.mp (List.mem_of_find?_eq_some hb)⟩, fun e => absurd e (by simp)⟩
  cases hl : a.ls o i with
  | nil => rw [aA.rsn_nil (by rw [hl]; rfl)]; exact hA
  | cons r rest =>
    cases hf : cFit (a.cf 0) (a.cf 2) (a.ch o i (a.goal o i r))
    · rw [aA.rsn_1 hl hf]
      have := (aA.used W (o := o) (i := i) (by rw [hl]; exact Nat.succ_pos _)).1
      exact ⟨by simp, fun _ => ⟨this, W.goal this⟩, fun e => absurd e (by simp)⟩
    · rw [aA.rsn_fit hl hf]; exact hA
def aA.exF (a : aA) (o i : Int32) : Int32 × aA :=
  if inB o (nI 0) (nI (a.n - 2 + 1)) = true ∧ inB i (nI 0) (nI (a.p o.toNatClampNeg - 1)) = true then (nI (a.expl 8 o.toNatClampNeg i.toNatClampNeg).length, a.w_ex (a.expl 8 o.toNatClampNeg i.toNatClampNeg))
  else (-1000000001, a)
/-- explanations as far as they go -/
theorem RMex.app {l : List (Nat × Nat)} {n n2 : Int32} {f g f2 g2 : Nat → Int32} {x y : Nat} (h : RMex l n f g) (hl : l.length < 8) (e : n2 = nI (l.length + 1)) (e1 : f2 = va_up f l.length (nI x)) (e2 : g2 = va_up g l.length (nI y)) : RMex (l ++ [(x, y)]) n2 f2 g2 := by
  refine ⟨by rw [List.length_append]; exact e, by rw [List.length_append]; exact hl, fun i hi => ?_⟩
  have hi2 : i < l.length + 1 := by simpa using hi
  rw [e1, e2]
  by_cases c1 : i < l.length
  · rw [va_upe (by omega), va_upe (by omega), (h.2.2 i c1).1, (h.2.2 i c1).2]
    simp [List.getD_eq_getElem?_getD, List.getElem?_append_left c1]
  · have : i = l.length := by omega
    subst this
    rw [va_ups, va_ups]
    simp [List.getD_eq_getElem?_getD]
theorem RepM.ex3 {a : aA} {l l2 : List (Nat × Nat)} {sc sc2 : Nat → Int32} {ar ar2 : Nat → Nat → Int32} (h : RepM (a.w_ex l) sc ar) (ut : ∀ k, k ∉ ([75, 76] : List Nat) → ar2 k = ar k) (hkz : ∀ k, k ≠ 77 → sc2 k = sc k) (n : RMex l2 (sc2 77) (ar2 75) (ar2 76)) : RepM (a.w_ex l2) sc2 ar2 := h.ex2 ut hkz n
theorem WF.w_ex {B : Nat} {a : aA} (h : WF B a) (l : List (Nat × Nat)) : WF B (a.w_ex l) := ⟨h.n2, h.n6, h.p1, h.p0, h.k0, h.kl, h.km, h.k3, h.kr, h.cf, h.inp, h.inpk, h.ofs, h.nms, h.ls, h.lsu, h.ch, h.chu, h.ct, h.ctl, h.st, h.stu, h.pt, h.hdu, h.spu, h.bg⟩
theorem c_M_explain {G : xG} {T : xT} {O R : xO} {m : Nat} {ad : Nat → Nat} {sc : Nat → Int32} {ar : Nat → Nat → Int32} {Bd : Nat} {o i : Int32} (P : PM m ad O R sc ar T O R) {a : aA} (H : RepM a sc ar) (W : WF Bd a) (hB : Bd ≤ 2 ^ 30) (hspf : a.spf) : xCtr G yX12_explain cX12_explain 7 (some Jvm.ClassFile.FieldType.int) 3 70 0 0 [.ref m, .int o, .int i] (T, O, R) (xA (mPost m ad T O R (fun v sc2 ar2 => v = .int (a.exF o i).1 ∧ RepM (a.exF o i).2 sc2 ar2))) := by
  have hR := H
  obtain ⟨Htxt, Hop, Hinp, Hnm, Hstt, ⟨Hs0, Hs1, Hs2⟩, ⟨Hc0, Hc1, Hc2⟩, Hls, Hsp, Hpt, Hhd, Hch, Hex, Hwr⟩ := H
  have hn2 := W.n2
  have hn6 := W.n6
  refine xCtr.of (by decide +kernel) (Nat.le_of_ble_eq_true rfl) ?_
  intro Z B E hz hnm
  change xV Z (T, O, R) 0 [(0, .ref m), (1, .int o), (2, .int i)] [] 0 0
  refine g_aload_n B 0 dX12_explain_0 rfl ?_
  refine g_iload_n B 1 dX12_explain_1 rfl ?_
  refine g_callV (rest := []) B M_X12_isOperator q2842 q2844 qs89 (P.1.choose_spec.choose_spec) rfl (c_M_isOperator P.self hR (x := o)) rfl rfl (Nat.le_of_ble_eq_true rfl) (Nat.le_of_ble_eq_true rfl) (Nat.le_of_ble_eq_true rfl) (Nat.le_refl _) (Nat.le_refl _) dX12_explain_2 (xkA (fun v1 T1 O1 R1 le1 p1 => ?_))
  obtain ⟨rfl, eT1, eO1, eR1⟩ := p1
  obtain rfl := eT1.symm
  obtain rfl := eO1.symm
  obtain rfl := eR1.symm
  refine g_if_eqB (tgt := 24) B dX12_explain_5 (by decide) (fun c2 => ?_) (fun c2 => ?_)
  · refine g_ldcw (v := (-1000000001)) B q2846 dX12_explain_24 ?_
    refine g_iret B E rfl rfl dX12_explain_27 ?_
    have hF : a.exF o i = (-1000000001, a) := by rw [aA.exF, if_neg (fun h => by have h3 := h.1; rw [c2] at h3; exact Bool.noConfusion h3)]
    exact ⟨_, rfl, rfl, _, _, P, by rw [hF], by rw [hF]; exact hR⟩
  · have hbo := c2
    obtain ⟨no, h_no, e_no⟩ := inB_nI (by omega) hbo
    have hc_no : o.toNatClampNeg = no := by rw [e_no]; exact nI_clamp (by omega)
    subst e_no
    have hpp := W.p1 no (by omega)
    refine g_iload_n B 2 dX12_explain_8 rfl ?_
    refine g_iconst (v := nI 0) B dX12_explain_9 (by decide) ?_
    refine g_aload_n B 0 dX12_explain_10 rfl ?_
    refine m_geta B P F_X12_22_12 (by decide) (Or.inl rfl) dX12_explain_11 ?_
    refine g_iload_n B 1 dX12_explain_14 rfl ?_
    refine m_ld B P (by decide) rfl rfl (by show _ < 6; omega) (by decide) (show _ = (nI (a.p no)) from (Hop.2 no (by omega)).2.2.2) dX12_explain_15 ?_
    refine g_iconst (v := nI 1) B dX12_explain_16 (by decide) ?_
    refine g_isubN B (by omega) dX12_explain_17 ?_
    refine g_callS (rest := []) B M_X12_isIn q2663 q2664 (c_M_isIn (x := i) (lo := (nI 0)) (hi := (nI ((a.p no) - 1)))) rfl rfl (Nat.le_of_ble_eq_true rfl) (Nat.le_of_ble_eq_true rfl) (Nat.le_of_ble_eq_true rfl) (Nat.le_refl _) (Nat.le_refl _) dX12_explain_18 (xkA (fun v3 T3 O3 R3 le3 p3 => ?_))
    obtain ⟨rfl, eT3, eO3, eR3⟩ := p3
    obtain rfl := eT3.symm
    obtain rfl := eO3.symm
    obtain rfl := eR3.symm
    refine g_if_neB (tgt := 28) B dX12_explain_21 (by decide) (fun c4 => ?_) (fun c4 => ?_)
    · have hbi := c4
      obtain ⟨ni, h_ni, e_ni⟩ := inB_nI (by omega) hbi
      have hc_ni : i.toNatClampNeg = ni := by rw [e_ni]; exact nI_clamp (by omega)
      subst e_ni
      have hF : a.exF (nI no) (nI ni) = (nI (a.expl 8 no ni).length, a.w_ex (a.expl 8 no ni)) := by rw [aA.exF, if_pos ⟨hbo, by rw [hc_no]; exact hbi⟩, hc_no, hc_ni]
      refine g_aload_n B 0 dX12_explain_28 rfl ?_
      refine g_iconst (v := nI 0) B dX12_explain_29 (by decide) ?_
      refine m_put B P F_X12_396_12 (by decide) (Or.inl rfl) rfl rfl rfl dX12_explain_30 (fun O5 sc5 hs5 hk5 P5 => ?_)
      refine g_iload_n B 1 dX12_explain_33 rfl ?_
      refine g_istore_n (lv2 := [(3, _), (0, _), (1, _), (2, _)]) B dX12_explain_34 (by decide) rfl ?_
      refine g_iload_n B 3 dX12_explain_35 rfl ?_
      refine g_istore (lv2 := [(4, _), (3, _), (0, _), (1, _), (2, _)]) B dX12_explain_36 (by decide) rfl ?_
      refine g_iconst (v := nI 1) B dX12_explain_38 (by decide) ?_
      refine g_istore (lv2 := [(5, _), (4, _), (3, _), (0, _), (1, _), (2, _)]) B dX12_explain_39 (by decide) rfl ?_
      have H0 : RepM (a.w_ex []) sc5 ar := hR.ex2 (fun _ _ => rfl) hk5 ⟨hs5, by decide, fun i hi => absurd hi (Nat.not_lt_zero i)⟩
      have L : ∀ (d : Nat) (q j : Nat) (l : List (Nat × Nat)) (O1 R1 : xO) (sc1 : Nat → Int32) (ar1 : Nat → Nat → Int32), d = 8 - l.length → PM m ad O R sc1 ar1 T O1 R1 → (RepM (a.w_ex l) sc1 ar1) → (q < a.n) → (j < a.p q) → (l.length < 8) → (l ++ a.expl (8 - l.length) q j = a.expl 8 no ni) → xV Z (T, O1, R1) 41 [(4, .int (nI j)), (3, .int (nI q)), (5, .int (nI 1)), (0, .ref m), (1, .int (nI no)), (2, .int (nI ni))] [] 0 0 := by
        intro d
        induction d using Nat.strongRecOn with
        | _ d ih =>
          intro q j l O1 R1 sc1 ar1 hd P1 i1 i3 i4 i5 i6
          have hl8 := i1.2.2.2.2.2.2.2.2.2.2.2.2.1.2.1
          have hl82 : l.length ≤ 8 := hl8
          have W2 : WF Bd (a.w_ex l) := W.w_ex l
          have hpq := (W.p1 q i3).2
          have hrs := W.rsn hspf i3 i4
          refine g_iload B 2 dX12_explain_41 rfl ?_
          refine g_if_eqN (tgt := 137) B (by decide) dX12_explain_43 (by decide) (fun e => absurd e (by decide)) (fun _ => ?_)
          refine g_aload_n B 3 dX12_explain_46 rfl ?_
          refine g_iload_n B 1 dX12_explain_47 rfl ?_
          refine g_iload B 0 dX12_explain_48 rfl ?_
          refine g_callV (rest := []) B M_X12_reasonOf q2895 q2897 qs94 (P1.1.choose_spec.choose_spec) rfl (c_M_reasonOf (a := a.w_ex l) (o := q) (i := j) P1.self i1 W2 hB hspf i3 i4) rfl rfl (Nat.le_of_ble_eq_true rfl) (Nat.le_of_ble_eq_true rfl) (Nat.le_of_ble_eq_true rfl) (Nat.le_refl _) (Nat.le_refl _) dX12_explain_50 (xkA (fun v101 T101 O101 R101 le101 p101 => ?_))
          obtain ⟨eT101, sc101, ar101, Q101, hv101, hn101, ha101, hk101⟩ := p101
          obtain rfl := eT101.symm
          have P101 := P1.rebase Q101
          rw [hv101]
          refine g_top (show Value.int _ = .int (nI (a.rsn q j).1) from rfl) ?_
          subst ha101
          have hn : (a.rsn q j).1 ≤ 3 → sc101 78 = nI (a.rsn q j).2 := hn101
          have i2 := i1.scj (fun k hk => hk101 k (fun e => hk (by rw [e]; unfold jS; omega)))
          refine g_istore (lv2 := [(6, _), (4, _), (3, _), (5, _), (0, _), (1, _), (2, _)]) B dX12_explain_53 (by decide) rfl ?_
          refine g_aload_n B 4 dX12_explain_55 rfl ?_
          refine m_geta B P101 F_X12_187_12 (by decide) (Or.inl rfl) dX12_explain_56 ?_
          refine g_aload_n B 4 dX12_explain_59 rfl ?_
          refine m_get B P101 F_X12_396_12 (by decide) (Or.inl rfl) (show _ = (nI l.length) from i2.2.2.2.2.2.2.2.2.2.2.2.2.1.1) dX12_explain_60 ?_
          refine g_bipush (v := nI 10) B dX12_explain_63 (by decide) ?_
          refine g_iload_n B 2 dX12_explain_65 rfl ?_
          refine g_imulN B dX12_explain_66 ?_
          refine g_iload B 1 dX12_explain_67 rfl ?_
          refine g_iaddN B dX12_explain_69 ?_
          refine m_st B P101 (by decide) rfl rfl (by show _ < 8; omega) (by decide) dX12_explain_70 (fun R102 ar102 hs102 hk102 P102 => ?_)
          refine g_aload_n B 4 dX12_explain_71 rfl ?_
          refine m_geta B P102 F_X12_190_12 (by decide) (Or.inl rfl) dX12_explain_72 ?_
          refine g_aload_n B 4 dX12_explain_75 rfl ?_
          refine m_get B P102 F_X12_396_12 (by decide) (Or.inl rfl) (show _ = (nI l.length) from i2.2.2.2.2.2.2.2.2.2.2.2.2.1.1) dX12_explain_76 ?_
          refine g_iload B 0 dX12_explain_79 rfl ?_
          refine m_st B P102 (by decide) rfl rfl (by show _ < 8; omega) (by decide) dX12_explain_81 (fun R103 ar103 hs103 hk103 P103 => ?_)
          refine g_aload_n B 4 dX12_explain_82 rfl ?_
          refine g_dup B dX12_explain_83 rfl ?_
          refine m_get B P103 F_X12_396_12 (by decide) (Or.inl rfl) (show _ = (nI l.length) from i2.2.2.2.2.2.2.2.2.2.2.2.2.1.1) dX12_explain_84 ?_
          refine g_iconst (v := nI 1) B dX12_explain_87 (by decide) ?_
          refine g_iaddN B dX12_explain_88 ?_
          refine m_put B P103 F_X12_396_12 (by decide) (Or.inl rfl) rfl rfl rfl dX12_explain_89 (fun O104 sc104 hs104 hk104 P104 => ?_)
          have e75 : ar103 75 = va_up (ar101 75) l.length (nI ((10 * q) + j)) := ((hk103 75 (by decide)).trans hs102)
          have e76 : ar103 76 = va_up (ar101 76) l.length (nI ((a.rsn q j).1)) := (hs103.trans (congrArg (fun g => va_up g l.length (nI ((a.rsn q j).1))) (hk102 76 (by decide))))
          have n77 : sc104 77 = (nI (l.length + 1)) := hs104
          have H1 : RepM (a.w_ex (l ++ [(10 * q + j, (a.rsn q j).1)])) sc104 ar103 := i2.ex3 (fun k hk => (hk103 k (fun e => hk (by rw [e]; decide))).trans (hk102 k (fun e => hk (by rw [e]; decide)))) hk104 (RMex.app i2.2.2.2.2.2.2.2.2.2.2.2.2.1 (show l.length < 8 by omega) n77 e75 e76)
          have hll : (l ++ [(10 * q + j, (a.rsn q j).1)]).length = l.length + 1 := by rw [List.length_append]; rfl
          have hex : a.expl (8 - l.length) q j = (10 * q + j, (a.rsn q j).1) :: (if (a.rsn q j).1 < 4 then aA.expl a (8 - (l.length + 1)) (if (a.rsn q j).1 < 3 then q + 1 else q - 1) (a.rsn q j).2 else []) := by rw [show 8 - l.length = (8 - (l.length + 1)) + 1 by omega]; rfl
          rw [hex] at i6
          refine g_iload B 0 dX12_explain_92 rfl ?_
          refine g_iconst (v := nI 4) B dX12_explain_94 (by decide) ?_
          refine g_icmp_geN (tgt := 111) B (by omega) (by omega) dX12_explain_95 (by decide) (fun c105 => ?_) (fun c105 => ?_)
          · refine g_iconst (v := nI 0) B dX12_explain_111 (by decide) ?_
            refine g_istore (lv2 := [(5, _), (6, _), (4, _), (3, _), (0, _), (1, _), (2, _)]) B dX12_explain_112 (by decide) rfl ?_
            refine g_iload_n B 3 dX12_explain_114 rfl ?_
            refine g_iload B 1 dX12_explain_115 rfl ?_
            refine g_iconst (v := nI 3) B dX12_explain_117 (by decide) ?_
            refine g_icmp_geN (tgt := 125) B (by omega) (by omega) dX12_explain_118 (by decide) (fun c106 => ?_) (fun c106 => ?_)
            · refine g_iconst (v := (-1)) B dX12_explain_125 (by decide) ?_
              refine g_iadd B dX12_explain_126 ?_
              refine g_istore_n (lv2 := [(3, _), (5, _), (6, _), (4, _), (0, _), (1, _), (2, _)]) B dX12_explain_127 (by decide) rfl ?_
              refine g_aload_n B 4 dX12_explain_128 rfl ?_
              refine m_get B P104 F_X12_393_12 (by decide) (Or.inl rfl) (show _ = (sc101 78) from ((hk104 78 (by decide)).trans rfl)) dX12_explain_129 ?_
              refine g_istore (lv2 := [(4, _), (3, _), (5, _), (6, _), (0, _), (1, _), (2, _)]) B dX12_explain_132 (by decide) rfl ?_
              refine g_goto (tgt := 41) B dX12_explain_134 (by decide) ?_
              refine g_iload B 2 dX12_explain_41 rfl ?_
              refine g_if_eqN (tgt := 137) B (by decide) dX12_explain_43 (by decide) (fun _ => ?_) (fun e => absurd rfl e)
              refine g_aload_n B 4 dX12_explain_137 rfl ?_
              refine m_get B P104 F_X12_396_12 (by decide) (Or.inl rfl) (show _ = (nI (l.length + 1)) from hs104) dX12_explain_138 ?_
              have hE : (l ++ [(10 * q + j, (a.rsn q j).1)]) = a.expl 8 no ni := by rw [if_neg (by omega)] at i6; exact i6
              refine g_iret B E rfl rfl dX12_explain_141 ?_
              exact ⟨_, rfl, rfl, _, _, P104, by rw [hF, ← hE, hll], by rw [hF, ← hE]; exact H1⟩
            · refine g_iconst (v := nI 1) B dX12_explain_121 (by decide) ?_
              refine g_goto (tgt := 126) B dX12_explain_122 (by decide) ?_
              refine g_iaddN B dX12_explain_126 ?_
              refine g_istore_n (lv2 := [(3, _), (5, _), (6, _), (4, _), (0, _), (1, _), (2, _)]) B dX12_explain_127 (by decide) rfl ?_
              refine g_aload_n B 4 dX12_explain_128 rfl ?_
              refine m_get B P104 F_X12_393_12 (by decide) (Or.inl rfl) (show _ = (sc101 78) from ((hk104 78 (by decide)).trans rfl)) dX12_explain_129 ?_
              refine g_istore (lv2 := [(4, _), (3, _), (5, _), (6, _), (0, _), (1, _), (2, _)]) B dX12_explain_132 (by decide) rfl ?_
              refine g_goto (tgt := 41) B dX12_explain_134 (by decide) ?_
              refine g_iload B 2 dX12_explain_41 rfl ?_
              refine g_if_eqN (tgt := 137) B (by decide) dX12_explain_43 (by decide) (fun _ => ?_) (fun e => absurd rfl e)
              refine g_aload_n B 4 dX12_explain_137 rfl ?_
              refine m_get B P104 F_X12_396_12 (by decide) (Or.inl rfl) (show _ = (nI (l.length + 1)) from hs104) dX12_explain_138 ?_
              have hE : (l ++ [(10 * q + j, (a.rsn q j).1)]) = a.expl 8 no ni := by rw [if_neg (by omega)] at i6; exact i6
              refine g_iret B E rfl rfl dX12_explain_141 ?_
              exact ⟨_, rfl, rfl, _, _, P104, by rw [hF, ← hE, hll], by rw [hF, ← hE]; exact H1⟩
          · refine g_aload_n B 4 dX12_explain_98 rfl ?_
            refine m_get B P104 F_X12_396_12 (by decide) (Or.inl rfl) (show _ = (nI (l.length + 1)) from hs104) dX12_explain_99 ?_
            refine g_bipush (v := nI 8) B dX12_explain_102 (by decide) ?_
            refine g_icmp_geN (tgt := 111) B (by omega) (by omega) dX12_explain_104 (by decide) (fun c107 => ?_) (fun c107 => ?_)
            · refine g_iconst (v := nI 0) B dX12_explain_111 (by decide) ?_
              refine g_istore (lv2 := [(5, _), (6, _), (4, _), (3, _), (0, _), (1, _), (2, _)]) B dX12_explain_112 (by decide) rfl ?_
              refine g_iload_n B 3 dX12_explain_114 rfl ?_
              refine g_iload B 1 dX12_explain_115 rfl ?_
              refine g_iconst (v := nI 3) B dX12_explain_117 (by decide) ?_
              refine g_icmp_geN (tgt := 125) B (by omega) (by omega) dX12_explain_118 (by decide) (fun c108 => ?_) (fun c108 => ?_)
              · refine g_iconst (v := (-1)) B dX12_explain_125 (by decide) ?_
                refine g_iadd B dX12_explain_126 ?_
                refine g_istore_n (lv2 := [(3, _), (5, _), (6, _), (4, _), (0, _), (1, _), (2, _)]) B dX12_explain_127 (by decide) rfl ?_
                refine g_aload_n B 4 dX12_explain_128 rfl ?_
                refine m_get B P104 F_X12_393_12 (by decide) (Or.inl rfl) (show _ = (sc101 78) from ((hk104 78 (by decide)).trans rfl)) dX12_explain_129 ?_
                refine g_istore (lv2 := [(4, _), (3, _), (5, _), (6, _), (0, _), (1, _), (2, _)]) B dX12_explain_132 (by decide) rfl ?_
                refine g_goto (tgt := 41) B dX12_explain_134 (by decide) ?_
                refine g_iload B 2 dX12_explain_41 rfl ?_
                refine g_if_eqN (tgt := 137) B (by decide) dX12_explain_43 (by decide) (fun _ => ?_) (fun e => absurd rfl e)
                refine g_aload_n B 4 dX12_explain_137 rfl ?_
                refine m_get B P104 F_X12_396_12 (by decide) (Or.inl rfl) (show _ = (nI (l.length + 1)) from hs104) dX12_explain_138 ?_
                have hE : (l ++ [(10 * q + j, (a.rsn q j).1)]) = a.expl 8 no ni := by rw [show 8 - (l.length + 1) = 0 by omega] at i6; rw [← i6]; split <;> rfl
                refine g_iret B E rfl rfl dX12_explain_141 ?_
                exact ⟨_, rfl, rfl, _, _, P104, by rw [hF, ← hE, hll], by rw [hF, ← hE]; exact H1⟩
              · refine g_iconst (v := nI 1) B dX12_explain_121 (by decide) ?_
                refine g_goto (tgt := 126) B dX12_explain_122 (by decide) ?_
                refine g_iaddN B dX12_explain_126 ?_
                refine g_istore_n (lv2 := [(3, _), (5, _), (6, _), (4, _), (0, _), (1, _), (2, _)]) B dX12_explain_127 (by decide) rfl ?_
                refine g_aload_n B 4 dX12_explain_128 rfl ?_
                refine m_get B P104 F_X12_393_12 (by decide) (Or.inl rfl) (show _ = (sc101 78) from ((hk104 78 (by decide)).trans rfl)) dX12_explain_129 ?_
                refine g_istore (lv2 := [(4, _), (3, _), (5, _), (6, _), (0, _), (1, _), (2, _)]) B dX12_explain_132 (by decide) rfl ?_
                refine g_goto (tgt := 41) B dX12_explain_134 (by decide) ?_
                refine g_iload B 2 dX12_explain_41 rfl ?_
                refine g_if_eqN (tgt := 137) B (by decide) dX12_explain_43 (by decide) (fun _ => ?_) (fun e => absurd rfl e)
                refine g_aload_n B 4 dX12_explain_137 rfl ?_
                refine m_get B P104 F_X12_396_12 (by decide) (Or.inl rfl) (show _ = (nI (l.length + 1)) from hs104) dX12_explain_138 ?_
                have hE : (l ++ [(10 * q + j, (a.rsn q j).1)]) = a.expl 8 no ni := by rw [show 8 - (l.length + 1) = 0 by omega] at i6; rw [← i6]; split <;> rfl
                refine g_iret B E rfl rfl dX12_explain_141 ?_
                exact ⟨_, rfl, rfl, _, _, P104, by rw [hF, ← hE, hll], by rw [hF, ← hE]; exact H1⟩
            · refine g_iconst (v := nI 1) B dX12_explain_107 (by decide) ?_
              refine g_goto (tgt := 112) B dX12_explain_108 (by decide) ?_
              refine g_istore (lv2 := [(5, _), (6, _), (4, _), (3, _), (0, _), (1, _), (2, _)]) B dX12_explain_112 (by decide) rfl ?_
              refine g_iload_n B 3 dX12_explain_114 rfl ?_
              refine g_iload B 1 dX12_explain_115 rfl ?_
              refine g_iconst (v := nI 3) B dX12_explain_117 (by decide) ?_
              refine g_icmp_geN (tgt := 125) B (by omega) (by omega) dX12_explain_118 (by decide) (fun c109 => ?_) (fun c109 => ?_)
              · refine g_iconst (v := (-1)) B dX12_explain_125 (by decide) ?_
                refine g_iadd B dX12_explain_126 ?_
                refine g_top (show Value.int _ = .int (nI (q - 1)) from congrArg Value.int (nI_prd (by have := (hrs.2.2 (by omega)).1; omega))) ?_
                refine g_istore_n (lv2 := [(3, _), (5, _), (6, _), (4, _), (0, _), (1, _), (2, _)]) B dX12_explain_127 (by decide) rfl ?_
                refine g_aload_n B 4 dX12_explain_128 rfl ?_
                refine m_get B P104 F_X12_393_12 (by decide) (Or.inl rfl) (show _ = (nI ((a.rsn q j).2)) from ((hk104 78 (by decide)).trans (hn (by omega)))) dX12_explain_129 ?_
                refine g_istore (lv2 := [(4, _), (3, _), (5, _), (6, _), (0, _), (1, _), (2, _)]) B dX12_explain_132 (by decide) rfl ?_
                refine g_goto (tgt := 41) B dX12_explain_134 (by decide) ?_
                have i6b : (l ++ [(10 * q + j, (a.rsn q j).1)]) ++ a.expl (8 - (l ++ [(10 * q + j, (a.rsn q j).1)]).length) (q - 1) (a.rsn q j).2 = a.expl 8 no ni := by rw [if_pos (by omega), if_neg (by omega)] at i6; rw [hll, ← i6, List.append_assoc]; rfl
                obtain ⟨g1, g2⟩ := hrs.2.2 (by omega)
                refine g_pick [0, 1, 2, 4, 5, 6] rfl ?_
                exact ih (8 - (l ++ [(10 * q + j, (a.rsn q j).1)]).length) (by omega) (q - 1) (a.rsn q j).2 (l ++ [(10 * q + j, (a.rsn q j).1)]) _ _ _ _ rfl P104 H1 (by omega) g2 (by omega) i6b
              · refine g_iconst (v := nI 1) B dX12_explain_121 (by decide) ?_
                refine g_goto (tgt := 126) B dX12_explain_122 (by decide) ?_
                refine g_iaddN B dX12_explain_126 ?_
                refine g_istore_n (lv2 := [(3, _), (5, _), (6, _), (4, _), (0, _), (1, _), (2, _)]) B dX12_explain_127 (by decide) rfl ?_
                refine g_aload_n B 4 dX12_explain_128 rfl ?_
                refine m_get B P104 F_X12_393_12 (by decide) (Or.inl rfl) (show _ = (nI ((a.rsn q j).2)) from ((hk104 78 (by decide)).trans (hn (by omega)))) dX12_explain_129 ?_
                refine g_istore (lv2 := [(4, _), (3, _), (5, _), (6, _), (0, _), (1, _), (2, _)]) B dX12_explain_132 (by decide) rfl ?_
                refine g_goto (tgt := 41) B dX12_explain_134 (by decide) ?_
                have i6b : (l ++ [(10 * q + j, (a.rsn q j).1)]) ++ a.expl (8 - (l ++ [(10 * q + j, (a.rsn q j).1)]).length) (q + 1) (a.rsn q j).2 = a.expl 8 no ni := by rw [if_pos (by omega), if_pos (by omega)] at i6; rw [hll, ← i6, List.append_assoc]; rfl
                obtain ⟨g1, g2⟩ := hrs.2.1 (by omega)
                refine g_pick [0, 1, 2, 4, 5, 6] rfl ?_
                exact ih (8 - (l ++ [(10 * q + j, (a.rsn q j).1)]).length) (by omega) (q + 1) (a.rsn q j).2 (l ++ [(10 * q + j, (a.rsn q j).1)]) _ _ _ _ rfl P104 H1 (by omega) g2 (by omega) i6b
      refine g_pick [1, 2, 0, 3, 4, 5] rfl ?_
      exact L _ no ni [] _ _ _ _ rfl P5 H0 (by omega) (by omega) (by decide) rfl
    · refine g_ldcw (v := (-1000000001)) B q2846 dX12_explain_24 ?_
      refine g_iret B E rfl rfl dX12_explain_27 ?_
      have hF : a.exF (nI no) i = (-1000000001, a) := by rw [aA.exF, if_neg (fun h => by have h3 := h.2; rw [hc_no, c4] at h3; exact Bool.noConfusion h3)]
      exact ⟨_, rfl, rfl, _, _, P, by rw [hF], by rw [hF]; exact hR⟩
