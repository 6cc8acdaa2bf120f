set_option maxRecDepth 100000
abbrev aSt : Type := Nat → Nat → Option (Int32 × Int32)
/-- a record in depth, from the operator o on, k operators -/
def aA.plR (a : aA) : Nat → Nat → Nat → Int32 → aSt → aSt
  | 0, _, _, _, S => S
  | k + 1, o, key, v, S => (aProc (a.kd o) (a.pa o) (a.pb o) (S o key) key v).1.foldl (fun S x => aA.plR a k (o + 1) x.1 x.2 S) (up2 S o key (aProc (a.kd o) (a.pa o) (a.pb o) (S o key) key v).2)
abbrev aStk : Type := List (Nat × Nat × Int32)
def aA.plS (a : aA) (l : aStk) (S : aSt) : aSt := l.foldl (fun S x => a.plR (a.n - x.1) x.1 x.2.1 x.2.2 S) S
def aA.plIn (a : aA) : Nat → aSt
  | 0 => fun _ _ => none
  | k + 1 => a.plR (a.n - 1) 1 (a.inp.getD k (0, 0)).1 (a.inp.getD k (0, 0)).2 (aA.plIn a k)
def sOuts (o : Nat) (l : List (Nat × Int32)) : aStk := l.map (fun z => (o + 1, z.1, z.2))
theorem aA.plS_pop {a : aA} {o key : Nat} {v : Int32} {s : aStk} {S : aSt} (ho : o < a.n) : a.plS ((o, key, v) :: s) S = a.plS (sOuts o (aProc (a.kd o) (a.pa o) (a.pb o) (S o key) key v).1 ++ s) (up2 S o key (aProc (a.kd o) (a.pa o) (a.pb o) (S o key) key v).2) := by
  unfold aA.plS sOuts
  rw [List.foldl_cons, List.foldl_append, List.foldl_map]
  dsimp only
  rw [show a.n - o = (a.n - (o + 1)) + 1 by omega]
  rfl
def muS : aStk → Nat
  | [] => 0
  | x :: l => 4 ^ (6 - x.1) + muS l
theorem muS_app (l m : aStk) : muS (l ++ m) = muS l + muS m := by
  induction l with
  | nil => exact (Nat.zero_add _).symm
  | cons x l ih => show 4 ^ (6 - x.1) + muS (l ++ m) = 4 ^ (6 - x.1) + muS l + muS m; rw [ih]; omega
theorem muS_outs (o : Nat) (l : List (Nat × Int32)) : muS (sOuts o l) = l.length * 4 ^ (6 - (o + 1)) := by
  induction l with
  | nil => exact (Nat.zero_mul _).symm
  | cons x l ih =>
    show 4 ^ (6 - (o + 1)) + muS (sOuts o l) = (l.length + 1) * 4 ^ (6 - (o + 1))
    rw [ih, Nat.succ_mul]; omega
theorem muS_pop {o : Nat} (ho : o < 6) {l : List (Nat × Int32)} (hl : l.length ≤ 3) (x : Nat × Int32) (s : aStk) : muS (sOuts o l ++ s) < muS ((o, x) :: s) := by
  rw [muS_app, muS_outs]
  show _ < 4 ^ (6 - o) + muS s
  have h1 : 4 ^ (6 - o) = 4 * 4 ^ (6 - (o + 1)) := by rw [show 6 - o = (6 - (o + 1)) + 1 by omega, Nat.pow_succ]; omega
  have h2 : l.length * 4 ^ (6 - (o + 1)) ≤ 3 * 4 ^ (6 - (o + 1)) := Nat.mul_le_mul_right _ hl
  have h3 : 0 < 4 ^ (6 - (o + 1)) := Nat.pow_pos (by decide)
  omega
def s0 : Nat × Nat × Int32 := (0, 0, 0)
/-- the stack in the arrays -/
def mStk (l : aStk) (ar : Nat → Nat → Int32) : Prop := ∀ t, t < l.length → ar 72 (l.length - 1 - t) = nI (l.getD t s0).1 ∧ ar 73 (l.length - 1 - t) = nI (l.getD t s0).2.1 ∧ ar 74 (l.length - 1 - t) = (l.getD t s0).2.2
def okStk (a : aA) (l : aStk) : Prop := ∀ t, t < l.length → 1 ≤ (l.getD t s0).1 ∧ (l.getD t s0).1 < a.n ∧ (l.getD t s0).2.1 < 16 ∧ l.length - 1 - t < 3 * (l.getD t s0).1
theorem mStk.pop {x : Nat × Nat × Int32} {l : aStk} {ar : Nat → Nat → Int32} (h : mStk (x :: l) ar) : mStk l ar := fun t ht => by
  have := h (t + 1) (by show t + 1 < l.length + 1; omega)
  rw [show (x :: l).length - 1 - (t + 1) = l.length - 1 - t by show l.length + 1 - 1 - (t + 1) = _; omega] at this
  exact this
theorem mStk.push {o k : Nat} {v : Int32} {l : aStk} {ar ar2 : Nat → Nat → Int32} (h : mStk l ar) (e1 : ar2 72 = va_up (ar 72) l.length (nI o)) (e2 : ar2 73 = va_up (ar 73) l.length (nI k)) (e3 : ar2 74 = va_up (ar 74) l.length v) : mStk ((o, k, v) :: l) ar2 := fun t ht => by
  rw [e1, e2, e3]
  cases t with
  | zero =>
    rw [show ((o, k, v) :: l).length - 1 - 0 = l.length by show l.length + 1 - 1 - 0 = _; omega, va_ups, va_ups, va_ups]
    exact ⟨rfl, rfl, rfl⟩
  | succ t =>
    have ht2 : t < l.length := by have : t + 1 < l.length + 1 := ht; omega
    rw [show ((o, k, v) :: l).length - 1 - (t + 1) = l.length - 1 - t by show l.length + 1 - 1 - (t + 1) = _; omega, va_upe (by omega), va_upe (by omega), va_upe (by omega)]
    exact h t ht2
theorem mStk.same {l : aStk} {ar ar2 : Nat → Nat → Int32} (h : mStk l ar) (e1 : ar2 72 = ar 72) (e2 : ar2 73 = ar 73) (e3 : ar2 74 = ar 74) : mStk l ar2 := fun t ht => by
  rw [e1, e2, e3]; exact h t ht
theorem okStk.pop {a : aA} {x : Nat × Nat × Int32} {l : aStk} (h : okStk a (x :: l)) : okStk a l := fun t ht => by
  have := h (t + 1) (by show t + 1 < l.length + 1; omega)
  rw [show (x :: l).length - 1 - (t + 1) = l.length - 1 - t by show l.length + 1 - 1 - (t + 1) = _; omega] at this
  exact this
theorem okStk.len {a : aA} {l : aStk} (h : okStk a l) (hn : a.n ≤ 6) : l.length ≤ 18 := by
  rcases l with _ | ⟨x, l⟩
  · exact Nat.zero_le _
  · have := h 0 (Nat.succ_pos _)
    obtain ⟨-, h2, -, h4⟩ := this
    have h5 : (x :: l).length - 1 - 0 < 18 := by omega
    show l.length + 1 ≤ 18
    have h6 : l.length + 1 - 1 - 0 < 18 := h5
    omega
theorem okStk.push {a : aA} {o k : Nat} {v : Int32} {l : aStk} (h : okStk a l) (h1 : 1 ≤ o) (h2 : o < a.n) (h3 : k < 16) (h4 : l.length < 3 * o) : okStk a ((o, k, v) :: l) := fun t ht => by
  cases t with
  | zero => exact ⟨h1, h2, h3, by show l.length + 1 - 1 - 0 < 3 * o; omega⟩
  | succ t =>
    have ht2 : t < l.length := by have : t + 1 < l.length + 1 := ht; omega
    rw [show ((o, k, v) :: l).length - 1 - (t + 1) = l.length - 1 - t by show l.length + 1 - 1 - (t + 1) = _; omega]
    exact h t ht2
theorem okStk.outs {a : aA} {o : Nat} {q : List (Nat × Int32)} {l : aStk} (h : okStk a l) (h2 : o + 1 < a.n) (h3 : ∀ x, x ∈ q → x.1 < 16) (h4 : l.length + q.length ≤ 3 * o + 3) : okStk a (sOuts o q ++ l) := by
  induction q with
  | nil => exact h
  | cons x q ih =>
    have h5 : l.length + (q.length + 1) ≤ 3 * o + 3 := h4
    have := ih (fun y hy => h3 y (List.mem_cons_of_mem _ hy)) (by omega)
    exact this.push (o := o + 1) (by omega) h2 (h3 x (List.mem_cons_self ..)) (by rw [List.length_append]; unfold sOuts; rw [List.length_map]; omega)
theorem stAll.up {a : aA} {S : aSt} {o key : Nat} {s : Option (Int32 × Int32)} (h : ∀ x y, stOk (a.kd x) (a.pa x) (S x y)) (hs : stOk (a.kd o) (a.pa o) s) : ∀ x y, stOk (a.kd x) (a.pa x) (up2 S o key s x y) := up2_P (P := fun x _ s => stOk (a.kd x) (a.pa x) s) h hs
theorem drop_s {α : Type} {l : List α} {x : Nat} (d : α) (h : x < l.length) : l.drop x = l.getD x d :: l.drop (x + 1) := by
  rw [List.drop_eq_getElem_cons h, List.getD_eq_getElem?_getD, List.getElem?_eq_getElem h]; rfl
theorem c_M_plainly {G : xG} {T : xT} {O R : xO} {m : Nat} {ad : Nat → Nat} {sc : Nat → Int32} {ar : Nat → Nat → Int32} {Bd : Nat} (P : PM m ad O R sc ar T O R) {a : aA} (H : RepM a sc ar) (W : WF Bd a) (hst : ∀ x (_ : Nat), stOk (a.kd x) (a.pa x) (none : Option (Int32 × Int32))) : xCtr G yX12_plainly cX12_plainly 5 none 2 51 0 0 [.ref m] (T, O, R) (xN (mPostN m ad T O R (fun sc2 ar2 => RepM a sc2 ar2 ∧ RMst (a.plIn (a.of 0)) (ar2 69) (ar2 70) (ar2 71)))) := by
  have hR := H
  obtain ⟨Htxt, Hop, Hinp, Hnm, Hstt, ⟨Hs0, Hs1, Hs2⟩, ⟨Hc0, Hc1, Hc2⟩, Hls, Hsp, Hpt, Hhd, Hch, Hex, Hwr⟩ := H
  have hn2 := W.n2
  have hn6 := W.n6
  refine xCtr.of (by decide +kernel) (Nat.le_of_ble_eq_true rfl) ?_
  intro Z B E hz hnm
  change xV Z (T, O, R) 0 [(0, .ref m)] [] 0 0
  refine g_iconst (v := nI 0) B dX12_plainly_0 (by decide) ?_
  refine g_istore_n (lv2 := [(1, _), (0, _)]) B dX12_plainly_1 (by decide) rfl ?_
  have L1 : ∀ (d1 x1 : Nat) (O11 R11 : xO) (ar11 : Nat → Nat → Int32), d1 = 96 - x1 → x1 ≤ 96 → PM m ad O R sc ar11 T O11 R11 → (∀ j, j < x1 → ar11 69 j = nI 0) → (∀ k, k ∉ ([69] : List Nat) → ar11 k = ar k) → xV Z (T, O11, R11) 2 [(1, .int (nI x1)), (0, .ref m)] [] 0 0 := by
    intro d1
    induction d1 using Nat.strongRecOn with
    | _ d1 ih1 =>
      intro x1 O11 R11 ar11 hd1 hx1 P11 i691 u1
      refine g_iload_n B 0 dX12_plainly_2 rfl ?_
      refine g_bipush (v := nI 96) B dX12_plainly_3 (by decide) ?_
      refine g_icmp_geN (tgt := 21) B (by omega) (by omega) dX12_plainly_5 (by decide) (fun c101 => ?_) (fun c101 => ?_)
      · have hx1 : x1 = 96 := by omega
        subst hx1
        have HR1 : RepM a sc ar11 := hR.junk (fun k _ hj => u1 k (fun e => hj (by unfold jA; simp only [List.mem_singleton] at e; omega)))
        refine g_iconst (v := nI 0) B dX12_plainly_21 (by decide) ?_
        refine g_istore_n (lv2 := [(1, _), (0, _)]) B dX12_plainly_22 (by decide) rfl ?_
        have L2 : ∀ (d2 x2 : Nat) (O12 R12 : xO) (sc12 : Nat → Int32) (ar12 : Nat → Nat → Int32), d2 = (a.of 0) - x2 → x2 ≤ (a.of 0) → PM m ad O R sc12 ar12 T O12 R12 → (RepM a sc12 ar12) → (RMst (a.plIn x2) (ar12 69) (ar12 70) (ar12 71)) → (∀ x y, stOk (a.kd x) (a.pa x) (a.plIn x2 x y)) → xV Z (T, O12, R12) 23 [(1, .int (nI x2)), (0, .ref m)] [] 0 0 := by
          intro d2
          induction d2 using Nat.strongRecOn with
          | _ d2 ih2 =>
            intro x2 O12 R12 sc12 ar12 hd2 hx2 P12 q1 q2 q3
            have hof := W.ofs 0
            have hinl := W.inp
            refine g_iload_n B 0 dX12_plainly_23 rfl ?_
            refine g_aload_n B 1 dX12_plainly_24 rfl ?_
            refine m_get B P12 F_X12_271_12 (by decide) (Or.inl rfl) (show _ = (nI (a.of 0)) from q1.2.2.2.1.2.1.1) dX12_plainly_25 ?_
            refine g_icmp_geN (tgt := 173) B (by omega) (by omega) dX12_plainly_28 (by decide) (fun c201 => ?_) (fun c201 => ?_)
            · have hx2e : x2 = a.of 0 := by omega
              rw [hx2e] at q2
              refine g_vret B E rfl dX12_plainly_173 ?_
              exact ⟨rfl, rfl, _, _, P12, q1, q2⟩
            · refine g_iconst (v := nI 1) B dX12_plainly_31 (by decide) ?_
              refine g_istore_n (lv2 := [(2, _), (1, _), (0, _)]) B dX12_plainly_32 (by decide) rfl ?_
              refine g_aload_n B 2 dX12_plainly_33 rfl ?_
              refine m_geta B P12 F_X12_178_12 (by decide) (Or.inl rfl) dX12_plainly_34 ?_
              refine g_iconst (v := nI 0) B dX12_plainly_37 (by decide) ?_
              refine g_iconst (v := nI 1) B dX12_plainly_38 (by decide) ?_
              refine m_st B P12 (by decide) rfl rfl (by show _ < 30; omega) (by decide) dX12_plainly_39 (fun R202 ar202 hs202 hk202 P202 => ?_)
              refine g_aload_n B 2 dX12_plainly_40 rfl ?_
              refine m_geta B P202 F_X12_181_12 (by decide) (Or.inl rfl) dX12_plainly_41 ?_
              refine g_iconst (v := nI 0) B dX12_plainly_44 (by decide) ?_
              refine g_aload_n B 2 dX12_plainly_45 rfl ?_
              refine m_geta B P202 F_X12_38_12 (by decide) (Or.inl rfl) dX12_plainly_46 ?_
              refine g_iload_n B 1 dX12_plainly_49 rfl ?_
              refine m_ld B P202 (by decide) rfl rfl (by show _ < 60; omega) (by decide) (show _ = (nI ((a.inp.getD x2 (0, 0)).1)) from ((congrFun (hk202 11 (by decide)) _).trans (q1.2.2.1.2 x2 (by omega)).1)) dX12_plainly_50 ?_
              refine m_st B P202 (by decide) rfl rfl (by show _ < 30; omega) (by decide) dX12_plainly_51 (fun R203 ar203 hs203 hk203 P203 => ?_)
              refine g_aload_n B 2 dX12_plainly_52 rfl ?_
              refine m_geta B P203 F_X12_184_12 (by decide) (Or.inl rfl) dX12_plainly_53 ?_
              refine g_iconst (v := nI 0) B dX12_plainly_56 (by decide) ?_
              refine g_aload_n B 2 dX12_plainly_57 rfl ?_
              refine m_geta B P203 F_X12_41_12 (by decide) (Or.inl rfl) dX12_plainly_58 ?_
              refine g_iload_n B 1 dX12_plainly_61 rfl ?_
              refine m_ld B P203 (by decide) rfl rfl (by show _ < 60; omega) (by decide) (show _ = (a.inp.getD x2 (0, 0)).2 from ((congrFun (hk203 12 (by decide)) _).trans ((congrFun (hk202 12 (by decide)) _).trans (q1.2.2.1.2 x2 (by omega)).2))) dX12_plainly_62 ?_
              refine m_st B P203 (by decide) rfl rfl (by show _ < 30; omega) (by decide) dX12_plainly_63 (fun R204 ar204 hs204 hk204 P204 => ?_)
              have e72 : ar204 72 = va_up (ar12 72) 0 (nI 1) := ((hk204 72 (by decide)).trans ((hk203 72 (by decide)).trans hs202))
              have e73 : ar204 73 = va_up (ar12 73) 0 (nI ((a.inp.getD x2 (0, 0)).1)) := ((hk204 73 (by decide)).trans (hs203.trans (congrArg (fun g => va_up g 0 (nI ((a.inp.getD x2 (0, 0)).1))) (hk202 73 (by decide)))))
              have e74 : ar204 74 = va_up (ar12 74) 0 ((a.inp.getD x2 (0, 0)).2) := (hs204.trans (congrArg (fun g => va_up g 0 ((a.inp.getD x2 (0, 0)).2)) ((hk203 74 (by decide)).trans (hk202 74 (by decide)))))
              have hu : ∀ k, k ∉ ([72, 73, 74] : List Nat) → ar204 k = ar12 k := fun k hk => (hk204 k (fun e => hk (by rw [e]; decide))).trans ((hk203 k (fun e => hk (by rw [e]; decide))).trans (hk202 k (fun e => hk (by rw [e]; decide))))
              have HR2 : RepM a sc12 ar204 := q1.junk (fun k _ hj => hu k (fun e => hj (by unfold jA; simp only [List.mem_cons, List.not_mem_nil, or_false] at e; omega)))
              have hst0 : mStk [(1, (a.inp.getD x2 (0, 0)).1, (a.inp.getD x2 (0, 0)).2)] ar204 := mStk.push (l := []) (ar := ar12) (fun t ht => absurd ht (Nat.not_lt_zero t)) e72 e73 e74
              have hk16 : (a.inp.getD x2 (0, 0)).1 < 16 := W.inpk _ (by rw [List.getD_eq_getElem?_getD, List.getElem?_eq_getElem (by omega)]; exact List.getElem_mem _)
              have hok0 : okStk a [(1, (a.inp.getD x2 (0, 0)).1, (a.inp.getD x2 (0, 0)).2)] := okStk.push (l := []) (fun t ht => absurd ht (Nat.not_lt_zero t)) (by decide) (by omega) hk16 (by decide)
              have L3 : ∀ (d3 : Nat) (l : aStk) (S : aSt) (O13 R13 : xO) (sc13 : Nat → Int32) (ar13 : Nat → Nat → Int32), d3 = muS l → PM m ad O R sc13 ar13 T O13 R13 → (RepM a sc13 ar13) → (RMst S (ar13 69) (ar13 70) (ar13 71)) → (∀ x y, stOk (a.kd x) (a.pa x) (S x y)) → (mStk l ar13) → (okStk a l) → (a.plS l S = a.plIn (x2 + 1)) → xV Z (T, O13, R13) 64 [(2, .int (nI l.length)), (1, .int (nI x2)), (0, .ref m)] [] 0 0 := by
                intro d3
                induction d3 using Nat.strongRecOn with
                | _ d3 ih3 =>
                  intro l S O13 R13 sc13 ar13 hd3 P13 t1 t2 t3 t4 t5 t6
                  have hlen := t5.len hn6
                  refine g_iload_n B 0 dX12_plainly_64 rfl ?_
                  refine g_if_leN (tgt := 167) B (by omega) dX12_plainly_65 (by decide) (fun c401 => ?_) (fun c401 => ?_)
                  · refine g_iinc (v := nI (x2 + 1)) (lv2 := [(1, _), (2, _), (0, _)]) B 1 dX12_plainly_167 rfl (nI_1 _) (by decide) rfl ?_
                    refine g_goto (tgt := 23) B dX12_plainly_170 (by decide) ?_
                    have hnil : l = [] := List.eq_nil_of_length_eq_zero (by omega)
                    rw [hnil] at t6
                    have hS : S = a.plIn (x2 + 1) := t6
                    rw [hS] at t2 t3
                    refine g_pick [0, 2] rfl ?_
                    exact ih2 (a.of 0 - (x2 + 1)) (by omega) (x2 + 1) _ _ _ _ rfl (by omega) P13 t1 t2 t3
                  · rcases l with _ | ⟨⟨o, key, u⟩, r⟩
                    · exact absurd (show 0 < ([] : aStk).length by omega) (Nat.lt_irrefl 0)
                    have ht0 := t4 0 (Nat.succ_pos _)
                    have ho0 := t5 0 (Nat.succ_pos _)
                    obtain ⟨w72, w73, w74⟩ : ar13 72 r.length = nI o ∧ ar13 73 r.length = nI key ∧ ar13 74 r.length = u := ht0
                    obtain ⟨o1, o2, o3, o4⟩ : 1 ≤ o ∧ o < a.n ∧ key < 16 ∧ r.length + 1 - 1 - 0 < 3 * o := ho0
                    refine g_iinc (v := nI r.length) (lv2 := [(2, _), (1, _), (0, _)]) B 0 dX12_plainly_68 rfl (nI_prd (b := r.length + 1) (Nat.succ_ne_zero _)) (by decide) rfl ?_
                    refine g_aload_n B 2 dX12_plainly_71 rfl ?_
                    refine m_geta B P13 F_X12_178_12 (by decide) (Or.inl rfl) dX12_plainly_72 ?_
                    refine g_iload_n B 0 dX12_plainly_75 rfl ?_
                    refine m_ld B P13 (by decide) rfl rfl (by show _ < 30; omega) (by decide) (show _ = (nI o) from w72) dX12_plainly_76 ?_
                    refine g_istore_n (lv2 := [(3, _), (2, _), (1, _), (0, _)]) B dX12_plainly_77 (by decide) rfl ?_
                    refine g_aload_n B 3 dX12_plainly_78 rfl ?_
                    refine g_iload_n B 0 dX12_plainly_79 rfl ?_
                    refine g_aload_n B 3 dX12_plainly_80 rfl ?_
                    refine m_geta B P13 F_X12_181_12 (by decide) (Or.inl rfl) dX12_plainly_81 ?_
                    refine g_iload_n B 1 dX12_plainly_84 rfl ?_
                    refine m_ld B P13 (by decide) rfl rfl (by show _ < 30; omega) (by decide) (show _ = (nI key) from w73) dX12_plainly_85 ?_
                    refine g_aload_n B 3 dX12_plainly_86 rfl ?_
                    refine m_geta B P13 F_X12_184_12 (by decide) (Or.inl rfl) dX12_plainly_87 ?_
                    refine g_iload_n B 1 dX12_plainly_90 rfl ?_
                    refine m_ld B P13 (by decide) rfl rfl (by show _ < 30; omega) (by decide) (show _ = u from w74) dX12_plainly_91 ?_
                    refine g_aload_n B 3 dX12_plainly_92 rfl ?_
                    refine m_geta B P13 F_X12_169_12 (by decide) (Or.inr rfl) dX12_plainly_93 ?_
                    refine g_aload_n B 3 dX12_plainly_96 rfl ?_
                    refine m_geta B P13 F_X12_172_12 (by decide) (Or.inl rfl) dX12_plainly_97 ?_
                    refine g_aload_n B 3 dX12_plainly_100 rfl ?_
                    refine m_geta B P13 F_X12_175_12 (by decide) (Or.inl rfl) dX12_plainly_101 ?_
                    refine g_callV (rest := []) B M_X12_processes q2814 q2816 qs87 (P13.1.choose_spec.choose_spec) rfl (c_M_proc69 (o := o) (key := key) (v := u) (s := S o key) P13.self t1 o2 hn6 o3 ((t3 o key).pOk (W.kd8 o2) (W.kd7 o2 (by omega)) (W.k3 o o2)) (t2 o (by omega) key o3)) rfl rfl (Nat.le_of_ble_eq_true rfl) (Nat.le_of_ble_eq_true rfl) (Nat.le_of_ble_eq_true rfl) (Nat.le_refl _) (Nat.le_refl _) dX12_plainly_104 (xkN (fun T402 O402 R402 le402 p402 => ?_))
                    obtain ⟨eT402, sc402, ar402, Q402, mp402⟩ := p402
                    obtain rfl := eT402.symm
                    have P402 := P13.rebase Q402
                    obtain ⟨m1, m2, m3, m4, m5, m6, m7, m8⟩ := mp402
                    have hq := aProc_out (k := a.kd o) (pa := a.pa o) (pb := a.pb o) (s := S o key) (key := key) (v := u) o3 (W.k3 o o2)
                    have HP : RepM a sc402 ar402 := (t1.scj (fun k hk => m3 k (fun e => hk (by unfold jS; omega)))).junk (fun k _ hj => m5 k (fun e => hj (by unfold jA; omega)) (fun e => hj (by unfold jA; omega)) (fun e => hj (by unfold jA; omega)) (fun e => hj (by unfold jA; omega)) (fun e => hj (by unfold jA; omega)))
                    have HS : RMst (up2 S o key (aProc (a.kd o) (a.pa o) (a.pb o) (S o key) key u).2) (ar402 69) (ar402 70) (ar402 71) := RMst.set (o := o) (key := key) t2 o3 (fun y z => rfl) m6 m7 m8
                    have HT : mStk r ar402 := t4.pop.same (m5 72 (by decide) (by decide) (by decide) (by decide) (by decide)) (m5 73 (by decide) (by decide) (by decide) (by decide) (by decide)) (m5 74 (by decide) (by decide) (by decide) (by decide) (by decide))
                    have HO := stAll.up t3 (key := key) (aProc_st (pb := a.pb o) (key := key) (v := u) (t3 o key) (W.kd8 o2))
                    have hpop := aA.plS_pop (key := key) (v := u) (s := r) (S := S) o2
                    generalize hQ : (aProc (a.kd o) (a.pa o) (a.pb o) (S o key) key u) = Q at m1 m2 m4 HS HO hq hpop
                    refine g_aload_n B 3 dX12_plainly_107 rfl ?_
                    refine m_get B P402 F_X12_291_12 (by decide) (Or.inl rfl) (show _ = (nI Q.1.length) from m1) dX12_plainly_108 ?_
                    refine g_iconst (v := nI 1) B dX12_plainly_111 (by decide) ?_
                    refine g_isub B dX12_plainly_112 ?_
                    refine g_top (show Value.int _ = .int (mK Q.1.length) from congrArg Value.int (by cases Q.1.length with | zero => decide | succ k => exact (pk_sub (by omega)).trans rfl)) ?_
                    refine g_istore (lv2 := [(4, _), (3, _), (2, _), (1, _), (0, _)]) B dX12_plainly_113 (by decide) rfl ?_
                    rw [show nI r.length = nI (Q.1.length - Q.1.length + r.length) by rw [Nat.sub_self, Nat.zero_add]]
                    have L4 : ∀ (d4 : Nat) (y : Nat) (O14 R14 : xO) (sc14 : Nat → Int32) (ar14 : Nat → Nat → Int32), d4 = y → PM m ad O R sc14 ar14 T O14 R14 → (y ≤ Q.1.length) → (∀ k, k ∉ ([72, 73, 74] : List Nat) → ar14 k = ar402 k) → (sc14 = sc402) → (mStk (sOuts o (Q.1.drop y) ++ r) ar14) → xV Z (T, O14, R14) 115 [(4, .int (mK y)), (2, .int (nI (Q.1.length - y + r.length))), (3, .int (nI o)), (1, .int (nI x2)), (0, .ref m)] [] 0 0 := by
                      intro d4
                      induction d4 using Nat.strongRecOn with
                      | _ d4 ih4 =>
                        intro y O14 R14 sc14 ar14 hd4 P14 v1 v2 v4 v3
                        refine g_iload B 0 dX12_plainly_115 rfl ?_
                        rcases y with _ | y
                        · refine g_top (show Value.int _ = .int (-1) from rfl) ?_
                          refine g_if_lt (tgt := 164) B dX12_plainly_117 (by decide) (fun c => ?_) (fun c => absurd (by decide) c)
                          refine g_goto (tgt := 64) B dX12_plainly_164 (by decide) ?_
                          have HR3 : RepM a sc14 ar14 := by rw [v4]; exact HP.junk (fun k _ hj => v2 k (fun e => hj (by unfold jA; simp only [List.mem_cons, List.not_mem_nil, or_false] at e; omega)))
                          have hl0 : Q.1.length - 0 + r.length = (sOuts o Q.1 ++ r).length := by rw [List.length_append]; unfold sOuts; rw [List.length_map]; omega
                          rw [hl0]
                          have hv3 : mStk (sOuts o Q.1 ++ r) ar14 := v3
                          have hok : okStk a (sOuts o Q.1 ++ r) := by
                            rcases hz : Q.1 with _ | ⟨y1, ys⟩
                            · exact t5.pop
                            · have hon : o + 1 < a.n := W.outs o2 (s := S o key) (key := key) (v := u) (by rw [hQ, hz]; exact Nat.succ_pos _)
                              rw [← hz]; exact t5.pop.outs hon hq.2 (by omega)
                          refine g_pick [1, 3, 4] rfl ?_
                          exact ih3 (muS (sOuts o Q.1 ++ r)) (by rw [hd3]; exact muS_pop (by omega) hq.1 _ _) _ _ _ _ _ _ rfl P14 HR3 (by rw [v2 69 (by decide), v2 70 (by decide), v2 71 (by decide)]; exact HS) HO hv3 hok (by rw [← t6, hpop])
                        · refine g_top (show Value.int _ = .int (nI y) from rfl) ?_
                          refine g_pick [0, 1, 2, 3, 4] (lv' := [(4, .int (nI y)), (2, .int (nI (Q.1.length - (y + 1) + r.length))), (3, .int (nI o)), (1, .int (nI x2)), (0, .ref m)]) rfl ?_
                          refine g_if_ltN (tgt := 164) B (by omega) dX12_plainly_117 (by decide) ?_
                          refine g_aload_n B 4 dX12_plainly_120 rfl ?_
                          refine m_geta B P14 F_X12_178_12 (by decide) (Or.inl rfl) dX12_plainly_121 ?_
                          refine g_iload_n B 1 dX12_plainly_124 rfl ?_
                          refine g_iload_n B 2 dX12_plainly_125 rfl ?_
                          refine g_iconst (v := nI 1) B dX12_plainly_126 (by decide) ?_
                          refine g_iaddN B dX12_plainly_127 ?_
                          refine m_st B P14 (by decide) rfl rfl (by show _ < 30; omega) (by decide) dX12_plainly_128 (fun R601 ar601 hs601 hk601 P601 => ?_)
                          refine g_aload_n B 4 dX12_plainly_129 rfl ?_
                          refine m_geta B P601 F_X12_181_12 (by decide) (Or.inl rfl) dX12_plainly_130 ?_
                          refine g_iload_n B 1 dX12_plainly_133 rfl ?_
                          refine g_aload_n B 4 dX12_plainly_134 rfl ?_
                          refine m_geta B P601 F_X12_163_12 (by decide) (Or.inl rfl) dX12_plainly_135 ?_
                          refine g_iload B 0 dX12_plainly_138 rfl ?_
                          refine m_ld B P601 (by decide) rfl rfl (by show _ < 3; omega) (by decide) (show _ = (nI ((Q.1.getD y (0, 0)).1)) from ((congrFun (hk601 66 (by decide)) _).trans ((congrFun (v2 66 (by decide)) _).trans (m4 y (by omega)).1))) dX12_plainly_140 ?_
                          refine m_st B P601 (by decide) rfl rfl (by show _ < 30; omega) (by decide) dX12_plainly_141 (fun R602 ar602 hs602 hk602 P602 => ?_)
                          refine g_aload_n B 4 dX12_plainly_142 rfl ?_
                          refine m_geta B P602 F_X12_184_12 (by decide) (Or.inl rfl) dX12_plainly_143 ?_
                          refine g_iload_n B 1 dX12_plainly_146 rfl ?_
                          refine g_aload_n B 4 dX12_plainly_147 rfl ?_
                          refine m_geta B P602 F_X12_166_12 (by decide) (Or.inl rfl) dX12_plainly_148 ?_
                          refine g_iload B 0 dX12_plainly_151 rfl ?_
                          refine m_ld B P602 (by decide) rfl rfl (by show _ < 3; omega) (by decide) (show _ = (Q.1.getD y (0, 0)).2 from ((congrFun (hk602 67 (by decide)) _).trans ((congrFun (hk601 67 (by decide)) _).trans ((congrFun (v2 67 (by decide)) _).trans (m4 y (by omega)).2)))) dX12_plainly_153 ?_
                          refine m_st B P602 (by decide) rfl rfl (by show _ < 30; omega) (by decide) dX12_plainly_154 (fun R603 ar603 hs603 hk603 P603 => ?_)
                          refine g_iinc (v := nI ((Q.1.length - (y + 1) + r.length) + 1)) (lv2 := [(2, _), (4, _), (3, _), (1, _), (0, _)]) B 1 dX12_plainly_155 rfl (nI_1 _) (by decide) rfl ?_
                          refine g_iinc (v := mK y) (lv2 := [(4, _), (2, _), (3, _), (1, _), (0, _)]) B 1 dX12_plainly_158 rfl (mK_prd y) (by decide) rfl ?_
                          refine g_goto (tgt := 115) B dX12_plainly_161 (by decide) ?_
                          have e72 : ar603 72 = va_up (ar14 72) (Q.1.length - (y + 1) + r.length) (nI (o + 1)) := ((hk603 72 (by decide)).trans ((hk602 72 (by decide)).trans hs601))
                          have e73 : ar603 73 = va_up (ar14 73) (Q.1.length - (y + 1) + r.length) (nI ((Q.1.getD y (0, 0)).1)) := ((hk603 73 (by decide)).trans (hs602.trans (congrArg (fun g => va_up g (Q.1.length - (y + 1) + r.length) (nI ((Q.1.getD y (0, 0)).1))) (hk601 73 (by decide)))))
                          have e74 : ar603 74 = va_up (ar14 74) (Q.1.length - (y + 1) + r.length) ((Q.1.getD y (0, 0)).2) := (hs603.trans (congrArg (fun g => va_up g (Q.1.length - (y + 1) + r.length) ((Q.1.getD y (0, 0)).2)) ((hk602 74 (by decide)).trans (hk601 74 (by decide)))))
                          have hpu : mStk (sOuts o (Q.1.drop y) ++ r) ar603 := by
                            rw [drop_s (0, 0) (show y < Q.1.length by omega)]
                            have hle : (sOuts o (Q.1.drop (y + 1)) ++ r).length = Q.1.length - (y + 1) + r.length := by rw [List.length_append]; unfold sOuts; rw [List.length_map, List.length_drop]
                            exact mStk.push (l := sOuts o (Q.1.drop (y + 1)) ++ r) v3 (by rw [hle]; exact e72) (by rw [hle]; exact e73) (by rw [hle]; exact e74)
                          rw [show Q.1.length - (y + 1) + r.length + 1 = Q.1.length - y + r.length by omega]
                          exact ih4 (y) (by omega) y _ _ _ _ rfl P603 (by omega) (fun k hk => ((hk603 k (fun e => hk (by rw [e]; decide))).trans ((hk602 k (fun e => hk (by rw [e]; decide))).trans (hk601 k (fun e => hk (by rw [e]; decide))))).trans (v2 k hk)) v4 hpu
                    refine g_pick [0, 2, 1, 3, 4] rfl ?_
                    exact L4 _ Q.1.length _ _ _ _ rfl P402 (Nat.le_refl _) (fun _ _ => rfl) rfl (by rw [List.drop_length]; exact HT)
              exact L3 _ _ (a.plIn x2) _ _ _ _ rfl P204 HR2 (by rw [hu 69 (by decide), hu 70 (by decide), hu 71 (by decide)]; exact q2) q3 hst0 hok0 rfl
        exact L2 _ 0 _ _ _ _ rfl (Nat.zero_le _) P11 HR1 (RMst.zero (fun j hj => i691 j hj)) (fun x y => hst x y)
      · refine g_aload_n B 1 dX12_plainly_8 rfl ?_
        refine m_geta B P11 F_X12_169_12 (by decide) (Or.inr rfl) dX12_plainly_9 ?_
        refine g_iload_n B 0 dX12_plainly_12 rfl ?_
        refine g_iconst (v := nI 0) B dX12_plainly_13 (by decide) ?_
        refine m_stz B P11 (by decide) rfl rfl (by show _ < 96; omega) (by decide) rfl dX12_plainly_14 (fun R102 ar102 hs102 hk102 P102 => ?_)
        refine g_iinc (v := nI (x1 + 1)) (lv2 := [(1, _), (0, _)]) B 0 dX12_plainly_15 rfl (nI_1 _) (by decide) rfl ?_
        refine g_goto (tgt := 2) B dX12_plainly_18 (by decide) ?_
        have e69 : ar102 69 = va_up (ar11 69) x1 (nI 0) := hs102
        exact ih1 (96 - (x1 + 1)) (by omega) (x1 + 1) _ _ _ rfl (by omega) P102 (fun j hj => by rw [e69]; exact va_fill (g := fun _ => nI 0) i691 (rfl) j hj) (fun k hn => (hk102 k (fun e => hn (by rw [e]; decide))).trans (u1 k hn))
  exact L1 _ 0 _ _ _ rfl (Nat.zero_le _) P (fun j hj => absurd hj (Nat.not_lt_zero j)) (fun _ _ => rfl)
theorem WF.st0 {B : Nat} {a : aA} (W : WF B a) : ∀ x (_ : Nat), stOk (a.kd x) (a.pa x) (none : Option (Int32 × Int32)) := fun x _ => by
  have h := W.st 0 x 16
  rw [W.stu 0 x 16 (by omega)] at h
  exact h
def aA.plainF (a : aA) (key w : Int32) : Int32 := a.toldF (a.plIn (a.of 0)) (nI (a.n - 2 + 1)) key w
theorem c_M_plain {G : xG} {T : xT} {O R : xO} {m : Nat} {ad : Nat → Nat} {sc : Nat → Int32} {ar : Nat → Nat → Int32} {Bd : Nat} {key u : Int32} (P : PM m ad O R sc ar T O R) {a : aA} (H : RepM a sc ar) (W : WF Bd a) : xCtr G yX12_plain cX12_plain 3 (some Jvm.ClassFile.FieldType.int) 3 75 0 0 [.ref m, .int key, .int u] (T, O, R) (xA (mPost m ad T O R (fun v sc2 ar2 => v = .int (a.plainF key u) ∧ RepM a sc2 ar2))) := by
  have hR := H
  obtain ⟨Htxt, Hop, Hinp, Hnm, Hstt, ⟨Hs0, Hs1, Hs2⟩, ⟨Hc0, Hc1, Hc2⟩, Hls, Hsp, Hpt, Hhd, Hch, Hex, Hwr⟩ := H
  refine xCtr.of (by decide +kernel) (Nat.le_of_ble_eq_true rfl) ?_
  intro Z B E hz hnm
  change xV Z (T, O, R) 0 [(0, .ref m), (1, .int key), (2, .int u)] [] 0 0
  refine g_aload_n B 0 dX12_plain_0 rfl ?_
  refine g_callV (rest := []) B M_X12_plainly q2887 q2889 qs93 (P.1.choose_spec.choose_spec) rfl (c_M_plainly P.self hR W W.st0) rfl rfl (Nat.le_of_ble_eq_true rfl) (Nat.le_of_ble_eq_true rfl) (Nat.le_of_ble_eq_true rfl) (Nat.le_refl _) (Nat.le_refl _) dX12_plain_1 (xkN (fun T1 O1 R1 le1 p1 => ?_))
  obtain ⟨eT1, sc1, ar1, Q1, hr1, hs1⟩ := p1
  obtain rfl := eT1.symm
  have P1 := P.rebase Q1
  refine g_aload_n B 0 dX12_plain_4 rfl ?_
  refine g_aload_n B 0 dX12_plain_5 rfl ?_
  refine g_callV (rest := [_]) B M_X12_sink q2732 q2734 qs68 (P1.1.choose_spec.choose_spec) rfl (c_M_sink (k := a.n - 2) P1.self hr1.2.1.1) rfl rfl (Nat.le_of_ble_eq_true rfl) (Nat.le_of_ble_eq_true rfl) (Nat.le_of_ble_eq_true rfl) (Nat.le_refl _) (Nat.le_refl _) dX12_plain_6 (xkA (fun v2 T2 O2 R2 le2 p2 => ?_))
  obtain ⟨rfl, eT2, eO2, eR2⟩ := p2
  obtain rfl := eT2.symm
  obtain rfl := eO2.symm
  obtain rfl := eR2.symm
  refine g_iload_n B 1 dX12_plain_9 rfl ?_
  refine g_iload_n B 2 dX12_plain_10 rfl ?_
  refine g_aload_n B 0 dX12_plain_11 rfl ?_
  refine m_geta B P1 F_X12_169_12 (by decide) (Or.inr rfl) dX12_plain_12 ?_
  refine g_aload_n B 0 dX12_plain_15 rfl ?_
  refine m_geta B P1 F_X12_172_12 (by decide) (Or.inl rfl) dX12_plain_16 ?_
  refine g_aload_n B 0 dX12_plain_19 rfl ?_
  refine m_geta B P1 F_X12_175_12 (by decide) (Or.inl rfl) dX12_plain_20 ?_
  refine g_callV (rest := []) B M_X12_told q2875 q2877 qs92 (P1.1.choose_spec.choose_spec) rfl (c_M_told69 (q := a.plIn (a.of 0)) P1.self hr1 W hs1) rfl rfl (Nat.le_of_ble_eq_true rfl) (Nat.le_of_ble_eq_true rfl) (Nat.le_of_ble_eq_true rfl) (Nat.le_refl _) (Nat.le_refl _) dX12_plain_23 (xkA (fun v3 T3 O3 R3 le3 p3 => ?_))
  obtain ⟨rfl, eT3, eO3, eR3⟩ := p3
  obtain rfl := eT3.symm
  obtain rfl := eO3.symm
  obtain rfl := eR3.symm
  refine g_iret B E rfl rfl dX12_plain_26 ?_
  exact ⟨_, rfl, rfl, _, _, P1, rfl, hr1⟩
