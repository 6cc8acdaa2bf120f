set_option maxRecDepth 100000
/-- some versions have been taken over: d := s where the marks say so -/
def aA.vst (a : aA) (d s : Nat) (pk : Nat → Bool) (pc : Nat → Nat → Bool) (po : Bool) : aA :=
  ((a.w_st (fun v o key => if v = d ∧ pk o = true then a.st s o key else a.st v o key)).w_ct (fun v o i => if v = d ∧ pc o i = true then a.ct s o i else a.ct v o i)).w_of (fun v => if v = d ∧ po = true then a.of s else a.of v)
theorem aA.vst_no (a : aA) (d s : Nat) : a.vst d s (fun _ => false) (fun _ _ => false) false = a := by
  have e1 : (fun v o key => if v = d ∧ false = true then a.st s o key else a.st v o key) = a.st := by funext v o key; exact if_neg (fun q => absurd q.2 (by decide))
  have e2 : (fun v o i => if v = d ∧ false = true then a.ct s o i else a.ct v o i) = a.ct := by funext v o key; exact if_neg (fun q => absurd q.2 (by decide))
  have e3 : (fun v => if v = d ∧ false = true then a.of s else a.of v) = a.of := by funext v; exact if_neg (fun q => absurd q.2 (by decide))
  unfold aA.vst
  rw [e1, e2, e3]
  rfl
theorem aA.c_ofst (b : aA) (z : Nat → Nat) (x : Nat → Nat → Nat → Option (Int32 × Int32)) : (b.w_of z).w_st x = (b.w_st x).w_of z := rfl
theorem aA.c_ctst (b : aA) (y : Nat → Nat → Nat → Nat) (x : Nat → Nat → Nat → Option (Int32 × Int32)) : (b.w_ct y).w_st x = (b.w_st x).w_ct y := rfl
theorem aA.c_ofct (b : aA) (z : Nat → Nat) (y : Nat → Nat → Nat → Nat) : (b.w_of z).w_ct y = (b.w_ct y).w_of z := rfl
theorem aA.i_st (b : aA) (x x' : Nat → Nat → Nat → Option (Int32 × Int32)) : (b.w_st x).w_st x' = b.w_st x' := rfl
theorem aA.i_ct (b : aA) (x x' : Nat → Nat → Nat → Nat) : (b.w_ct x).w_ct x' = b.w_ct x' := rfl
theorem aA.i_of (b : aA) (x x' : Nat → Nat) : (b.w_of x).w_of x' = b.w_of x' := rfl
theorem aA.v_st (b : aA) (x x' : Nat → Nat → Nat → Option (Int32 × Int32)) (y : Nat → Nat → Nat → Nat) (z : Nat → Nat) : (((b.w_st x).w_ct y).w_of z).w_st x' = ((b.w_st x').w_ct y).w_of z := by rw [aA.c_ofst, aA.c_ctst, aA.i_st]
theorem aA.v_ct (b : aA) (y y' : Nat → Nat → Nat → Nat) (z : Nat → Nat) : ((b.w_ct y).w_of z).w_ct y' = (b.w_ct y').w_of z := by rw [aA.c_ofct, aA.i_ct]
theorem aA.v_st_of (b : aA) (x : Nat → Nat → Nat → Option (Int32 × Int32)) : (b.w_st x).of = b.of ∧ (b.w_st x).ct = b.ct ∧ (b.w_st x).st = x := ⟨rfl, rfl, rfl⟩
theorem aA.v_ct_of (b : aA) (x : Nat → Nat → Nat → Nat) : (b.w_ct x).of = b.of ∧ (b.w_ct x).ct = x ∧ (b.w_ct x).st = b.st := ⟨rfl, rfl, rfl⟩
theorem aA.v_of_of (b : aA) (x : Nat → Nat) : (b.w_of x).of = x ∧ (b.w_of x).ct = b.ct ∧ (b.w_of x).st = b.st := ⟨rfl, rfl, rfl⟩
theorem aA.vst_st (a : aA) (d s : Nat) (pk : Nat → Bool) (pc : Nat → Nat → Bool) (po : Bool) : (a.vst d s pk pc po).st = (fun v o key => if v = d ∧ pk o = true then a.st s o key else a.st v o key) := by unfold aA.vst; rw [(aA.v_of_of _ _).2.2, (aA.v_ct_of _ _).2.2, (aA.v_st_of _ _).2.2]
theorem aA.vst_ct (a : aA) (d s : Nat) (pk : Nat → Bool) (pc : Nat → Nat → Bool) (po : Bool) : (a.vst d s pk pc po).ct = (fun v o i => if v = d ∧ pc o i = true then a.ct s o i else a.ct v o i) := by unfold aA.vst; rw [(aA.v_of_of _ _).2.1, (aA.v_ct_of _ _).2.1]
theorem aA.vst_of (a : aA) (d s : Nat) (pk : Nat → Bool) (pc : Nat → Nat → Bool) (po : Bool) : (a.vst d s pk pc po).of = (fun v => if v = d ∧ po = true then a.of s else a.of v) := by unfold aA.vst; rw [(aA.v_of_of _ _).1]
theorem aA.vst_wst (a : aA) (d s : Nat) (pk pk' : Nat → Bool) (pc : Nat → Nat → Bool) (po : Bool) : (a.vst d s pk pc po).w_st (a.vst d s pk' pc po).st = a.vst d s pk' pc po := by rw [aA.vst_st]; unfold aA.vst; rw [aA.v_st]
theorem aA.vst_wct (a : aA) (d s : Nat) (pk : Nat → Bool) (pc pc' : Nat → Nat → Bool) (po : Bool) : (a.vst d s pk pc po).w_ct (a.vst d s pk pc' po).ct = a.vst d s pk pc' po := by rw [aA.vst_ct]; unfold aA.vst; rw [aA.v_ct]
theorem aA.vst_wof (a : aA) (d s : Nat) (pk : Nat → Bool) (pc : Nat → Nat → Bool) (po po' : Bool) : (a.vst d s pk pc po).w_of (a.vst d s pk pc po').of = a.vst d s pk pc po' := by rw [aA.vst_of]; unfold aA.vst; rw [aA.i_of]
theorem aA.vst_rest (a : aA) (d s : Nat) (pk : Nat → Bool) (pc : Nat → Nat → Bool) (po : Bool) : (a.vst d s pk pc po).n = a.n ∧ (a.vst d s pk pc po).p = a.p ∧ (a.vst d s pk pc po).al = a.al ∧ (a.vst d s pk pc po).rn = a.rn := ⟨rfl, rfl, rfl, rfl⟩
/-- what may be taken over: the running versions when all are aligned, the complete ones always -/
def vOk (a : aA) (d s : Nat) : Prop := (d = 2 ∧ s = 1 ∧ 0 < a.rn ∧ ∀ o, o < a.n → ∀ i, i < a.p o → a.al o i = true) ∨ (d = 0 ∧ s = 2)
theorem XKs.cg {Y : xY} {V : xVV} {I : xII} {J : xJJ} {n : Nat} {p : Nat → Nat} {st st' : Nat → Nat → Nat → Option (Int32 × Int32)} {al : Nat → Nat → Bool} (h : XKs Y V I J n p st al) (e : ∀ v o key, v < 3 → o < n → key < 16 → st' v o key = st v o key) : XKs Y V I J n p st' al := fun o ho => by
  obtain ⟨x, q, k, k1, k2⟩ := h o ho
  exact ⟨x, q, k, fun key hk => by rw [e 0 o key (by decide) ho hk, e 2 o key (by decide) ho hk]; exact k1 key hk, fun key hk ha => by rw [e 1 o key (by decide) ho hk]; exact k2 key hk ha⟩
theorem XCt.cg {Y : xY} {V : xVV} {n : Nat} {p : Nat → Nat} {ct ct' : Nat → Nat → Nat → Nat} {al : Nat → Nat → Bool} (h : XCt Y V n p ct al) (e : ∀ v o i, v < 3 → o < n → i < p o → ct' v o i = ct v o i) : XCt Y V n p ct' al := fun o ho i hi => by
  obtain ⟨x, q, k, k0, k2, k1⟩ := h o ho i hi
  exact ⟨x, q, k, by rw [e 0 o i (by decide) ho hi]; exact k0, by rw [e 2 o i (by decide) ho hi]; exact k2, fun ha => by rw [e 1 o i (by decide) ho hi]; exact k1 ha⟩
theorem XOf.cg {Y : xY} {V : xVV} {rn : Nat} {f f' : Nat → Nat} (h : XOf Y V f rn) (e : ∀ v, v < 3 → f' v = f v) : XOf Y V f' rn := by
  obtain ⟨x, q, k, k0, k2, k1⟩ := h
  exact ⟨x, q, k, by rw [e 0 (by decide)]; exact k0, by rw [e 2 (by decide)]; exact k2, fun hr => by rw [e 1 (by decide)]; exact k1 hr⟩
/-- the versions anew: what the three groups say, all else the same -/
theorem RepX.vK0 {b : aA} {tk x0 g0 fi ps : Nat} {Y : xY} {V : xVV} {I : xII} {J : xJJ} {A : xVV} {st : Nat → Nat → Nat → Option (Int32 × Int32)} (H : RepX b tk x0 g0 fi ps Y V I J A) (k : XKs Y V I J b.n b.p st (alz b.al)) : RepX (b.w_st st) tk x0 g0 fi ps Y V I J A :=
  H.w_st (S := fun _ _ => False) xFr.rf (fun _ _ e => e.elim) k
theorem RepX.vC0 {b : aA} {tk x0 g0 fi ps : Nat} {Y : xY} {V : xVV} {I : xII} {J : xJJ} {A : xVV} {ct : Nat → Nat → Nat → Nat} (H : RepX b tk x0 g0 fi ps Y V I J A) (k : XCt Y V b.n b.p ct b.al) : RepX (b.w_ct ct) tk x0 g0 fi ps Y V I J A :=
  H.w_ct (S := fun _ _ => False) xFr.rf (fun _ _ e => e.elim) k
theorem RepX.vO0 {b : aA} {tk x0 g0 fi ps : Nat} {Y : xY} {V : xVV} {I : xII} {J : xJJ} {A : xVV} {f : Nat → Nat} (H : RepX b tk x0 g0 fi ps Y V I J A) (k : XOf Y V f b.rn) : RepX (b.w_of f) tk x0 g0 fi ps Y V I J A :=
  H.w_of (S := fun _ _ => False) xFr.rf (fun _ _ e => e.elim) k
theorem vst_get {α : Type} {d s v : Nat} {b : Bool} {x y : α} : (v ≠ d → (if v = d ∧ b = true then x else y) = y) ∧ (v = d → (if v = d ∧ true = true then x else y) = x) := ⟨fun h => if_neg (fun q => h q.1), fun h => if_pos ⟨h, rfl⟩⟩
theorem RepX.vK {a : aA} {tk x0 g0 fi ps d s o x : Nat} {pk : Nat → Bool} {pc : Nat → Nat → Bool} {po : Bool} {q : Nat → Nat → Option (Int32 × Int32)} {Y : xY} {V V1 : xVV} {I I1 : xII} {J J1 : xJJ} {A : xVV} (H : RepX (a.vst d s pk pc po) tk x0 g0 fi ps Y V I J A) (hv : vOk a d s) (hp : ∀ o, o < a.n → 1 ≤ a.p o) (ho : o < a.n) (f : xFr (sVk 35 4001 1021 1022 o) Y V I J A Y V1 I1 J1 A)
    (k1 : ∀ key, key < 16 → q 0 key = (a.vst d s pk pc po).st 0 o key ∧ q 2 key = (a.vst d s pk pc po).st 2 o key) (k2 : ∀ key, key < 16 → alz a.al o (aHome key (a.p o)) = true → q 1 key = (a.vst d s pk pc po).st 1 o key)
    (k : xVk Y V1 I1 J1 1 6 35 4001 1021 1022 o x (up1 q d (q s))) : RepX (a.vst d s (up1 pk o true) pc po) tk x0 g0 fi ps Y V1 I1 J1 A := by
  rw [← aA.vst_wst a d s pk (up1 pk o true) pc po]
  rw [aA.vst_st] at k1 k2 ⊢
  obtain ⟨en, ep, eal, -⟩ := aA.vst_rest a d s pk pc po
  have Hks := H.Ks
  rw [aA.vst_st] at Hks
  generalize a.vst d s pk pc po = b at H Hks en ep eal ⊢
  rw [← en] at ho
  rw [← ep] at k2
  rw [← eal] at k2
  have key0 : RepX (b.w_st (fun v o' key => if v = d ∧ up1 pk o true o' = true then a.st s o' key else a.st v o' key)) tk x0 g0 fi ps Y V1 I1 J1 A := by
    refine H.w_st f (fun r c e => by unfold sVk at e; unfold gKs; omega) (Hks.one (o := o) f (fun c e => by unfold sVk at e; omega) (fun r c e _ => by unfold sVk at e; exact e.1) (fun v x' key hne => ?_) ⟨x, up1 q d (q s), k, fun key hk => ?_, fun key hk ha => ?_⟩)
    · show (if v = d ∧ up1 pk o true x' = true then a.st s x' key else a.st v x' key) = (if v = d ∧ pk x' = true then a.st s x' key else a.st v x' key)
      rw [up1_n hne]
    · obtain ⟨g0, g2⟩ := k1 key hk
      rcases hv with ⟨rfl, rfl, hr, hal⟩ | ⟨rfl, rfl⟩
      · refine ⟨?_, ?_⟩
        · rw [up1_n (by decide), g0]; rfl
        · rw [up1_s, k2 key hk (alz_t (by rw [eal, ep]; exact hal o (by rw [← en]; exact ho) _ (aHome_lt (hp o (by rw [← en]; exact ho)))))]
          show a.st 1 o key = if 2 = 2 ∧ up1 pk o true o = true then a.st 1 o key else a.st 2 o key
          rw [if_pos ⟨rfl, up1_s⟩]
      · refine ⟨?_, ?_⟩
        · rw [up1_s, g2]
          show a.st 2 o key = if 0 = 0 ∧ up1 pk o true o = true then a.st 2 o key else a.st 0 o key
          rw [if_pos ⟨rfl, up1_s⟩]
        · rw [up1_n (by decide), g2]; rfl
    · rcases hv with ⟨rfl, rfl, hr, hal⟩ | ⟨rfl, rfl⟩
      · rw [up1_n (by decide), k2 key hk ha]; rfl
      · rw [up1_n (by decide), k2 key hk ha]; rfl
  exact key0
theorem RepX.vC {a : aA} {tk x0 g0' fi ps d s o i x : Nat} {pk : Nat → Bool} {pc : Nat → Nat → Bool} {po : Bool} {q : Nat → Int32} {Y : xY} {V V1 : xVV} {I : xII} {J : xJJ} {A : xVV} (H : RepX (a.vst d s pk pc po) tk x0 g0' fi ps Y V I J A) (hv : vOk a d s) (hp : ∀ o, o < a.n → a.p o ≤ 3) (ho : o < a.n) (hi : i < a.p o) (f : xFr (sVc 2 (3 * o + i)) Y V I J A Y V1 I J A)
    (g0 : q 0 = nI ((a.vst d s pk pc po).ct 0 o i)) (g2 : q 2 = nI ((a.vst d s pk pc po).ct 2 o i)) (g1 : a.al o i = true → q 1 = nI ((a.vst d s pk pc po).ct 1 o i))
    (k : xVc Y V1 101 2 (3 * o + i) x (up1 q d (q s))) : RepX (a.vst d s pk (up2 pc o i true) po) tk x0 g0' fi ps Y V1 I J A := by
  rw [← aA.vst_wct a d s pk pc (up2 pc o i true) po]
  rw [aA.vst_ct] at g0 g2 g1 ⊢
  obtain ⟨en, ep, eal, -⟩ := aA.vst_rest a d s pk pc po
  have Hct := H.Ct
  rw [aA.vst_ct] at Hct
  generalize a.vst d s pk pc po = b at H Hct en ep eal ⊢
  have hob : o < b.n := by rw [en]; exact ho
  rw [← eal] at g1
  have key0 : RepX (b.w_ct (fun v x' y' => if v = d ∧ up2 pc o i true x' y' = true then a.ct s x' y' else a.ct v x' y')) tk x0 g0' fi ps Y V1 I J A := by
    refine H.w_ct f (fun r c e => by unfold sVc at e; unfold gCt; omega) (Hct.one (o := o) (i := i) f (fun c e => by unfold sVc at e; omega) (fun c e => by unfold sVc at e; exact e.1) (by rw [en, ep]; exact hp) (by have := hp o ho; omega) (fun v x' y' hne => ⟨?_, rfl⟩) ⟨x, up1 q d (q s), k, ?_, ?_, fun ha => ?_⟩)
    · show (if v = d ∧ up2 pc o i true x' y' = true then a.ct s x' y' else a.ct v x' y') = (if v = d ∧ pc x' y' = true then a.ct s x' y' else a.ct v x' y')
      rw [up2_n hne]
    · rcases hv with ⟨rfl, rfl, hr, hal⟩ | ⟨rfl, rfl⟩
      · rw [up1_n (by decide), g0]; rfl
      · rw [up1_s, g2]
        show nI (a.ct 2 o i) = nI (if 0 = 0 ∧ up2 pc o i true o i = true then a.ct 2 o i else a.ct 0 o i)
        rw [if_pos ⟨rfl, up2_s⟩]
    · rcases hv with ⟨rfl, rfl, hr, hal⟩ | ⟨rfl, rfl⟩
      · rw [up1_s, g1 (by rw [eal]; exact hal o ho i hi)]
        show nI (a.ct 1 o i) = nI (if 2 = 2 ∧ up2 pc o i true o i = true then a.ct 1 o i else a.ct 2 o i)
        rw [if_pos ⟨rfl, up2_s⟩]
      · rw [up1_n (by decide), g2]; rfl
    · rcases hv with ⟨rfl, rfl, hr, hal⟩ | ⟨rfl, rfl⟩
      · rw [up1_n (by decide), g1 ha]; rfl
      · rw [up1_n (by decide), g1 ha]; rfl
  exact key0
theorem RepX.vO {a : aA} {tk x0 g0 fi ps d s x : Nat} {pk : Nat → Bool} {pc : Nat → Nat → Bool} {po : Bool} {q : Nat → Int32} {Y : xY} {V V1 : xVV} {I : xII} {J : xJJ} {A : xVV} (H : RepX (a.vst d s pk pc po) tk x0 g0 fi ps Y V I J A) (hv : vOk a d s) (f : xFr (sVc 102 0) Y V I J A Y V1 I J A)
    (h0 : q 0 = nI ((a.vst d s pk pc po).of 0)) (h2 : q 2 = nI ((a.vst d s pk pc po).of 2)) (h1 : 0 < a.rn → q 1 = nI ((a.vst d s pk pc po).of 1))
    (k : xVc Y V1 201 102 0 x (up1 q d (q s))) : RepX (a.vst d s pk pc true) tk x0 g0 fi ps Y V1 I J A := by
  rw [← aA.vst_wof a d s pk pc po true]
  rw [aA.vst_of] at h0 h2 h1 ⊢
  obtain ⟨-, -, -, er⟩ := aA.vst_rest a d s pk pc po
  rw [← er] at h1
  have ra := er
  generalize a.vst d s pk pc po = b at H h1 er ra ⊢
  have key0 : RepX (b.w_of (fun v => if v = d ∧ true = true then a.of s else a.of v)) tk x0 g0 fi ps Y V1 I J A := by
    refine H.w_of f (fun r c e => by unfold sVc at e; unfold gOf; omega) ⟨x, up1 q d (q s), k, ?_, ?_, fun hr => ?_⟩
    · rcases hv with ⟨rfl, rfl, hr, hal⟩ | ⟨rfl, rfl⟩
      · rw [up1_n (by decide), h0]; rfl
      · rw [up1_s, h2]; rfl
    · rcases hv with ⟨rfl, rfl, hr, hal⟩ | ⟨rfl, rfl⟩
      · rw [up1_s, h1 (by rw [er]; exact hr)]; rfl
      · rw [up1_n (by decide), h2]; rfl
    · rcases hv with ⟨rfl, rfl, hr2, hal⟩ | ⟨rfl, rfl⟩
      · rw [up1_n (by decide), h1 hr]; rfl
      · rw [up1_n (by decide), h1 hr]; rfl
  exact key0
theorem vl_mem {n : Nat} {p : Nat → Nat} {e : Nat × Nat} (h : e ∈ vl n p) : e = (201, 0) ∨ (∃ o, o < n ∧ e = (1, o)) ∨ ∃ o i, o < n ∧ i < p o ∧ e = (101, 3 * o + i) := by
  unfold vl at h
  rcases List.mem_cons.mp h with h | h
  · exact Or.inl h
  · obtain ⟨o, ho, h2⟩ := List.mem_flatMap.mp h
    rcases List.mem_cons.mp h2 with h3 | h3
    · exact Or.inr (Or.inl ⟨o, List.mem_range.mp ho, h3⟩)
    · obtain ⟨i, hi, h4⟩ := List.mem_map.mp h3
      exact Or.inr (Or.inr ⟨o, i, List.mem_range.mp ho, List.mem_range.mp hi, h4.symm⟩)
theorem vl_all {n : Nat} {p : Nat → Nat} : (201, 0) ∈ vl n p ∧ (∀ o, o < n → (1, o) ∈ vl n p) ∧ ∀ o i, o < n → i < p o → (101, 3 * o + i) ∈ vl n p := by
  unfold vl
  refine ⟨List.mem_cons_self, fun o ho => List.mem_cons_of_mem _ (List.mem_flatMap.mpr ⟨o, List.mem_range.mpr ho, List.mem_cons_self⟩), fun o i ho hi => List.mem_cons_of_mem _ (List.mem_flatMap.mpr ⟨o, List.mem_range.mpr ho, List.mem_cons_of_mem _ (List.mem_map.mpr ⟨i, List.mem_range.mpr hi, rfl⟩)⟩)⟩
/-- which of the first j have been taken over -/
def vMk (n : Nat) (p : Nat → Nat) (j : Nat) (pk : Nat → Bool) (pc : Nat → Nat → Bool) (po : Bool) : Prop := ((201, 0) ∈ (vl n p).take j → po = true) ∧ (∀ o, o < n → (1, o) ∈ (vl n p).take j → pk o = true) ∧ ∀ o i, o < n → i < p o → (101, 3 * o + i) ∈ (vl n p).take j → pc o i = true
theorem vMk.zero {n : Nat} {p : Nat → Nat} {pk : Nat → Bool} {pc : Nat → Nat → Bool} {po : Bool} : vMk n p 0 pk pc po := by
  unfold vMk
  rw [List.take_zero]
  exact ⟨fun h => absurd h (List.not_mem_nil), fun _ _ h => absurd h (List.not_mem_nil), fun _ _ _ _ h => absurd h (List.not_mem_nil)⟩
theorem take_succ' {l : List (Nat × Nat)} {j : Nat} (h : j < l.length) : l.take (j + 1) = l.take j ++ [l.getD j (0, 0)] := by
  rw [List.take_succ, List.getElem?_eq_getElem h, List.getD_eq_getElem?_getD, List.getElem?_eq_getElem h]; rfl
theorem vMk.step {n : Nat} {p : Nat → Nat} {j : Nat} {pk pk' : Nat → Bool} {pc pc' : Nat → Nat → Bool} {po po' : Bool} (h : vMk n p j pk pc po) (hj : j < (vl n p).length) (m1 : po = true → po' = true) (m2 : ∀ o, pk o = true → pk' o = true) (m3 : ∀ o i, pc o i = true → pc' o i = true)
    (e1 : (vl n p).getD j (0, 0) = (201, 0) → po' = true) (e2 : ∀ o, (vl n p).getD j (0, 0) = (1, o) → pk' o = true) (e3 : ∀ o i, o < n → i < p o → (vl n p).getD j (0, 0) = (101, 3 * o + i) → pc' o i = true) : vMk n p (j + 1) pk' pc' po' := by
  obtain ⟨h1, h2, h3⟩ := h
  unfold vMk
  rw [take_succ' hj]
  refine ⟨fun hm => ?_, fun o ho hm => ?_, fun o i ho hi hm => ?_⟩
  · rcases List.mem_append.mp hm with q | q
    · exact m1 (h1 q)
    · exact e1 (List.mem_singleton.mp q).symm
  · rcases List.mem_append.mp hm with q | q
    · exact m2 o (h2 o ho q)
    · exact e2 o (List.mem_singleton.mp q).symm
  · rcases List.mem_append.mp hm with q | q
    · exact m3 o i (h3 o i ho hi q)
    · exact e3 o i ho hi (List.mem_singleton.mp q).symm
theorem RepX.vend {a : aA} {tk x0 g0 fi ps d s : Nat} {pk : Nat → Bool} {pc : Nat → Nat → Bool} {po : Bool} {Y : xY} {V : xVV} {I : xII} {J : xJJ} {A : xVV} (H : RepX (a.vst d s pk pc po) tk x0 g0 fi ps Y V I J A) (m : vMk a.n a.p (vl a.n a.p).length pk pc po) : RepX (a.vst d s (fun _ => true) (fun _ _ => true) true) tk x0 g0 fi ps Y V I J A := by
  unfold vMk at m
  rw [List.take_length] at m
  obtain ⟨m1, m2, m3⟩ := m
  obtain ⟨v1, v2, v3⟩ := vl_all (n := a.n) (p := a.p)
  have Hks := H.Ks
  have Hct := H.Ct
  have Hof := H.Of
  rw [aA.vst_st] at Hks
  rw [aA.vst_ct] at Hct
  rw [aA.vst_of] at Hof
  have h1 : RepX (a.vst d s (fun _ => true) pc po) tk x0 g0 fi ps Y V I J A := by
    rw [← aA.vst_wst a d s pk (fun _ => true) pc po]
    refine H.vK0 (Hks.cg (fun v o key _ ho _ => ?_))
    rw [aA.vst_st]
    show (if v = d ∧ true = true then a.st s o key else a.st v o key) = if v = d ∧ pk o = true then a.st s o key else a.st v o key
    rw [m2 o ho (v2 o ho)]
  have h2 : RepX (a.vst d s (fun _ => true) (fun _ _ => true) po) tk x0 g0 fi ps Y V I J A := by
    rw [← aA.vst_wct a d s (fun _ => true) pc (fun _ _ => true) po]
    refine h1.vC0 (Hct.cg (fun v o i _ ho hi => ?_))
    rw [aA.vst_ct]
    show (if v = d ∧ true = true then a.ct s o i else a.ct v o i) = if v = d ∧ pc o i = true then a.ct s o i else a.ct v o i
    rw [m3 o i ho hi (v3 o i ho hi)]
  rw [m1 v1] at h2
  exact h2
theorem c_X0_finishAll {G : xG} {T : xT} {O R : xO} {Y : xY} {V : xVV} {I : xII} {J : xJJ} {A : xVV} {w0 : xW} {a : aA} {tk x0 g0 fi ps : Nat} {xl : Nat} {l : List Nat} (P : PX Y V I J A w0 T O R) (H : RepX a tk x0 g0 fi ps Y V I J A) (hv : vOk a 2 1) (hp : ∀ o, o < a.n → 1 ≤ a.p o ∧ a.p o ≤ 3) (hL : xAl Y V A 134 5003 xl g0 l) (hln : l.length = (vl a.n a.p).length) (hA : ∀ j, j < l.length → yAt Y ((vl a.n a.p).getD j (0, 0)).1 ((vl a.n a.p).getD j (0, 0)).2 (l.getD j 0)) : xCtr G yX0_finishAll cX0_finishAll 3 none 8 175 1 4 [.ref xl] (T, O, R) (xN (xR w0 Y (a.vst 2 1 (fun _ => true) (fun _ _ => true) true) tk x0 g0 fi ps)) := by
  refine xCtr.of (by decide +kernel) (Nat.le_of_ble_eq_true rfl) ?_
  intro Z B E hz hnm
  change xV Z (T, O, R) 0 [(0, .ref xl)] [] 1 4
  obtain ⟨m, hm⟩ := hL.2.1
  have c0 := hL.1
  have hH : RepX (a.vst 2 1 (fun _ => false) (fun _ _ => false) false) tk x0 g0 fi ps Y V I J A := by rw [aA.vst_no]; exact H
  refine g_aload_n B 0 dX0_finishAll_0 rfl ?_
  obtain ⟨n1, u1, ty1⟩ := P.ty c0 (by decide) rfl
  refine g_callF (kc2 := 0) (ks2 := 0) (rest := []) B (q := (RJ4, TJ4, 3)) M_J4_iterator ⟨by decide +kernel, by decide +kernel, by decide +kernel⟩ q1659 q830 q1689 q1661 q1660 q1691 q1690 q1688 ty1 rfl (c_J4_iterator (rd := 5003) (g0 := g0) (l := l) P (by decide) rfl c0 hm) rfl rfl (Nat.le_of_ble_eq_true rfl) (Nat.le_of_ble_eq_true rfl) (Nat.le_of_ble_eq_true rfl) (by decide) (by decide) dX0_finishAll_1 (xkA (fun v1 T1 O1 R1 le1 p1 => ?_))
  obtain ⟨Y1, V1, q1, P1, e1, it1, f1⟩ := p1
  have c1 := f1.1.1.at c0
  have H1 := hH.out f1 (fun r o e => by unfold s50 at e; subst e; unfold gSi gOl gOp gKs gIn gCt gOf gCh gAr gVe gIp gTx gWr gEx gLa; decide)
  have L1 := hL.fr f1 (fun e => by unfold s50 at e; omega) (fun o e => by unfold s50 at e; omega)
  have m1 : V1 134 0 0 = .int m := (congrFun (f1.2 134 0 xl c0 (fun e => by unfold s50 at e; omega)).1 0).trans hm
  obtain rfl := e1
  refine g_astore_n (lv2 := [(1, _), (0, _)]) B dX0_finishAll_6 (by decide) rfl ?_
  have hAt : ∀ j, j < l.length → yAt Y1 ((vl a.n a.p).getD j (0, 0)).1 ((vl a.n a.p).getD j (0, 0)).2 (l.getD j 0) := fun j hj => f1.1.1.at (hA j hj)
  have cq := c1
  have itq := it1.1
  have L : ∀ (d : Nat) (k : Nat) (pk : Nat → Bool) (pc : Nat → Nat → Bool) (po : Bool) (V1 : xVV) (I1 : xII) (J1 : xJJ) (T1 : xT) (O1 R1 : xO), d = l.length - k → PX Y1 V1 I1 J1 A w0 T1 O1 R1 → (k ≤ l.length) → (RepX (a.vst 2 1 pk pc po) tk x0 g0 fi ps Y1 V1 I1 J1 A) → (vMk a.n a.p k pk pc po) → (xIt Y1 V1 q1 xl k m) → (xAl Y1 V1 A 134 5003 xl g0 l) → (V1 134 0 0 = .int m) → xV Z (T1, O1, R1) 7 [(1, .ref q1), (0, .ref xl)] [] 0 0 := by
    intro d
    induction d using Nat.strongRecOn with
    | _ d ih =>
      intro k pk pc po V1 I1 J1 T1 O1 R1 hd P1 hkl H1 hM it1 L1 m1
      refine g_aload_n B 0 dX0_finishAll_7 rfl ?_
      obtain ⟨n101, u101, ty101⟩ := P1.ty itq (by decide) rfl
      refine g_callF (rest := []) B (q := (RJ20, TJ20, 4)) M_J20_hasNext ⟨by decide +kernel, by decide +kernel, by decide +kernel⟩ q855 q877 q875 q857 q856 q878 q876 q874 ty101 rfl (c_J20_hasNext (m := m) P1 (by decide) rfl L1 m1 it1 (by omega)) rfl rfl (Nat.le_of_ble_eq_true rfl) (Nat.le_of_ble_eq_true rfl) (Nat.le_of_ble_eq_true rfl) (Nat.le_refl _) (Nat.le_refl _) dX0_finishAll_8 (xkA (fun v101 T101 O101 R101 le101 p101 => ?_))
      obtain ⟨rfl, eT101, eO101, eR101⟩ := p101
      obtain rfl := eT101.symm
      obtain rfl := eO101.symm
      obtain rfl := eR101.symm
      refine g_if_eqB (tgt := 33) B dX0_finishAll_13 (by decide) (fun c102 => ?_) (fun c102 => ?_)
      · refine g_vret B E rfl dX0_finishAll_33 ?_
        have ek : k = (vl a.n a.p).length := by have := c102; simp at this; omega
        rw [ek] at hM
        exact ⟨rfl, _, _, _, _, _, P1, f1.1.1, H1.vend hM⟩
      · have hkl : k < l.length := by have := c102; simp at this; omega
        refine g_aload_n B 0 dX0_finishAll_16 rfl ?_
        obtain ⟨n103, u103, ty103⟩ := P1.ty itq (by decide) rfl
        refine g_callF (rest := []) B (q := (RJ20, TJ20, 4)) M_J20_next ⟨by decide +kernel, by decide +kernel, by decide +kernel⟩ q890 q1191 q1189 q892 q891 q1192 q1190 q874 ty103 rfl (c_J20_next (m := m) P1 (by decide) rfl L1 m1 it1 (by decide) (by omega)) rfl rfl (Nat.le_of_ble_eq_true rfl) (Nat.le_of_ble_eq_true rfl) (Nat.le_of_ble_eq_true rfl) (Nat.le_refl _) (Nat.le_refl _) dX0_finishAll_17 (xkA (fun v103 T103 O103 R103 le103 p103 => ?_))
        obtain ⟨V103, e103, P103, it103, f103⟩ := p103
        obtain rfl := e103
        have H103 := H1.out f103 (fun r o e => by unfold s50 at e; subst e; unfold gSi gOl gOp gKs gIn gCt gOf gCh gAr gVe gIp gTx gWr gEx gLa; decide)
        have L103 := L1.fr f103 (fun e => by unfold s50 at e; omega) (fun o e => by unfold s50 at e; omega)
        have m103 : V103 134 0 0 = .int m := (congrFun (f103.2 134 0 xl cq (fun e => by unfold s50 at e; omega)).1 0).trans m1
        have hkv : k < (vl a.n a.p).length := by omega
        have hem := hAt k hkl
        have hmem : (vl a.n a.p).getD k (0, 0) ∈ vl a.n a.p := by rw [List.getD_eq_getElem?_getD, List.getElem?_eq_getElem hkv]; exact List.getElem_mem hkv
        rcases vl_mem hmem with he | ⟨o, ho, he⟩ | ⟨o, i, ho, hi, he⟩
        · rw [he] at hem
          have hem : yAt Y1 201 0 (l.getD k 0) := hem
          obtain ⟨xq, qq, kk, k0, k2, k1⟩ := H103.Of
          obtain rfl : xq = l.getD k 0 := P103.fn kk.1 hem
          obtain ⟨n104, u104, ty104⟩ := P103.ty hem (by decide) rfl
          refine g_castS (q := (RX1, TX1, 3)) B ty104 rfl q221 dX0_finishAll_22 ?_
          refine g_astore_n (lv2 := [(2, _), (1, _), (0, _)]) B dX0_finishAll_25 (by decide) rfl ?_
          refine g_aload_n B 0 dX0_finishAll_26 rfl ?_
          obtain ⟨n105, u105, ty105⟩ := P103.ty hem (by decide) rfl
          refine g_callV (rest := []) B M_X1_finish q1763 q1764 q1765 ty105 rfl (c_X1_finishC P103 (by decide) rfl (by decide) rfl kk) rfl rfl (Nat.le_of_ble_eq_true rfl) (Nat.le_of_ble_eq_true rfl) (Nat.le_of_ble_eq_true rfl) (Nat.le_refl _) (Nat.le_refl _) dX0_finishAll_27 (xkN (fun T105 O105 R105 le105 p105 => ?_))
          obtain ⟨Y105, V105, I105, J105, A105, P105, rfl, rfl, rfl, rfl, S105, f105⟩ := p105
          have Hn105 := H103.vO hv f105 k0 k2 k1 S105
          have L105 := L103.fr f105 (fun e => by unfold sVc at e; omega) (fun o e => by unfold sVc at e; omega)
          have m105 : V105 134 0 0 = .int m := (congrFun (f105.2 134 0 xl cq (fun e => by unfold sVc at e; omega)).1 0).trans m103
          have it105 := it103.fr f105 (fun e => by unfold sVc at e; omega)
          refine g_goto (tgt := 7) B dX0_finishAll_30 (by decide) ?_
          refine g_pick [1, 2] rfl ?_
          exact ih (l.length - (k + 1)) ((by omega)) (k + 1) pk pc true _ _ _ _ _ _ rfl P105 (by omega) Hn105 (hM.step hkv (fun _ => rfl) (fun _ h => h) (fun _ _ h => h) (fun _ => rfl) (fun o2 e => absurd (show (201 : Nat) = 1 from (congrArg Prod.fst he).symm.trans (congrArg Prod.fst e)) (by decide)) (fun o2 i2 _ _ e => absurd (show (201 : Nat) = 101 from (congrArg Prod.fst he).symm.trans (congrArg Prod.fst e)) (by decide))) it105 L105 m105
        · rw [he] at hem
          have hem : yAt Y1 1 o (l.getD k 0) := hem
          obtain ⟨xq, qq, kk, k1, k2⟩ := H103.Ks o ho
          obtain rfl : xq = l.getD k 0 := P103.fn kk.1 hem
          obtain ⟨n106, u106, ty106⟩ := P103.ty hem (by decide) rfl
          refine g_castS (q := (RX1, TX1, 3)) B ty106 rfl q221 dX0_finishAll_22 ?_
          refine g_astore_n (lv2 := [(2, _), (1, _), (0, _)]) B dX0_finishAll_25 (by decide) rfl ?_
          refine g_aload_n B 0 dX0_finishAll_26 rfl ?_
          obtain ⟨n107, u107, ty107⟩ := P103.ty hem (by decide) rfl
          refine g_callV (rest := []) B M_X1_finish q1763 q1764 q1765 ty107 rfl (c_X1_finishK P103 (by decide) rfl ksRp kk) rfl rfl (Nat.le_of_ble_eq_true rfl) (Nat.le_of_ble_eq_true rfl) (Nat.le_of_ble_eq_true rfl) (Nat.le_refl _) (Nat.le_refl _) dX0_finishAll_27 (xkN (fun T107 O107 R107 le107 p107 => ?_))
          obtain ⟨Y107, V107, I107, J107, A107, P107, rfl, rfl, S107, f107⟩ := p107
          have Hn107 := H103.vK hv (fun o ho => (hp o ho).1) ho f107 k1 k2 S107
          have L107 := L103.fr f107 (fun e => by unfold sVk at e; omega) (fun o e => by unfold sVk at e; omega)
          have m107 : V107 134 0 0 = .int m := (congrFun (f107.2 134 0 xl cq (fun e => by unfold sVk at e; omega)).1 0).trans m103
          have it107 := it103.fr f107 (fun e => by unfold sVk at e; omega)
          refine g_goto (tgt := 7) B dX0_finishAll_30 (by decide) ?_
          refine g_pick [1, 2] rfl ?_
          exact ih (l.length - (k + 1)) ((by omega)) (k + 1) (up1 pk o true) pc po _ _ _ _ _ _ rfl P107 (by omega) Hn107 (hM.step hkv (fun h => h) (fun o2 h => by unfold up1; split; rfl; exact h) (fun _ _ h => h) (fun e => absurd (show (1 : Nat) = 201 from (congrArg Prod.fst he).symm.trans (congrArg Prod.fst e)) (by decide)) (fun o2 e => by rw [he] at e; have q := congrArg Prod.snd e; rw [show o2 = o from q.symm]; exact up1_s) (fun o2 i2 _ _ e => absurd (show (1 : Nat) = 101 from (congrArg Prod.fst he).symm.trans (congrArg Prod.fst e)) (by decide))) it107 L107 m107
        · rw [he] at hem
          have hem : yAt Y1 101 (3 * o + i) (l.getD k 0) := hem
          obtain ⟨xq, qq, kk, k0, k2, k1⟩ := H103.Ct o ho i hi
          obtain rfl : xq = l.getD k 0 := P103.fn kk.1 hem
          obtain ⟨n108, u108, ty108⟩ := P103.ty hem (by decide) rfl
          refine g_castS (q := (RX1, TX1, 3)) B ty108 rfl q221 dX0_finishAll_22 ?_
          refine g_astore_n (lv2 := [(2, _), (1, _), (0, _)]) B dX0_finishAll_25 (by decide) rfl ?_
          refine g_aload_n B 0 dX0_finishAll_26 rfl ?_
          obtain ⟨n109, u109, ty109⟩ := P103.ty hem (by decide) rfl
          refine g_callV (rest := []) B M_X1_finish q1763 q1764 q1765 ty109 rfl (c_X1_finishC P103 (by decide) rfl (by decide) rfl kk) rfl rfl (Nat.le_of_ble_eq_true rfl) (Nat.le_of_ble_eq_true rfl) (Nat.le_of_ble_eq_true rfl) (Nat.le_refl _) (Nat.le_refl _) dX0_finishAll_27 (xkN (fun T109 O109 R109 le109 p109 => ?_))
          obtain ⟨Y109, V109, I109, J109, A109, P109, rfl, rfl, rfl, rfl, S109, f109⟩ := p109
          have Hn109 := H103.vC hv (fun o ho => (hp o ho).2) ho hi f109 k0 k2 k1 S109
          have L109 := L103.fr f109 (fun e => by unfold sVc at e; omega) (fun o e => by unfold sVc at e; omega)
          have m109 : V109 134 0 0 = .int m := (congrFun (f109.2 134 0 xl cq (fun e => by unfold sVc at e; omega)).1 0).trans m103
          have it109 := it103.fr f109 (fun e => by unfold sVc at e; omega)
          refine g_goto (tgt := 7) B dX0_finishAll_30 (by decide) ?_
          refine g_pick [1, 2] rfl ?_
          exact ih (l.length - (k + 1)) ((by omega)) (k + 1) pk (up2 pc o i true) po _ _ _ _ _ _ rfl P109 (by omega) Hn109 (hM.step hkv (fun h => h) (fun _ h => h) (fun o2 i2 h => by unfold up2; split; rfl; exact h) (fun e => absurd (show (101 : Nat) = 201 from (congrArg Prod.fst he).symm.trans (congrArg Prod.fst e)) (by decide)) (fun o2 e => absurd (show (101 : Nat) = 1 from (congrArg Prod.fst he).symm.trans (congrArg Prod.fst e)) (by decide)) (fun o2 i2 h2 h3 e => by rw [he] at e; have q : 3 * o + i = 3 * o2 + i2 := congrArg Prod.snd e; have g1 := (hp o ho).2; have g2 := (hp o2 h2).2; rw [show o2 = o by omega, show i2 = i by omega]; exact up2_s)) it109 L109 m109
  exact L _ 0 (fun _ => false) (fun _ _ => false) false _ _ _ _ _ _ rfl P1 (Nat.zero_le _) H1 vMk.zero it1 L1 m1
theorem c_X0_restoreAll {G : xG} {T : xT} {O R : xO} {Y : xY} {V : xVV} {I : xII} {J : xJJ} {A : xVV} {w0 : xW} {a : aA} {tk x0 g0 fi ps : Nat} {xl : Nat} {l : List Nat} (P : PX Y V I J A w0 T O R) (H : RepX a tk x0 g0 fi ps Y V I J A) (hv : vOk a 0 2) (hp : ∀ o, o < a.n → 1 ≤ a.p o ∧ a.p o ≤ 3) (hL : xAl Y V A 134 5003 xl g0 l) (hln : l.length = (vl a.n a.p).length) (hA : ∀ j, j < l.length → yAt Y ((vl a.n a.p).getD j (0, 0)).1 ((vl a.n a.p).getD j (0, 0)).2 (l.getD j 0)) : xCtr G yX0_restoreAll cX0_restoreAll 3 none 8 175 1 4 [.ref xl] (T, O, R) (xN (xR w0 Y (a.vst 0 2 (fun _ => true) (fun _ _ => true) true) tk x0 g0 fi ps)) := by
  refine xCtr.of (by decide +kernel) (Nat.le_of_ble_eq_true rfl) ?_
  intro Z B E hz hnm
  change xV Z (T, O, R) 0 [(0, .ref xl)] [] 1 4
  obtain ⟨m, hm⟩ := hL.2.1
  have c0 := hL.1
  have hH : RepX (a.vst 0 2 (fun _ => false) (fun _ _ => false) false) tk x0 g0 fi ps Y V I J A := by rw [aA.vst_no]; exact H
  refine g_aload_n B 0 dX0_restoreAll_0 rfl ?_
  obtain ⟨n1, u1, ty1⟩ := P.ty c0 (by decide) rfl
  refine g_callF (kc2 := 0) (ks2 := 0) (rest := []) B (q := (RJ4, TJ4, 3)) M_J4_iterator ⟨by decide +kernel, by decide +kernel, by decide +kernel⟩ q1659 q830 q1689 q1661 q1660 q1691 q1690 q1688 ty1 rfl (c_J4_iterator (rd := 5003) (g0 := g0) (l := l) P (by decide) rfl c0 hm) rfl rfl (Nat.le_of_ble_eq_true rfl) (Nat.le_of_ble_eq_true rfl) (Nat.le_of_ble_eq_true rfl) (by decide) (by decide) dX0_restoreAll_1 (xkA (fun v1 T1 O1 R1 le1 p1 => ?_))
  obtain ⟨Y1, V1, q1, P1, e1, it1, f1⟩ := p1
  have c1 := f1.1.1.at c0
  have H1 := hH.out f1 (fun r o e => by unfold s50 at e; subst e; unfold gSi gOl gOp gKs gIn gCt gOf gCh gAr gVe gIp gTx gWr gEx gLa; decide)
  have L1 := hL.fr f1 (fun e => by unfold s50 at e; omega) (fun o e => by unfold s50 at e; omega)
  have m1 : V1 134 0 0 = .int m := (congrFun (f1.2 134 0 xl c0 (fun e => by unfold s50 at e; omega)).1 0).trans hm
  obtain rfl := e1
  refine g_astore_n (lv2 := [(1, _), (0, _)]) B dX0_restoreAll_6 (by decide) rfl ?_
  have hAt : ∀ j, j < l.length → yAt Y1 ((vl a.n a.p).getD j (0, 0)).1 ((vl a.n a.p).getD j (0, 0)).2 (l.getD j 0) := fun j hj => f1.1.1.at (hA j hj)
  have cq := c1
  have itq := it1.1
  have L : ∀ (d : Nat) (k : Nat) (pk : Nat → Bool) (pc : Nat → Nat → Bool) (po : Bool) (V1 : xVV) (I1 : xII) (J1 : xJJ) (T1 : xT) (O1 R1 : xO), d = l.length - k → PX Y1 V1 I1 J1 A w0 T1 O1 R1 → (k ≤ l.length) → (RepX (a.vst 0 2 pk pc po) tk x0 g0 fi ps Y1 V1 I1 J1 A) → (vMk a.n a.p k pk pc po) → (xIt Y1 V1 q1 xl k m) → (xAl Y1 V1 A 134 5003 xl g0 l) → (V1 134 0 0 = .int m) → xV Z (T1, O1, R1) 7 [(1, .ref q1), (0, .ref xl)] [] 0 0 := by
    intro d
    induction d using Nat.strongRecOn with
    | _ d ih =>
      intro k pk pc po V1 I1 J1 T1 O1 R1 hd P1 hkl H1 hM it1 L1 m1
      refine g_aload_n B 0 dX0_restoreAll_7 rfl ?_
      obtain ⟨n101, u101, ty101⟩ := P1.ty itq (by decide) rfl
      refine g_callF (rest := []) B (q := (RJ20, TJ20, 4)) M_J20_hasNext ⟨by decide +kernel, by decide +kernel, by decide +kernel⟩ q855 q877 q875 q857 q856 q878 q876 q874 ty101 rfl (c_J20_hasNext (m := m) P1 (by decide) rfl L1 m1 it1 (by omega)) rfl rfl (Nat.le_of_ble_eq_true rfl) (Nat.le_of_ble_eq_true rfl) (Nat.le_of_ble_eq_true rfl) (Nat.le_refl _) (Nat.le_refl _) dX0_restoreAll_8 (xkA (fun v101 T101 O101 R101 le101 p101 => ?_))
      obtain ⟨rfl, eT101, eO101, eR101⟩ := p101
      obtain rfl := eT101.symm
      obtain rfl := eO101.symm
      obtain rfl := eR101.symm
      refine g_if_eqB (tgt := 33) B dX0_restoreAll_13 (by decide) (fun c102 => ?_) (fun c102 => ?_)
      · refine g_vret B E rfl dX0_restoreAll_33 ?_
        have ek : k = (vl a.n a.p).length := by have := c102; simp at this; omega
        rw [ek] at hM
        exact ⟨rfl, _, _, _, _, _, P1, f1.1.1, H1.vend hM⟩
      · have hkl : k < l.length := by have := c102; simp at this; omega
        refine g_aload_n B 0 dX0_restoreAll_16 rfl ?_
        obtain ⟨n103, u103, ty103⟩ := P1.ty itq (by decide) rfl
        refine g_callF (rest := []) B (q := (RJ20, TJ20, 4)) M_J20_next ⟨by decide +kernel, by decide +kernel, by decide +kernel⟩ q890 q1191 q1189 q892 q891 q1192 q1190 q874 ty103 rfl (c_J20_next (m := m) P1 (by decide) rfl L1 m1 it1 (by decide) (by omega)) rfl rfl (Nat.le_of_ble_eq_true rfl) (Nat.le_of_ble_eq_true rfl) (Nat.le_of_ble_eq_true rfl) (Nat.le_refl _) (Nat.le_refl _) dX0_restoreAll_17 (xkA (fun v103 T103 O103 R103 le103 p103 => ?_))
        obtain ⟨V103, e103, P103, it103, f103⟩ := p103
        obtain rfl := e103
        have H103 := H1.out f103 (fun r o e => by unfold s50 at e; subst e; unfold gSi gOl gOp gKs gIn gCt gOf gCh gAr gVe gIp gTx gWr gEx gLa; decide)
        have L103 := L1.fr f103 (fun e => by unfold s50 at e; omega) (fun o e => by unfold s50 at e; omega)
        have m103 : V103 134 0 0 = .int m := (congrFun (f103.2 134 0 xl cq (fun e => by unfold s50 at e; omega)).1 0).trans m1
        have hkv : k < (vl a.n a.p).length := by omega
        have hem := hAt k hkl
        have hmem : (vl a.n a.p).getD k (0, 0) ∈ vl a.n a.p := by rw [List.getD_eq_getElem?_getD, List.getElem?_eq_getElem hkv]; exact List.getElem_mem hkv
        rcases vl_mem hmem with he | ⟨o, ho, he⟩ | ⟨o, i, ho, hi, he⟩
        · rw [he] at hem
          have hem : yAt Y1 201 0 (l.getD k 0) := hem
          obtain ⟨xq, qq, kk, k0, k2, k1⟩ := H103.Of
          obtain rfl : xq = l.getD k 0 := P103.fn kk.1 hem
          obtain ⟨n104, u104, ty104⟩ := P103.ty hem (by decide) rfl
          refine g_castS (q := (RX1, TX1, 3)) B ty104 rfl q221 dX0_restoreAll_22 ?_
          refine g_astore_n (lv2 := [(2, _), (1, _), (0, _)]) B dX0_restoreAll_25 (by decide) rfl ?_
          refine g_aload_n B 0 dX0_restoreAll_26 rfl ?_
          obtain ⟨n105, u105, ty105⟩ := P103.ty hem (by decide) rfl
          refine g_callV (rest := []) B M_X1_restore q1845 q1846 q1847 ty105 rfl (c_X1_restoreC P103 (by decide) rfl (by decide) rfl kk) rfl rfl (Nat.le_of_ble_eq_true rfl) (Nat.le_of_ble_eq_true rfl) (Nat.le_of_ble_eq_true rfl) (Nat.le_refl _) (Nat.le_refl _) dX0_restoreAll_27 (xkN (fun T105 O105 R105 le105 p105 => ?_))
          obtain ⟨Y105, V105, I105, J105, A105, P105, rfl, rfl, rfl, rfl, S105, f105⟩ := p105
          have Hn105 := H103.vO hv f105 k0 k2 k1 S105
          have L105 := L103.fr f105 (fun e => by unfold sVc at e; omega) (fun o e => by unfold sVc at e; omega)
          have m105 : V105 134 0 0 = .int m := (congrFun (f105.2 134 0 xl cq (fun e => by unfold sVc at e; omega)).1 0).trans m103
          have it105 := it103.fr f105 (fun e => by unfold sVc at e; omega)
          refine g_goto (tgt := 7) B dX0_restoreAll_30 (by decide) ?_
          refine g_pick [1, 2] rfl ?_
          exact ih (l.length - (k + 1)) ((by omega)) (k + 1) pk pc true _ _ _ _ _ _ rfl P105 (by omega) Hn105 (hM.step hkv (fun _ => rfl) (fun _ h => h) (fun _ _ h => h) (fun _ => rfl) (fun o2 e => absurd (show (201 : Nat) = 1 from (congrArg Prod.fst he).symm.trans (congrArg Prod.fst e)) (by decide)) (fun o2 i2 _ _ e => absurd (show (201 : Nat) = 101 from (congrArg Prod.fst he).symm.trans (congrArg Prod.fst e)) (by decide))) it105 L105 m105
        · rw [he] at hem
          have hem : yAt Y1 1 o (l.getD k 0) := hem
          obtain ⟨xq, qq, kk, k1, k2⟩ := H103.Ks o ho
          obtain rfl : xq = l.getD k 0 := P103.fn kk.1 hem
          obtain ⟨n106, u106, ty106⟩ := P103.ty hem (by decide) rfl
          refine g_castS (q := (RX1, TX1, 3)) B ty106 rfl q221 dX0_restoreAll_22 ?_
          refine g_astore_n (lv2 := [(2, _), (1, _), (0, _)]) B dX0_restoreAll_25 (by decide) rfl ?_
          refine g_aload_n B 0 dX0_restoreAll_26 rfl ?_
          obtain ⟨n107, u107, ty107⟩ := P103.ty hem (by decide) rfl
          refine g_callV (rest := []) B M_X1_restore q1845 q1846 q1847 ty107 rfl (c_X1_restoreK P103 (by decide) rfl ksRp kk) rfl rfl (Nat.le_of_ble_eq_true rfl) (Nat.le_of_ble_eq_true rfl) (Nat.le_of_ble_eq_true rfl) (Nat.le_refl _) (Nat.le_refl _) dX0_restoreAll_27 (xkN (fun T107 O107 R107 le107 p107 => ?_))
          obtain ⟨Y107, V107, I107, J107, A107, P107, rfl, rfl, S107, f107⟩ := p107
          have Hn107 := H103.vK hv (fun o ho => (hp o ho).1) ho f107 k1 k2 S107
          have L107 := L103.fr f107 (fun e => by unfold sVk at e; omega) (fun o e => by unfold sVk at e; omega)
          have m107 : V107 134 0 0 = .int m := (congrFun (f107.2 134 0 xl cq (fun e => by unfold sVk at e; omega)).1 0).trans m103
          have it107 := it103.fr f107 (fun e => by unfold sVk at e; omega)
          refine g_goto (tgt := 7) B dX0_restoreAll_30 (by decide) ?_
          refine g_pick [1, 2] rfl ?_
          exact ih (l.length - (k + 1)) ((by omega)) (k + 1) (up1 pk o true) pc po _ _ _ _ _ _ rfl P107 (by omega) Hn107 (hM.step hkv (fun h => h) (fun o2 h => by unfold up1; split; rfl; exact h) (fun _ _ h => h) (fun e => absurd (show (1 : Nat) = 201 from (congrArg Prod.fst he).symm.trans (congrArg Prod.fst e)) (by decide)) (fun o2 e => by rw [he] at e; have q := congrArg Prod.snd e; rw [show o2 = o from q.symm]; exact up1_s) (fun o2 i2 _ _ e => absurd (show (1 : Nat) = 101 from (congrArg Prod.fst he).symm.trans (congrArg Prod.fst e)) (by decide))) it107 L107 m107
        · rw [he] at hem
          have hem : yAt Y1 101 (3 * o + i) (l.getD k 0) := hem
          obtain ⟨xq, qq, kk, k0, k2, k1⟩ := H103.Ct o ho i hi
          obtain rfl : xq = l.getD k 0 := P103.fn kk.1 hem
          obtain ⟨n108, u108, ty108⟩ := P103.ty hem (by decide) rfl
          refine g_castS (q := (RX1, TX1, 3)) B ty108 rfl q221 dX0_restoreAll_22 ?_
          refine g_astore_n (lv2 := [(2, _), (1, _), (0, _)]) B dX0_restoreAll_25 (by decide) rfl ?_
          refine g_aload_n B 0 dX0_restoreAll_26 rfl ?_
          obtain ⟨n109, u109, ty109⟩ := P103.ty hem (by decide) rfl
          refine g_callV (rest := []) B M_X1_restore q1845 q1846 q1847 ty109 rfl (c_X1_restoreC P103 (by decide) rfl (by decide) rfl kk) rfl rfl (Nat.le_of_ble_eq_true rfl) (Nat.le_of_ble_eq_true rfl) (Nat.le_of_ble_eq_true rfl) (Nat.le_refl _) (Nat.le_refl _) dX0_restoreAll_27 (xkN (fun T109 O109 R109 le109 p109 => ?_))
          obtain ⟨Y109, V109, I109, J109, A109, P109, rfl, rfl, rfl, rfl, S109, f109⟩ := p109
          have Hn109 := H103.vC hv (fun o ho => (hp o ho).2) ho hi f109 k0 k2 k1 S109
          have L109 := L103.fr f109 (fun e => by unfold sVc at e; omega) (fun o e => by unfold sVc at e; omega)
          have m109 : V109 134 0 0 = .int m := (congrFun (f109.2 134 0 xl cq (fun e => by unfold sVc at e; omega)).1 0).trans m103
          have it109 := it103.fr f109 (fun e => by unfold sVc at e; omega)
          refine g_goto (tgt := 7) B dX0_restoreAll_30 (by decide) ?_
          refine g_pick [1, 2] rfl ?_
          exact ih (l.length - (k + 1)) ((by omega)) (k + 1) pk (up2 pc o i true) po _ _ _ _ _ _ rfl P109 (by omega) Hn109 (hM.step hkv (fun h => h) (fun _ h => h) (fun o2 i2 h => by unfold up2; split; rfl; exact h) (fun e => absurd (show (101 : Nat) = 201 from (congrArg Prod.fst he).symm.trans (congrArg Prod.fst e)) (by decide)) (fun o2 e => absurd (show (101 : Nat) = 1 from (congrArg Prod.fst he).symm.trans (congrArg Prod.fst e)) (by decide)) (fun o2 i2 h2 h3 e => by rw [he] at e; have q : 3 * o + i = 3 * o2 + i2 := congrArg Prod.snd e; have g1 := (hp o ho).2; have g2 := (hp o2 h2).2; rw [show o2 = o by omega, show i2 = i by omega]; exact up2_s)) it109 L109 m109
  exact L _ 0 (fun _ => false) (fun _ _ => false) false _ _ _ _ _ _ rfl P1 (Nat.zero_le _) H1 vMk.zero it1 L1 m1
