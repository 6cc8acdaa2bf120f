set_option maxRecDepth 100000
set_option linter.unusedVariables false
/-! WHAT ALWAYS HOLDS of the abstract state; B bounds its numbers -/
/-- a record of the state -/
def rOk (t : Nat) (r : aRec) : Prop := r.1 < 16 ∧ r.2.2 < t
def rsOk (t : Nat) (l : List aRec) : Prop := ∀ r, r ∈ l → rOk t r
/-- a channel, by the batches' size, the credits, the ticks, the bound -/
def chOk (bs cr t B : Nat) (c : aCh) : Prop := c.1.length ≤ cr ∧ c.2.1.length ≤ bs ∧ c.2.2 ≤ B ∧ (c.2.1 = [] → c.2.2 = 0) ∧ (∀ l, some l ∈ c.1 → 1 ≤ l.length ∧ l.length ≤ 4 ∧ rsOk t l) ∧ rsOk t c.2.1
/-- a state of a key, by the kind -/
def stOk (k : Nat) (pa : Int32) (s : Option (Int32 × Int32)) : Prop := (kKey k = false → s = none) ∧ (k = 4 → ∃ c m : Nat, (s.getD (0, 0)).2 = nI c ∧ pa = nI m ∧ c + 1 ≤ m ∧ m ≤ 5) ∧ (k = 5 ∨ k = 6 → (s.getD (0, 0)).2 = 0)

def WF (B : Nat) (a : aA) : Prop := (2 ≤ a.n) ∧ (a.n ≤ 6) ∧ (∀ o, o < a.n → 1 ≤ a.p o ∧ a.p o ≤ 3) ∧ (a.p 0 = 1) ∧ (a.kd 0 = 7) ∧ (a.kd (a.n - 1) = 8) ∧ (∀ o, 0 < o → o + 1 < a.n → a.kd o ≤ 6) ∧ (∀ o, o < a.n → a.kd o = 3 → ∃ m : Nat, m ≤ 3 ∧ a.pa o = nI m) ∧ (∀ o, o < a.n → (-99 ≤ (a.pa o).toInt ∧ (a.pa o).toInt ≤ 99) ∧ (-99 ≤ (a.pb o).toInt ∧ (a.pb o).toInt ≤ 99)) ∧ ((1 ≤ a.cf 0 ∧ a.cf 0 ≤ 4) ∧ (1 ≤ a.cf 1 ∧ a.cf 1 ≤ 9) ∧ (2 ≤ a.cf 2 ∧ a.cf 2 ≤ 4) ∧ (1 ≤ a.cf 3 ∧ a.cf 3 ≤ 5)) ∧ (a.inp.length ≤ 60) ∧ (∀ x, x ∈ a.inp → x.1 < 16) ∧ (∀ v, a.of v ≤ a.inp.length) ∧ (a.nm 0 ≤ B ∧ a.nm 1 ≤ B ∧ a.nm 2 ≤ B ∧ a.nm 3 ≤ B ∧ a.nm 4 ≤ 1) ∧ (∀ o i, (a.ls o i).length ≤ 3 ∧ rsOk a.tk (a.ls o i)) ∧ (∀ o i, ¬ (o + 1 < a.n ∧ i < a.p o) → a.ls o i = []) ∧ (∀ o i j, chOk (a.cf 0) (a.cf 2) a.tk B (a.ch o i j)) ∧ (∀ o i j, ¬ (o + 1 < a.n ∧ i < a.p o ∧ j < a.p (o + 1)) → a.ch o i j = c0) ∧ (∀ v o i, a.ct v o i ≤ B) ∧ (∀ o i, a.ct 0 o i + (a.ls o i).length ≤ B) ∧ (∀ v o key, stOk (a.kd o) (a.pa o) (a.st v o key)) ∧ (∀ v o key, ¬ (o < a.n ∧ key < 16) → a.st v o key = none) ∧ (∀ o i, a.pt o i < 3) ∧ (∀ o i, ¬ (o + 1 < a.n ∧ i < a.p o) → a.hd o i = false) ∧ (∀ o i f, ¬ (0 < o ∧ o < a.n ∧ i < a.p o ∧ f < a.p (o - 1)) → a.sp o i f = false) ∧ (a.nm 4 = 0 → ∀ o i j, a.ch o i j = c0)
theorem WF.n2 {B : Nat} {a : aA} (h : WF B a) : 2 ≤ a.n := h.1
theorem WF.n6 {B : Nat} {a : aA} (h : WF B a) : a.n ≤ 6 := h.2.1
theorem WF.p1 {B : Nat} {a : aA} (h : WF B a) : ∀ o, o < a.n → 1 ≤ a.p o ∧ a.p o ≤ 3 := h.2.2.1
theorem WF.p0 {B : Nat} {a : aA} (h : WF B a) : a.p 0 = 1 := h.2.2.2.1
theorem WF.k0 {B : Nat} {a : aA} (h : WF B a) : a.kd 0 = 7 := h.2.2.2.2.1
theorem WF.kl {B : Nat} {a : aA} (h : WF B a) : a.kd (a.n - 1) = 8 := h.2.2.2.2.2.1
theorem WF.km {B : Nat} {a : aA} (h : WF B a) : ∀ o, 0 < o → o + 1 < a.n → a.kd o ≤ 6 := h.2.2.2.2.2.2.1
theorem WF.k3 {B : Nat} {a : aA} (h : WF B a) : ∀ o, o < a.n → a.kd o = 3 → ∃ m : Nat, m ≤ 3 ∧ a.pa o = nI m := h.2.2.2.2.2.2.2.1
theorem WF.kr {B : Nat} {a : aA} (h : WF B a) : ∀ o, o < a.n → (-99 ≤ (a.pa o).toInt ∧ (a.pa o).toInt ≤ 99) ∧ (-99 ≤ (a.pb o).toInt ∧ (a.pb o).toInt ≤ 99) := h.2.2.2.2.2.2.2.2.1
theorem WF.cf {B : Nat} {a : aA} (h : WF B a) : (1 ≤ a.cf 0 ∧ a.cf 0 ≤ 4) ∧ (1 ≤ a.cf 1 ∧ a.cf 1 ≤ 9) ∧ (2 ≤ a.cf 2 ∧ a.cf 2 ≤ 4) ∧ (1 ≤ a.cf 3 ∧ a.cf 3 ≤ 5) := h.2.2.2.2.2.2.2.2.2.1
theorem WF.inp {B : Nat} {a : aA} (h : WF B a) : a.inp.length ≤ 60 := h.2.2.2.2.2.2.2.2.2.2.1
theorem WF.inpk {B : Nat} {a : aA} (h : WF B a) : ∀ x, x ∈ a.inp → x.1 < 16 := h.2.2.2.2.2.2.2.2.2.2.2.1
theorem WF.ofs {B : Nat} {a : aA} (h : WF B a) : ∀ v, a.of v ≤ a.inp.length := h.2.2.2.2.2.2.2.2.2.2.2.2.1
theorem WF.nms {B : Nat} {a : aA} (h : WF B a) : a.nm 0 ≤ B ∧ a.nm 1 ≤ B ∧ a.nm 2 ≤ B ∧ a.nm 3 ≤ B ∧ a.nm 4 ≤ 1 := h.2.2.2.2.2.2.2.2.2.2.2.2.2.1
theorem WF.ls {B : Nat} {a : aA} (h : WF B a) : ∀ o i, (a.ls o i).length ≤ 3 ∧ rsOk a.tk (a.ls o i) := h.2.2.2.2.2.2.2.2.2.2.2.2.2.2.1
theorem WF.lsu {B : Nat} {a : aA} (h : WF B a) : ∀ o i, ¬ (o + 1 < a.n ∧ i < a.p o) → a.ls o i = [] := h.2.2.2.2.2.2.2.2.2.2.2.2.2.2.2.1
theorem WF.ch {B : Nat} {a : aA} (h : WF B a) : ∀ o i j, chOk (a.cf 0) (a.cf 2) a.tk B (a.ch o i j) := h.2.2.2.2.2.2.2.2.2.2.2.2.2.2.2.2.1
theorem WF.chu {B : Nat} {a : aA} (h : WF B a) : ∀ o i j, ¬ (o + 1 < a.n ∧ i < a.p o ∧ j < a.p (o + 1)) → a.ch o i j = c0 := h.2.2.2.2.2.2.2.2.2.2.2.2.2.2.2.2.2.1
theorem WF.ct {B : Nat} {a : aA} (h : WF B a) : ∀ v o i, a.ct v o i ≤ B := h.2.2.2.2.2.2.2.2.2.2.2.2.2.2.2.2.2.2.1
theorem WF.ctl {B : Nat} {a : aA} (h : WF B a) : ∀ o i, a.ct 0 o i + (a.ls o i).length ≤ B := h.2.2.2.2.2.2.2.2.2.2.2.2.2.2.2.2.2.2.2.1
theorem WF.st {B : Nat} {a : aA} (h : WF B a) : ∀ v o key, stOk (a.kd o) (a.pa o) (a.st v o key) := h.2.2.2.2.2.2.2.2.2.2.2.2.2.2.2.2.2.2.2.2.1
theorem WF.stu {B : Nat} {a : aA} (h : WF B a) : ∀ v o key, ¬ (o < a.n ∧ key < 16) → a.st v o key = none := h.2.2.2.2.2.2.2.2.2.2.2.2.2.2.2.2.2.2.2.2.2.1
theorem WF.pt {B : Nat} {a : aA} (h : WF B a) : ∀ o i, a.pt o i < 3 := h.2.2.2.2.2.2.2.2.2.2.2.2.2.2.2.2.2.2.2.2.2.2.1
theorem WF.hdu {B : Nat} {a : aA} (h : WF B a) : ∀ o i, ¬ (o + 1 < a.n ∧ i < a.p o) → a.hd o i = false := h.2.2.2.2.2.2.2.2.2.2.2.2.2.2.2.2.2.2.2.2.2.2.2.1
theorem WF.spu {B : Nat} {a : aA} (h : WF B a) : ∀ o i f, ¬ (0 < o ∧ o < a.n ∧ i < a.p o ∧ f < a.p (o - 1)) → a.sp o i f = false := h.2.2.2.2.2.2.2.2.2.2.2.2.2.2.2.2.2.2.2.2.2.2.2.2.1
theorem WF.bg {B : Nat} {a : aA} (h : WF B a) : a.nm 4 = 0 → ∀ o i j, a.ch o i j = c0 := h.2.2.2.2.2.2.2.2.2.2.2.2.2.2.2.2.2.2.2.2.2.2.2.2.2
theorem rOk.mono {t t' : Nat} (h : t ≤ t') {r : aRec} (x : rOk t r) : rOk t' r := ⟨x.1, by have := x.2; omega⟩
theorem rsOk.mono {t t' : Nat} (h : t ≤ t') {l : List aRec} (x : rsOk t l) : rsOk t' l := fun r hr => (x r hr).mono h
theorem rsOk.nil {t : Nat} : rsOk t [] := fun r hr => by cases hr
theorem rsOk.app {t : Nat} {l : List aRec} {r : aRec} (x : rsOk t l) (y : rOk t r) : rsOk t (l ++ [r]) := fun q hq => by
  rcases List.mem_append.mp hq with h | h
  · exact x q h
  · rw [List.mem_singleton.mp h]; exact y
theorem chOk.c0 {bs cr t B : Nat} : chOk bs cr t B c0 := ⟨Nat.zero_le _, Nat.zero_le _, Nat.zero_le _, fun _ => rfl, fun l h => (by cases h), rsOk.nil⟩
theorem chOk.mono {bs cr t t' B B' : Nat} (h : t ≤ t') (hB : B ≤ B') {c : aCh} (x : chOk bs cr t B c) : chOk bs cr t' B' c := ⟨x.1, x.2.1, Nat.le_trans x.2.2.1 hB, x.2.2.2.1, fun l hl => ⟨(x.2.2.2.2.1 l hl).1, (x.2.2.2.2.1 l hl).2.1, (x.2.2.2.2.1 l hl).2.2.mono h⟩, x.2.2.2.2.2.mono h⟩
theorem chOk.close {bs cr t B : Nat} {c : aCh} (x : chOk bs cr t B c) (h4 : bs ≤ 4) (hq : c.1.length < cr) (ho : 1 ≤ c.2.1.length) : chOk bs cr t B (cClose c) := by
  obtain ⟨x1, x2, x3, x4, x5, x6⟩ := x
  refine ⟨by simp [cClose]; omega, Nat.zero_le _, Nat.zero_le _, fun _ => rfl, fun l hl => ?_, rsOk.nil⟩
  rcases List.mem_append.mp hl with h | h
  · exact x5 l h
  · have := List.mem_singleton.mp h
    cases this
    exact ⟨ho, by omega, x6⟩
theorem chOk.put {bs cr t B : Nat} {c : aCh} {r : aRec} (x : chOk bs cr t B c) (h1 : 1 ≤ bs) (h4 : bs ≤ 4) (hf : cFit bs cr c = true) (hr : rOk t r) : chOk bs cr t B (cPut bs cr c r) := by
  have hf2 : c.2.1.length < bs ∨ c.1.length < cr := by simpa [cFit] using hf
  have key : ∀ d : aCh, chOk bs cr t B d → d.2.1.length < bs → chOk bs cr t B (if (d.2.1 ++ [r]).length = bs ∧ d.1.length < cr then cClose (d.1, d.2.1 ++ [r], d.2.2) else (d.1, d.2.1 ++ [r], d.2.2)) := fun d xd hd => by
    obtain ⟨x1, x2, x3, x4, x5, x6⟩ := xd
    have xd2 : chOk bs cr t B (d.1, d.2.1 ++ [r], d.2.2) := ⟨x1, by simp; omega, x3, fun h => by simp at h, x5, x6.app hr⟩
    split
    · rename_i h
      exact xd2.close h4 h.2 (by simp)
    · exact xd2
  unfold cPut
  by_cases hc : c.2.1.length = bs
  · simp only [hc, if_true]
    exact key (cClose c) (x.close h4 (by omega) (by omega)) (by show 0 < bs; omega)
  · simp only [hc, if_false]
    exact key c x (by have := x.2.1; omega)
theorem chOk.putB {bs cr t B : Nat} {c : aCh} (x : chOk bs cr t B c) (h4 : bs ≤ 4) (hf : cFitB cr c = true) : chOk bs cr t B (cPutB c) := by
  have hf2 : c.1.length + (if 0 < c.2.1.length then 2 else 1) ≤ cr := by simpa [cFitB] using hf
  have key : ∀ d : aCh, chOk bs cr t B d → d.1.length < cr → chOk bs cr t B (d.1 ++ [none], [], 0) := fun d xd hd => by
    obtain ⟨x1, x2, x3, x4, x5, x6⟩ := xd
    refine ⟨by simp; omega, Nat.zero_le _, Nat.zero_le _, fun _ => rfl, fun l hl => ?_, rsOk.nil⟩
    rcases List.mem_append.mp hl with h | h
    · exact x5 l h
    · cases List.mem_singleton.mp h
  unfold cPutB
  by_cases hc : 0 < c.2.1.length
  · rw [if_pos hc] at hf2
    simp only [hc, if_true]
    exact key (cClose c) (x.close h4 (by omega) hc) (by simp [cClose]; omega)
  · rw [if_neg hc] at hf2
    simp only [hc, if_false]
    exact key c x (by omega)
theorem chOk.grow {bs cr t B g : Nat} {c : aCh} (x : chOk bs cr t B c) (h4 : bs ≤ 4) : chOk bs cr t (B + 1) (cGrow g cr c) := by
  have x' : chOk bs cr t (B + 1) c := x.mono (Nat.le_refl _) (by omega)
  unfold cGrow
  split
  · exact x'
  · rename_i h
    split
    · rename_i h2
      exact x'.close h4 h2.2 (by omega)
    · obtain ⟨x1, x2, x3, x4, x5, x6⟩ := x
      refine ⟨x1, x2, by show c.2.2 + 1 ≤ B + 1; omega, fun h3 => ?_, x5, x6⟩
      have : c.2.1 = [] := h3
      rw [this] at h
      exact absurd rfl h
theorem chOk.tail {bs cr t B : Nat} {b : Option (List aRec)} {q : List (Option (List aRec))} {c : aCh} (x : chOk bs cr t B c) (h : c.1 = b :: q) : chOk bs cr t B (q, c.2.1, c.2.2) := by
  obtain ⟨x1, x2, x3, x4, x5, x6⟩ := x
  rw [h] at x1 x5
  exact ⟨by have := x1; simp at this; show q.length ≤ cr; omega, x2, x3, x4, fun l hl => x5 l (List.mem_cons_of_mem _ hl), x6⟩
theorem chOk.eat {bs cr t B : Nat} {r : aRec} {rs : List aRec} {q : List (Option (List aRec))} {c : aCh} (x : chOk bs cr t B c) (h : c.1 = some (r :: rs) :: q) (hn : rs ≠ []) : chOk bs cr t B (some rs :: q, c.2.1, c.2.2) := by
  have xt := x.tail h
  obtain ⟨x1, x2, x3, x4, x5, x6⟩ := x
  rw [h] at x1 x5
  refine ⟨x1, x2, x3, x4, fun l hl => ?_, x6⟩
  rcases List.mem_cons.mp hl with e | e
  · cases e
    obtain ⟨-, y2, y3⟩ := x5 (r :: rs) (List.mem_cons_self ..)
    refine ⟨?_, by simp at y2; omega, fun q hq => y3 q (List.mem_cons_of_mem _ hq)⟩
    cases rs with
    | nil => exact absurd rfl hn
    | cons _ _ => simp
  · exact xt.2.2.2.2.1 l e
/-! what processing leads to -/
theorem aProc_out {k : Nat} {pa pb : Int32} {s : Option (Int32 × Int32)} {key : Nat} {v : Int32} (hk : key < 16) (h3 : k = 3 → ∃ m : Nat, m ≤ 3 ∧ pa = nI m) : (aProc k pa pb s key v).1.length ≤ 3 ∧ ∀ x, x ∈ (aProc k pa pb s key v).1 → x.1 < 16 := by
  have hr : ∀ x : Int32, aRk x < 16 := fun x => by unfold aRk; omega
  have one : ∀ x : Nat × Int32, x.1 < 16 → ([x] : List (Nat × Int32)).length ≤ 3 ∧ ∀ y, y ∈ [x] → y.1 < 16 := fun x hx => ⟨by simp, fun y hy => by rw [List.mem_singleton.mp hy]; exact hx⟩
  have ifl : ∀ (c : Prop) [Decidable c], (if c then [(key, v)] else ([] : List (Nat × Int32))).length ≤ 3 ∧ ∀ x, x ∈ (if c then [(key, v)] else ([] : List (Nat × Int32))) → x.1 < 16 := fun c _ => by
    split
    · exact one _ hk
    · exact ⟨by simp, fun y hy => by cases hy⟩
  have none' : ([] : List (Nat × Int32)).length ≤ 3 ∧ ∀ y, y ∈ ([] : List (Nat × Int32)) → y.1 < 16 := ⟨by simp, fun y hy => by cases hy⟩
  unfold aProc
  by_cases c7 : k = 7
  · rw [if_pos c7]; exact one _ hk
  rw [if_neg c7]
  by_cases c0 : k = 0
  · rw [if_pos c0]; exact one _ hk
  rw [if_neg c0]
  by_cases c1 : k = 1
  · rw [if_pos c1]; exact ifl _
  rw [if_neg c1]
  by_cases c2 : k = 2
  · rw [if_pos c2]; exact one _ (hr _)
  rw [if_neg c2]
  by_cases c3 : k = 3
  · rw [if_pos c3]
    obtain ⟨m, hm, hpa⟩ := h3 c3
    rw [hpa, nI_clamp (by omega)]
    refine ⟨by simp; omega, fun x hx => ?_⟩
    obtain ⟨j, -, e⟩ := List.mem_map.mp hx
    rw [← e]; exact hk
  rw [if_neg c3]
  by_cases c5 : k = 5
  · rw [if_pos c5]; dsimp only
    split
    · exact none'
    · exact one _ hk
  rw [if_neg c5]
  by_cases c6 : k = 6
  · rw [if_pos c6]
    split
    · exact none'
    · exact one _ hk
  rw [if_neg c6]
  by_cases c4 : k = 4
  · rw [if_pos c4]
    split
    · exact none'
    · exact one _ hk
  rw [if_neg c4]
  exact none'
theorem nI_s1 (k : Nat) : nI k + 1 = nI (k + 1) := nI_1 k
theorem aProc_st {k : Nat} {pa pb : Int32} {s : Option (Int32 × Int32)} {key : Nat} {v : Int32} (h : stOk k pa s) (hk : k ≤ 8) : stOk k pa (aProc k pa pb s key v).2 := by
  have h4' : k = 4 → ∃ m : Nat, pa = nI m ∧ 1 ≤ m ∧ m ≤ 5 := fun e => by
    obtain ⟨c, m, -, h2, h3, h5⟩ := h.2.1 e
    exact ⟨m, h2, by omega, h5⟩
  unfold aProc
  by_cases c7 : k = 7
  · rw [if_pos c7]; exact h
  rw [if_neg c7]
  by_cases c0 : k = 0
  · rw [if_pos c0]; exact h
  rw [if_neg c0]
  by_cases c1 : k = 1
  · rw [if_pos c1]; exact h
  rw [if_neg c1]
  by_cases c2 : k = 2
  · rw [if_pos c2]; exact h
  rw [if_neg c2]
  by_cases c3 : k = 3
  · rw [if_pos c3]; exact h
  rw [if_neg c3]
  by_cases c5 : k = 5
  · rw [if_pos c5]; subst c5
    exact ⟨fun e => absurd e (by decide), fun e => absurd e (by decide), fun _ => rfl⟩
  rw [if_neg c5]
  by_cases c6 : k = 6
  · rw [if_pos c6]; subst c6
    split
    · exact h
    · exact ⟨fun e => absurd e (by decide), fun e => absurd e (by decide), fun _ => rfl⟩
  rw [if_neg c6]
  by_cases c4 : k = 4
  · rw [if_pos c4]; subst c4
    obtain ⟨c, m, h1, h2, h3, h5⟩ := h.2.1 rfl
    rw [h1, h2, nI_s1]
    split
    · rename_i hlt
      have : c + 1 < m := (nI_ltI (by omega) (by omega)).mp hlt
      exact ⟨fun e => absurd e (by decide), fun _ => ⟨c + 1, m, rfl, rfl, by omega, h5⟩, fun e => by omega⟩
    · exact ⟨fun _ => rfl, fun _ => ⟨0, m, rfl, rfl, by omega, h5⟩, fun e => by omega⟩
  rw [if_neg c4]
  have c8 : k = 8 := by omega
  subst c8
  exact ⟨fun e => absurd e (by decide), fun e => absurd e (by decide), fun e => by omega⟩
theorem stOk.pOk {k : Nat} {pa : Int32} {s : Option (Int32 × Int32)} (h : stOk k pa s) (hk : k ≤ 8) (h7 : k ≠ 7) (h3 : k = 3 → ∃ m : Nat, m ≤ 3 ∧ pa = nI m) : pOk k pa s := by
  refine ⟨hk, h7, h3, fun e => ?_, fun e => h.2.2 (Or.inr e)⟩
  obtain ⟨c, m, h1, h2, h3, h5⟩ := h.2.1 e
  rw [h1, h2, nI_s1]
  by_cases hc : c + 1 < m
  · exact Or.inl ((nI_ltI (by omega) (by omega)).mpr hc)
  · exact Or.inr (by rw [show c + 1 = m by omega])
theorem WF.mono {B B' : Nat} {a : aA} (h : WF B a) (hB : B ≤ B') : WF B' a := ⟨h.n2, h.n6, h.p1, h.p0, h.k0, h.kl, h.km, h.k3, h.kr, h.cf, h.inp, h.inpk, h.ofs, ⟨Nat.le_trans h.nms.1 hB, Nat.le_trans h.nms.2.1 hB, Nat.le_trans h.nms.2.2.1 hB, Nat.le_trans h.nms.2.2.2.1 hB, h.nms.2.2.2.2⟩, h.ls, h.lsu, fun o i j => (h.ch o i j).mono (Nat.le_refl _) hB, h.chu, fun v o i => Nat.le_trans (h.ct v o i) hB, fun o i => Nat.le_trans (h.ctl o i) hB, h.st, h.stu, h.pt, h.hdu, h.spu, h.bg⟩
theorem WF.inc {B : Nat} {a : aA} (h : WF B a) (k o : Nat) : WF B (a.inc k o) := ⟨h.n2, h.n6, h.p1, h.p0, h.k0, h.kl, h.km, h.k3, h.kr, h.cf, h.inp, h.inpk, h.ofs, h.nms, h.ls, h.lsu, h.ch, h.chu, h.ct, h.ctl, h.st, h.stu, h.pt, h.hdu, h.spu, h.bg⟩
theorem up1_P {α : Type} {P : Nat → α → Prop} {f : Nat → α} {i : Nat} {x : α} (h : ∀ k, P k (f k)) (hx : P i x) : ∀ k, P k (up1 f i x k) := fun k => by
  by_cases e : k = i
  · subst e; rw [up1_s]; exact hx
  · rw [up1_n e]; exact h k
theorem up2_P {α : Type} {P : Nat → Nat → α → Prop} {f : Nat → Nat → α} {i j : Nat} {x : α} (h : ∀ k m, P k m (f k m)) (hx : P i j x) : ∀ k m, P k m (up2 f i j x k m) := fun k m => by
  by_cases e : k = i ∧ m = j
  · obtain ⟨rfl, rfl⟩ := e; rw [up2_s]; exact hx
  · rw [up2_n e]; exact h k m
theorem up3_P {α : Type} {P : Nat → Nat → Nat → α → Prop} {f : Nat → Nat → Nat → α} {i j l : Nat} {x : α} (h : ∀ k m n, P k m n (f k m n)) (hx : P i j l x) : ∀ k m n, P k m n (up3 f i j l x k m n) := fun k m n => by
  by_cases e : k = i ∧ m = j ∧ n = l
  · obtain ⟨rfl, rfl, rfl⟩ := e; rw [up3_s]; exact hx
  · rw [up3_n e]; exact h k m n
theorem WF.emit {B : Nat} {a : aA} (h : WF B a) {o i : Nat} {r : aRec} (ho : o + 1 < a.n) (hi : i < a.p o) (hl : (a.ls o i).length < 3) (hr : rOk a.tk r) : WF (B + 1) (a.emit o i r) := by
  have h0 := h
  have h := h.mono (Nat.le_succ B)
  exact ⟨h.n2, h.n6, h.p1, h.p0, h.k0, h.kl, h.km, h.k3, h.kr, h.cf, h.inp, h.inpk, h.ofs, h.nms, up2_P (P := fun _ _ (l : List aRec) => l.length ≤ 3 ∧ rsOk a.tk l) h.ls ⟨by rw [List.length_append]; exact hl, (h.ls o i).2.app hr⟩, up2_P (P := fun x y (l : List aRec) => ¬ (x + 1 < a.n ∧ y < a.p x) → l = []) h.lsu (fun c => absurd ⟨ho, hi⟩ c), h.ch, h.chu, h.ct, up2_P (P := fun x y (l : List aRec) => a.ct 0 x y + l.length ≤ B + 1) h.ctl (by rw [List.length_append]; have := h0.ctl o i; show a.ct 0 o i + ((a.ls o i).length + 1) ≤ B + 1; omega), h.st, h.stu, h.pt, h.hdu, h.spu, h.bg⟩
theorem aA.emits_app (o i b : Nat) (l : List (Nat × Int32)) (x : Nat × Int32) (a : aA) : aA.emits o i b (l ++ [x]) a = (aA.emits o i b l a).emit o i (x.1, x.2, b) := by
  induction l generalizing a with
  | nil => rfl
  | cons y l ih => exact ih _
/-- what does not change while an instance works: the operators, the configuration, the input, the ticks -/
def sSt (a b : aA) : Prop := a.op = b.op ∧ a.cf = b.cf ∧ a.inp = b.inp ∧ a.txt = b.txt ∧ a.nm 0 = b.nm 0 ∧ a.nm 4 = b.nm 4 ∧ a.nm 5 = b.nm 5 ∧ a.fl = b.fl ∧ a.ex = b.ex ∧ a.wr = b.wr
theorem sSt.rf {a : aA} : sSt a a := ⟨rfl, rfl, rfl, rfl, rfl, rfl, rfl, rfl, rfl, rfl⟩
theorem sSt.tr {a b c : aA} (h : sSt a b) (g : sSt b c) : sSt a c := ⟨h.1.trans g.1, h.2.1.trans g.2.1, h.2.2.1.trans g.2.2.1, h.2.2.2.1.trans g.2.2.2.1, h.2.2.2.2.1.trans g.2.2.2.2.1, h.2.2.2.2.2.1.trans g.2.2.2.2.2.1, h.2.2.2.2.2.2.1.trans g.2.2.2.2.2.2.1, h.2.2.2.2.2.2.2.1.trans g.2.2.2.2.2.2.2.1, h.2.2.2.2.2.2.2.2.1.trans g.2.2.2.2.2.2.2.2.1, h.2.2.2.2.2.2.2.2.2.trans g.2.2.2.2.2.2.2.2.2⟩
theorem sSt.n {a b : aA} (h : sSt a b) : a.n = b.n := h.2.2.2.2.2.2.1
theorem sSt.tk {a b : aA} (h : sSt a b) : a.tk = b.tk := h.2.2.2.2.1
theorem sSt.p {a b : aA} (h : sSt a b) (o : Nat) : a.p o = b.p o := by unfold aA.p; rw [h.1]
theorem sSt.kd {a b : aA} (h : sSt a b) (o : Nat) : a.kd o = b.kd o := by unfold aA.kd; rw [h.1]
theorem sSt.ky {a b : aA} (h : sSt a b) (o : Nat) : a.ky o = b.ky o := by unfold aA.ky; rw [h.kd]
theorem sSt.pa {a b : aA} (h : sSt a b) (o : Nat) : a.pa o = b.pa o := by unfold aA.pa; rw [h.1]
theorem sSt.pb {a b : aA} (h : sSt a b) (o : Nat) : a.pb o = b.pb o := by unfold aA.pb; rw [h.1]
theorem sSt.emits (o i b : Nat) (l : List (Nat × Int32)) (a : aA) : sSt (aA.emits o i b l a) a := by
  induction l generalizing a with
  | nil => exact sSt.rf
  | cons y l ih => exact (ih _).tr sSt.rf
theorem WF.emits {o i b : Nat} (l : List (Nat × Int32)) {B : Nat} {a : aA} (h : WF B a) (ho : o + 1 < a.n) (hi : i < a.p o) (hl : (a.ls o i).length + l.length ≤ 3) (hk : ∀ x, x ∈ l → x.1 < 16) (hb : b < a.tk) : WF (B + l.length) (aA.emits o i b l a) := by
  induction l generalizing a B with
  | nil => exact h
  | cons y l ih =>
    have hl2 : (a.ls o i).length + (l.length + 1) ≤ 3 := hl
    have h2 := h.emit (r := (y.1, y.2, b)) ho hi (by omega) ⟨hk y (List.mem_cons_self ..), hb⟩
    have := ih (a := a.emit o i (y.1, y.2, b)) (B := B + 1) h2 ho hi (by show (up2 a.ls o i _ o i).length + l.length ≤ 3; rw [up2_s, List.length_append]; show (a.ls o i).length + 1 + l.length ≤ 3; omega) (fun x hx => hk x (List.mem_cons_of_mem _ hx)) hb
    rw [show B + (y :: l).length = B + 1 + l.length by rw [List.length_cons]; omega]
    exact this
theorem WF.kd8 {B : Nat} {a : aA} (h : WF B a) {o : Nat} (ho : o < a.n) : a.kd o ≤ 8 := by
  rcases Nat.eq_zero_or_pos o with e | e
  · subst e; rw [h.k0]; decide
  · by_cases c : o + 1 < a.n
    · exact Nat.le_trans (h.km o e c) (by decide)
    · rw [show o = a.n - 1 by omega, h.kl]; exact Nat.le_refl _
theorem WF.kd7 {B : Nat} {a : aA} (h : WF B a) {o : Nat} (ho : o < a.n) (h0 : 0 < o) : a.kd o ≠ 7 := by
  by_cases c : o + 1 < a.n
  · have := h.km o h0 c; omega
  · rw [show o = a.n - 1 by omega, h.kl]; decide
/-- an instance takes in a record -/
theorem WF.takeIn {B : Nat} {a : aA} (h : WF B a) {o i : Nat} {r : aRec} (ho : o < a.n) (hi : i < a.p o) (hls : a.ls o i = []) (hr : rOk a.tk r) : WF (B + 3) (a.takeIn o i r) := by
  have hq := aProc_out (k := a.kd o) (pa := a.pa o) (pb := a.pb o) (s := a.st 0 o r.1) (key := r.1) (v := r.2.1) hr.1 (h.k3 o ho)
  have hs := aProc_st (pb := a.pb o) (key := r.1) (v := r.2.1) (h.st 0 o r.1) (h.kd8 ho)
  have h1 : WF B ((a.inc 0 o).w_st (up3 a.st 0 o r.1 (aProc (a.kd o) (a.pa o) (a.pb o) (a.st 0 o r.1) r.1 r.2.1).2)) := ⟨h.n2, h.n6, h.p1, h.p0, h.k0, h.kl, h.km, h.k3, h.kr, h.cf, h.inp, h.inpk, h.ofs, h.nms, h.ls, h.lsu, h.ch, h.chu, h.ct, h.ctl, up3_P (P := fun _ x _ s => stOk (a.kd x) (a.pa x) s) h.st hs, up3_P (P := fun _ x key s => ¬ (x < a.n ∧ key < 16) → s = none) h.stu (fun c => absurd ⟨ho, hr.1⟩ c), h.pt, h.hdu, h.spu, h.bg⟩
  by_cases hn : o + 1 < a.n
  · exact (WF.emits _ h1 hn hi (by show (a.ls o i).length + _ ≤ 3; rw [hls]; simpa using hq.1) hq.2 hr.2).mono (by have := hq.1; omega)
  · have ho2 : o = a.n - 1 := by omega
    have h8 : a.kd o = 8 := by rw [ho2]; exact h.kl
    have hem : (aProc (a.kd o) (a.pa o) (a.pb o) (a.st 0 o r.1) r.1 r.2.1).1 = [] := by rw [h8]; rfl
    have : a.takeIn o i r = (a.inc 0 o).w_st (up3 a.st 0 o r.1 (aProc (a.kd o) (a.pa o) (a.pb o) (a.st 0 o r.1) r.1 r.2.1).2) := by
      unfold aA.takeIn
      dsimp only
      rw [hem]; rfl
    rw [this]
    exact h1.mono (by omega)
theorem sSt.takeIn (a : aA) (o i : Nat) (r : aRec) : sSt (a.takeIn o i r) a := (sSt.emits _ _ _ _ _).tr sSt.rf
