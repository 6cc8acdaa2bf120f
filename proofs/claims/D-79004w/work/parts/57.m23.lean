set_option maxRecDepth 100000
def pLo (k : Int32) : Int32 := if k = nI 1 then nI 0 else if k = nI 3 then nI 0 else if k = nI 4 then nI 1 else -99
def pHi (k : Int32) : Int32 := if k = nI 1 then nI 2 else if k = nI 3 then nI 3 else if k = nI 4 then nI 5 else nI 99
/-- the numbers of a stage -/
def pArg (t : List Nat) (k : Int32) (i : Nat) : Nat × Option (Int32 × Int32) :=
  if hereF t i = nI 40 then
    match (pNum t (i + 1) (pLo k) (pHi k)).2 with
    | none => ((pNum t (i + 1) (pLo k) (pHi k)).1, none)
    | some x =>
      let j := (pNum t (i + 1) (pLo k) (pHi k)).1
      if k < nI 3 then
        if hereF t j = nI 44 then
          match (pNum t (j + 1) (-99) (nI 99)).2 with
          | none => ((pNum t (j + 1) (-99) (nI 99)).1, none)
          | some y =>
            let l := (pNum t (j + 1) (-99) (nI 99)).1
            if hereF t l = nI 41 then (l + 1, some (x, y)) else (l, none)
        else (j, none)
      else if hereF t j = nI 41 then (j + 1, some (x, nI 0)) else (j, none)
  else (i, none)
/-- the instances of a stage -/
def pInst (t : List Nat) (i : Nat) : Nat × Option Int32 :=
  if inB (hereF t i) (nI 48) (nI 57) = true then (if inB (hereF t i - nI 48) (nI 1) (nI 3) = true then (i + 1, some (hereF t i - nI 48)) else (i, none)) else (i, some (nI 1))
def pStage (t : List Nat) (i : Nat) : Nat × Option (Int32 × Int32 × Int32 × Int32) :=
  if letF (hereF t i) < 0 then (i, none)
  else
    let q := if letF (hereF t i) < nI 5 then pArg t (letF (hereF t i)) (i + 1) else (i + 1, some (nI 0, nI 0))
    match q.2 with
    | none => (q.1, none)
    | some x =>
      match (pInst t q.1).2 with
      | none => ((pInst t q.1).1, none)
      | some p => ((pInst t q.1).1, some (letF (hereF t i), x.1, x.2, p))
theorem pNum_at (t : List Nat) (i : Nat) (lo hi : Int32) : (pNum t i lo hi).1 = (if inB (hereF t (if hereF t i = nI 45 then i + 1 else i)) (nI 48) (nI 57) = true then (if inB (hereF t ((if hereF t i = nI 45 then i + 1 else i) + 1)) (nI 48) (nI 57) = true then (if hereF t i = nI 45 then i + 1 else i) + 2 else (if hereF t i = nI 45 then i + 1 else i) + 1) else (if hereF t i = nI 45 then i + 1 else i)) := by
  unfold pNum
  dsimp only
  generalize (if hereF t i = nI 45 then i + 1 else i) = j
  by_cases c2 : inB (hereF t j) (nI 48) (nI 57) = true
  · rw [if_pos c2, if_pos c2]
    by_cases c3 : inB (hereF t (j + 1)) (nI 48) (nI 57) = true
    · rw [if_pos c3, if_pos c3]; split <;> split <;> rfl
    · rw [if_neg c3, if_neg c3]; split <;> split <;> rfl
  · rw [if_neg c2, if_neg c2]
theorem pNum_le {t : List Nat} {i : Nat} {lo hi : Int32} (h : i ≤ t.length) : i ≤ (pNum t i lo hi).1 ∧ (pNum t i lo hi).1 ≤ t.length := by
  rw [pNum_at]
  have hj : i ≤ (if hereF t i = nI 45 then i + 1 else i) ∧ (if hereF t i = nI 45 then i + 1 else i) ≤ t.length := by
    split
    · rename_i c1
      have := hereF_lt c1 (by decide)
      omega
    · omega
  revert hj
  generalize (if hereF t i = nI 45 then i + 1 else i) = j
  intro hj
  split
  · rename_i c2
    have h2 := hereF_in c2 (by decide)
    split
    · rename_i c3
      have h3 := hereF_in c3 (by decide)
      omega
    · omega
  · omega
theorem letF_vals (x : Int32) : letF x = -1 ∨ letF x = nI 0 ∨ letF x = nI 1 ∨ letF x = nI 2 ∨ letF x = nI 3 ∨ letF x = nI 4 ∨ letF x = nI 5 ∨ letF x = nI 6 := by
  unfold letF
  split
  · exact Or.inr (Or.inl rfl)
  split
  · exact Or.inr (Or.inr (Or.inl rfl))
  split
  · exact Or.inr (Or.inr (Or.inr (Or.inl rfl)))
  split
  · exact Or.inr (Or.inr (Or.inr (Or.inr (Or.inl rfl))))
  split
  · exact Or.inr (Or.inr (Or.inr (Or.inr (Or.inr (Or.inl rfl)))))
  split
  · exact Or.inr (Or.inr (Or.inr (Or.inr (Or.inr (Or.inr (Or.inl rfl))))))
  split
  · exact Or.inr (Or.inr (Or.inr (Or.inr (Or.inr (Or.inr (Or.inr rfl))))))
  · exact Or.inl rfl
theorem letF_in {t : List Nat} {i k : Nat} (h : letF (hereF t i) = nI k) (hk : k < 7) : i < t.length := by
  rcases Nat.lt_or_ge i t.length with e | e
  · exact e
  · have h1 : hereF t i = -1 := if_neg (by omega)
    rw [h1] at h
    have h2 : letF (-1) = -1 := by decide
    rw [h2] at h
    exact absurd (congrArg Int32.toInt h) (by rw [nI_toInt (by omega)]; show ¬ (-1 : Int) = _; omega)
