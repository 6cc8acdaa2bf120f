set_option maxRecDepth 100000
theorem AInv.work {o i : Nat} (b : Nat) {B : Nat} {a : aA} (h : AInv a) (W : WF B a) (hb : a.nm 4 ≠ 0) (ht : 0 < a.tk) (ho : o < a.n) (hi : i < a.p o) : AInv (aA.work o i b a) := by
  induction b generalizing a B with
  | zero =>
    rw [aA.work_eq]
    have f := h.flush W hb ho hi
    split
    · exact f.inc 2 o
    · exact f
  | succ b ih =>
    obtain ⟨f1, f2, f3⟩ := W.flush hb ho hi
    have f := h.flush W hb ho hi
    rw [aA.work_eq]
    split
    · exact f.inc 2 o
    · rename_i c
      have c : (a.flush o i).1 = true := by simpa using c
      obtain ⟨t1, t2⟩ := f1.take (o := o) (i := i) (by rw [f2.2.2.2.2.2.1]; exact hb) (by rw [f2.tk]; exact ht) (by rw [f2.n]; exact ho) (by rw [f2.p]; exact hi) (f3 c)
      have t3 := t2.tr f2
      have t := f.take f1 (o := o) (i := i) (by rw [f2.2.2.2.2.2.1]; exact hb) (by rw [f2.n]; exact ho) (by rw [f2.p]; exact hi)
      dsimp only
      split
      · exact t.inc 3 o
      · exact ih t t1 (by rw [t3.2.2.2.2.2.1]; exact hb) (by rw [t3.tk]; exact ht) (by rw [t3.n]; exact ho) (by rw [t3.p]; exact hi)
theorem AInv.works {o : Nat} (k i : Nat) {B : Nat} {a : aA} (h : AInv a) (W : WF B a) (hb : a.nm 4 ≠ 0) (ht : 0 < a.tk) (ho : o < a.n) (hi : i + k ≤ a.p o) : AInv (aA.works o k i a) := by
  induction k generalizing i a B with
  | zero => exact h
  | succ k ih =>
    rw [aA.works_s]
    obtain ⟨w1, w2⟩ := W.work (a.cf 3) hb ht ho (show i < a.p o by omega)
    exact ih (i + 1) (h.work (a.cf 3) W hb ht ho (by omega)) w1 (by rw [w2.2.2.2.2.2.1]; exact hb) (by rw [w2.tk]; exact ht) (by rw [w2.n]; exact ho) (by rw [w2.p]; omega)
theorem AInv.allWork (o : Nat) {B : Nat} {a : aA} (h : AInv a) (W : WF B a) (hb : a.nm 4 ≠ 0) (ht : 0 < a.tk) (ho : o ≤ a.n) : AInv (aA.allWork o a) := by
  induction o generalizing a B with
  | zero => exact h
  | succ o ih =>
    rw [aA.allWork_s]
    obtain ⟨w1, w2⟩ := W.works (o := o) (a.p o) 0 hb ht (by omega) (by omega)
    exact ih (h.works (o := o) (a.p o) 0 W hb ht (by omega) (by omega)) w1 (by rw [w2.2.2.2.2.2.1]; exact hb) (by rw [w2.tk]; exact ht) (by rw [w2.n]; omega)
theorem AInv.grow {a : aA} (h : AInv a) : AInv a.grow := h.w_chq _ (fun o i j => qB_grow _ _ _)
theorem AInv.tick0 {a : aA} (h : AInv a) : AInv a.tick0 := (h.grow).cg rfl rfl rfl rfl rfl rfl rfl (fun _ _ _ => rfl)
theorem AInv.tick1 {a : aA} {B : Nat} (h : AInv a) (W : WF B a) : AInv a.tick1 := by
  rw [aA.tick1_eq]
  exact (h.tick0).allWork a.n W.tick0 (by show (1 : Nat) ≠ 0; decide) (by show 0 < a.tk + 1; omega) (Nat.le_refl _)
