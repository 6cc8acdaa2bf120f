set_option maxRecDepth 100000
/-! HOW THE BARRIERS RUN: what always holds of a checkpoint -/
/-- the barriers in a queue -/
def qB (q : List (Option (List aRec))) : Nat := q.countP (fun b => b.isNone)
def tN (b : Bool) : Nat := if b = true then 1 else 0
def AInv (a : aA) : Prop :=
  (∀ o i j, o + 1 < a.n → i < a.p o → j < a.p (o + 1) → (a.rn = 0 → qB (a.ch o i j).1 = 0 ∧ a.sp (o + 1) j i = false) ∧ (0 < a.rn → qB (a.ch o i j).1 + tN (a.sp (o + 1) j i) + tN (a.al (o + 1) j) = tN (a.al o i && !a.hd o i))) ∧
  (∀ o i, o < a.n → i < a.p o → (a.rn = 0 → a.hd o i = false) ∧ (0 < a.rn → a.hd o i = true → a.al o i = true)) ∧
  (0 < a.rn → a.sk = (List.range (a.p (a.n - 1))).countP (fun j => a.al (a.n - 1) j))
theorem tN_1 {b : Bool} (h : 1 ≤ tN b) : b = true := by cases b; exact absurd h (by decide); rfl
theorem tN_le (b : Bool) : tN b ≤ 1 := by cases b <;> decide
theorem tN_0 {b : Bool} (h : tN b = 0) : b = false := by cases b; rfl; exact absurd h (by decide)
theorem tN_t {b : Bool} (h : b = true) : tN b = 1 := by rw [h]; rfl
theorem tN_f {b : Bool} (h : b = false) : tN b = 0 := by rw [h]; rfl
theorem AInv.cg {a b : aA} (h : AInv a) (e1 : b.n = a.n) (e2 : b.p = a.p) (e3 : b.rn = a.rn) (e4 : b.sk = a.sk) (e5 : b.al = a.al) (e6 : b.hd = a.hd) (e7 : b.sp = a.sp) (e8 : ∀ o i j, qB (b.ch o i j).1 = qB (a.ch o i j).1) : AInv b := by
  unfold AInv
  rw [e1, e2, e3, e4, e5, e6, e7]
  refine ⟨fun o i j h1 h2 h3 => ?_, h.2.1, h.2.2⟩
  rw [e8]
  exact h.1 o i j h1 h2 h3
theorem qB_app (q : List (Option (List aRec))) (l : List aRec) : qB (q ++ [some l]) = qB q := by unfold qB; rw [List.countP_append]; rfl
theorem qB_app0 (q : List (Option (List aRec))) : qB (q ++ [none]) = qB q + 1 := by unfold qB; rw [List.countP_append]; rfl
theorem qB_put (bs cr : Nat) (c : aCh) (r : aRec) : qB (cPut bs cr c r).1 = qB c.1 := by
  have key : ∀ d : aCh, qB (if (d.2.1 ++ [r]).length = bs ∧ d.1.length < cr then cClose (d.1, d.2.1 ++ [r], d.2.2) else (d.1, d.2.1 ++ [r], d.2.2)).1 = qB d.1 := fun d => by
    split
    · exact qB_app _ _
    · rfl
  unfold cPut
  by_cases hc : c.2.1.length = bs
  · simp only [hc, if_true]
    exact (key (cClose c)).trans (qB_app _ _)
  · simp only [hc, if_false]
    exact key c
theorem qB_grow (g cr : Nat) (c : aCh) : qB (cGrow g cr c).1 = qB c.1 := by
  unfold cGrow
  split
  · rfl
  · split
    · exact qB_app _ _
    · rfl
theorem qB_putB (c : aCh) : qB (cPutB c).1 = qB c.1 + 1 := by
  unfold cPutB
  split
  · show qB ((c.1 ++ [some c.2.1]) ++ [none]) = _
    rw [qB_app0, qB_app]
  · exact qB_app0 _
theorem AInv.inc {a : aA} (h : AInv a) (k o : Nat) : AInv (a.inc k o) := h.cg rfl rfl rfl rfl rfl rfl rfl (fun _ _ _ => rfl)
theorem AInv.send {a : aA} (h : AInv a) (o i : Nat) (r : aRec) (rest : List aRec) : AInv (a.send o i r rest) := h.cg rfl rfl rfl rfl rfl rfl rfl (fun x y z => by
  show qB (up3 a.ch o i (a.goal o i r) (cPut (a.cf 0) (a.cf 2) (a.ch o i (a.goal o i r)) r) x y z).1 = _
  unfold up3
  split
  · rename_i e; obtain ⟨rfl, rfl, rfl⟩ := e; exact qB_put _ _ _ _
  · rfl)
theorem AInv.sendL (o i : Nat) (l : List aRec) {a : aA} (h : AInv a) : AInv (aA.sendL o i l a).2 := by
  induction l generalizing a with
  | nil => exact h
  | cons r rest ih =>
    rw [aA.sendL_cons]
    split
    · exact ih (h.send o i r rest)
    · exact h
theorem aA.putBs_ch {o i k j : Nat} {a : aA} (x y z : Nat) : (aA.putBs o i k j a).ch x y z = if x = o ∧ y = i ∧ j ≤ z ∧ z < j + k then cPutB (a.ch x y z) else a.ch x y z := by
  induction k generalizing j a with
  | zero => rw [if_neg (by omega)]; rfl
  | succ k ih =>
    rw [aA.putBs_s, ih]
    show (if x = o ∧ y = i ∧ j + 1 ≤ z ∧ z < j + 1 + k then cPutB (up3 a.ch o i j (cPutB (a.ch o i j)) x y z) else up3 a.ch o i j (cPutB (a.ch o i j)) x y z) = _
    by_cases e : x = o ∧ y = i ∧ z = j
    · obtain ⟨rfl, rfl, rfl⟩ := e
      rw [if_neg (by omega), up3_s, if_pos (by omega)]
    · rw [up3_n e]
      by_cases c : x = o ∧ y = i ∧ j + 1 ≤ z ∧ z < j + 1 + k
      · rw [if_pos c, if_pos (by omega)]
      · rw [if_neg c, if_neg (by omega)]
theorem aA.putBs_rest (o i : Nat) (k j : Nat) (a : aA) : (aA.putBs o i k j a).n = a.n ∧ (aA.putBs o i k j a).p = a.p ∧ (aA.putBs o i k j a).rn = a.rn ∧ (aA.putBs o i k j a).sk = a.sk ∧ (aA.putBs o i k j a).al = a.al ∧ (aA.putBs o i k j a).hd = a.hd ∧ (aA.putBs o i k j a).sp = a.sp := by
  induction k generalizing j a with
  | zero => exact ⟨rfl, rfl, rfl, rfl, rfl, rfl, rfl⟩
  | succ k ih => exact ih (j + 1) _
theorem AInv.bars {a : aA} (h : AInv a) {o i : Nat} (ho : o + 1 < a.n) (hi : i < a.p o) (hh : a.hd o i = true) : AInv ((aA.putBs o i (a.p (o + 1)) 0 a).w_hd (up2 a.hd o i false)) := by
  obtain ⟨h1, h2, h3⟩ := h
  obtain ⟨e1, e2, e3, e4, e5, e6, e7⟩ := aA.putBs_rest o i (a.p (o + 1)) 0 a
  have hc := fun x y z => aA.putBs_ch (o := o) (i := i) (k := a.p (o + 1)) (j := 0) (a := a) x y z
  generalize aA.putBs o i (a.p (o + 1)) 0 a = b at e1 e2 e3 e4 e5 e6 e7 hc ⊢
  have hrn : 0 < a.rn := by
    rcases Nat.eq_zero_or_pos a.rn with q | q
    · rw [(h2 o i (by omega) hi).1 q] at hh; cases hh
    · exact q
  have hal := (h2 o i (by omega) hi).2 hrn hh
  refine ⟨fun x y z g1 g2 g3 => ?_, fun x y g1 g2 => ?_, ?_⟩
  · have g1 : x + 1 < a.n := by rw [← e1]; exact g1
    have g2 : y < a.p x := by rw [← e2]; exact g2
    have g3 : z < a.p (x + 1) := by rw [← e2]; exact g3
    refine ⟨fun q => ?_, fun _ => ?_⟩
    · have : b.rn = 0 := q
      omega
    · show qB (b.ch x y z).1 + tN (b.sp (x + 1) z y) + tN (b.al (x + 1) z) = tN (b.al x y && !up2 a.hd o i false x y)
      rw [e5, e7, hc]
      have k := (h1 x y z g1 g2 g3).2 hrn
      by_cases e : x = o ∧ y = i
      · obtain ⟨rfl, rfl⟩ := e
        rw [if_pos ⟨rfl, rfl, Nat.zero_le _, by omega⟩, qB_putB, up2_s, hal]
        rw [hh, hal] at k
        have k : qB (a.ch x y z).1 + tN (a.sp (x + 1) z y) + tN (a.al (x + 1) z) = 0 := k
        show _ = 1
        omega
      · rw [if_neg (fun q => e ⟨q.1, q.2.1⟩), up2_n e]
        exact k
  · have g1 : x < a.n := by rw [← e1]; exact g1
    have g2 : y < a.p x := by rw [← e2]; exact g2
    refine ⟨fun q => ?_, fun _ q => ?_⟩
    · have : b.rn = 0 := q
      omega
    · show b.al x y = true
      have q : up2 a.hd o i false x y = true := q
      rw [e5]
      unfold up2 at q
      split at q
      · cases q
      · exact (h2 x y g1 g2).2 hrn q
  · intro _
    show b.sk = (List.range (b.p (b.n - 1))).countP (fun j => b.al (b.n - 1) j)
    rw [e1, e2, e4, e5]
    exact h3 hrn
theorem AInv.flush {a : aA} (h : AInv a) {Bd o i : Nat} (W : WF Bd a) (hb : a.nm 4 ≠ 0) (ho : o < a.n) (hi : i < a.p o) : AInv (a.flush o i).2 := by
  have hs : sSt (aA.sendL o i (a.ls o i) a).2 a ∧ AInv (aA.sendL o i (a.ls o i) a).2 ∧ WF Bd (aA.sendL o i (a.ls o i) a).2 := by
    by_cases hon : o + 1 < a.n
    · obtain ⟨w1, w2, -⟩ := W.sendL (a.ls o i) hb hon hi rfl
      exact ⟨w2, h.sendL o i _, w1⟩
    · rw [W.lsu o i (fun q => hon q.1)]
      exact ⟨sSt.rf, h, W⟩
  obtain ⟨st, hA, hW⟩ := hs
  cases hq : aA.sendL o i (a.ls o i) a with
  | mk t b =>
    rw [hq] at st hA hW
    cases t with
    | false => rw [flush_no hq]; exact hA
    | true =>
      have hob : o < b.n := by rw [show b.n = a.n from st.n]; exact ho
      have hib : i < b.p o := by rw [show b.p o = a.p o from st.p o]; exact hi
      cases hh : b.hd o i with
      | false => rw [flush_hd hq hh]; exact hA
      | true =>
        cases hbr : b.bar o i with
        | some j => rw [flush_bar hq hh hbr]; exact hA
        | none =>
          rw [flush_go hq hh hbr]
          have hon : o + 1 < b.n := by
            rcases Nat.lt_or_ge (o + 1) b.n with q | q
            · exact q
            · have q2 := WF.hdu hW o i (fun e => by have : o + 1 < b.n := e.1; omega); rw [show b.hd o i = true from hh] at q2; cases q2
          exact AInv.bars hA hon hib hh
theorem AInv.emits {o i b : Nat} (l : List (Nat × Int32)) {a : aA} (h : AInv a) : AInv (aA.emits o i b l a) := by
  induction l generalizing a with
  | nil => exact h
  | cons y l ih => exact ih (h.cg rfl rfl rfl rfl rfl rfl rfl (fun _ _ _ => rfl))
theorem AInv.takeIn {a : aA} (h : AInv a) (o i : Nat) (r : aRec) : AInv (a.takeIn o i r) := AInv.emits _ (h.cg rfl rfl rfl rfl rfl rfl rfl (fun _ _ _ => rfl))
