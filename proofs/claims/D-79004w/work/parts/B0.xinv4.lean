set_option maxRecDepth 100000
theorem AInv.chk {a : aA} {B : Nat} (h : AInv a) (W : WF B a) (hrn : a.rn = 0) : AInv a.chk := by
  refine ⟨fun o i j h1 h2 h3 => ⟨fun q => absurd q (by show ¬ a.nm 1 + 1 = 0; omega), fun _ => ?_⟩, fun o i h1 h2 => ⟨fun q => absurd q (by show ¬ a.nm 1 + 1 = 0; omega), fun _ hh => ?_⟩, fun _ => ?_⟩
  · show qB (a.ch o i j).1 + tN (a.sp (o + 1) j i) + tN (up2 (fun _ _ => false) 0 0 true (o + 1) j) = tN (up2 (fun _ _ => false) 0 0 true o i && !up2 a.hd 0 0 true o i)
    obtain ⟨q1, q2⟩ := (h.1 o i j h1 h2 h3).1 hrn
    rw [q1, q2, up2_n (k := o + 1) (fun q => absurd q.1 (Nat.succ_ne_zero o))]
    by_cases e : o = 0 ∧ i = 0
    · obtain ⟨rfl, rfl⟩ := e
      rw [up2_s, up2_s]; rfl
    · rw [up2_n e]; rfl
  · have hh : up2 a.hd 0 0 true o i = true := hh
    show up2 (fun _ _ => false) 0 0 true o i = true
    by_cases e : o = 0 ∧ i = 0
    · obtain ⟨rfl, rfl⟩ := e
      exact up2_s
    · rw [up2_n e, (h.2.1 o i h1 h2).1 hrn] at hh
      cases hh
  · show 0 = (List.range (a.p (a.n - 1))).countP (fun j => up2 (fun _ _ => false) 0 0 true (a.n - 1) j)
    refine (List.countP_eq_zero.mpr (fun j _ => ?_)).symm
    rw [up2_n (fun q => by have := W.n2; have := q.1; omega)]
    decide
theorem AInv.chkF {a : aA} {B : Nat} (h : AInv a) (W : WF B a) : AInv a.chkF.2 := by
  unfold aA.chkF
  split
  · exact h
  · rename_i c
    exact h.chk W (show a.nm 2 = 0 by omega)
