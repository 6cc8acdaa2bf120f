set_option maxRecDepth 100000
/-! taking and flushing, case by case (moved ahead of the barriers' law) -/
theorem aA.ready_some {a : aA} {o i f : Nat} (h : a.ready o i = some f) (hp : 0 < a.p (o - 1)) : f < a.p (o - 1) ∧ a.sp o i f = false ∧ (a.ch (o - 1) f i).1 ≠ [] := by
  have h1 := List.find?_some h
  have h2 := List.mem_of_find?_eq_some h
  obtain ⟨k, -, e⟩ := List.mem_map.mp h2
  have h3 : a.sp o i f = false ∧ (a.ch (o - 1) f i).1 ≠ [] := by simpa using h1
  exact ⟨by rw [← e]; exact Nat.mod_lt _ hp, h3⟩
theorem aA.takeItem_none {a : aA} {o i f : Nat} {q : List (Option (List aRec))} (hq : (a.ch (o - 1) f i).1 = none :: q) {b a2 : aA} (hb : b = (a.w_pt (up2 a.pt o i ((f + 1) % a.p (o - 1)))).w_ch (up3 a.ch (o - 1) f i (q, (a.ch (o - 1) f i).2.1, (a.ch (o - 1) f i).2.2))) (h2 : a2 = b.w_sp (up3 b.sp o i f true)) : a.takeItem o i f = if a2.full o i = true then a2.align o i else a2 := by
  subst h2 hb
  unfold aA.takeItem
  dsimp only
  rw [hq]; rfl
theorem aA.takeItem_some {a : aA} {o i f : Nat} {q : List (Option (List aRec))} {r : aRec} {rs : List aRec} (hq : (a.ch (o - 1) f i).1 = some (r :: rs) :: q) {b : aA} (hb : b = (a.w_pt (up2 a.pt o i ((f + 1) % a.p (o - 1)))).w_ch (up3 a.ch (o - 1) f i ((if rs.isEmpty = true then q else some rs :: q), (a.ch (o - 1) f i).2.1, (a.ch (o - 1) f i).2.2))) : a.takeItem o i f = b.takeIn o i r := by
  subst hb
  unfold aA.takeItem
  dsimp only
  rw [hq]
theorem takeItem_n1 {a : aA} {o i f ag : Nat} {q : List (Option (List aRec))} {op : List aRec} (hc : a.ch o f i = (none :: q, op, ag)) {b a2 : aA} (hb : b = (a.w_pt (up2 a.pt (o + 1) i ((f + 1) % a.p o))).w_ch (up3 a.ch o f i (q, op, ag))) (h2 : a2 = b.w_sp (up3 b.sp (o + 1) i f true)) : a.takeItem (o + 1) i f = if a2.full (o + 1) i = true then a2.align (o + 1) i else a2 :=
  aA.takeItem_none (o := o + 1) (q := q) (by show (a.ch o f i).1 = _; rw [hc]) (by rw [hb]; show _ = (a.w_pt _).w_ch (up3 a.ch o f i (q, (a.ch o f i).2.1, (a.ch o f i).2.2)); rw [hc]; rfl) h2
theorem takeItem_s1 {a : aA} {o i f ag : Nat} {q : List (Option (List aRec))} {op : List aRec} {r : aRec} {rs : List aRec} (hc : a.ch o f i = (some (r :: rs) :: q, op, ag)) {b : aA} (hb : b = (a.w_pt (up2 a.pt (o + 1) i ((f + 1) % a.p o))).w_ch (up3 a.ch o f i (if rs.isEmpty = true then q else some rs :: q, op, ag))) : a.takeItem (o + 1) i f = b.takeIn (o + 1) i r :=
  aA.takeItem_some (o := o + 1) (q := q) (by show (a.ch o f i).1 = _; rw [hc]) (by rw [hb]; show _ = (a.w_pt _).w_ch (up3 a.ch o f i (_, (a.ch o f i).2.1, (a.ch o f i).2.2)); rw [hc]; rfl)
theorem take_n1 {a : aA} {o i : Nat} (h : a.ready (o + 1) i = none) : a.take (o + 1) i = (false, a) := by
  unfold aA.take
  rw [if_neg (Nat.succ_ne_zero o), h]
theorem take_s1 {a : aA} {o i f : Nat} (h : a.ready (o + 1) i = some f) : a.take (o + 1) i = (true, a.takeItem (o + 1) i f) := by
  unfold aA.take
  rw [if_neg (Nat.succ_ne_zero o), h]
/-- a barrier that is taken and the last one of its instance: what the completion needs -/
def tOk (a : aA) (o i : Nat) : Prop := ∀ f qs, f < a.p (o - 1) → (a.ch (o - 1) f i).1 = none :: qs → (List.range (a.p (o - 1))).all (fun g => up3 a.sp o i f true o i g) = true → 0 < a.rn ∧ (o + 1 = a.n → a.sk + 1 = a.p o → ∀ x, x < a.n → ∀ y, y < a.p x → up2 a.al o i true x y = true)
theorem flush_no {a : aA} {o i : Nat} {b : aA} (h : aA.sendL o i (a.ls o i) a = (false, b)) : a.flush o i = (false, b) := by
  unfold aA.flush
  rw [h]
  rfl
theorem flush_hd {a : aA} {o i : Nat} {b : aA} (h : aA.sendL o i (a.ls o i) a = (true, b)) (h2 : b.hd o i = false) : a.flush o i = (true, b) := by
  unfold aA.flush
  rw [h]
  show (if true = false then _ else if b.hd o i = false then (true, b) else _) = _
  rw [if_neg (by decide), if_pos h2]
theorem flush_bar {a : aA} {o i j : Nat} {b : aA} (h : aA.sendL o i (a.ls o i) a = (true, b)) (h2 : b.hd o i = true) (h3 : b.bar o i = some j) : a.flush o i = (false, b) := by
  unfold aA.flush
  rw [h]
  show (if true = false then _ else if b.hd o i = false then _ else if (b.bar o i).isSome = true then (false, b) else _) = _
  rw [if_neg (by decide), if_neg (by rw [h2]; decide), h3]
  rfl
theorem flush_go {a : aA} {o i : Nat} {b : aA} (h : aA.sendL o i (a.ls o i) a = (true, b)) (h2 : b.hd o i = true) (h3 : b.bar o i = none) : a.flush o i = (true, (aA.putBs o i (b.p (o + 1)) 0 b).w_hd (up2 b.hd o i false)) := by
  unfold aA.flush
  rw [h]
  show (if true = false then _ else if b.hd o i = false then _ else if (b.bar o i).isSome = true then _ else _) = _
  rw [if_neg (by decide), if_neg (by rw [h2]; decide), h3]
  rfl
