set_option maxRecDepth 100000
/-- what building looks at and leaves -/
def xBo (Y : xY) (V A : xVV) (x0 pl pv po p7 p10 g0 n : Nat) (p : Nat → Nat) (ll : List Nat) : Prop := yAt Y 0 0 x0 ∧ (V 0 0 8 = .ref pl ∧ V 0 0 9 = .ref po ∧ V 0 0 10 = .ref pv ∧ V 0 0 11 = .ref p7 ∧ V 0 0 12 = .ref p10) ∧ yAt Y 201 0 po ∧ yAt Y 134 0 pv ∧ (yAt Y 7001 0 p7 ∧ yN Y 7001 0 = 6) ∧ (yAt Y 10001 0 p10 ∧ yN Y 10001 0 = 5) ∧ xAl Y V A 34 5002 pl g0 ll ∧ ll.length = n ∧ ∀ o, o < n → yAt Y 4 o (ll.getD o 0) ∧ V 4 o 3 = .int (nI (p o)) ∧ ∃ xv, V 4 o 4 = .ref xv ∧ yAt Y 1 o xv
theorem xBo.fr {Y Y1 : xY} {V V1 : xVV} {I I1 : xII} {J J1 : xJJ} {A A1 : xVV} {S : Nat → Nat → Prop} {x0 pl pv po p7 p10 g0 n : Nat} {p : Nat → Nat} {ll : List Nat} (h : xBo Y V A x0 pl pv po p7 p10 g0 n p ll) (f : xFr S Y V I J A Y1 V1 I1 J1 A1) (hS : ∀ r o, S r o → r ≠ 0 ∧ r ≠ 4 ∧ r ≠ 34 ∧ r ≠ 5002) : xBo Y1 V1 A1 x0 pl pv po p7 p10 g0 n p ll := by
  obtain ⟨h0, ⟨h8, h9, h10, h11, h12⟩, ho, hv, ⟨h7, h7n⟩, ⟨ht, htn⟩, hl, hn, h4⟩ := h
  have e := (f.2 0 0 x0 h0 (fun q => (hS _ _ q).1 rfl)).1
  refine ⟨f.1.at h0, ⟨by rw [e]; exact h8, by rw [e]; exact h9, by rw [e]; exact h10, by rw [e]; exact h11, by rw [e]; exact h12⟩, f.1.at ho, f.1.at hv, ⟨f.1.at h7, f.1.n h7 h7n⟩, ⟨f.1.at ht, f.1.n ht htn⟩, hl.fr f (fun q => (hS _ _ q).2.2.1 rfl) (fun o q => (hS _ _ q).2.2.2 rfl), hn, fun o q => ?_⟩
  obtain ⟨k1, k2, xv, k3, k4⟩ := h4 o q
  have e4 := (f.2 4 o _ k1 (fun q => (hS _ _ q).2.1 rfl)).1
  exact ⟨f.1.at k1, by rw [e4]; exact k2, xv, by rw [e4]; exact k3, f.1.at k4⟩
/-! instances -/
def bDn (p : Nat → Nat) (o i o' i' : Nat) : Prop := i' < p o' ∧ (o' < o ∨ (o' = o ∧ i' < i))
def bIs (Y : xY) (V : xVV) (I : xII) (J : xJJ) (p : Nat → Nat) (o i : Nat) : Prop := ∀ o' i', bDn p o i o' i' → (∃ x, xIs Y V I J o' i' x [] (fun _ => false) 0 false) ∧ ∃ xv, xVc Y V 101 2 (3 * o' + i') xv (fun _ => 0)
theorem bIs.fr {Y Y1 : xY} {V V1 : xVV} {I I1 : xII} {J J1 : xJJ} {A A1 : xVV} {S : Nat → Nat → Prop} {p : Nat → Nat} {o i : Nat} (h : bIs Y V I J p o i) (f : xFr S Y V I J A Y1 V1 I1 J1 A1) (hS : ∀ o' i', bDn p o i o' i' → (∀ r, gIn r ∨ r = 101 → ¬ S r (3 * o' + i')) ∧ ∀ v, v < 3 → ¬ S 2 (3 * (3 * o' + i') + v)) : bIs Y1 V1 I1 J1 p o i := fun o' i' hd => by
  obtain ⟨⟨x, h1⟩, xv, h2⟩ := h o' i' hd
  obtain ⟨s1, s2⟩ := hS o' i' hd
  exact ⟨⟨x, h1.fr f (fun r hr => s1 r (Or.inl hr))⟩, xv, h2.fr f (s1 101 (Or.inr rfl)) s2⟩
theorem bIs.step {Y : xY} {V : xVV} {I : xII} {J : xJJ} {p : Nat → Nat} {o i x xv : Nat} (h : bIs Y V I J p o i) (h1 : xIs Y V I J o i x [] (fun _ => false) 0 false) (h2 : xVc Y V 101 2 (3 * o + i) xv (fun _ => 0)) : bIs Y V I J p o (i + 1) := fun o' i' hd => by
  by_cases e : o' = o ∧ i' = i
  · obtain ⟨rfl, rfl⟩ := e; exact ⟨⟨x, h1⟩, xv, h2⟩
  · exact h o' i' ⟨hd.1, by have := hd.2; omega⟩
theorem bIs.next {Y : xY} {V : xVV} {I : xII} {J : xJJ} {p : Nat → Nat} {o i : Nat} (h : bIs Y V I J p o i) (hi : p o ≤ i) : bIs Y V I J p (o + 1) 0 := fun o' i' hd => h o' i' ⟨hd.1, by
  have h1 := hd.1
  have h2 := hd.2
  by_cases e : o' = o
  · subst e; omega
  · omega⟩
def bA6 (Y : xY) (A : xVV) (p : Nat → Nat) (o i : Nat) : Prop := ∀ o' i', bDn p o i o' i' → (∃ xr, yAt Y 6001 o' xr) ∧ ∃ x, A 6001 o' i' = .ref x ∧ yAt Y 9 (3 * o' + i') x
theorem bA6.next {Y : xY} {A : xVV} {p : Nat → Nat} {o i : Nat} (h : bA6 Y A p o i) (hi : p o ≤ i) : bA6 Y A p (o + 1) 0 := fun o' i' hd => h o' i' ⟨hd.1, by
  have h1 := hd.1
  have h2 := hd.2
  by_cases e : o' = o
  · subst e; omega
  · omega⟩
theorem bA6.fr {Y Y1 : xY} {V V1 : xVV} {I I1 : xII} {J J1 : xJJ} {A A1 : xVV} {S : Nat → Nat → Prop} {p : Nat → Nat} {o i : Nat} (h : bA6 Y A p o i) (f : xFr S Y V I J A Y1 V1 I1 J1 A1) (hS : ∀ o' i', bDn p o i o' i' → ¬ S 6001 o') : bA6 Y1 A1 p o i := fun o' i' hd => by
  obtain ⟨⟨xr, k0⟩, x, k1, k2⟩ := h o' i' hd
  have e := (f.2 6001 o' xr k0 (hS o' i' hd)).2.2.2
  exact ⟨⟨xr, f.1.at k0⟩, x, by rw [e]; exact k1, f.1.at k2⟩
theorem bA6.st {Y : xY} {A A1 : xVV} {p : Nat → Nat} {o i x xr : Nat} (h : bA6 Y A p o i) (hs : A1 6001 = va_up (A 6001) o (va_up (A 6001 o) i (.ref x))) (h0 : yAt Y 6001 o xr) (h1 : yAt Y 9 (3 * o + i) x) : bA6 Y A1 p o (i + 1) := fun o' i' hd => by
  have hd1 := hd.1
  have hd2 := hd.2
  rw [hs]
  by_cases e : o' = o
  · subst e
    rw [va_ups]
    by_cases e2 : i' = i
    · subst e2; rw [va_ups]; exact ⟨⟨xr, h0⟩, x, rfl, h1⟩
    · rw [va_upe e2]; exact h o' i' ⟨hd1, by omega⟩
  · rw [va_upe e]; exact h o' i' ⟨hd1, by omega⟩
def bAr (Y : xY) (A : xVV) (p : Nat → Nat) (m : Nat) : Prop := ∀ o, o < m → ∃ xr, A 7001 0 o = .ref xr ∧ yAt Y 6001 o xr ∧ yN Y 6001 o = p o
theorem bAr.st {Y : xY} {A A1 : xVV} {o q : Nat} {p : Nat → Nat} (h : bAr Y A p o) (hs : A1 7001 = va_up (A 7001) 0 (va_up (A 7001 0) o (.ref q))) (h1 : yAt Y 6001 o q) (h2 : yN Y 6001 o = p o) : bAr Y A1 p (o + 1) := fun o' k2 => by
  rw [hs, va_ups]
  by_cases e : o' = o
  · subst e; rw [va_ups]; exact ⟨q, rfl, h1, h2⟩
  · rw [va_upe e]; exact h o' (by omega)
/-- the list of what is saved -/
def bVe (Y : xY) (V A : xVV) (pv g0 : Nat) (L : List (Nat × Nat)) : Prop := ∃ l, xAl Y V A 134 5003 pv g0 l ∧ l.length = L.length ∧ ∀ j, j < l.length → yAt Y (L.getD j (0, 0)).1 (L.getD j (0, 0)).2 (l.getD j 0)
theorem bVe.fr {Y Y1 : xY} {V V1 : xVV} {I I1 : xII} {J J1 : xJJ} {A A1 : xVV} {S : Nat → Nat → Prop} {pv g0 : Nat} {L : List (Nat × Nat)} (h : bVe Y V A pv g0 L) (f : xFr S Y V I J A Y1 V1 I1 J1 A1) (hS : ∀ r o, S r o → r ≠ 134 ∧ r ≠ 5003) : bVe Y1 V1 A1 pv g0 L := by
  obtain ⟨l, h1, h2, h3⟩ := h
  exact ⟨l, h1.fr f (fun e => (hS _ _ e).1 rfl) (fun o e => (hS _ _ e).2 rfl), h2, fun j hj => f.1.at (h3 j hj)⟩
def vOkL (L : List (Nat × Nat)) : Prop := ∀ q, q ∈ L → q.1 = 201 ∨ q.1 = 1 ∨ q.1 = 101
def vlI (p : Nat → Nat) (o i : Nat) : List (Nat × Nat) := vl o p ++ ((1, o) :: (List.range i).map (fun i => (101, 3 * o + i)))
theorem vl_0 (p : Nat → Nat) : vl 0 p = [(201, 0)] := rfl
theorem vlI_0 (p : Nat → Nat) (o : Nat) : vlI p o 0 = vl o p ++ [(1, o)] := rfl
theorem vlI_s (p : Nat → Nat) (o i : Nat) : vlI p o (i + 1) = vlI p o i ++ [(101, 3 * o + i)] := by
  unfold vlI
  rw [List.range_succ, List.map_append, List.append_assoc]
  rfl
theorem vlI_n (p : Nat → Nat) (o : Nat) : vlI p o (p o) = vl (o + 1) p := by
  unfold vlI vl
  rw [List.range_succ, List.flatMap_append]
  simp
theorem vl_ok (p : Nat → Nat) (o : Nat) : vOkL (vl o p) := fun q hq => by
  unfold vl at hq
  rcases List.mem_cons.mp hq with rfl | hq
  · exact Or.inl rfl
  · obtain ⟨o', -, hq⟩ := List.mem_flatMap.mp hq
    rcases List.mem_cons.mp hq with rfl | hq
    · exact Or.inr (Or.inl rfl)
    · obtain ⟨i, -, rfl⟩ := List.mem_map.mp hq
      exact Or.inr (Or.inr rfl)
theorem vlI_ok (p : Nat → Nat) (o i : Nat) : vOkL (vlI p o i) := fun q hq => by
  rcases List.mem_append.mp hq with hq | hq
  · exact vl_ok p o q hq
  · rcases List.mem_cons.mp hq with rfl | hq
    · exact Or.inr (Or.inl rfl)
    · obtain ⟨i, -, rfl⟩ := List.mem_map.mp hq
      exact Or.inr (Or.inr rfl)
theorem vl_len {p : Nat → Nat} (hp : ∀ o, p o ≤ 3) (o : Nat) : (vl o p).length ≤ 1 + 4 * o := by
  induction o with
  | zero => exact Nat.le_refl 1
  | succ o ih =>
    have h := hp o
    rw [← vlI_n]
    unfold vlI
    rw [List.length_append, List.length_cons, List.length_map, List.length_range]
    omega
theorem vlI_len {p : Nat → Nat} (hp : ∀ o, p o ≤ 3) (o i : Nat) : (vlI p o i).length ≤ 2 + 4 * o + i := by
  have h := vl_len hp o
  unfold vlI
  rw [List.length_append, List.length_cons, List.length_map, List.length_range]
  omega
theorem asg_X1_5 : xAsg 1 5 := ⟨_, "java/lang/Object", _, rfl, rfl, rfl, rfl, q2949⟩
theorem getD_mem {α : Type} {L : List α} {j : Nat} (d : α) (h : j < L.length) : L.getD j d ∈ L := by
  rw [List.getD_eq_getElem?_getD, List.getElem?_eq_getElem h]
  exact List.getElem_mem h
theorem vObj {Y : xY} {L : List (Nat × Nat)} (hL : vOkL L) {j b : Nat} (hj : j < L.length) (h : yAt Y (L.getD j (0, 0)).1 (L.getD j (0, 0)).2 b) : xObj Y b := by
  have hq := hL _ (getD_mem (0, 0) hj)
  refine ⟨_, _, h, by omega, ?_⟩
  have e : xrT (yK Y) (L.getD j (0, 0)).1 (L.getD j (0, 0)).2 = 1 := by
    unfold xrT
    rcases hq with e | e | e <;> rw [e] <;> rfl
  rw [e]
  exact asg_X1_5
theorem getD_appP {L : List (Nat × Nat)} {c : Nat × Nat} {j : Nat} (hj : j < (L ++ [c]).length) : (j = L.length → (L ++ [c]).getD j (0, 0) = c) ∧ (j ≠ L.length → j < L.length ∧ (L ++ [c]).getD j (0, 0) = L.getD j (0, 0)) := by
  rw [List.length_append, List.length_singleton] at hj
  refine ⟨fun e => ?_, fun e => ⟨by omega, ?_⟩⟩
  · subst e; simp [List.getD_eq_getElem?_getD]
  · simp [List.getD_eq_getElem?_getD, List.getElem?_append_left (show j < L.length by omega)]
/-- one more on the list -/
theorem bVe.of {Y Y1 : xY} {V1 A1 : xVV} {pv g0 b : Nat} {l : List Nat} {L : List (Nat × Nat)} {q : Nat × Nat} (h2 : l.length = L.length) (h3 : ∀ j, j < l.length → yAt Y (L.getD j (0, 0)).1 (L.getD j (0, 0)).2 (l.getD j 0)) (le : yLe Y Y1) (hb : yAt Y1 q.1 q.2 b) (h : xAl Y1 V1 A1 134 5003 pv g0 (l ++ [b])) : bVe Y1 V1 A1 pv g0 (L ++ [q]) := by
  refine ⟨_, h, by rw [List.length_append, List.length_append, h2]; rfl, fun j hj => ?_⟩
  obtain ⟨k1, k2⟩ := getD_app hj
  have hj2 : j < (L ++ [q]).length := by rw [List.length_append, ← h2]; rw [List.length_append] at hj; exact hj
  obtain ⟨k3, k4⟩ := getD_appP hj2
  by_cases e : j = l.length
  · rw [k1 e, k3 (by rw [← h2]; exact e)]; exact hb
  · rw [(k2 e).2, (k4 (by rw [← h2]; exact e)).2]; exact le.at (h3 j (k2 e).1)
/-- what does not exist yet -/
def bN1 (Y : xY) (k m : Nat) : Prop := (∀ r c x, gIn r ∨ r = 101 → k ≤ c → ¬ yAt Y r c x) ∧ (∀ c x, 3 * k ≤ c → ¬ yAt Y 2 c x) ∧ ∀ c x, m ≤ c → ¬ yAt Y 6001 c x
theorem bN1.gr {Y Y1 : xY} {S : Nat → Nat → Prop} {k m k' m' : Nat} (h : bN1 Y k m) (f : yLs S Y Y1) (hk : k ≤ k') (hm : m ≤ m') (hS : ∀ r c, S r c → ((gIn r ∨ r = 101) → c < k') ∧ (r = 2 → c < 3 * k') ∧ (r = 6001 → c < m')) : bN1 Y1 k' m' := by
  refine ⟨fun r c x hr hc hx => ?_, fun c x hc hx => ?_, fun c x hc hx => ?_⟩
  · rcases f.2 r c x hx with q | q
    · exact h.1 r c x hr (by omega) q
    · have := (hS r c q).1 hr; omega
  · rcases f.2 2 c x hx with q | q
    · exact h.2.1 c x (by omega) q
    · have := (hS 2 c q).2.1 rfl; omega
  · rcases f.2 6001 c x hx with q | q
    · exact h.2.2 c x (by omega) q
    · have := (hS 6001 c q).2.2 rfl; omega
theorem bN1.le {Y : xY} {k m k' m' : Nat} (h : bN1 Y k m) (h1 : k ≤ k') (h2 : m ≤ m') : bN1 Y k' m' := h.gr (S := fun _ _ => False) yLs.rf h1 h2 (fun r c e => e.elim)
def sB1 : Nat → Nat → Prop := fun r _ => gIn r ∨ r = 101 ∨ r = 2 ∨ r = 6001 ∨ r = 7001 ∨ r = 134 ∨ r = 5003
def sBd : Nat → Nat → Prop := fun r _ => gIn r ∨ r = 101 ∨ r = 2 ∨ r = 6001 ∨ r = 9001 ∨ r = 8001 ∨ r = 7001 ∨ r = 10001 ∨ r = 134 ∨ r = 5003 ∨ gCh r

