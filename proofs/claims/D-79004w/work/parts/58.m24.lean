set_option maxRecDepth 100000
/-- nothing of the new operators but that of o -/
def nFr (o : Nat) (ar ar2 : Nat → Nat → Int32) : Prop := (∀ k, k ∉ ([62, 63, 64, 65] : List Nat) → ar2 k = ar k) ∧ ∀ k x, x ≠ o → ar2 k x = ar k x
theorem nFr.rf {o : Nat} {ar : Nat → Nat → Int32} : nFr o ar ar := ⟨fun _ _ => rfl, fun _ _ _ => rfl⟩
theorem nFr.tr {o : Nat} {a b c : Nat → Nat → Int32} (h : nFr o a b) (g : nFr o b c) : nFr o a c := ⟨fun k hk => (g.1 k hk).trans (h.1 k hk), fun k x hx => (g.2 k x hx).trans (h.2 k x hx)⟩
theorem nFr.st {o k : Nat} {a b : Nat → Nat → Int32} {v : Int32} (hk : k = 62 ∨ k = 63 ∨ k = 64 ∨ k = 65) (e : b k = va_up (a k) o v) (h : ∀ j, j ≠ k → b j = a j) : nFr o a b := by
  refine ⟨fun j hj => h j (fun c => hj (by subst c; rcases hk with rfl | rfl | rfl | rfl <;> decide)), fun j x hx => ?_⟩
  by_cases c : j = k
  · subst c; rw [e, va_upe hx]
  · rw [h j c]
theorem RepM.nw {a : aA} {o : Nat} {sc sc2 : Nat → Int32} {ar ar2 : Nat → Nat → Int32} (h : RepM a sc ar) (f : nFr o ar ar2) (g : pFr sc sc2) : RepM a sc2 ar2 := (h.scj (fun k hk => g k (fun e => hk (by rw [e]; unfold jS; omega)) (fun e => hk (by rw [e]; unfold jS; omega)))).junk (fun k _ hj => f.1 k (fun e => hj (by unfold jA; simp only [List.mem_cons, List.not_mem_nil, or_false] at e; omega)))
