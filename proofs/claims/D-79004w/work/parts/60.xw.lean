set_option maxRecDepth 100000
/-! THE COMPONENT's WORLD: live things by index role r and owner o, at an address x.
Index roles under 1000: class role r % 100 (4: an operator, by its kind); from 1000: arrays of kind r / 1000 -/
def opR : Nat → Nat
  | 0 => 15
  | 1 => 16
  | 2 => 17
  | 3 => 18
  | 4 => 19
  | 5 => 20
  | 6 => 21
  | 7 => 5
  | _ => 8
def xrT (K : Nat → Nat → Nat) (r o : Nat) : Nat := if r % 100 = 4 then opR (K r o) else r % 100
/-- the layout: operators' kinds, what is where, lengths of arrays -/
abbrev xY : Type := (Nat → Nat → Nat) × (Nat → Nat → Nat → Prop) × (Nat → Nat → Nat)
def yK (Y : xY) : Nat → Nat → Nat := Y.1
def yAt (Y : xY) (r o x : Nat) : Prop := Y.2.1 r o x
def yN (Y : xY) : Nat → Nat → Nat := Y.2.2
abbrev xVV : Type := Nat → Nat → Nat → Value
abbrev xII : Type := Nat → Nat → Nat → Int32
abbrev xJJ : Type := Nat → Nat → Nat → Int64
/-- index roles whose owners are addresses -/
def idR (r : Nat) : Prop := r = 11 ∨ r = 53 ∨ r = 50 ∨ r = 23 ∨ r = 1001 ∨ r = 1002 ∨ r = 1003 ∨ r = 1041 ∨ r = 3001 ∨ r = 3002 ∨ r = 5002 ∨ r = 5003 ∨ r = 5004 ∨ r = 5005 ∨ r = 5402
/-- one live thing -/
def xOne (Y : xY) (V : xVV) (I : xII) (J : xJJ) (A : xVV) (T : xT) (O R : xO) (r o x : Nat) : Prop :=
  (∃ t n u : Nat, T x = some (t, n, u) ∧ ¬ isM t ∧ (r < 1000 → t = xrT (yK Y) r o) ∧ (1000 ≤ r → t / 1000 = r / 1000 ∧ n = yN Y r o)) ∧
  (r < 1000 → ∀ k, k < 32 → O x (xPb (xrT (yK Y) r o) + k) = V r o k) ∧ (r / 1000 = 1 ∨ r / 1000 = 2 ∨ r / 1000 = 3 → R x = xI (I r o)) ∧ (r / 1000 = 4 → R x = xJ (J r o)) ∧ (5 ≤ r / 1000 → R x = A r o)
/-- THE COMPONENT's THINGS in the world (T, O, R); since w0 nothing of the model has changed -/
def PX (Y : xY) (V : xVV) (I : xII) (J : xJJ) (A : xVV) (w0 : xW) (T : xT) (O R : xO) : Prop :=
  (∀ r o x, yAt Y r o x → xOne Y V I J A T O R r o x) ∧
  ((∀ r o x x', yAt Y r o x → yAt Y r o x' → x = x') ∧ (∀ r o r' o' x, yAt Y r o x → yAt Y r' o' x → r = r' ∧ o = o')) ∧
  (∀ r o x, yAt Y r o x → idR r → T o ≠ none) ∧
  (∀ (a : Nat) (t : Nat × Nat × Nat), w0.1 a = some t → T a = some t) ∧
  ∀ (a : Nat) (t : Nat × Nat × Nat), w0.1 a = some t → isM t.1 → O a = w0.2.1 a ∧ R a = w0.2.2 a
section XPX
variable {Y : xY} {V : xVV} {I : xII} {J : xJJ} {A : xVV} {w0 : xW} {T : xT} {O R : xO}
theorem PX.one (P : PX Y V I J A w0 T O R) {r o x : Nat} (h : yAt Y r o x) : xOne Y V I J A T O R r o x := P.1 r o x h
theorem PX.fn (P : PX Y V I J A w0 T O R) {r o x x' : Nat} (h : yAt Y r o x) (h' : yAt Y r o x') : x = x' := P.2.1.1 r o x x' h h'
theorem PX.ij (P : PX Y V I J A w0 T O R) {r o r' o' x : Nat} (h : yAt Y r o x) (h' : yAt Y r' o' x) : r = r' ∧ o = o' := P.2.1.2 r o r' o' x h h'
theorem PX.ne (P : PX Y V I J A w0 T O R) {r o r' o' x x' : Nat} (h : yAt Y r o x) (h' : yAt Y r' o' x') (hn : ¬ (r = r' ∧ o = o')) : x ≠ x' := fun e => hn (P.ij h (e ▸ h'))
/-- an object's type -/
theorem PX.ty (P : PX Y V I J A w0 T O R) {r o x t : Nat} (h : yAt Y r o x) (hr : r < 1000) (ht : xrT (yK Y) r o = t) : ∃ n u, T x = some (t, n, u) := by
  obtain ⟨⟨t', n, u, h1, -, h2, -⟩, -⟩ := P.one h
  exact ⟨n, u, by rw [h1, h2 hr, ht]⟩
theorem PX.tya (P : PX Y V I J A w0 T O R) {r o x : Nat} (h : yAt Y r o x) (hr : 1000 ≤ r) : ∃ t u, T x = some (t, yN Y r o, u) ∧ t / 1000 = r / 1000 := by
  obtain ⟨⟨t', n, u, h1, -, -, h2⟩, -⟩ := P.one h
  obtain ⟨h3, rfl⟩ := h2 hr
  exact ⟨t', u, h1, h3⟩
theorem PX.fld (P : PX Y V I J A w0 T O R) {r o x k : Nat} {v : Value} (h : yAt Y r o x) (hr : r < 1000) {t : Nat} (ht : xrT (yK Y) r o = t) (hk : k < 32) (hv : V r o k = v) : O x (xPb t + k) = v := by
  rw [← hv, ← ht]
  exact (P.one h).2.1 hr k hk
theorem PX.arI (P : PX Y V I J A w0 T O R) {r o x : Nat} (h : yAt Y r o x) (hr : r / 1000 = 1 ∨ r / 1000 = 2 ∨ r / 1000 = 3) : R x = xI (I r o) := (P.one h).2.2.1 hr
theorem PX.arJ (P : PX Y V I J A w0 T O R) {r o x : Nat} (h : yAt Y r o x) (hr : r / 1000 = 4) : R x = xJ (J r o) := (P.one h).2.2.2.1 hr
theorem PX.arA (P : PX Y V I J A w0 T O R) {r o x : Nat} (h : yAt Y r o x) (hr : 5 ≤ r / 1000) : R x = A r o := (P.one h).2.2.2.2 hr
/-- fewer live things -/
theorem PX.less (P : PX Y V I J A w0 T O R) {Y2 : xY} (h : ∀ r o x, yAt Y2 r o x → yAt Y r o x ∧ yK Y2 r o = yK Y r o ∧ yN Y2 r o = yN Y r o) : PX Y2 V I J A w0 T O R := by
  refine ⟨fun r o x hx => ?_, ⟨fun r o x x' h1 h2 => P.fn (h _ _ _ h1).1 (h _ _ _ h2).1, fun r o r' o' x h1 h2 => P.ij (h _ _ _ h1).1 (h _ _ _ h2).1⟩, fun r o x hx => P.2.2.1 r o x (h _ _ _ hx).1, P.2.2.2⟩
  obtain ⟨g1, g2, g3⟩ := h _ _ _ hx
  have := P.one g1
  unfold xOne at this ⊢
  rw [g3, show xrT (yK Y2) r o = xrT (yK Y) r o by unfold xrT; rw [g2]]
  exact this
theorem isMf {T : xT} {O R : xO} {a x t n u : Nat} {ta : Nat × Nat × Nat} (h1 : T x = some (t, n, u)) (h2 : ¬ isM t) (h3 : T a = some ta) (h4 : isM ta.1) : a ≠ x := fun e => by
  subst e
  cases h1.symm.trans h3
  exact h2 h4
/-- a store into a field -/
theorem PX.put (P : PX Y V I J A w0 T O R) {r o x k : Nat} (h : yAt Y r o x) (hr : r < 1000) {t : Nat} (ht : xrT (yK Y) r o = t) (v : Value) : PX Y (va_up V r (va_up (V r) o (va_up (V r o) k v))) I J A w0 T (xUp O x (xPb t + k) v) R := by
  refine ⟨fun r' o' x' hx => ?_, P.2.1, P.2.2.1, P.2.2.2.1, fun a ta ha hm => ?_⟩
  · obtain ⟨h1, h2, h3⟩ := P.one hx
    refine ⟨h1, fun hr' j hj => ?_, h3⟩
    by_cases e : r' = r ∧ o' = o
    · obtain ⟨rfl, rfl⟩ := e
      cases P.fn h hx
      rw [va_ups, va_ups]
      subst ht
      by_cases ej : j = k
      · subst ej; rw [xUp_s, va_ups]
      · rw [xUp_k (by omega), va_upe ej]; exact h2 hr' j hj
    · have hne : x' ≠ x := P.ne hx h (fun q => e q)
      rw [xUp_a hne, h2 hr' j hj]
      by_cases er : r' = r
      · subst er
        rw [va_ups, va_upe (fun q => e ⟨rfl, q⟩)]
      · rw [va_upe er]
  · obtain ⟨⟨t', n, u, h1, h2, -⟩, -⟩ := P.one h
    rw [xUp_r (isMf (O := O) (R := R) h1 h2 (P.2.2.2.1 a ta ha) hm)]
    exact P.2.2.2.2 a ta ha hm
theorem PX.astg (P : PX Y V I J A w0 T O R) {r o x : Nat} (h : yAt Y r o x) {I' : xII} {J' : xJJ} {A' : xVV} {f : Nat → Value} (eI : ∀ r' o', ¬ (r' = r ∧ o' = o) → I' r' o' = I r' o') (eJ : ∀ r' o', ¬ (r' = r ∧ o' = o) → J' r' o' = J r' o') (eA : ∀ r' o', ¬ (r' = r ∧ o' = o) → A' r' o' = A r' o') (h1 : r / 1000 = 1 ∨ r / 1000 = 2 ∨ r / 1000 = 3 → f = xI (I' r o)) (h2 : r / 1000 = 4 → f = xJ (J' r o)) (h3 : 5 ≤ r / 1000 → f = A' r o) : PX Y V I' J' A' w0 T O (xUr R x f) := by
  refine ⟨fun r' o' x' hx => ?_, P.2.1, P.2.2.1, P.2.2.2.1, fun a ta ha hm => ?_⟩
  · obtain ⟨g1, g2, g3, g4, g5⟩ := P.one hx
    by_cases e : r' = r ∧ o' = o
    · obtain ⟨rfl, rfl⟩ := e
      cases P.fn h hx
      exact ⟨g1, g2, fun q => xUr_s.trans (h1 q), fun q => xUr_s.trans (h2 q), fun q => xUr_s.trans (h3 q)⟩
    · have hne : x' ≠ x := P.ne hx h (fun q => e q)
      rw [xOne, xUr_a hne, eI r' o' e, eJ r' o' e, eA r' o' e]
      exact ⟨g1, g2, g3, g4, g5⟩
  · obtain ⟨⟨t', n, u, h1, h2, -⟩, -⟩ := P.one h
    rw [xUr_a (isMf (O := O) (R := R) h1 h2 (P.2.2.2.1 a ta ha) hm)]
    exact P.2.2.2.2 a ta ha hm
theorem upno {α : Type} {f : Nat → Nat → α} {r o r' o' : Nat} {g : α} (h : ¬ (r' = r ∧ o' = o)) : va_up f r (va_up (f r) o g) r' o' = f r' o' := by
  by_cases e : r' = r
  · subst e; rw [va_ups, va_upe (fun q => h ⟨rfl, q⟩)]
  · rw [va_upe e]
theorem upyes {α : Type} {f : Nat → Nat → α} {r o : Nat} {g : α} : va_up f r (va_up (f r) o g) r o = g := by rw [va_ups, va_ups]
theorem PX.astI (P : PX Y V I J A w0 T O R) {r o x : Nat} (h : yAt Y r o x) (hr : r / 1000 = 1 ∨ r / 1000 = 2 ∨ r / 1000 = 3) (g : Nat → Int32) : PX Y V (va_up I r (va_up (I r) o g)) J A w0 T O (xUr R x (xI g)) :=
  P.astg h (fun _ _ e => upno e) (fun _ _ _ => rfl) (fun _ _ _ => rfl) (fun _ => by rw [upyes]) (fun q => by omega) (fun q => by omega)
theorem PX.astJ (P : PX Y V I J A w0 T O R) {r o x : Nat} (h : yAt Y r o x) (hr : r / 1000 = 4) (g : Nat → Int64) : PX Y V I (va_up J r (va_up (J r) o g)) A w0 T O (xUr R x (xJ g)) :=
  P.astg h (fun _ _ _ => rfl) (fun _ _ e => upno e) (fun _ _ _ => rfl) (fun q => by omega) (fun _ => by rw [upyes]) (fun q => by omega)
theorem PX.astA (P : PX Y V I J A w0 T O R) {r o x : Nat} (h : yAt Y r o x) (hr : 5 ≤ r / 1000) (g : Nat → Value) : PX Y V I J (va_up A r (va_up (A r) o g)) w0 T O (xUr R x g) :=
  P.astg h (fun _ _ _ => rfl) (fun _ _ _ => rfl) (fun _ _ e => upno e) (fun q => by omega) (fun q => by omega) (fun _ => by rw [upyes])
/-! new things -/
/-- the layout with one thing more -/
def yNew (Y : xY) (r o x K n : Nat) : xY := (va_up (yK Y) r (va_up (yK Y r) o K), (fun r' o' x' => (r' = r ∧ o' = o ∧ x' = x) ∨ yAt Y r' o' x'), va_up (yN Y) r (va_up (yN Y r) o n))
theorem yNew_at {r o x K n : Nat} : yAt (yNew Y r o x K n) r o x := Or.inl ⟨rfl, rfl, rfl⟩
theorem yNew_o {r o x K n r' o' x' : Nat} (h : yAt Y r' o' x') : yAt (yNew Y r o x K n) r' o' x' := Or.inr h
theorem PX.new (P : PX Y V I J A w0 T O R) {r o q K n u t : Nat} (hq : T q = none) (hf : ∀ x, ¬ yAt Y r o x) (hid : idR r → o = q ∨ T o ≠ none) {O' R' : xO} (hO : ∀ b, b ≠ q → O' b = O b) (hR : ∀ b, b ≠ q → R' b = R b) (ht : ¬ isM t) (h1 : r < 1000 → t = xrT (yK (yNew Y r o q K n)) r o) (h2 : 1000 ≤ r → t / 1000 = r / 1000)
    {V' : xVV} {I' : xII} {J' : xJJ} {A' : xVV} (eV : ∀ r' o', ¬ (r' = r ∧ o' = o) → V' r' o' = V r' o') (eI : ∀ r' o', ¬ (r' = r ∧ o' = o) → I' r' o' = I r' o') (eJ : ∀ r' o', ¬ (r' = r ∧ o' = o) → J' r' o' = J r' o') (eA : ∀ r' o', ¬ (r' = r ∧ o' = o) → A' r' o' = A r' o')
    (k1 : r < 1000 → ∀ k, k < 32 → O' q (xPb t + k) = V' r o k) (k2 : r / 1000 = 1 ∨ r / 1000 = 2 ∨ r / 1000 = 3 → R' q = xI (I' r o)) (k3 : r / 1000 = 4 → R' q = xJ (J' r o)) (k4 : 5 ≤ r / 1000 → R' q = A' r o) :
    PX (yNew Y r o q K n) V' I' J' A' w0 (xUt T q (t, n, u)) O' R' := by
  have hne : ∀ r' o' x', yAt Y r' o' x' → x' ≠ q ∧ ¬ (r' = r ∧ o' = o) := fun r' o' x' hx => by
    refine ⟨fun e => ?_, fun e => ?_⟩
    · subst e
      obtain ⟨⟨t', n', u', g1, -⟩, -⟩ := P.one hx
      rw [hq] at g1; cases g1
    · obtain ⟨rfl, rfl⟩ := e
      exact hf _ hx
  refine ⟨fun r' o' x' hx => ?_, ⟨fun r' o' x' x'' g1 g2 => ?_, fun r' o' r'' o'' x' g1 g2 => ?_⟩, fun r' o' x' hx hi => ?_, fun a ta ha => xUt_o hq (P.2.2.2.1 a ta ha), fun a ta ha hm => ?_⟩
  · rcases hx with ⟨rfl, rfl, rfl⟩ | hx
    · exact ⟨⟨t, n, u, xUt_s, ht, h1, fun hr => ⟨h2 hr, by show n = va_up (yN Y) r' (va_up (yN Y r') o' n) r' o'; rw [upyes]⟩⟩, fun hr k hk => by rw [← h1 hr]; exact k1 hr k hk, k2, k3, k4⟩
    · obtain ⟨n1, n2⟩ := hne _ _ _ hx
      obtain ⟨⟨t', n', u', g1, g2, g3, g4⟩, g5, g6⟩ := P.one hx
      have eK : xrT (yK (yNew Y r o q K n)) r' o' = xrT (yK Y) r' o' := by
        unfold xrT
        rw [show yK (yNew Y r o q K n) r' o' = yK Y r' o' from upno n2]
      refine ⟨⟨t', n', u', by rw [xUt_a n1]; exact g1, g2, by rw [eK]; exact g3, fun hr => ⟨(g4 hr).1, by rw [show yN (yNew Y r o q K n) r' o' = yN Y r' o' from upno n2]; exact (g4 hr).2⟩⟩, ?_⟩
      rw [eK, hO _ n1, hR _ n1, eV _ _ n2, eI _ _ n2, eJ _ _ n2, eA _ _ n2]
      exact ⟨g5, g6⟩
  · rcases g1 with ⟨rfl, rfl, rfl⟩ | g1 <;> rcases g2 with ⟨e1, e2, e3⟩ | g2
    · exact e3.symm
    · exact absurd g2 (hf _)
    · exact absurd ⟨e1, e2⟩ (hne _ _ _ g1).2
    · exact P.fn g1 g2
  · rcases g1 with ⟨rfl, rfl, rfl⟩ | g1 <;> rcases g2 with ⟨e1, e2, e3⟩ | g2
    · exact ⟨e1.symm, e2.symm⟩
    · exact absurd rfl (hne _ _ _ g2).1
    · exact absurd e3 (hne _ _ _ g1).1
    · exact P.ij g1 g2
  · rcases hx with ⟨rfl, rfl, rfl⟩ | hx
    · rcases hid hi with rfl | h
      · rw [xUt_s]; exact fun h => nomatch h
      · cases e : T o' with
        | none => exact absurd e h
        | some t0 => rw [xUt_o hq e]; exact fun h => nomatch h
    · cases e : T o' with
      | none => exact absurd e (P.2.2.1 _ _ _ hx hi)
      | some t0 => rw [xUt_o hq e]; exact fun h => nomatch h
  · have hne : a ≠ q := fun e => by
      have := P.2.2.2.1 a ta ha
      rw [e, hq] at this; cases this
    rw [hO a hne, hR a hne]
    exact P.2.2.2.2 a ta ha hm
/-- no owner is fresh but by its address -/
theorem PX.fresh (P : PX Y V I J A w0 T O R) {q : Nat} (hq : T q = none) : ∀ r x, idR r → ¬ yAt Y r q x := fun r x hi hx => P.2.2.1 r q x hx hi hq
end XPX
