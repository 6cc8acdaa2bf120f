set_option maxRecDepth 100000
/-! BATCHES AND CHANNELS. A batch's owner is its own address -/
def xBA (Y : xY) (V : xVV) (b : Nat) : Prop := yAt Y 11 b b ∧ ((∃ x, yAt Y 1001 b x ∧ V 11 b 0 = .ref x) ∧ yN Y 1001 b = 4) ∧ ((∃ x, yAt Y 1002 b x ∧ V 11 b 1 = .ref x) ∧ yN Y 1002 b = 4) ∧ (∃ x, yAt Y 1003 b x ∧ V 11 b 2 = .ref x) ∧ yN Y 1003 b = 4
/-- a batch that holds the records l behind t that were taken -/
def xBt (Y : xY) (V : xVV) (I : xII) (b t : Nat) (bar : Bool) (l : List aRec) : Prop := xBA Y V b ∧ V 11 b 3 = .int (nI t) ∧ V 11 b 4 = .int (nI (t + l.length)) ∧ t + l.length ≤ 4 ∧ V 11 b 5 = .int (bI bar) ∧ mRecs l t (I 1001 b) (I 1002 b) (I 1003 b)
def rB (r : Nat) : Prop := r = 11 ∨ r = 1001 ∨ r = 1002 ∨ r = 1003
def sBt (b : Nat) : Nat → Nat → Prop := fun r' o' => rB r' ∧ o' = b
theorem xBA.fr {S : Nat → Nat → Prop} {Y Y1 : xY} {V V1 : xVV} {I I1 : xII} {J J1 : xJJ} {A A1 : xVV} {b : Nat} (d : xBA Y V b) (f : xFr S Y V I J A Y1 V1 I1 J1 A1) (h1 : ¬ S 11 b) : xBA Y1 V1 b := by
  obtain ⟨g1, ⟨⟨x1, g2, g3⟩, g4⟩, ⟨⟨x2, g5, g6⟩, g7⟩, ⟨x3, g8, g9⟩, g10⟩ := d
  have e := (f.2 11 b b g1 h1).1
  exact ⟨f.1.at g1, ⟨⟨x1, f.1.at g2, by rw [e]; exact g3⟩, f.1.n g2 g4⟩, ⟨⟨x2, f.1.at g5, by rw [e]; exact g6⟩, f.1.n g5 g7⟩, ⟨x3, f.1.at g8, by rw [e]; exact g9⟩, f.1.n g8 g10⟩
theorem xBt.fr {S : Nat → Nat → Prop} {Y Y1 : xY} {V V1 : xVV} {I I1 : xII} {J J1 : xJJ} {A A1 : xVV} {b t : Nat} {bar : Bool} {l : List aRec} (d : xBt Y V I b t bar l) (f : xFr S Y V I J A Y1 V1 I1 J1 A1) (h1 : ∀ r, rB r → ¬ S r b) : xBt Y1 V1 I1 b t bar l := by
  obtain ⟨g0, g1, g2, g3, g4, g5⟩ := d
  have g0' := g0
  obtain ⟨k1, ⟨⟨x1, k2, -⟩, -⟩, ⟨⟨x2, k3, -⟩, -⟩, ⟨x3, k4, -⟩, -⟩ := g0'
  have e := (f.2 11 b b k1 (h1 _ (Or.inl rfl))).1
  have e1 := (f.2 1001 b x1 k2 (h1 _ (Or.inr (Or.inl rfl)))).2.1
  have e2 := (f.2 1002 b x2 k3 (h1 _ (Or.inr (Or.inr (Or.inl rfl))))).2.1
  have e3 := (f.2 1003 b x3 k4 (h1 _ (Or.inr (Or.inr (Or.inr rfl))))).2.1
  exact ⟨g0.fr f (h1 _ (Or.inl rfl)), by rw [e]; exact g1, by rw [e]; exact g2, g3, by rw [e]; exact g4, by rw [e1, e2, e3]; exact g5⟩
/-- what stands in a queue: a barrier, or a batch with what is left of it -/
def xQi (Y : xY) (V : xVV) (I : xII) (b : Nat) : Option (List aRec) → Prop
  | none => xBt Y V I b 0 true []
  | some l => ∃ t, xBt Y V I b t false l
theorem xQi.fr {S : Nat → Nat → Prop} {Y Y1 : xY} {V V1 : xVV} {I I1 : xII} {J J1 : xJJ} {A A1 : xVV} {b : Nat} {q : Option (List aRec)} (d : xQi Y V I b q) (f : xFr S Y V I J A Y1 V1 I1 J1 A1) (h1 : ∀ r, rB r → ¬ S r b) : xQi Y1 V1 I1 b q := by
  cases q with
  | none => exact xBt.fr d f h1
  | some l =>
    obtain ⟨t, d⟩ := d
    exact ⟨t, d.fr f h1⟩
theorem xQi.a {Y : xY} {V : xVV} {I : xII} {b : Nat} {q : Option (List aRec)} (d : xQi Y V I b q) : xBA Y V b := by
  cases q with
  | none => exact d.1
  | some l =>
    obtain ⟨t, d⟩ := d
    exact d.1
/-- the queue's batches, one by one -/
def xQs (Y : xY) (V : xVV) (I : xII) : List Nat → List (Option (List aRec)) → Prop
  | [], [] => True
  | b :: bs, q :: qs => xQi Y V I b q ∧ xQs Y V I bs qs
  | _, _ => False
theorem xQs.fr {S : Nat → Nat → Prop} {Y Y1 : xY} {V V1 : xVV} {I I1 : xII} {J J1 : xJJ} {A A1 : xVV} (f : xFr S Y V I J A Y1 V1 I1 J1 A1) : ∀ (bs : List Nat) (qs : List (Option (List aRec))), xQs Y V I bs qs → (∀ b, b ∈ bs → ∀ r, rB r → ¬ S r b) → xQs Y1 V1 I1 bs qs
  | [], [], _, _ => trivial
  | b :: bs, q :: qs, h, e => ⟨h.1.fr f (e b List.mem_cons_self), xQs.fr f bs qs h.2 (fun c hc => e c (List.mem_cons_of_mem _ hc))⟩
  | [], _ :: _, h, _ => h.elim
  | _ :: _, [], h, _ => h.elim
theorem xQs.len {Y : xY} {V : xVV} {I : xII} : ∀ (bs : List Nat) (qs : List (Option (List aRec))), xQs Y V I bs qs → bs.length = qs.length
  | [], [], _ => rfl
  | b :: bs, q :: qs, h => by simp [xQs.len bs qs h.2]
  | [], _ :: _, h => h.elim
  | _ :: _, [], h => h.elim
theorem xQs.app {Y : xY} {V : xVV} {I : xII} {b : Nat} {q : Option (List aRec)} (hq : xQi Y V I b q) : ∀ (bs : List Nat) (qs : List (Option (List aRec))), xQs Y V I bs qs → xQs Y V I (bs ++ [b]) (qs ++ [q])
  | [], [], _ => ⟨hq, trivial⟩
  | _ :: bs, _ :: qs, h => ⟨h.1, xQs.app hq bs qs h.2⟩
  | [], _ :: _, h => h.elim
  | _ :: _, [], h => h.elim
theorem xQs.mem {Y : xY} {V : xVV} {I : xII} : ∀ (bs : List Nat) (qs : List (Option (List aRec))), xQs Y V I bs qs → ∀ b, b ∈ bs → xBA Y V b
  | [], [], _, b, hb => by cases hb
  | c :: bs, q :: qs, h, b, hb => by
    rcases List.mem_cons.mp hb with e | e
    · rw [e]; exact h.1.a
    · exact xQs.mem bs qs h.2 b e
  | [], _ :: _, h, _, _ => h.elim
  | _ :: _, [], h, _, _ => h.elim
/-- a channel with its pending batch ob and the batches bs of its queue -/
def xCh (Y : xY) (V : xVV) (I : xII) (A : xVV) (h x : Nat) (c : aCh) (ob : Nat) (bs : List Nat) : Prop :=
  yAt Y 10 h x ∧ (∃ xd, V 10 h 0 = .ref xd ∧ xDq Y V A h xd bs) ∧ (V 10 h 1 = .ref ob ∧ xBt Y V I ob 0 false c.2.1) ∧ V 10 h 2 = .int (nI c.2.2) ∧ V 10 h 3 = .int (nI (cRecs c)) ∧ (∃ x0, yAt Y 0 0 x0 ∧ V 10 h 4 = .ref x0) ∧ xQs Y V I bs c.1
/-- the spare batches -/
def xSB (Y : xY) (V : xVV) (sp : List (Nat × Nat)) : Prop := ∀ p, p ∈ sp → xBA Y V p.2
/-- what a channel's step touches: the channel h, the spare list, the batches of L, new batches -/
def sCh (Y : xY) (h : Nat) (L : List Nat) : Nat → Nat → Prop := fun r o => ((r = 10 ∨ r = 41 ∨ r = 5001) ∧ o = h) ∨ ((r = 33 ∧ o = 0) ∨ r = 53) ∨ (rB r ∧ (o ∈ L ∨ ∀ x, ¬ yAt Y 11 o x))
/-- a channel's batches and the spare ones -/
def lCh (ob : Nat) (bs : List Nat) (sp : List (Nat × Nat)) : List Nat := ob :: bs ++ sp.map (fun p => p.2)
/-- behind a step the batches are of those before, or new -/
def lOk (Y : xY) (L L2 : List Nat) : Prop := L2.Nodup ∧ ∀ b, b ∈ L2 → b ∈ L ∨ ∀ x, ¬ yAt Y 11 b x
theorem xSB.fr {S : Nat → Nat → Prop} {Y Y1 : xY} {V V1 : xVV} {I I1 : xII} {J J1 : xJJ} {A A1 : xVV} {sp : List (Nat × Nat)} (d : xSB Y V sp) (f : xFr S Y V I J A Y1 V1 I1 J1 A1) (h1 : ∀ p, p ∈ sp → ¬ S 11 p.2) : xSB Y1 V1 sp := fun p hp => (d p hp).fr f (h1 p hp)
theorem xCh.fr {S : Nat → Nat → Prop} {Y Y1 : xY} {V V1 : xVV} {I I1 : xII} {J J1 : xJJ} {A A1 : xVV} {h x ob : Nat} {c : aCh} {bs : List Nat} (d : xCh Y V I A h x c ob bs) (f : xFr S Y V I J A Y1 V1 I1 J1 A1) (h1 : ¬ S 10 h ∧ ¬ S 41 h ∧ ¬ S 5001 h) (h2 : ∀ b, b = ob ∨ b ∈ bs → ∀ r, rB r → ¬ S r b) : xCh Y1 V1 I1 A1 h x c ob bs := by
  obtain ⟨g1, ⟨xd, g2, g3⟩, ⟨g4, g5⟩, g6, g7, ⟨x0, g8, g9⟩, g10⟩ := d
  have e := (f.2 10 h x g1 h1.1).1
  exact ⟨f.1.at g1, ⟨xd, by rw [e]; exact g2, g3.fr f h1.2.1 h1.2.2⟩, ⟨by rw [e]; exact g4, g5.fr f (h2 ob (Or.inl rfl))⟩, by rw [e]; exact g6, by rw [e]; exact g7, ⟨x0, f.1.at g8, by rw [e]; exact g9⟩, g10.fr f bs c.1 (fun b hb => h2 b (Or.inr hb))⟩
theorem sCh.mono {Y Y1 : xY} {h : Nat} {L L2 : List Nat} (g : ∀ x b, yAt Y 11 b x → yAt Y1 11 b x) (k : ∀ b, b ∈ L2 → b ∈ L ∨ ∀ x, ¬ yAt Y 11 b x) : ∀ r o, sCh Y1 h L2 r o → sCh Y h L r o := fun r o e => by
  rcases e with e | e | ⟨e1, e2⟩
  · exact Or.inl e
  · exact Or.inr (Or.inl e)
  · refine Or.inr (Or.inr ⟨e1, ?_⟩)
    rcases e2 with e2 | e2
    · exact k o e2
    · exact Or.inr (fun x hx => e2 x (g x o hx))
theorem lOk.tr {Y Y1 : xY} {L L2 L3 : List Nat} (g : ∀ x b, yAt Y 11 b x → yAt Y1 11 b x) (h : lOk Y L L2) (k : lOk Y1 L2 L3) : lOk Y L L3 := ⟨k.1, fun b hb => by
  rcases k.2 b hb with e | e
  · exact h.2 b e
  · exact Or.inr (fun x hx => e x (g x b hx))⟩
/-- cells for k new batches, when spare ones are gone -/
def cB (k : Nat) (sp : List (Nat × Nat)) : Nat := k - sp.length
