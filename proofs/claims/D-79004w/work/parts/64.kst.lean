set_option maxRecDepth 100000
/-! THE STATES OF KEYS: an object (rk, s), its set (rb, s) with the word (rw, s), its arrays (r1, s), (r2, s) -/
def ksR (rk rb rw r1 r2 : Nat) : Prop := rk < 1000 ∧ rk % 100 = 6 ∧ rb < 1000 ∧ rb % 100 = 35 ∧ rw / 1000 = 4 ∧ r1 / 1000 = 1 ∧ r2 / 1000 = 1 ∧ r1 ≠ r2
def xKs (Y : xY) (V : xVV) (I : xII) (J : xJJ) (rk rb rw r1 r2 s x : Nat) (st : Nat → Option (Int32 × Int32)) : Prop :=
  yAt Y rk s x ∧ (∃ xb w, V rk s 0 = .ref xb ∧ xBs Y V J rb rw s xb w ∧ ∀ key, key < 16 → w.testBit key = (st key).isSome) ∧
  ((∃ x1, yAt Y r1 s x1 ∧ V rk s 1 = .ref x1) ∧ yN Y r1 s = 16) ∧ ((∃ x2, yAt Y r2 s x2 ∧ V rk s 2 = .ref x2) ∧ yN Y r2 s = 16) ∧
  ∀ key, key < 16 → ∀ p, st key = some p → I r1 s key = p.1 ∧ I r2 s key = p.2
def sKs (rb rw r1 r2 s : Nat) : Nat → Nat → Prop := fun r' o' => o' = s ∧ (r' = rb ∨ r' = rw ∨ r' = r1 ∨ r' = r2)
theorem xKs.fr {Y Y1 : xY} {V V1 : xVV} {I I1 : xII} {J J1 : xJJ} {A A1 : xVV} {S : Nat → Nat → Prop} {rk rb rw r1 r2 s x : Nat} {st : Nat → Option (Int32 × Int32)} (h : xKs Y V I J rk rb rw r1 r2 s x st) (f : xFr S Y V I J A Y1 V1 I1 J1 A1) (h0 : ∀ r, r = rk ∨ r = rb ∨ r = rw ∨ r = r1 ∨ r = r2 → ¬ S r s) : xKs Y1 V1 I1 J1 rk rb rw r1 r2 s x st := by
  obtain ⟨g1, ⟨xb, w, g2, g3, g4⟩, ⟨⟨x1, g5, g6⟩, g7⟩, ⟨⟨x2, g8, g9⟩, g10⟩, g11⟩ := h
  have ek := (f.2 rk s x g1 (h0 rk (Or.inl rfl))).1
  have e1 := (f.2 r1 s x1 g5 (h0 r1 (Or.inr (Or.inr (Or.inr (Or.inl rfl)))))).2.1
  have e2 := (f.2 r2 s x2 g8 (h0 r2 (Or.inr (Or.inr (Or.inr (Or.inr rfl)))))).2.1
  refine ⟨f.1.at g1, ⟨xb, w, by rw [ek]; exact g2, g3.fr f (h0 rb (Or.inr (Or.inl rfl))) (h0 rw (Or.inr (Or.inr (Or.inl rfl)))), g4⟩, ⟨⟨x1, f.1.at g5, by rw [ek]; exact g6⟩, f.1.n g5 g7⟩, ⟨⟨x2, f.1.at g8, by rw [ek]; exact g9⟩, f.1.n g8 g10⟩, fun key hk p hp => ?_⟩
  rw [e1, e2]
  exact g11 key hk p hp
theorem xKs.cg {Y : xY} {V : xVV} {I : xII} {J : xJJ} {rk rb rw r1 r2 s x : Nat} {st st2 : Nat → Option (Int32 × Int32)} (h : xKs Y V I J rk rb rw r1 r2 s x st) (e : ∀ key, key < 16 → st2 key = st key) : xKs Y V I J rk rb rw r1 r2 s x st2 := by
  obtain ⟨g1, ⟨xb, w, g2, g3, g4⟩, g5, g6, g7⟩ := h
  exact ⟨g1, ⟨xb, w, g2, g3, fun key hk => by rw [e key hk]; exact g4 key hk⟩, g5, g6, fun key hk p hp => g7 key hk p ((e key hk).symm.trans hp)⟩
