set_option maxRecDepth 100000
theorem c_X2_copyToQ {G : xG} {T : xT} {O R : xO} {Y : xY} {V : xVV} {I : xII} {J : xJJ} {A : xVV} {w0 : xW} {o x o2 x2 : Nat} {m m2 : Int32} (P : PX Y V I J A w0 T O R) (hc : xCn Y V 402 o x m) (hc2 : xCn Y V 2 o2 x2 m2) : xCtr G yX2_copyTo cX2_copyTo 2 none 0 0 0 0 [.ref x, .ref x2] (T, O, R) (xN (xPN w0 (fun Y2 V2 I2 J2 A2 => Y2 = Y ∧ I2 = I ∧ J2 = J ∧ A2 = A ∧ xCn Y V2 2 o2 x2 m ∧ xFr (s1 2 o2) Y V I J A Y2 V2 I2 J2 A2))) := by
  refine xCtr.of (by decide +kernel) (Nat.le_of_ble_eq_true rfl) ?_
  intro Z B E hz hnm
  change xV Z (T, O, R) 0 [(0, .ref x), (1, .ref x2)] [] 0 0
  refine g_aload_n B 1 dX2_copyTo_0 rfl ?_
  refine g_aload_n B 0 dX2_copyTo_1 rfl ?_
  refine x_get B P hc.1 (by decide) rfl F_X2_7_2 (by decide) hc.2 dX2_copyTo_2 ?_
  refine x_put (q := (RX2, TX2, 1)) B P hc2.1 (by decide) rfl F_X2_7_2 rfl rfl (tyX2_ok 0 (by decide)) rfl rfl dX2_copyTo_5 (fun O1 V1 hs1 hk1 P1 => ?_)
  refine g_vret B E rfl dX2_copyTo_8 ?_
  exact ⟨rfl, _, _, _, _, _, P1, rfl, rfl, rfl, rfl, ⟨hc2.1, rdS hs1⟩, xFr.uV (r := 2) (o := o2) ⟨rfl, rfl⟩ hs1 hk1⟩
/-- the old ones, by their other roles -/
def bOld (Y : xY) (V A : xVV) (n : Nat) (p : Nat → Nat) (ox : Nat) (d0 d2 : Nat → Nat → Nat) (ar : Nat → Value) : Prop := ∀ k, k < n → ∃ xr, ar k = .ref xr ∧ yAt Y 6401 k xr ∧ (k ≠ ox → yN Y 6401 k = p k ∧ ∀ i, i < p k → ∃ x xv q, A 6401 k i = .ref x ∧ yAt Y 409 (3 * k + i) x ∧ V 409 (3 * k + i) 11 = .ref xv ∧ xVc Y V 501 402 (3 * k + i) xv q ∧ q 0 = nI (d0 k i) ∧ q 2 = nI (d2 k i))
theorem bOld.fr {Y Y1 : xY} {V V1 : xVV} {I I1 : xII} {J J1 : xJJ} {A A1 : xVV} {S : Nat → Nat → Prop} {n ox : Nat} {p : Nat → Nat} {d0 d2 : Nat → Nat → Nat} {ar : Nat → Value} (h : bOld Y V A n p ox d0 d2 ar) (f : xFr S Y V I J A Y1 V1 I1 J1 A1) (hS : ∀ r o, S r o → r ≠ 6401 ∧ r ≠ 409 ∧ r ≠ 501 ∧ r ≠ 402) : bOld Y1 V1 A1 n p ox d0 d2 ar := fun k hk => by
  obtain ⟨xr, h1, h2, h3⟩ := h k hk
  refine ⟨xr, h1, f.1.at h2, fun hne => ?_⟩
  obtain ⟨h4, h5⟩ := h3 hne
  refine ⟨f.1.n h2 h4, fun i hi => ?_⟩
  obtain ⟨x, xv, q, g1, g2, g3, g4, g5, g6⟩ := h5 i hi
  have e1 := (f.2 6401 k xr h2 (fun e => (hS _ _ e).1 rfl)).2.2.2
  have e2 := (f.2 409 _ x g2 (fun e => (hS _ _ e).2.1 rfl)).1
  exact ⟨x, xv, q, by rw [e1]; exact g1, f.1.at g2, by rw [e2]; exact g3, g4.fr f (fun e => (hS _ _ e).2.2.1 rfl) (fun v _ e => (hS _ _ e).2.2.2 rfl), g5, g6⟩
/-- the counters taken over so far -/
def bCQ (Y : xY) (V : xVV) (n : Nat) (p : Nat → Nat) (ox K : Nat) (d0 d2 : Nat → Nat → Nat) : Prop := ∀ k, k < n → ∀ i, i < p k → ∃ x q, xVc Y V 101 2 (3 * k + i) x q ∧ ((k ≠ ox ∧ 3 * k + i < K) → q 0 = nI (d0 k i) ∧ q 2 = nI (d2 k i)) ∧ (¬ (k ≠ ox ∧ 3 * k + i < K) → q 0 = 0 ∧ q 2 = 0)
theorem bCQ.le {Y : xY} {V : xVV} {n ox K K2 : Nat} {p : Nat → Nat} {d0 d2 : Nat → Nat → Nat} (h : bCQ Y V n p ox K d0 d2) (e : ∀ k i, k < n → i < p k → k ≠ ox → (3 * k + i < K2 ↔ 3 * k + i < K)) : bCQ Y V n p ox K2 d0 d2 := fun k hk i hi => by
  obtain ⟨x, q, h1, h2, h3⟩ := h k hk i hi
  refine ⟨x, q, h1, fun c => h2 ⟨c.1, (e k i hk hi c.1).mp c.2⟩, fun c => h3 (fun c2 => c ⟨c2.1, (e k i hk hi c2.1).mpr c2.2⟩)⟩
theorem bCQ.step {Y Y1 : xY} {V V1 : xVV} {I I1 : xII} {J J1 : xJJ} {A A1 : xVV} {n ox k i x : Nat} {p : Nat → Nat} {d0 d2 : Nat → Nat → Nat} {q : Nat → Int32} (hp : ∀ o, o < n → p o ≤ 3) (hk : k < n) (hi : i < p k) (hne : k ≠ ox) (h : bCQ Y V n p ox (3 * k + i) d0 d2) (f : xFr (fun r c => r = 2 ∧ c / 3 = 3 * k + i) Y V I J A Y1 V1 I1 J1 A1) (d : xVc Y1 V1 101 2 (3 * k + i) x q) (e0 : q 0 = nI (d0 k i)) (e2 : q 2 = nI (d2 k i)) : bCQ Y1 V1 n p ox (3 * k + (i + 1)) d0 d2 := fun k2 hk2 i2 hi2 => by
  have p1 := hp k hk
  have p2 := hp k2 hk2
  by_cases e : 3 * k2 + i2 = 3 * k + i
  · have ek : k2 = k := by omega
    have ei : i2 = i := by omega
    subst ek; subst ei
    exact ⟨x, q, d, fun _ => ⟨e0, e2⟩, fun c => absurd ⟨hne, by omega⟩ c⟩
  · obtain ⟨x, q, g1, g2, g3⟩ := h k2 hk2 i2 hi2
    exact ⟨x, q, g1.fr f (fun e => by omega) (fun v hv e => by omega), fun c => g2 ⟨c.1, by omega⟩, fun c => g3 (fun c2 => c ⟨c2.1, by omega⟩)⟩
