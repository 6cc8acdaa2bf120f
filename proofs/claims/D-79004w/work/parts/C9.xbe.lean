set_option maxRecDepth 100000
/-! channels -/
def bOk (n : Nat) (p : Nat → Nat) (o i j : Nat) : Prop := o + 1 < n ∧ i < p o ∧ j < p (o + 1)
def bCh (Y : xY) (V : xVV) (I : xII) (A : xVV) (n : Nat) (p : Nat → Nat) (K : Nat) (bo lc : Nat → Nat) : Prop := ∀ o i j, bOk n p o i j → mLn o i j < K → (∃ x, xCh Y V I A (mLn o i j) x ([], [], 0) (bo (mLn o i j)) []) ∧ lc (bo (mLn o i j)) = mLn o i j
def bA8 (Y : xY) (A : xVV) (n : Nat) (p : Nat → Nat) (K : Nat) : Prop := ∀ o i j, bOk n p o i j → mLn o i j < K → (∃ xs, yAt Y 8001 (3 * o + i) xs) ∧ ∃ x, A 8001 (3 * o + i) j = .ref x ∧ yAt Y 10 (mLn o i j) x
def bA9 (Y : xY) (A : xVV) (n : Nat) (p : Nat → Nat) (k : Nat) : Prop := ∀ o i, o + 1 < n → i < p o → 3 * o + i < k → (∃ xr, yAt Y 9001 o xr) ∧ ∃ xs, A 9001 o i = .ref xs ∧ yAt Y 8001 (3 * o + i) xs ∧ yN Y 8001 (3 * o + i) = p (o + 1)
def bA10 (Y : xY) (A : xVV) (n : Nat) (p : Nat → Nat) (m : Nat) : Prop := ∀ o, o + 1 < n → o < m → ∃ xr, A 10001 0 o = .ref xr ∧ yAt Y 9001 o xr ∧ yN Y 9001 o = p o
def bSp (Y : xY) (V : xVV) (xl : Nat) (sp : List (Nat × Nat)) (lc : Nat → Nat) : Prop := xSp Y V xl sp ∧ xSB Y V sp ∧ (sp.map (fun q => q.2)).Nodup ∧ ∀ q, q ∈ sp → lc q.2 = 54
def bN2 (Y : xY) (m k K : Nat) : Prop := (∀ c x, m ≤ c → ¬ yAt Y 9001 c x) ∧ (∀ c x, k ≤ c → ¬ yAt Y 8001 c x) ∧ ∀ r c x, r = 10 ∨ r = 41 ∨ r = 5001 → K ≤ c → ¬ yAt Y r c x
theorem bN2.gr {Y Y1 : xY} {S : Nat → Nat → Prop} {m k K m' k' K' : Nat} (h : bN2 Y m k K) (f : yLs S Y Y1) (hm : m ≤ m') (hk : k ≤ k') (hK : K ≤ K') (hS : ∀ r c, S r c → (r = 9001 → c < m') ∧ (r = 8001 → c < k') ∧ ((r = 10 ∨ r = 41 ∨ r = 5001) → c < K')) : bN2 Y1 m' k' K' := by
  refine ⟨fun c x hc hx => ?_, fun c x hc hx => ?_, fun r c x hr hc hx => ?_⟩
  · rcases f.2 9001 c x hx with q | q
    · exact h.1 c x (by omega) q
    · have := (hS 9001 c q).1 rfl; omega
  · rcases f.2 8001 c x hx with q | q
    · exact h.2.1 c x (by omega) q
    · have := (hS 8001 c q).2.1 rfl; omega
  · rcases f.2 r c x hx with q | q
    · exact h.2.2 r c x hr (by omega) q
    · have := (hS r c q).2.2 hr; omega
theorem mLn_lt {o i j o' i' j' : Nat} (hi : i < 3) (hj : j < 3) (hi' : i' < 3) (hj' : j' < 3) (h : mLn o' i' j' < mLn o i j) : 3 * o' + i' ≤ 3 * o + i ∧ o' ≤ o := by
  unfold mLn at h; omega
theorem mLn_54 {n o i j : Nat} (hn : n ≤ 6) (ho : o + 1 < n) (hi : i < 3) (hj : j < 3) : mLn o i j < 45 := by
  unfold mLn; omega
/-- channels under a frame that leaves them -/
theorem bCh.fr {Y Y1 : xY} {V V1 : xVV} {I I1 : xII} {J J1 : xJJ} {A A1 : xVV} {S : Nat → Nat → Prop} {n K : Nat} {p : Nat → Nat} {bo lc : Nat → Nat} (h : bCh Y V I A n p K bo lc) (f : xFr S Y V I J A Y1 V1 I1 J1 A1) (h1 : ∀ o i j, bOk n p o i j → mLn o i j < K → (¬ S 10 (mLn o i j) ∧ ¬ S 41 (mLn o i j) ∧ ¬ S 5001 (mLn o i j)) ∧ ∀ r, rB r → ¬ S r (bo (mLn o i j))) : bCh Y1 V1 I1 A1 n p K bo lc := fun o i j hk hK => by
  obtain ⟨⟨x, k1⟩, k2⟩ := h o i j hk hK
  obtain ⟨s1, s2⟩ := h1 o i j hk hK
  exact ⟨⟨x, k1.fr f s1 (fun b hb r hr => by rcases hb with rfl | hb; exact s2 r hr; cases hb)⟩, k2⟩
/-- one more channel -/
theorem bCh.step {Y Y1 : xY} {V V1 : xVV} {I I1 : xII} {J J1 : xJJ} {A A1 : xVV} {n o i j x ob xl : Nat} {p : Nat → Nat} {bo lc : Nat → Nat} {sp sp2 : List (Nat × Nat)} (hn : n ≤ 6) (hp : ∀ o, p o ≤ 3) (hk : bOk n p o i j) (h : bCh Y V I A n p (mLn o i j) bo lc) (hs : bSp Y V xl sp lc) (f : xFr (sNC Y (mLn o i j) sp) Y V I J A Y1 V1 I1 J1 A1) (hc : xCh Y1 V1 I1 A1 (mLn o i j) x ([], [], 0) ob []) (d1 : xSp Y1 V1 xl sp2) (d2 : xSB Y1 V1 sp2) (ht : sp2 = sp.tail) (hno : sp = [] → ∀ x, ¬ yAt Y 11 ob x) (hhd : ∀ q r, sp = q :: r → ob = q.2) : ∃ bo2 lc2, bCh Y1 V1 I1 A1 n p (mLn o i j + 1) bo2 lc2 ∧ bSp Y1 V1 xl sp2 lc2 := by
  have hi3 : i < 3 := by have := hp o; have := hk.2.1; omega
  have hj3 : j < 3 := by have := hp (o + 1); have := hk.2.2; omega
  have hK := mLn_54 hn hk.1 hi3 hj3
  obtain ⟨s1, s2, s3, s4⟩ := hs
  have hold : ∀ o' i' j', bOk n p o' i' j' → mLn o' i' j' < mLn o i j → bo (mLn o' i' j') ∉ sp.map (fun q => q.2) ∧ (∃ z, yAt Y 11 (bo (mLn o' i' j')) z) ∧ bo (mLn o' i' j') ≠ ob := fun o' i' j' hk' hK' => by
    obtain ⟨⟨x', k1⟩, k2⟩ := h o' i' j' hk' hK'
    have hb : bo (mLn o' i' j') ∉ sp.map (fun q => q.2) := fun hm => by
      obtain ⟨q, hq, e⟩ := List.mem_map.mp hm
      have := s4 q hq
      rw [show q.2 = bo (mLn o' i' j') from e, k2] at this
      omega
    have hat : yAt Y 11 (bo (mLn o' i' j')) (bo (mLn o' i' j')) := k1.2.2.1.2.1.1
    refine ⟨hb, ⟨_, hat⟩, fun e => ?_⟩
    cases hsp : sp with
    | nil => exact hno hsp _ (by rw [← e]; exact hat)
    | cons q r => exact hb (by rw [hsp, e, hhd q r hsp]; exact List.mem_cons_self)
  refine ⟨va_up bo (mLn o i j) ob, va_up lc ob (mLn o i j), fun o' i' j' hk' hK' => ?_, d1, d2, ?_, fun q hq => ?_⟩
  · by_cases e : mLn o' i' j' = mLn o i j
    · rw [e, va_ups]
      exact ⟨⟨x, hc⟩, va_ups⟩
    · have hlt : mLn o' i' j' < mLn o i j := by omega
      obtain ⟨⟨x', k1⟩, k2⟩ := h o' i' j' hk' hlt
      obtain ⟨g1, ⟨z, g2⟩, g3⟩ := hold o' i' j' hk' hlt
      rw [va_upe e, va_upe g3]
      refine ⟨⟨x', k1.fr f ⟨?_, ?_, ?_⟩ (fun b hb r hr => ?_)⟩, k2⟩
      · intro q; rcases q with ⟨-, q⟩ | (q | q) | q
        · exact e q
        · exact absurd q.1 (by decide)
        · exact absurd q (by decide)
        · exact absurd q.1 (by unfold rB; decide)
      · intro q; rcases q with ⟨-, q⟩ | (q | q) | q
        · exact e q
        · exact absurd q.1 (by decide)
        · exact absurd q (by decide)
        · exact absurd q.1 (by unfold rB; decide)
      · intro q; rcases q with ⟨-, q⟩ | (q | q) | q
        · exact e q
        · exact absurd q.1 (by decide)
        · exact absurd q (by decide)
        · exact absurd q.1 (by unfold rB; decide)
      · rcases hb with rfl | hb
        · have hr2 := rB_no hr
          intro q; rcases q with ⟨q, -⟩ | (q | q) | ⟨-, q | q⟩
          · omega
          · omega
          · omega
          · exact g1 q
          · exact q z g2
        · cases hb
  · rw [ht]
    cases sp with
    | nil => exact s3
    | cons q r => exact (List.nodup_cons.mp s3).2
  · rw [ht] at hq
    cases sp with
    | nil => cases hq
    | cons q0 r =>
      have hq2 : q ∈ r := hq
      have hne : q.2 ≠ ob := fun e => by
        have h0 := (List.nodup_cons.mp s3).1
        exact h0 (List.mem_map.mpr ⟨q, hq2, by rw [e, hhd q0 r rfl]⟩)
      rw [va_upe hne]
      exact s4 q (List.mem_cons_of_mem _ hq2)
theorem usum_0 : usum (fun _ _ _ => ([], [], 0)) = 54 := by decide
/-- all the channels -/
theorem bCh.done {Y : xY} {V : xVV} {I : xII} {A : xVV} {n K xl : Nat} {p : Nat → Nat} {bo lc : Nat → Nat} {sp : List (Nat × Nat)} (hn : n ≤ 6) (hp : ∀ o, p o ≤ 3) (hK : ∀ o i j, bOk n p o i j → mLn o i j < K) (h : bCh Y V I A n p K bo lc) (hs : bSp Y V xl sp lc) (hl : sp.length ≤ 324) : XCh Y V I A n p (fun _ _ _ => ([], [], 0)) (324 - sp.length) := by
  obtain ⟨s1, s2, s3, s4⟩ := hs
  refine ⟨bo, fun _ => [], sp, lc, xl, fun o i j h1 h2 h3 => ?_, s1, s2, s4, by rw [usum_0]; omega⟩
  obtain ⟨k1, k2⟩ := h o i j ⟨h1, h2, h3⟩ (hK o i j ⟨h1, h2, h3⟩)
  have h54 := mLn_54 hn h1 (show i < 3 by have := hp o; omega) (show j < 3 by have := hp (o + 1); omega)
  refine ⟨k1, ?_, fun b hb => ?_⟩
  · show (bo (mLn o i j) :: ([] ++ sp.map (fun q => q.2))).Nodup
    rw [List.nil_append]
    refine List.nodup_cons.mpr ⟨fun hm => ?_, s3⟩
    obtain ⟨q, hq, e⟩ := List.mem_map.mp hm
    have := s4 q hq
    rw [show q.2 = bo (mLn o i j) from e, k2] at this
    omega
  · rcases List.mem_cons.mp hb with rfl | hb
    · exact k2
    · cases hb
/-! the arrays of the channels -/
theorem bAr.fr {Y Y1 : xY} {V V1 : xVV} {I I1 : xII} {J J1 : xJJ} {A A1 : xVV} {S : Nat → Nat → Prop} {p : Nat → Nat} {m p7 : Nat} (h : bAr Y A p m) (h7 : yAt Y 7001 0 p7) (f : xFr S Y V I J A Y1 V1 I1 J1 A1) (hS : ¬ S 7001 0) : bAr Y1 A1 p m := fun o ho => by
  obtain ⟨xr, k1, k2, k3⟩ := h o ho
  have e := (f.2 7001 0 p7 h7 hS).2.2.2
  exact ⟨xr, by rw [e]; exact k1, f.1.at k2, f.1.n k2 k3⟩
theorem bA10.fr {Y Y1 : xY} {V V1 : xVV} {I I1 : xII} {J J1 : xJJ} {A A1 : xVV} {S : Nat → Nat → Prop} {p : Nat → Nat} {n m p10 : Nat} (h : bA10 Y A n p m) (h10 : yAt Y 10001 0 p10) (f : xFr S Y V I J A Y1 V1 I1 J1 A1) (hS : ¬ S 10001 0) : bA10 Y1 A1 n p m := fun o h1 h2 => by
  obtain ⟨xr, k1, k2, k3⟩ := h o h1 h2
  have e := (f.2 10001 0 p10 h10 hS).2.2.2
  exact ⟨xr, by rw [e]; exact k1, f.1.at k2, f.1.n k2 k3⟩
theorem bA9.fr {Y Y1 : xY} {V V1 : xVV} {I I1 : xII} {J J1 : xJJ} {A A1 : xVV} {S : Nat → Nat → Prop} {p : Nat → Nat} {n k : Nat} (h : bA9 Y A n p k) (f : xFr S Y V I J A Y1 V1 I1 J1 A1) (hS : ∀ o, 3 * o < k → ¬ S 9001 o) : bA9 Y1 A1 n p k := fun o i h1 h2 h3 => by
  obtain ⟨⟨xr, k0⟩, xs, k1, k2, k3⟩ := h o i h1 h2 h3
  have e := (f.2 9001 o xr k0 (hS o (by omega))).2.2.2
  exact ⟨⟨xr, f.1.at k0⟩, xs, by rw [e]; exact k1, f.1.at k2, f.1.n k2 k3⟩
theorem bA8.fr {Y Y1 : xY} {V V1 : xVV} {I I1 : xII} {J J1 : xJJ} {A A1 : xVV} {S : Nat → Nat → Prop} {p : Nat → Nat} {n K : Nat} (h : bA8 Y A n p K) (f : xFr S Y V I J A Y1 V1 I1 J1 A1) (hS : ∀ o i j, bOk n p o i j → mLn o i j < K → ¬ S 8001 (3 * o + i)) : bA8 Y1 A1 n p K := fun o i j h1 h2 => by
  obtain ⟨⟨xs, k0⟩, x, k1, k2⟩ := h o i j h1 h2
  have e := (f.2 8001 (3 * o + i) xs k0 (hS o i j h1 h2)).2.2.2
  exact ⟨⟨xs, f.1.at k0⟩, x, by rw [e]; exact k1, f.1.at k2⟩
theorem bA10.st {Y : xY} {A A1 : xVV} {n o q : Nat} {p : Nat → Nat} (h : bA10 Y A n p o) (hs : A1 10001 = va_up (A 10001) 0 (va_up (A 10001 0) o (.ref q))) (h1 : yAt Y 9001 o q) (h2 : yN Y 9001 o = p o) : bA10 Y A1 n p (o + 1) := fun o' k1 k2 => by
  rw [hs, va_ups]
  by_cases e : o' = o
  · subst e; rw [va_ups]; exact ⟨q, rfl, h1, h2⟩
  · rw [va_upe e]; exact h o' k1 (by omega)
theorem bA9.st {Y : xY} {A A1 : xVV} {n o i q xr : Nat} {p : Nat → Nat} (hp : ∀ o, p o ≤ 3) (hi : i < p o) (h : bA9 Y A n p (3 * o + i)) (hs : A1 9001 = va_up (A 9001) o (va_up (A 9001 o) i (.ref q))) (h0 : yAt Y 9001 o xr) (h1 : yAt Y 8001 (3 * o + i) q) (h2 : yN Y 8001 (3 * o + i) = p (o + 1)) : bA9 Y A1 n p (3 * o + i + 1) := fun o' i' k1 k2 k3 => by
  rw [hs]
  have q1 := hp o
  have q2 := hp o'
  by_cases e : o' = o
  · subst e
    rw [va_ups]
    by_cases e2 : i' = i
    · subst e2; rw [va_ups]; exact ⟨⟨xr, h0⟩, q, rfl, h1, h2⟩
    · rw [va_upe e2]; exact h o' i' k1 k2 (by omega)
  · rw [va_upe e]; exact h o' i' k1 k2 (by omega)
theorem bA8.st {Y : xY} {A A1 : xVV} {n o i j x xs : Nat} {p : Nat → Nat} (hp : ∀ o, p o ≤ 3) (hk : bOk n p o i j) (h : bA8 Y A n p (mLn o i j)) (hs : A1 8001 = va_up (A 8001) (3 * o + i) (va_up (A 8001 (3 * o + i)) j (.ref x))) (h0 : yAt Y 8001 (3 * o + i) xs) (h1 : yAt Y 10 (mLn o i j) x) : bA8 Y A1 n p (mLn o i j + 1) := fun o' i' j' k1 k2 => by
  rw [hs]
  have q1 := hp o
  have q2 := hp (o + 1)
  have q3 := hp o'
  have q4 := hp (o' + 1)
  have b1 := hk.2
  have b2 := k1.2
  by_cases e : 3 * o' + i' = 3 * o + i
  · have eo : o' = o := by omega
    have ei : i' = i := by omega
    subst eo; subst ei
    rw [va_ups]
    by_cases e2 : j' = j
    · subst e2; rw [va_ups]; exact ⟨⟨xs, h0⟩, x, rfl, h1⟩
    · rw [va_upe e2]; exact h o' i' j' k1 (by unfold mLn at k2 ⊢; omega)
  · rw [va_upe e]; exact h o' i' j' k1 (by unfold mLn at k2 ⊢; omega)
theorem bOk.lt1 {n o i j o' i' j' : Nat} {p : Nat → Nat} (hp : ∀ o, p o ≤ 3) (hi : i < 3) (h : bOk n p o' i' j') (hj : p (o + 1) ≤ j) (k : mLn o' i' j' < mLn o (i + 1) 0) : mLn o' i' j' < mLn o i j := by
  have q3 := hp o'
  have q4 := hp (o' + 1)
  have b2 := h.2
  unfold mLn at k ⊢
  by_cases e : 3 * o' + i' = 3 * o + i
  · have eo : o' = o := by omega
    subst eo; omega
  · omega
theorem bOk.lt2 {n o i o' i' j' : Nat} {p : Nat → Nat} (hp : ∀ o, p o ≤ 3) (h : bOk n p o' i' j') (hi : p o ≤ i) (k : mLn o' i' j' < mLn (o + 1) 0 0) : mLn o' i' j' < mLn o i 0 := by
  have q3 := hp o'
  have q4 := hp (o' + 1)
  have b2 := h.2
  unfold mLn at k ⊢
  by_cases e : o' = o
  · subst e; omega
  · omega
theorem bCh.le {Y : xY} {V : xVV} {I : xII} {A : xVV} {n K K2 : Nat} {p : Nat → Nat} {bo lc : Nat → Nat} (h : bCh Y V I A n p K bo lc) (hK : ∀ o i j, bOk n p o i j → mLn o i j < K2 → mLn o i j < K) : bCh Y V I A n p K2 bo lc := fun o i j k1 k2 => h o i j k1 (hK o i j k1 k2)
theorem bA8.le {Y : xY} {A : xVV} {n K K2 : Nat} {p : Nat → Nat} (h : bA8 Y A n p K) (hK : ∀ o i j, bOk n p o i j → mLn o i j < K2 → mLn o i j < K) : bA8 Y A n p K2 := fun o i j k1 k2 => h o i j k1 (hK o i j k1 k2)
theorem bA9.le {Y : xY} {A : xVV} {n o i : Nat} {p : Nat → Nat} (hp : ∀ o, p o ≤ 3) (hi : p o ≤ i) (h : bA9 Y A n p (3 * o + i)) : bA9 Y A n p (3 * (o + 1)) := fun o' i' k1 k2 k3 => h o' i' k1 k2 (by
  have q3 := hp o'
  by_cases e : o' = o
  · subst e; omega
  · omega)
theorem bN2.le {Y : xY} {m k K m' k' K' : Nat} (h : bN2 Y m k K) (h1 : m ≤ m') (h2 : k ≤ k') (h3 : K ≤ K') : bN2 Y m' k' K' := h.gr (S := fun _ _ => False) yLs.rf h1 h2 h3 (fun r c e => e.elim)
theorem bSp.fr {Y Y1 : xY} {V V1 : xVV} {I I1 : xII} {J J1 : xJJ} {A A1 : xVV} {S : Nat → Nat → Prop} {xl : Nat} {sp : List (Nat × Nat)} {lc : Nat → Nat} (h : bSp Y V xl sp lc) (f : xFr S Y V I J A Y1 V1 I1 J1 A1) (hS : ∀ r o, S r o → r ≠ 33 ∧ r ≠ 53 ∧ r ≠ 11) : bSp Y1 V1 xl sp lc := ⟨h.1.fr f (fun r o e => by have := hS r o e; omega), h.2.1.fr f (fun q _ e => (hS _ _ e).2.2 rfl), h.2.2.1, h.2.2.2⟩
def sB2 : Nat → Nat → Prop := fun r _ => r = 9001 ∨ r = 8001 ∨ r = 10001 ∨ gCh r

