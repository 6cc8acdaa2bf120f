set_option maxRecDepth 100000
/-- roles of old instances, their counters' versions and counters, their arrays -/
def rQ (r : Nat) : Prop := r = 409 ∨ r = 501 ∨ r = 402 ∨ r = 6401
def sgR (r : Nat) : Nat := if r = 409 ∨ r = 501 ∨ r = 402 ∨ r = 6401 then r - 400 else r
def yRn (Y : xY) : xY := (fun r o => yK Y (sgR r) o, fun r o x => yAt Y (sgR r) o x ∧ (rQ r ∨ ¬ (dR r ∨ r = 7002)), fun r o => yN Y (sgR r) o)
def vRn (V : xVV) : xVV := fun r => V (sgR r)
theorem sgR_n {r : Nat} (h : ¬ rQ r) : sgR r = r := if_neg h
theorem sgR_c (r : Nat) : (sgR r % 100 = r % 100 ∧ (sgR r < 1000 ↔ r < 1000) ∧ sgR r / 1000 = r / 1000) ∧ (rQ r → sgR r = 9 ∨ sgR r = 101 ∨ sgR r = 2 ∨ sgR r = 6001) := by
  by_cases h : rQ r
  · unfold rQ at h
    rcases h with rfl | rfl | rfl | rfl <;> exact ⟨by decide, fun _ => by decide⟩
  · rw [sgR_n h]
    exact ⟨⟨rfl, Iff.rfl, rfl⟩, fun q => absurd q h⟩
theorem xrT_rn (Y : xY) (r o : Nat) : xrT (yK (yRn Y)) r o = xrT (yK Y) (sgR r) o := by
  unfold xrT
  rw [(sgR_c r).1.1]
  rfl
theorem PX.rn {Y : xY} {V : xVV} {I : xII} {J : xJJ} {A : xVV} {w0 : xW} {T : xT} {O R : xO} (P : PX Y V I J A w0 T O R) : PX (yRn Y) (vRn V) I J (vRn A) w0 T O R := by
  refine ⟨fun r o x hx => ?_, ⟨fun r o x x' h1 h2 => P.fn h1.1 h2.1, fun r o r' o' x h1 h2 => ?_⟩, fun r o x hx hi => ?_, P.2.2.2⟩
  · obtain ⟨⟨t, n, u, g1, g2, g3, g4⟩, g5, g6, g7, g8⟩ := P.one hx.1
    obtain ⟨⟨c1, c2, c3⟩, c4⟩ := sgR_c r
    refine ⟨⟨t, n, u, g1, g2, fun hr => by rw [xrT_rn]; exact g3 (c2.mpr hr), fun hr => ?_⟩, fun hr k hk => by rw [xrT_rn]; exact g5 (c2.mpr hr) k hk, fun hr => ?_, fun hr => ?_, fun hr => g8 (by rw [c3]; exact hr)⟩
    · have h2 := g4 (by have := c2; omega)
      rw [c3] at h2
      exact h2
    · have e : sgR r = r := sgR_n (fun q => by unfold rQ at q; omega)
      rw [e] at g6
      exact g6 hr
    · have e : sgR r = r := sgR_n (fun q => by unfold rQ at q; omega)
      rw [e] at g7
      exact g7 hr
  · obtain ⟨e1, e2⟩ := P.ij h1.1 h2.1
    refine ⟨?_, e2⟩
    have b1 := h1.2
    have b2 := h2.2
    by_cases q1 : rQ r
    · have d1 := (sgR_c r).2 q1
      by_cases q2 : rQ r'
      · rw [show sgR r = r - 400 from if_pos q1, show sgR r' = r' - 400 from if_pos q2] at e1
        unfold rQ at q1 q2
        omega
      · rw [sgR_n q2] at e1
        rw [e1] at d1
        exact absurd (show dR r' ∨ r' = 7002 by unfold dR gIn; omega) (b2.resolve_left q2)
    · by_cases q2 : rQ r'
      · have d2 := (sgR_c r').2 q2
        rw [sgR_n q1] at e1
        rw [← e1] at d2
        exact absurd (show dR r ∨ r = 7002 by unfold dR gIn; omega) (b1.resolve_left q1)
      · rw [sgR_n q1, sgR_n q2] at e1
        exact e1
  · have e : sgR r = r := sgR_n (fun q => by unfold rQ at q; unfold idR at hi; omega)
    have h := hx.1
    rw [e] at h
    exact P.2.2.1 r o x h hi
/-- a role that stays -/
def kR (r : Nat) : Prop := ¬ rQ r ∧ ¬ (dR r ∨ r = 7002)
theorem yRn_at (Y : xY) {r : Nat} (h : kR r) : yAt (yRn Y) r = yAt Y r := by
  funext o x
  refine propext ⟨fun q => ?_, fun q => ⟨?_, Or.inr h.2⟩⟩
  · have q := q.1; rw [sgR_n h.1] at q; exact q
  · rw [sgR_n h.1]; exact q
theorem yRn_k (Y : xY) {r : Nat} (h : kR r) : yK (yRn Y) r = yK Y r := by funext o; show yK Y (sgR r) o = _; rw [sgR_n h.1]
theorem yRn_n (Y : xY) {r : Nat} (h : kR r) : yN (yRn Y) r = yN Y r := by funext o; show yN Y (sgR r) o = _; rw [sgR_n h.1]
theorem vRn_at (V : xVV) {r : Nat} (h : kR r) : vRn V r = V r := by show V (sgR r) = _; rw [sgR_n h.1]
theorem yRn_no (Y : xY) {r o x : Nat} (h : dR r ∨ r = 7002) (h2 : ¬ rQ r) : ¬ yAt (yRn Y) r o x := fun q => (q.2.resolve_left h2) h
theorem bN1_rn (Y : xY) : bN1 (yRn Y) 0 0 := ⟨fun r c x h _ => yRn_no Y (Or.inl (by unfold gIn at h; unfold dR gIn; omega)) (by unfold rQ; unfold gIn at h; omega), fun c x _ => yRn_no Y (Or.inl (by unfold dR; omega)) (by unfold rQ; omega), fun c x _ => yRn_no Y (Or.inl (by unfold dR; omega)) (by unfold rQ; omega)⟩
theorem bN2_rn (Y : xY) : bN2 (yRn Y) 0 0 0 := ⟨fun c x _ => yRn_no Y (Or.inl (by unfold dR; omega)) (by unfold rQ; omega), fun c x _ => yRn_no Y (Or.inl (by unfold dR; omega)) (by unfold rQ; omega), fun r c x h _ => yRn_no Y (Or.inl (by unfold dR; omega)) (by unfold rQ; omega)⟩
theorem XOl.rn {Y : xY} {V : xVV} {A : xVV} {g0 n : Nat} (h : XOl Y V A g0 n) : XOl (yRn Y) (vRn V) (vRn A) g0 n := by
  unfold XOl xAl at h ⊢
  simp only [yRn_at Y (show kR 34 by unfold kR rQ dR gIn; omega), yRn_n Y (show kR 34 by unfold kR rQ dR gIn; omega), yRn_k Y (show kR 34 by unfold kR rQ dR gIn; omega), vRn_at V (show kR 34 by unfold kR rQ dR gIn; omega), yRn_at Y (show kR 5002 by unfold kR rQ dR gIn; omega), yRn_n Y (show kR 5002 by unfold kR rQ dR gIn; omega), yRn_k Y (show kR 5002 by unfold kR rQ dR gIn; omega), vRn_at A (show kR 5002 by unfold kR rQ dR gIn; omega), yRn_at Y (show kR 4 by unfold kR rQ dR gIn; omega), yRn_n Y (show kR 4 by unfold kR rQ dR gIn; omega), yRn_k Y (show kR 4 by unfold kR rQ dR gIn; omega), vRn_at V (show kR 4 by unfold kR rQ dR gIn; omega)]
  exact h
theorem XOp.rn {Y : xY} {V : xVV} {n : Nat} {op : Nat → Nat × Int32 × Int32 × Nat} {stt : Nat → Nat → Int32} (h : XOp Y V n op stt) : XOp (yRn Y) (vRn V) n op stt := by
  unfold XOp xOp at h ⊢
  simp only [yRn_at Y (show kR 4 by unfold kR rQ dR gIn; omega), yRn_n Y (show kR 4 by unfold kR rQ dR gIn; omega), yRn_k Y (show kR 4 by unfold kR rQ dR gIn; omega), vRn_at V (show kR 4 by unfold kR rQ dR gIn; omega), yRn_at Y (show kR 1 by unfold kR rQ dR gIn; omega), yRn_n Y (show kR 1 by unfold kR rQ dR gIn; omega), yRn_k Y (show kR 1 by unfold kR rQ dR gIn; omega), vRn_at V (show kR 1 by unfold kR rQ dR gIn; omega)]
  exact h
theorem XKs.rn {Y : xY} {V : xVV} {I : xII} {J : xJJ} {n : Nat} {p : Nat → Nat} {st : Nat → Nat → Nat → Option (Int32 × Int32)} {al : Nat → Nat → Bool} (h : XKs Y V I J n p st al) : XKs (yRn Y) (vRn V) I J n p st al := by
  unfold XKs xVk xKs xBs at h ⊢
  simp only [yRn_at Y (show kR 1 by unfold kR rQ dR gIn; omega), yRn_n Y (show kR 1 by unfold kR rQ dR gIn; omega), yRn_k Y (show kR 1 by unfold kR rQ dR gIn; omega), vRn_at V (show kR 1 by unfold kR rQ dR gIn; omega), yRn_at Y (show kR 6 by unfold kR rQ dR gIn; omega), yRn_n Y (show kR 6 by unfold kR rQ dR gIn; omega), yRn_k Y (show kR 6 by unfold kR rQ dR gIn; omega), vRn_at V (show kR 6 by unfold kR rQ dR gIn; omega), yRn_at Y (show kR 35 by unfold kR rQ dR gIn; omega), yRn_n Y (show kR 35 by unfold kR rQ dR gIn; omega), yRn_k Y (show kR 35 by unfold kR rQ dR gIn; omega), vRn_at V (show kR 35 by unfold kR rQ dR gIn; omega), yRn_at Y (show kR 4001 by unfold kR rQ dR gIn; omega), yRn_n Y (show kR 4001 by unfold kR rQ dR gIn; omega), yRn_k Y (show kR 4001 by unfold kR rQ dR gIn; omega), yRn_at Y (show kR 1021 by unfold kR rQ dR gIn; omega), yRn_n Y (show kR 1021 by unfold kR rQ dR gIn; omega), yRn_k Y (show kR 1021 by unfold kR rQ dR gIn; omega), yRn_at Y (show kR 1022 by unfold kR rQ dR gIn; omega), yRn_n Y (show kR 1022 by unfold kR rQ dR gIn; omega), yRn_k Y (show kR 1022 by unfold kR rQ dR gIn; omega)]
  exact h
theorem XOf.rn {Y : xY} {V : xVV} {of : Nat → Nat} {rn : Nat} (h : XOf Y V of rn) : XOf (yRn Y) (vRn V) of rn := by
  unfold XOf xVc xCn at h ⊢
  simp only [yRn_at Y (show kR 201 by unfold kR rQ dR gIn; omega), yRn_n Y (show kR 201 by unfold kR rQ dR gIn; omega), yRn_k Y (show kR 201 by unfold kR rQ dR gIn; omega), vRn_at V (show kR 201 by unfold kR rQ dR gIn; omega), yRn_at Y (show kR 102 by unfold kR rQ dR gIn; omega), yRn_n Y (show kR 102 by unfold kR rQ dR gIn; omega), yRn_k Y (show kR 102 by unfold kR rQ dR gIn; omega), vRn_at V (show kR 102 by unfold kR rQ dR gIn; omega)]
  exact h
theorem XSi.rn {Y : xY} {V : xVV} {x0 : Nat} {cf nm : Nat → Nat} {fl : Int32} {tk il : Nat} (h : XSi Y V x0 cf nm fl tk il) : XSi (yRn Y) (vRn V) x0 cf nm fl tk il := by
  unfold XSi xPt at h ⊢
  simp only [yRn_at Y (show kR 0 by unfold kR rQ dR gIn; omega), yRn_n Y (show kR 0 by unfold kR rQ dR gIn; omega), yRn_k Y (show kR 0 by unfold kR rQ dR gIn; omega), vRn_at V (show kR 0 by unfold kR rQ dR gIn; omega), yRn_at Y (show kR 33 by unfold kR rQ dR gIn; omega), yRn_n Y (show kR 33 by unfold kR rQ dR gIn; omega), yRn_k Y (show kR 33 by unfold kR rQ dR gIn; omega), vRn_at V (show kR 33 by unfold kR rQ dR gIn; omega), yRn_at Y (show kR 1031 by unfold kR rQ dR gIn; omega), yRn_n Y (show kR 1031 by unfold kR rQ dR gIn; omega), yRn_k Y (show kR 1031 by unfold kR rQ dR gIn; omega), yRn_at Y (show kR 1032 by unfold kR rQ dR gIn; omega), yRn_n Y (show kR 1032 by unfold kR rQ dR gIn; omega), yRn_k Y (show kR 1032 by unfold kR rQ dR gIn; omega), yRn_at Y (show kR 34 by unfold kR rQ dR gIn; omega), yRn_n Y (show kR 34 by unfold kR rQ dR gIn; omega), yRn_k Y (show kR 34 by unfold kR rQ dR gIn; omega), vRn_at V (show kR 34 by unfold kR rQ dR gIn; omega), yRn_at Y (show kR 201 by unfold kR rQ dR gIn; omega), yRn_n Y (show kR 201 by unfold kR rQ dR gIn; omega), yRn_k Y (show kR 201 by unfold kR rQ dR gIn; omega), vRn_at V (show kR 201 by unfold kR rQ dR gIn; omega), yRn_at Y (show kR 134 by unfold kR rQ dR gIn; omega), yRn_n Y (show kR 134 by unfold kR rQ dR gIn; omega), yRn_k Y (show kR 134 by unfold kR rQ dR gIn; omega), vRn_at V (show kR 134 by unfold kR rQ dR gIn; omega), yRn_at Y (show kR 7001 by unfold kR rQ dR gIn; omega), yRn_n Y (show kR 7001 by unfold kR rQ dR gIn; omega), yRn_k Y (show kR 7001 by unfold kR rQ dR gIn; omega), yRn_at Y (show kR 10001 by unfold kR rQ dR gIn; omega), yRn_n Y (show kR 10001 by unfold kR rQ dR gIn; omega), yRn_k Y (show kR 10001 by unfold kR rQ dR gIn; omega), yRn_at Y (show kR 3 by unfold kR rQ dR gIn; omega), yRn_n Y (show kR 3 by unfold kR rQ dR gIn; omega), yRn_k Y (show kR 3 by unfold kR rQ dR gIn; omega), vRn_at V (show kR 3 by unfold kR rQ dR gIn; omega), yRn_at Y (show kR 234 by unfold kR rQ dR gIn; omega), yRn_n Y (show kR 234 by unfold kR rQ dR gIn; omega), yRn_k Y (show kR 234 by unfold kR rQ dR gIn; omega), vRn_at V (show kR 234 by unfold kR rQ dR gIn; omega), yRn_at Y (show kR 43 by unfold kR rQ dR gIn; omega), yRn_n Y (show kR 43 by unfold kR rQ dR gIn; omega), yRn_k Y (show kR 43 by unfold kR rQ dR gIn; omega), vRn_at V (show kR 43 by unfold kR rQ dR gIn; omega), yRn_at Y (show kR 143 by unfold kR rQ dR gIn; omega), yRn_n Y (show kR 143 by unfold kR rQ dR gIn; omega), yRn_k Y (show kR 143 by unfold kR rQ dR gIn; omega), vRn_at V (show kR 143 by unfold kR rQ dR gIn; omega)]
  exact h
theorem XIp.rn {Y : xY} {I : xII} {inp : List (Nat × Int32)} (h : XIp Y I inp) : XIp (yRn Y) I inp := by
  unfold XIp at h ⊢
  simp only [yRn_at Y (show kR 1031 by unfold kR rQ dR gIn; omega), yRn_n Y (show kR 1031 by unfold kR rQ dR gIn; omega), yRn_k Y (show kR 1031 by unfold kR rQ dR gIn; omega), yRn_at Y (show kR 1032 by unfold kR rQ dR gIn; omega), yRn_n Y (show kR 1032 by unfold kR rQ dR gIn; omega), yRn_k Y (show kR 1032 by unfold kR rQ dR gIn; omega)]
  exact h
theorem XTx.rn {Y : xY} {V : xVV} {I : xII} {l : List Nat} (h : XTx Y V I l) : XTx (yRn Y) (vRn V) I l := by
  unfold XTx xSb at h ⊢
  simp only [yRn_at Y (show kR 43 by unfold kR rQ dR gIn; omega), yRn_n Y (show kR 43 by unfold kR rQ dR gIn; omega), yRn_k Y (show kR 43 by unfold kR rQ dR gIn; omega), vRn_at V (show kR 43 by unfold kR rQ dR gIn; omega), yRn_at Y (show kR 3001 by unfold kR rQ dR gIn; omega), yRn_n Y (show kR 3001 by unfold kR rQ dR gIn; omega), yRn_k Y (show kR 3001 by unfold kR rQ dR gIn; omega)]
  exact h
theorem XWr.rn {Y : xY} {V : xVV} {I : xII} {l : List Nat} (h : XWr Y V I l) : XWr (yRn Y) (vRn V) I l := by
  unfold XWr xSb at h ⊢
  simp only [yRn_at Y (show kR 143 by unfold kR rQ dR gIn; omega), yRn_n Y (show kR 143 by unfold kR rQ dR gIn; omega), yRn_k Y (show kR 143 by unfold kR rQ dR gIn; omega), vRn_at V (show kR 143 by unfold kR rQ dR gIn; omega), yRn_at Y (show kR 3002 by unfold kR rQ dR gIn; omega), yRn_n Y (show kR 3002 by unfold kR rQ dR gIn; omega), yRn_k Y (show kR 3002 by unfold kR rQ dR gIn; omega)]
  exact h
theorem XEx.rn {Y : xY} {V : xVV} {A : xVV} {g0 : Nat} {ex : List (Nat × Nat)} (h : XEx Y V A g0 ex) : XEx (yRn Y) (vRn V) (vRn A) g0 ex := by
  unfold XEx xAl at h ⊢
  simp only [yRn_at Y (show kR 234 by unfold kR rQ dR gIn; omega), yRn_n Y (show kR 234 by unfold kR rQ dR gIn; omega), yRn_k Y (show kR 234 by unfold kR rQ dR gIn; omega), vRn_at V (show kR 234 by unfold kR rQ dR gIn; omega), yRn_at Y (show kR 5004 by unfold kR rQ dR gIn; omega), yRn_n Y (show kR 5004 by unfold kR rQ dR gIn; omega), yRn_k Y (show kR 5004 by unfold kR rQ dR gIn; omega), vRn_at A (show kR 5004 by unfold kR rQ dR gIn; omega), yRn_at Y (show kR 23 by unfold kR rQ dR gIn; omega), yRn_n Y (show kR 23 by unfold kR rQ dR gIn; omega), yRn_k Y (show kR 23 by unfold kR rQ dR gIn; omega), vRn_at V (show kR 23 by unfold kR rQ dR gIn; omega)]
  exact h
theorem XLa.rn {Y : xY} {V : xVV} {ps : Nat} (h : XLa Y V ps) : XLa (yRn Y) (vRn V) ps := by
  unfold XLa at h ⊢
  simp only [yRn_at Y (show kR 3 by unfold kR rQ dR gIn; omega), yRn_n Y (show kR 3 by unfold kR rQ dR gIn; omega), yRn_k Y (show kR 3 by unfold kR rQ dR gIn; omega), vRn_at V (show kR 3 by unfold kR rQ dR gIn; omega), yRn_at Y (show kR 1041 by unfold kR rQ dR gIn; omega), yRn_n Y (show kR 1041 by unfold kR rQ dR gIn; omega), yRn_k Y (show kR 1041 by unfold kR rQ dR gIn; omega)]
  exact h
