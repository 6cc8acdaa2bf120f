set_option maxRecDepth 100000
/-! bits of a word (the first rows: a starting text of the kit) -/
theorem wb_tb (n : Nat) : (lN n).toBitVec = BitVec.ofNat 64 n := rfl
theorem wb_inj {a b : Int64} (h : a.toBitVec = b.toBitVec) : a = b := Int64.toBitVec_inj.mp h
theorem wb_tn {n : Nat} (h : n < 2 ^ 64) : (lN n).toBitVec.toNat = n := by rw [wb_tb, BitVec.toNat_ofNat, Nat.mod_eq_of_lt h]
theorem wb_c : ∀ k, k < 64 → ((nI k).toInt64 &&& 63) = lN k := by decide +kernel
theorem wb_sm : ∀ k, k < 64 → (BitVec.ofNat 64 k).smod 64 = BitVec.ofNat 64 k := by decide +kernel
theorem wb_shl (n : Nat) {k : Nat} (hk : k < 64) : lN n <<< ((nI k).toInt64 &&& 63) = lN (n * 2 ^ k) := by
  rw [wb_c k hk]
  apply wb_inj
  rw [Int64.toBitVec_shiftLeft, wb_tb, wb_tb, wb_tb, wb_sm k hk]
  apply BitVec.eq_of_toNat_eq
  rw [BitVec.shiftLeft_eq', BitVec.toNat_shiftLeft, BitVec.toNat_ofNat, BitVec.toNat_ofNat, BitVec.toNat_ofNat, Nat.mod_eq_of_lt (show k < 2 ^ 64 by omega), Nat.shiftLeft_eq, Nat.mul_mod, Nat.mod_mod, ← Nat.mul_mod]
theorem wb_and {a b : Nat} (ha : a < 2 ^ 64) (hb : b < 2 ^ 64) : lN a &&& lN b = lN (a &&& b) := by
  apply wb_inj
  rw [Int64.toBitVec_and, wb_tb, wb_tb, wb_tb]
  apply BitVec.eq_of_toNat_eq
  rw [BitVec.toNat_and, BitVec.toNat_ofNat, BitVec.toNat_ofNat, BitVec.toNat_ofNat, Nat.mod_eq_of_lt ha, Nat.mod_eq_of_lt hb, Nat.mod_eq_of_lt (Nat.and_lt_two_pow _ hb)]
theorem wb_or {a b : Nat} (ha : a < 2 ^ 64) (hb : b < 2 ^ 64) : lN a ||| lN b = lN (a ||| b) := by
  apply wb_inj
  rw [Int64.toBitVec_or, wb_tb, wb_tb, wb_tb]
  apply BitVec.eq_of_toNat_eq
  rw [BitVec.toNat_or, BitVec.toNat_ofNat, BitVec.toNat_ofNat, BitVec.toNat_ofNat, Nat.mod_eq_of_lt ha, Nat.mod_eq_of_lt hb, Nat.mod_eq_of_lt (Nat.or_lt_two_pow ha hb)]
/-! own rows -/
theorem xw16 {k : Nat} (hk : k < 16) : 2 ^ k < 65536 := by
  have := Nat.pow_lt_pow_right (a := 2) (by decide) hk
  omega
theorem xB_z {n : Nat} (h : n < 65536) : lN n = 0 ↔ n = 0 := by
  have := lN_eq (a := n) (b := 0) (by omega) (by omega)
  exact this
theorem xB_and (w k : Nat) : w &&& 2 ^ k = if w.testBit k then 2 ^ k else 0 := by
  apply Nat.eq_of_testBit_eq
  intro i
  rw [Nat.testBit_and, Nat.testBit_two_pow]
  by_cases e : k = i
  · subst e
    cases h : w.testBit k <;> simp
  · cases h : w.testBit k <;> simp [e, Nat.testBit_two_pow]
theorem xB_one {k : Nat} (hk : k < 16) : (1 : Int64) <<< ((nI k).toInt64 &&& 63) = lN (2 ^ k) := by
  have h := wb_shl 1 (k := k) (by omega)
  rw [Nat.one_mul] at h
  exact h
theorem xB_get {w k : Nat} (hw : w < 65536) (hk : k < 16) : lg_cmp (lN w &&& (1 : Int64) <<< ((nI k).toInt64 &&& 63)) 0 = 0 ↔ w.testBit k = false := by
  have h2 := xw16 hk
  rw [xB_one hk, wb_and (by omega) (by omega), lg_cmp_eq, xB_and]
  split
  · rename_i h
    rw [xB_z h2, h]
    have := Nat.two_pow_pos k
    constructor
    · intro e; omega
    · intro e; cases e
  · rename_i h
    exact ⟨fun _ => by simpa using h, fun _ => rfl⟩
theorem xB_set {w k : Nat} (hw : w < 65536) (hk : k < 16) : lN w ||| (1 : Int64) <<< ((nI k).toInt64 &&& 63) = lN (w ||| 2 ^ k) := by
  have h2 := xw16 hk
  rw [xB_one hk, wb_or (by omega) (by omega)]
def bClr (w k : Nat) : Nat := w ^^^ (w &&& 2 ^ k)
theorem xB_clr {w k : Nat} (hw : w < 65536) (hk : k < 16) : lN w &&& ((1 : Int64) <<< ((nI k).toInt64 &&& 63) ^^^ (-1 : Int64)) = lN (bClr w k) := by
  have h2 := xw16 hk
  rw [xB_one hk]
  apply wb_inj
  rw [Int64.toBitVec_and, Int64.toBitVec_xor, wb_tb, wb_tb, wb_tb]
  apply BitVec.eq_of_getLsbD_eq
  intro i hi
  rw [show (-1 : Int64).toBitVec = BitVec.allOnes 64 from by decide]
  simp only [BitVec.getLsbD_and, BitVec.getLsbD_xor, BitVec.getLsbD_ofNat, BitVec.getLsbD_allOnes, hi, decide_true, Bool.true_and, bClr, Nat.testBit_xor, Nat.testBit_and]
  cases w.testBit i <;> cases (2 ^ k).testBit i <;> rfl
theorem bSet_lt {w k : Nat} (hw : w < 65536) (hk : k < 16) : w ||| 2 ^ k < 65536 := Nat.or_lt_two_pow (n := 16) hw (xw16 hk)
theorem bClr_lt {w k : Nat} (hw : w < 65536) (hk : k < 16) : bClr w k < 65536 := Nat.xor_lt_two_pow (n := 16) hw (Nat.and_lt_two_pow (n := 16) _ (xw16 hk))
theorem bSet_ne {w k : Nat} : w ||| 2 ^ k ≠ 0 := fun e => by
  have h : (w ||| 2 ^ k).testBit k = true := by rw [Nat.testBit_or, Nat.testBit_two_pow_self]; simp
  rw [e] at h
  simp at h
theorem bSet_bit {w k j : Nat} : (w ||| 2 ^ k).testBit j = (w.testBit j || decide (k = j)) := by rw [Nat.testBit_or, Nat.testBit_two_pow]
theorem bClr_bit {w k j : Nat} : (bClr w k).testBit j = (w.testBit j && decide (k ≠ j)) := by
  rw [bClr, Nat.testBit_xor, Nat.testBit_and, Nat.testBit_two_pow]
  by_cases e : k = j
  · subst e; cases w.testBit k <;> simp
  · simp [e]
theorem xwi : ∀ k, k < 64 → nI k >>> ((nI 6) &&& 31) = nI 0 := by decide +kernel
theorem xrTv {K : Nat → Nat → Nat} {r o c : Nat} (h : r % 100 = c) (hc : c ≠ 4) : xrT K r o = c := by unfold xrT; rw [if_neg (by omega), h]
/-- how many words of a set are in use -/
def bUse (w : Nat) : Nat := if w = 0 then 0 else 1
theorem bUse_0 : bUse 0 = 0 := rfl
theorem bUse_p {w : Nat} (h : w ≠ 0) : bUse w = 1 := if_neg h
/-- a set of small numbers: the object (r, o) with its word (rw, o) -/
def xBs (Y : xY) (V : xVV) (J : xJJ) (r rw o x w : Nat) : Prop := yAt Y r o x ∧ w < 65536 ∧ (∃ xw, yAt Y rw o xw ∧ V r o 0 = .ref xw) ∧ yN Y rw o = 1 ∧ J rw o 0 = lN w ∧ V r o 1 = .int (nI (bUse w)) ∧ ∃ b, V r o 2 = .int b
def sBs (r rw o : Nat) : Nat → Nat → Prop := fun r' o' => o' = o ∧ (r' = r ∨ r' = rw)
theorem xBs.fr {Y Y1 : xY} {V V1 : xVV} {I I1 : xII} {J J1 : xJJ} {A A1 : xVV} {S : Nat → Nat → Prop} {r rw o x w : Nat} (h : xBs Y V J r rw o x w) (f : xFr S Y V I J A Y1 V1 I1 J1 A1) (h1 : ¬ S r o) (h2 : ¬ S rw o) : xBs Y1 V1 J1 r rw o x w := by
  obtain ⟨g1, g2, ⟨xw, g3, g4⟩, g5, g6, g7, b, g8⟩ := h
  obtain ⟨e1, -⟩ := f.2 r o x g1 h1
  obtain ⟨-, -, e2, -⟩ := f.2 rw o xw g3 h2
  refine ⟨f.1.at g1, g2, ⟨xw, f.1.at g3, by rw [e1]; exact g4⟩, f.1.n g3 g5, by rw [e2]; exact g6, by rw [e1]; exact g7, b, by rw [e1]; exact g8⟩
