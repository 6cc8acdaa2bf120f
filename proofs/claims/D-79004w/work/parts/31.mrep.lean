set_option maxRecDepth 100000
/-! THE MODEL's ARRAYS AND THE ABSTRACT STATE -/
def r0 : aRec := (0, 0, 0)
/-- records in three arrays, from place s on -/
def mRecs (l : List aRec) (s : Nat) (fk fv fb : Nat → Int32) : Prop := ∀ k, k < l.length → fk (s + k) = nI (l.getD k r0).1 ∧ fv (s + k) = (l.getD k r0).2.1 ∧ fb (s + k) = nI (l.getD k r0).2.2
theorem mRecs.same {l : List aRec} {s : Nat} {fk fv fb gk gv gb : Nat → Int32} (h : mRecs l s fk fv fb) (e : ∀ k, k < l.length → gk (s + k) = fk (s + k) ∧ gv (s + k) = fv (s + k) ∧ gb (s + k) = fb (s + k)) : mRecs l s gk gv gb := fun k hk => by
  obtain ⟨e1, e2, e3⟩ := e k hk
  rw [e1, e2, e3]
  exact h k hk
/-- a batch in a queue, its first t records gone -/
def mBat (b : Option (List aRec)) (t z : Nat) (sz fk fv fb : Nat → Int32) : Prop := match b with
  | none => sz z = -1 ∧ t = 0
  | some l => sz z = nI (t + l.length) ∧ t + l.length ≤ 4 ∧ mRecs l (4 * z + t) fk fv fb
/-- a channel at place c -/
def mCh (ch : aCh) (c : Nat) (ar : Nat → Nat → Int32) : Prop :=
  ar 46 c = nI ch.2.1.length ∧ ar 47 c = nI ch.2.2 ∧ mRecs ch.2.1 (4 * c) (ar 48) (ar 49) (ar 50) ∧ ar 51 c = nI ch.1.length ∧
  ∃ t : Nat, ar 52 c = nI t ∧ (ch.1 = [] → t = 0) ∧ ∀ q, q < ch.1.length → mBat (ch.1.getD q none) (if q = 0 then t else 0) (4 * c + q) (ar 53) (ar 54) (ar 55) (ar 56)
/-- nothing but the channel c has changed -/
def mFr (c : Nat) (ar ar' : Nat → Nat → Int32) : Prop :=
  (∀ k, (k < 46 ∨ 56 < k) → ar' k = ar k) ∧ (∀ x, x ≠ c → ar' 46 x = ar 46 x ∧ ar' 47 x = ar 47 x ∧ ar' 51 x = ar 51 x ∧ ar' 52 x = ar 52 x) ∧
  (∀ x, x / 4 ≠ c → ar' 48 x = ar 48 x ∧ ar' 49 x = ar 49 x ∧ ar' 50 x = ar 50 x ∧ ar' 53 x = ar 53 x) ∧
  ∀ x, x / 16 ≠ c → ar' 54 x = ar 54 x ∧ ar' 55 x = ar 55 x ∧ ar' 56 x = ar 56 x
theorem mFr.rf {c : Nat} {ar : Nat → Nat → Int32} : mFr c ar ar := ⟨fun _ _ => rfl, fun _ _ => ⟨rfl, rfl, rfl, rfl⟩, fun _ _ => ⟨rfl, rfl, rfl, rfl⟩, fun _ _ => ⟨rfl, rfl, rfl⟩⟩
theorem mFr.tr {c : Nat} {a1 a2 a3 : Nat → Nat → Int32} (h : mFr c a1 a2) (g : mFr c a2 a3) : mFr c a1 a3 := by
  refine ⟨fun k hk => (g.1 k hk).trans (h.1 k hk), fun x hx => ?_, fun x hx => ?_, fun x hx => ?_⟩
  · obtain ⟨g1, g2, g3, g4⟩ := g.2.1 x hx
    obtain ⟨h1, h2, h3, h4⟩ := h.2.1 x hx
    exact ⟨g1.trans h1, g2.trans h2, g3.trans h3, g4.trans h4⟩
  · obtain ⟨g1, g2, g3, g4⟩ := g.2.2.1 x hx
    obtain ⟨h1, h2, h3, h4⟩ := h.2.2.1 x hx
    exact ⟨g1.trans h1, g2.trans h2, g3.trans h3, g4.trans h4⟩
  · obtain ⟨g1, g2, g3⟩ := g.2.2.2 x hx
    obtain ⟨h1, h2, h3⟩ := h.2.2.2 x hx
    exact ⟨g1.trans h1, g2.trans h2, g3.trans h3⟩
theorem mBat.same {b : Option (List aRec)} {t z : Nat} {sz fk fv fb sz' gk gv gb : Nat → Int32} (h : mBat b t z sz fk fv fb) (e0 : sz' z = sz z) (e : ∀ x, 4 * z ≤ x → x < 4 * z + 4 → gk x = fk x ∧ gv x = fv x ∧ gb x = fb x) : mBat b t z sz' gk gv gb := by
  cases b with
  | none => exact ⟨e0.trans h.1, h.2⟩
  | some l => exact ⟨e0.trans h.1, h.2.1, h.2.2.same fun k hk => e _ (by omega) (by have := h.2.1; omega)⟩
theorem mCh.frame {ch : aCh} {c d : Nat} {ar ar' : Nat → Nat → Int32} (h : mCh ch d ar) (f : mFr c ar ar') (hne : d ≠ c) (hq : ch.1.length ≤ 4) (ho : ch.2.1.length ≤ 4) : mCh ch d ar' := by
  obtain ⟨h1, h2, h3, h4, t, h5, h6, h7⟩ := h
  obtain ⟨f1, f2, f3, f4⟩ := f.2.1 d hne
  refine ⟨f1.trans h1, f2.trans h2, h3.same fun k hk => ?_, f3.trans h4, t, f4.trans h5, h6, fun q hq' => (h7 q hq').same ?_ fun x hx1 hx2 => ?_⟩
  · obtain ⟨e1, e2, e3, -⟩ := f.2.2.1 (4 * d + k) (by omega)
    exact ⟨e1, e2, e3⟩
  · exact (f.2.2.1 (4 * d + q) (by omega)).2.2.2
  · exact f.2.2.2 x (by omega)
/-- the place of a channel -/
def mLn (o i j : Nat) : Nat := 3 * (3 * o + i) + j
/-! the parts of the relation -/
def RMtxt (l : List Nat) (n : Int32) (f : Nat → Int32) : Prop := n = nI l.length ∧ ∀ i, i < l.length → f i = nI (l.getD i 0)
def RMop (n : Nat) (op : Nat → Nat × Int32 × Int32 × Nat) (s : Int32) (fk fa fb fp : Nat → Int32) : Prop := s = nI (n - 2) ∧ ∀ o, o < n → fk o = nI (op o).1 ∧ fa o = (op o).2.1 ∧ fb o = (op o).2.2.1 ∧ fp o = nI (op o).2.2.2
def RMinp (l : List (Nat × Int32)) (n : Int32) (fk fv : Nat → Int32) : Prop := n = nI l.length ∧ ∀ i, i < l.length → fk i = nI (l.getD i (0, 0)).1 ∧ fv i = (l.getD i (0, 0)).2
def RMst (s : Nat → Nat → Option (Int32 × Int32)) (fh f1 f2 : Nat → Int32) : Prop := ∀ o, o < 6 → ∀ key, key < 16 → fh (16 * o + key) = bI (s o key).isSome ∧ ((s o key).isSome = true → f1 (16 * o + key) = ((s o key).getD (0, 0)).1 ∧ f2 (16 * o + key) = ((s o key).getD (0, 0)).2)
def RMct (c : Nat → Nat → Nat) (f : Nat → Int32) : Prop := ∀ o, o < 6 → ∀ i, i < 3 → f (3 * o + i) = nI (c o i)
def RMls (l : Nat → Nat → List aRec) (fn fk fv fb : Nat → Int32) : Prop := ∀ o, o < 6 → ∀ i, i < 3 → fn (3 * o + i) = nI (l o i).length ∧ mRecs (l o i) (3 * (3 * o + i)) fk fv fb
/-- the stopped channels as bits -/
def aBits (s : Nat → Bool) : Nat := (if s 0 then 1 else 0) + (if s 1 then 2 else 0) + (if s 2 then 4 else 0)
def RMsp (s : Nat → Nat → Nat → Bool) (f : Nat → Int32) : Prop := ∀ o, o < 6 → ∀ i, i < 3 → f (3 * o + i) = nI (aBits (s o i))
def RMhd (h : Nat → Nat → Bool) (f : Nat → Int32) : Prop := ∀ o, o < 6 → ∀ i, i < 3 → f (3 * o + i) = bI (h o i)
def RMch (ch : Nat → Nat → Nat → aCh) (ar : Nat → Nat → Int32) : Prop := ∀ o, o < 6 → ∀ i, i < 3 → ∀ j, j < 3 → mCh (ch o i j) (mLn o i j) ar
def RMex (l : List (Nat × Nat)) (n : Int32) (fp fr : Nat → Int32) : Prop := n = nI l.length ∧ l.length ≤ 8 ∧ ∀ i, i < l.length → fp i = nI (l.getD i (0, 0)).1 ∧ fr i = nI (l.getD i (0, 0)).2
def RMstt (s : Nat → Nat → Int32) (ar : Nat → Nat → Int32) : Prop := ∀ k, k < 4 → ∀ o, o < 6 → ar (20 + k) o = s k o
def RMnm (a : aA) (sc : Nat → Int32) : Prop := (sc 7 = nI (a.cf 0) ∧ sc 8 = nI (a.cf 1) ∧ sc 9 = nI (a.cf 2) ∧ sc 10 = nI (a.cf 3)) ∧ (sc 14 = nI (a.of 0) ∧ (0 < a.nm 2 → sc 36 = nI (a.of 1)) ∧ sc 37 = nI (a.of 2)) ∧ sc 15 = nI (a.nm 0) ∧ sc 16 = nI (a.nm 1) ∧ sc 17 = nI (a.nm 2) ∧ sc 38 = nI (a.nm 3) ∧ sc 18 = a.fl ∧ sc 19 = nI (a.nm 4)
/-- THE RELATION of the model's numbers and arrays to the abstract state -/
def RepM (a : aA) (sc : Nat → Int32) (ar : Nat → Nat → Int32) : Prop :=
  RMtxt a.txt (sc 1) (ar 0) ∧ RMop a.n a.op (sc 2) (ar 3) (ar 4) (ar 5) (ar 6) ∧ RMinp a.inp (sc 13) (ar 11) (ar 12) ∧ RMnm a sc ∧ RMstt a.stt ar ∧
  (RMst (a.st 0) (ar 24) (ar 27) (ar 30) ∧ (0 < a.nm 2 → RMst (a.st 1) (ar 25) (ar 28) (ar 31)) ∧ RMst (a.st 2) (ar 26) (ar 29) (ar 32)) ∧
  (RMct (a.ct 0) (ar 33) ∧ RMct (a.ct 1) (ar 34) ∧ RMct (a.ct 2) (ar 35)) ∧
  RMls a.ls (ar 39) (ar 40) (ar 41) (ar 42) ∧ RMsp a.sp (ar 43) ∧ RMct a.pt (ar 44) ∧ RMhd a.hd (ar 45) ∧ RMch a.ch ar ∧
  RMex a.ex (sc 77) (ar 75) (ar 76) ∧ RMtxt a.wr (sc 80) (ar 79)
