set_option maxRecDepth 100000
/-! THE RELATION of the component's things to the abstract state, in groups by roles -/
def gSi (r : Nat) : Prop := r = 0
def gOl (r : Nat) : Prop := r = 34 ∨ r = 5002
def gOp (r : Nat) : Prop := r = 4
def gKs (r : Nat) : Prop := r = 1 ∨ r = 6 ∨ r = 35 ∨ r = 4001 ∨ r = 1021 ∨ r = 1022
def gIn (r : Nat) : Prop := r = 9 ∨ r = 1011 ∨ r = 1012 ∨ r = 1013 ∨ r = 135 ∨ r = 4002
def gCt (r : Nat) : Prop := r = 101 ∨ r = 2
def gOf (r : Nat) : Prop := r = 201 ∨ r = 102
def gCh (r : Nat) : Prop := r = 10 ∨ r = 41 ∨ r = 5001 ∨ r = 11 ∨ r = 1001 ∨ r = 1002 ∨ r = 1003 ∨ r = 33 ∨ r = 53
def gAr (r : Nat) : Prop := r = 7001 ∨ r = 6001 ∨ r = 10001 ∨ r = 9001 ∨ r = 8001
def gVe (r : Nat) : Prop := r = 134 ∨ r = 5003
def gIp (r : Nat) : Prop := r = 1031 ∨ r = 1032
def gTx (r : Nat) : Prop := r = 43 ∨ r = 3001
def gWr (r : Nat) : Prop := r = 143 ∨ r = 3002
def gEx (r : Nat) : Prop := r = 234 ∨ r = 5004 ∨ r = 23
def gLa (r : Nat) : Prop := r = 3 ∨ r = 1041
/-- an instance -/
def xIs (Y : xY) (V : xVV) (I : xII) (J : xJJ) (o i x : Nat) (l : List aRec) (sp : Nat → Bool) (pt : Nat) (hd : Bool) : Prop :=
  yAt Y 9 (3 * o + i) x ∧ (V 9 (3 * o + i) 0 = .int (nI o) ∧ V 9 (3 * o + i) 1 = .int (nI i)) ∧
  ((∃ x1, yAt Y 1011 (3 * o + i) x1 ∧ V 9 (3 * o + i) 2 = .ref x1) ∧ yN Y 1011 (3 * o + i) = 3) ∧ ((∃ x1, yAt Y 1012 (3 * o + i) x1 ∧ V 9 (3 * o + i) 3 = .ref x1) ∧ yN Y 1012 (3 * o + i) = 3) ∧ ((∃ x1, yAt Y 1013 (3 * o + i) x1 ∧ V 9 (3 * o + i) 4 = .ref x1) ∧ yN Y 1013 (3 * o + i) = 3) ∧
  (∃ f, V 9 (3 * o + i) 5 = .int (nI f) ∧ V 9 (3 * o + i) 6 = .int (nI (f + l.length)) ∧ f + l.length ≤ 3 ∧ mRecs l f (I 1011 (3 * o + i)) (I 1012 (3 * o + i)) (I 1013 (3 * o + i))) ∧
  (∃ b, V 9 (3 * o + i) 7 = .int b) ∧ V 9 (3 * o + i) 8 = .int (bI hd) ∧ (∃ xb, V 9 (3 * o + i) 9 = .ref xb ∧ xBs Y V J 135 4002 (3 * o + i) xb (aBits sp)) ∧ V 9 (3 * o + i) 10 = .int (nI pt) ∧
  (∃ xv, V 9 (3 * o + i) 11 = .ref xv ∧ yAt Y 101 (3 * o + i) xv) ∧ ∃ x0, V 9 (3 * o + i) 12 = .ref x0 ∧ yAt Y 0 0 x0
def XIn (Y : xY) (V : xVV) (I : xII) (J : xJJ) (n : Nat) (p : Nat → Nat) (ls : Nat → Nat → List aRec) (sp : Nat → Nat → Nat → Bool) (pt : Nat → Nat → Nat) (hd : Nat → Nat → Bool) : Prop := ∀ o, o < n → ∀ i, i < p o → ∃ x, xIs Y V I J o i x (ls o i) (sp o i) (pt o i) (hd o i)
def XCt (Y : xY) (V : xVV) (n : Nat) (p : Nat → Nat) (ct : Nat → Nat → Nat → Nat) (al : Nat → Nat → Bool) : Prop := ∀ o, o < n → ∀ i, i < p o → ∃ x q, xVc Y V 101 2 (3 * o + i) x q ∧ q 0 = nI (ct 0 o i) ∧ q 2 = nI (ct 2 o i) ∧ (al o i = true → q 1 = nI (ct 1 o i))
def XOf (Y : xY) (V : xVV) (of : Nat → Nat) (rn : Nat) : Prop := ∃ x q, xVc Y V 201 102 0 x q ∧ q 0 = nI (of 0) ∧ q 2 = nI (of 2) ∧ (0 < rn → q 1 = nI (of 1))
/-- an operator -/
def xOp (Y : xY) (V : xVV) (o x : Nat) (op : Nat × Int32 × Int32 × Nat) (st : Nat → Int32) : Prop := yAt Y 4 o x ∧ yK Y 4 o = op.1 ∧ V 4 o 0 = .int (nI op.1) ∧ V 4 o 1 = .int op.2.1 ∧ V 4 o 2 = .int op.2.2.1 ∧ V 4 o 3 = .int (nI op.2.2.2) ∧ (∃ xv, V 4 o 4 = .ref xv ∧ yAt Y 1 o xv) ∧ V 4 o 5 = .int (st 0) ∧ V 4 o 6 = .int (st 1) ∧ V 4 o 7 = .int (st 2) ∧ V 4 o 8 = .int (st 3)
def XOp (Y : xY) (V : xVV) (n : Nat) (op : Nat → Nat × Int32 × Int32 × Nat) (stt : Nat → Nat → Int32) : Prop := ∀ o, o < n → ∃ x, xOp Y V o x (op o) (fun k => stt k o)
def XKs (Y : xY) (V : xVV) (I : xII) (J : xJJ) (n : Nat) (p : Nat → Nat) (st : Nat → Nat → Nat → Option (Int32 × Int32)) (al : Nat → Nat → Bool) : Prop := ∀ o, o < n → ∃ x q, xVk Y V I J 1 6 35 4001 1021 1022 o x q ∧ (∀ key, key < 16 → q 0 key = st 0 o key ∧ q 2 key = st 2 o key) ∧ ∀ key, key < 16 → al o (aHome key (p o)) = true → q 1 key = st 1 o key
/-- how many places the queues and pending batches take -/
def usum (ch : Nat → Nat → Nat → aCh) : Nat := ((List.range 54).map (fun c => 1 + (ch (c / 9) (c / 3 % 3) (c % 3)).1.length)).sum
def XCh (Y : xY) (V : xVV) (I : xII) (A : xVV) (n : Nat) (p : Nat → Nat) (ch : Nat → Nat → Nat → aCh) (fi : Nat) : Prop := ∃ (bo : Nat → Nat) (bq : Nat → List Nat) (sp : List (Nat × Nat)) (lc : Nat → Nat) (xl : Nat),
  (∀ o i j, o + 1 < n → i < p o → j < p (o + 1) → (∃ x, xCh Y V I A (mLn o i j) x (ch o i j) (bo (mLn o i j)) (bq (mLn o i j))) ∧ (lCh (bo (mLn o i j)) (bq (mLn o i j)) sp).Nodup ∧ ∀ b, b ∈ bo (mLn o i j) :: bq (mLn o i j) → lc b = mLn o i j) ∧
  xSp Y V xl sp ∧ xSB Y V sp ∧ (∀ q, q ∈ sp → lc q.2 = 54) ∧ fi + sp.length + usum ch = 378
/-- the pointer k of the whole -/
def xPt (Y : xY) (V : xVV) (k r : Nat) : Prop := ∃ x, V 0 0 k = .ref x ∧ yAt Y r 0 x
def XSi (Y : xY) (V : xVV) (x0 : Nat) (cf nm : Nat → Nat) (fl : Int32) (tk il : Nat) : Prop := yAt Y 0 0 x0 ∧ (xPt Y V 0 33 ∧ xPt Y V 5 1031 ∧ xPt Y V 6 1032 ∧ xPt Y V 8 34 ∧ xPt Y V 9 201 ∧ xPt Y V 10 134 ∧ xPt Y V 11 7001 ∧ xPt Y V 12 10001 ∧ xPt Y V 13 3 ∧ xPt Y V 20 234 ∧ xPt Y V 21 43 ∧ xPt Y V 22 143) ∧
  (V 0 0 1 = .int (nI (cf 0)) ∧ V 0 0 2 = .int (nI (cf 1)) ∧ V 0 0 3 = .int (nI (cf 2)) ∧ V 0 0 4 = .int (nI (cf 3))) ∧ V 0 0 7 = .int (nI il) ∧ V 0 0 14 = .int (nI tk) ∧ V 0 0 15 = .int (nI (nm 1)) ∧ V 0 0 16 = .int (nI (nm 2)) ∧ (0 < nm 2 → V 0 0 17 = .int (nI (nm 3))) ∧ V 0 0 18 = .int fl ∧ V 0 0 19 = .int (nI (nm 4))
def XAr (Y : xY) (A : xVV) (n : Nat) (p : Nat → Nat) : Prop := (∃ xi, yAt Y 7001 0 xi ∧ yN Y 7001 0 = 6 ∧ ∀ o, o < n → ∃ xr, A 7001 0 o = .ref xr ∧ yAt Y 6001 o xr ∧ yN Y 6001 o = p o ∧ ∀ i, i < p o → ∃ x, A 6001 o i = .ref x ∧ yAt Y 9 (3 * o + i) x) ∧
  ∃ xi, yAt Y 10001 0 xi ∧ yN Y 10001 0 = 5 ∧ ∀ o, o + 1 < n → ∃ xr, A 10001 0 o = .ref xr ∧ yAt Y 9001 o xr ∧ yN Y 9001 o = p o ∧ ∀ i, i < p o → ∃ xs, A 9001 o i = .ref xs ∧ yAt Y 8001 (3 * o + i) xs ∧ yN Y 8001 (3 * o + i) = p (o + 1) ∧ ∀ j, j < p (o + 1) → ∃ x, A 8001 (3 * o + i) j = .ref x ∧ yAt Y 10 (mLn o i j) x
def XOl (Y : xY) (V A : xVV) (g0 n : Nat) : Prop := ∃ x l, xAl Y V A 34 5002 x g0 l ∧ l.length = n ∧ ∀ o, o < n → yAt Y 4 o (l.getD o 0)
/-- what is listed to be saved -/
def vl (n : Nat) (p : Nat → Nat) : List (Nat × Nat) := (201, 0) :: (List.range n).flatMap (fun o => (1, o) :: (List.range (p o)).map (fun i => (101, 3 * o + i)))
def XVe (Y : xY) (V A : xVV) (g0 n : Nat) (p : Nat → Nat) : Prop := ∃ x l, xAl Y V A 134 5003 x g0 l ∧ l.length = (vl n p).length ∧ ∀ j, j < l.length → yAt Y ((vl n p).getD j (0, 0)).1 ((vl n p).getD j (0, 0)).2 (l.getD j 0)
def XIp (Y : xY) (I : xII) (inp : List (Nat × Int32)) : Prop := (∃ x, yAt Y 1031 0 x) ∧ (∃ x, yAt Y 1032 0 x) ∧ yN Y 1031 0 = 60 ∧ yN Y 1032 0 = 60 ∧ ∀ j, j < inp.length → I 1031 0 j = nI (inp.getD j (0, 0)).1 ∧ I 1032 0 j = (inp.getD j (0, 0)).2
/-- a text in a StringBuilder -/
def xSb (Y : xY) (V : xVV) (I : xII) (r rv x : Nat) (l : List Nat) : Prop := yAt Y r 0 x ∧ (∃ id xv, V r 0 0 = .ref xv ∧ yAt Y rv id xv ∧ l.length ≤ yN Y rv id ∧ 16 ≤ yN Y rv id ∧ yN Y rv id ≤ 300 ∧ (∀ j, j < yN Y rv id → fits .byte (.int (I rv id j)) = true) ∧ ∀ j, j < l.length → I rv id j = nI (l.getD j 0)) ∧ V r 0 1 = .int (nI 0) ∧ (∃ z, V r 0 2 = .int z) ∧ V r 0 3 = .int (nI l.length)
def XTx (Y : xY) (V : xVV) (I : xII) (l : List Nat) : Prop := ∃ x, xSb Y V I 43 3001 x l
def XWr (Y : xY) (V : xVV) (I : xII) (l : List Nat) : Prop := ∃ x, xSb Y V I 143 3002 x l
def XEx (Y : xY) (V A : xVV) (g0 : Nat) (ex : List (Nat × Nat)) : Prop := ∃ x l, xAl Y V A 234 5004 x g0 l ∧ l.length = ex.length ∧ ∀ j, j < ex.length → yAt Y 23 (l.getD j 0) (l.getD j 0) ∧ V 23 (l.getD j 0) 6 = .int (nI (ex.getD j (0, 0)).1) ∧ V 23 (l.getD j 0) 7 = .int (nI (ex.getD j (0, 0)).2)
def XLa (Y : xY) (V : xVV) (ps : Nat) : Prop := ∃ x id xc, yAt Y 3 0 x ∧ V 3 0 0 = .ref xc ∧ yAt Y 1041 id xc ∧ (∃ u, V 3 0 1 = .int u) ∧ (∃ u, V 3 0 2 = .int u) ∧ (∃ u, V 3 0 3 = .int u) ∧ 64 ≤ yN Y 1041 id ∧ ps + 2 * yN Y 1041 id = 20000
theorem gno {S : Nat → Nat → Prop} {g : Nat → Prop} (h : ∀ r o, S r o → ¬ g r) {r o : Nat} (hg : g r) : ¬ S r o := fun e => h r o e hg
theorem xIs.fr {S : Nat → Nat → Prop} {Y Y1 : xY} {V V1 : xVV} {I I1 : xII} {J J1 : xJJ} {A A1 : xVV} {o i x : Nat} {l : List aRec} {sp : Nat → Bool} {pt : Nat} {hd : Bool} (d : xIs Y V I J o i x l sp pt hd) (f : xFr S Y V I J A Y1 V1 I1 J1 A1) (h : ∀ r, gIn r → ¬ S r (3 * o + i)) : xIs Y1 V1 I1 J1 o i x l sp pt hd := by
  obtain ⟨d0, ⟨d1, d2⟩, ⟨⟨x1, d3, d4⟩, d5⟩, ⟨⟨x2, d6, d7⟩, d8⟩, ⟨⟨x3, d9, d10⟩, d11⟩, ⟨q, d12, d13, d14, d15⟩, d16, d17, ⟨xb, d18, d19⟩, d20, ⟨xv, d21, d22⟩, x0, d23, d24⟩ := d
  have e := (f.2 9 _ x d0 (h 9 (by unfold gIn; omega))).1
  have e1 := (f.2 1011 _ x1 d3 (h 1011 (by unfold gIn; omega))).2.1
  have e2 := (f.2 1012 _ x2 d6 (h 1012 (by unfold gIn; omega))).2.1
  have e3 := (f.2 1013 _ x3 d9 (h 1013 (by unfold gIn; omega))).2.1
  unfold xIs
  rw [e, e1, e2, e3]
  exact ⟨f.1.at d0, ⟨d1, d2⟩, ⟨⟨x1, f.1.at d3, d4⟩, f.1.n d3 d5⟩, ⟨⟨x2, f.1.at d6, d7⟩, f.1.n d6 d8⟩, ⟨⟨x3, f.1.at d9, d10⟩, f.1.n d9 d11⟩, ⟨q, d12, d13, d14, d15⟩, d16, d17, ⟨xb, d18, d19.fr f (h 135 (by unfold gIn; omega)) (h 4002 (by unfold gIn; omega))⟩, d20, ⟨xv, d21, f.1.at d22⟩, x0, d23, f.1.at d24⟩
theorem XIn.fr {S : Nat → Nat → Prop} {Y Y1 : xY} {V V1 : xVV} {I I1 : xII} {J J1 : xJJ} {A A1 : xVV} {n : Nat} {p : Nat → Nat} {ls : Nat → Nat → List aRec} {sp : Nat → Nat → Nat → Bool} {pt : Nat → Nat → Nat} {hd : Nat → Nat → Bool} (d : XIn Y V I J n p ls sp pt hd) (f : xFr S Y V I J A Y1 V1 I1 J1 A1) (h : ∀ r o, S r o → ¬ gIn r) : XIn Y1 V1 I1 J1 n p ls sp pt hd := fun o ho i hi => by
  obtain ⟨x, k⟩ := d o ho i hi
  exact ⟨x, k.fr f (fun r hr e => h r _ e hr)⟩
theorem XCt.fr {S : Nat → Nat → Prop} {Y Y1 : xY} {V V1 : xVV} {I I1 : xII} {J J1 : xJJ} {A A1 : xVV} {n : Nat} {p : Nat → Nat} {ct : Nat → Nat → Nat → Nat} {al : Nat → Nat → Bool} (d : XCt Y V n p ct al) (f : xFr S Y V I J A Y1 V1 I1 J1 A1) (h : ∀ r o, S r o → ¬ gCt r) : XCt Y1 V1 n p ct al := fun o ho i hi => by
  obtain ⟨x, q, k, k2⟩ := d o ho i hi
  exact ⟨x, q, k.fr f (fun e => h _ _ e (by unfold gCt; omega)) (fun v hv e => h _ _ e (by unfold gCt; omega)), k2⟩
theorem XOf.fr {S : Nat → Nat → Prop} {Y Y1 : xY} {V V1 : xVV} {I I1 : xII} {J J1 : xJJ} {A A1 : xVV} {of : Nat → Nat} {rn : Nat} (d : XOf Y V of rn) (f : xFr S Y V I J A Y1 V1 I1 J1 A1) (h : ∀ r o, S r o → ¬ gOf r) : XOf Y1 V1 of rn := by
  obtain ⟨x, q, k, k2⟩ := d
  exact ⟨x, q, k.fr f (fun e => h _ _ e (by unfold gOf; omega)) (fun v hv e => h _ _ e (by unfold gOf; omega)), k2⟩
theorem xOp.fr {S : Nat → Nat → Prop} {Y Y1 : xY} {V V1 : xVV} {I I1 : xII} {J J1 : xJJ} {A A1 : xVV} {o x : Nat} {op : Nat × Int32 × Int32 × Nat} {st : Nat → Int32} (d : xOp Y V o x op st) (f : xFr S Y V I J A Y1 V1 I1 J1 A1) (h : ¬ S 4 o) : xOp Y1 V1 o x op st := by
  obtain ⟨d0, d1, d2, d3, d4, d5, ⟨xv, d6, d7⟩, d8⟩ := d
  have e := (f.2 4 o x d0 h).1
  unfold xOp
  rw [e]
  exact ⟨f.1.at d0, f.1.k d0 d1, d2, d3, d4, d5, ⟨xv, d6, f.1.at d7⟩, d8⟩
theorem XOp.fr {S : Nat → Nat → Prop} {Y Y1 : xY} {V V1 : xVV} {I I1 : xII} {J J1 : xJJ} {A A1 : xVV} {n : Nat} {op : Nat → Nat × Int32 × Int32 × Nat} {stt : Nat → Nat → Int32} (d : XOp Y V n op stt) (f : xFr S Y V I J A Y1 V1 I1 J1 A1) (h : ∀ r o, S r o → ¬ gOp r) : XOp Y1 V1 n op stt := fun o ho => by
  obtain ⟨x, k⟩ := d o ho
  exact ⟨x, k.fr f (fun e => h _ _ e rfl)⟩
theorem XKs.fr {S : Nat → Nat → Prop} {Y Y1 : xY} {V V1 : xVV} {I I1 : xII} {J J1 : xJJ} {A A1 : xVV} {n : Nat} {p : Nat → Nat} {st : Nat → Nat → Nat → Option (Int32 × Int32)} {al : Nat → Nat → Bool} (d : XKs Y V I J n p st al) (f : xFr S Y V I J A Y1 V1 I1 J1 A1) (h : ∀ r o, S r o → ¬ gKs r) : XKs Y1 V1 I1 J1 n p st al := fun o ho => by
  obtain ⟨x, q, k, k2⟩ := d o ho
  exact ⟨x, q, k.fr f (fun e => h _ _ e (by unfold gKs; omega)) (fun r v hv hr e => h _ _ e (by unfold gKs; omega)), k2⟩
theorem XCh.fr {S : Nat → Nat → Prop} {Y Y1 : xY} {V V1 : xVV} {I I1 : xII} {J J1 : xJJ} {A A1 : xVV} {n : Nat} {p : Nat → Nat} {ch : Nat → Nat → Nat → aCh} {fi : Nat} (d : XCh Y V I A n p ch fi) (f : xFr S Y V I J A Y1 V1 I1 J1 A1) (h : ∀ r o, S r o → ¬ gCh r) : XCh Y1 V1 I1 A1 n p ch fi := by
  obtain ⟨bo, bq, sp, lc, xl, k1, k2, k3, k4⟩ := d
  refine ⟨bo, bq, sp, lc, xl, fun o i j h1 h2 h3 => ?_, k2.fr f (fun r o e q => h r o e (by unfold gCh; omega)), k3.fr f (fun q hq e => h _ _ e (by unfold gCh; omega)), k4⟩
  obtain ⟨⟨x, g1⟩, g2, g3⟩ := k1 o i j h1 h2 h3
  exact ⟨⟨x, g1.fr f ⟨fun e => h _ _ e (by unfold gCh; omega), fun e => h _ _ e (by unfold gCh; omega), fun e => h _ _ e (by unfold gCh; omega)⟩ (fun b hb r hr e => h _ _ e (by unfold rB at hr; unfold gCh; omega))⟩, g2, g3⟩
theorem xPt.fr {S : Nat → Nat → Prop} {Y Y1 : xY} {V V1 : xVV} {I I1 : xII} {J J1 : xJJ} {A A1 : xVV} {k r : Nat} (d : xPt Y V k r) (f : xFr S Y V I J A Y1 V1 I1 J1 A1) (e : V1 0 0 = V 0 0) : xPt Y1 V1 k r := by
  obtain ⟨x, h1, h2⟩ := d
  exact ⟨x, by rw [e]; exact h1, f.1.at h2⟩
theorem XSi.fr {S : Nat → Nat → Prop} {Y Y1 : xY} {V V1 : xVV} {I I1 : xII} {J J1 : xJJ} {A A1 : xVV} {x0 : Nat} {cf nm : Nat → Nat} {fl : Int32} {tk il : Nat} (d : XSi Y V x0 cf nm fl tk il) (f : xFr S Y V I J A Y1 V1 I1 J1 A1) (h : ∀ r o, S r o → ¬ gSi r) : XSi Y1 V1 x0 cf nm fl tk il := by
  obtain ⟨d0, ⟨p1, p2, p3, p4, p5, p6, p7, p8, p9, p10, p11, p12⟩, d2⟩ := d
  have e := (f.2 0 0 x0 d0 (fun e => h _ _ e rfl)).1
  refine ⟨f.1.at d0, ⟨p1.fr f e, p2.fr f e, p3.fr f e, p4.fr f e, p5.fr f e, p6.fr f e, p7.fr f e, p8.fr f e, p9.fr f e, p10.fr f e, p11.fr f e, p12.fr f e⟩, ?_⟩
  rw [e]
  exact d2
theorem XAr.fr {S : Nat → Nat → Prop} {Y Y1 : xY} {V V1 : xVV} {I I1 : xII} {J J1 : xJJ} {A A1 : xVV} {n : Nat} {p : Nat → Nat} (d : XAr Y A n p) (f : xFr S Y V I J A Y1 V1 I1 J1 A1) (h : ∀ r o, S r o → ¬ gAr r) : XAr Y1 A1 n p := by
  obtain ⟨⟨xi, a1, a2, a3⟩, xj, b1, b2, b3⟩ := d
  have g := fun (r o : Nat) (hg : gAr r) (e : S r o) => h r o e hg
  refine ⟨⟨xi, f.1.at a1, f.1.n a1 a2, fun o ho => ?_⟩, xj, f.1.at b1, f.1.n b1 b2, fun o ho => ?_⟩
  · obtain ⟨xr, c1, c2, c3, c4⟩ := a3 o ho
    have e1 := (f.2 7001 0 xi a1 (g _ _ (by unfold gAr; omega))).2.2.2
    have e2 := (f.2 6001 o xr c2 (g _ _ (by unfold gAr; omega))).2.2.2
    refine ⟨xr, by rw [e1]; exact c1, f.1.at c2, f.1.n c2 c3, fun i hi => ?_⟩
    obtain ⟨x, q1, q2⟩ := c4 i hi
    exact ⟨x, by rw [e2]; exact q1, f.1.at q2⟩
  · obtain ⟨xr, c1, c2, c3, c4⟩ := b3 o ho
    have e1 := (f.2 10001 0 xj b1 (g _ _ (by unfold gAr; omega))).2.2.2
    have e2 := (f.2 9001 o xr c2 (g _ _ (by unfold gAr; omega))).2.2.2
    refine ⟨xr, by rw [e1]; exact c1, f.1.at c2, f.1.n c2 c3, fun i hi => ?_⟩
    obtain ⟨xs, q1, q2, q3, q4⟩ := c4 i hi
    have e3 := (f.2 8001 _ xs q2 (g _ _ (by unfold gAr; omega))).2.2.2
    refine ⟨xs, by rw [e2]; exact q1, f.1.at q2, f.1.n q2 q3, fun j hj => ?_⟩
    obtain ⟨x, r1, r2⟩ := q4 j hj
    exact ⟨x, by rw [e3]; exact r1, f.1.at r2⟩
theorem XOl.fr {S : Nat → Nat → Prop} {Y Y1 : xY} {V V1 : xVV} {I I1 : xII} {J J1 : xJJ} {A A1 : xVV} {g0 n : Nat} (d : XOl Y V A g0 n) (f : xFr S Y V I J A Y1 V1 I1 J1 A1) (h : ∀ r o, S r o → ¬ gOl r) : XOl Y1 V1 A1 g0 n := by
  obtain ⟨x, l, k1, k2, k3⟩ := d
  exact ⟨x, l, k1.fr f (fun e => h _ _ e (by unfold gOl; omega)) (fun o e => h _ _ e (by unfold gOl; omega)), k2, fun o ho => f.1.at (k3 o ho)⟩
theorem XVe.fr {S : Nat → Nat → Prop} {Y Y1 : xY} {V V1 : xVV} {I I1 : xII} {J J1 : xJJ} {A A1 : xVV} {g0 n : Nat} {p : Nat → Nat} (d : XVe Y V A g0 n p) (f : xFr S Y V I J A Y1 V1 I1 J1 A1) (h : ∀ r o, S r o → ¬ gVe r) : XVe Y1 V1 A1 g0 n p := by
  obtain ⟨x, l, k1, k2, k3⟩ := d
  exact ⟨x, l, k1.fr f (fun e => h _ _ e (by unfold gVe; omega)) (fun o e => h _ _ e (by unfold gVe; omega)), k2, fun o ho => f.1.at (k3 o ho)⟩
theorem XIp.fr {S : Nat → Nat → Prop} {Y Y1 : xY} {V V1 : xVV} {I I1 : xII} {J J1 : xJJ} {A A1 : xVV} {inp : List (Nat × Int32)} (d : XIp Y I inp) (f : xFr S Y V I J A Y1 V1 I1 J1 A1) (h : ∀ r o, S r o → ¬ gIp r) : XIp Y1 I1 inp := by
  obtain ⟨⟨x1, k1⟩, ⟨x2, k2⟩, k3, k4, k5⟩ := d
  have e1 := (f.2 1031 0 x1 k1 (fun e => h _ _ e (by unfold gIp; omega))).2.1
  have e2 := (f.2 1032 0 x2 k2 (fun e => h _ _ e (by unfold gIp; omega))).2.1
  exact ⟨⟨x1, f.1.at k1⟩, ⟨x2, f.1.at k2⟩, f.1.n k1 k3, f.1.n k2 k4, by rw [e1, e2]; exact k5⟩
theorem xSb.fr {S : Nat → Nat → Prop} {Y Y1 : xY} {V V1 : xVV} {I I1 : xII} {J J1 : xJJ} {A A1 : xVV} {r rv x : Nat} {l : List Nat} (d : xSb Y V I r rv x l) (f : xFr S Y V I J A Y1 V1 I1 J1 A1) (h1 : ¬ S r 0) (h2 : ∀ o, ¬ S rv o) : xSb Y1 V1 I1 r rv x l := by
  obtain ⟨k0, ⟨id, xv, k1, k2, k3, k4, k5, k6⟩, k7⟩ := d
  have e := (f.2 r 0 x k0 h1).1
  have e1 := (f.2 rv id xv k2 (h2 id)).2.1
  have en := (f.1.1 rv id xv k2).2.1
  refine ⟨f.1.at k0, ⟨id, xv, by rw [e]; exact k1, f.1.at k2, by rw [en]; exact k3, by rw [en]; exact k4, by rw [en]; exact k5, by rw [e1, en]; exact k6⟩, ?_⟩
  rw [e]
  exact k7
theorem XTx.fr {S : Nat → Nat → Prop} {Y Y1 : xY} {V V1 : xVV} {I I1 : xII} {J J1 : xJJ} {A A1 : xVV} {l : List Nat} (d : XTx Y V I l) (f : xFr S Y V I J A Y1 V1 I1 J1 A1) (h : ∀ r o, S r o → ¬ gTx r) : XTx Y1 V1 I1 l := by
  obtain ⟨x, k⟩ := d
  exact ⟨x, k.fr f (fun e => h _ _ e (by unfold gTx; omega)) (fun o e => h _ _ e (by unfold gTx; omega))⟩
theorem XWr.fr {S : Nat → Nat → Prop} {Y Y1 : xY} {V V1 : xVV} {I I1 : xII} {J J1 : xJJ} {A A1 : xVV} {l : List Nat} (d : XWr Y V I l) (f : xFr S Y V I J A Y1 V1 I1 J1 A1) (h : ∀ r o, S r o → ¬ gWr r) : XWr Y1 V1 I1 l := by
  obtain ⟨x, k⟩ := d
  exact ⟨x, k.fr f (fun e => h _ _ e (by unfold gWr; omega)) (fun o e => h _ _ e (by unfold gWr; omega))⟩
theorem XEx.fr {S : Nat → Nat → Prop} {Y Y1 : xY} {V V1 : xVV} {I I1 : xII} {J J1 : xJJ} {A A1 : xVV} {g0 : Nat} {ex : List (Nat × Nat)} (d : XEx Y V A g0 ex) (f : xFr S Y V I J A Y1 V1 I1 J1 A1) (h : ∀ r o, S r o → ¬ gEx r) : XEx Y1 V1 A1 g0 ex := by
  obtain ⟨x, l, k1, k2, k3⟩ := d
  refine ⟨x, l, k1.fr f (fun e => h _ _ e (by unfold gEx; omega)) (fun o e => h _ _ e (by unfold gEx; omega)), k2, fun j hj => ?_⟩
  obtain ⟨q1, q2, q3⟩ := k3 j hj
  have e := (f.2 23 _ _ q1 (fun e => h _ _ e (by unfold gEx; omega))).1
  exact ⟨f.1.at q1, by rw [e]; exact q2, by rw [e]; exact q3⟩
theorem XLa.fr {S : Nat → Nat → Prop} {Y Y1 : xY} {V V1 : xVV} {I I1 : xII} {J J1 : xJJ} {A A1 : xVV} {ps : Nat} (d : XLa Y V ps) (f : xFr S Y V I J A Y1 V1 I1 J1 A1) (h : ∀ r o, S r o → ¬ gLa r) : XLa Y1 V1 ps := by
  obtain ⟨x, id, xc, k1, k2, k3, k4, k5, k6, k7, k8⟩ := d
  have e := (f.2 3 0 x k1 (fun e => h _ _ e (by unfold gLa; omega))).1
  have en := (f.1.1 1041 id xc k3).2.1
  refine ⟨x, id, xc, f.1.at k1, ?_⟩
  rw [e, en]
  exact ⟨k2, f.1.at k3, k4, k5, k6, k7, k8⟩
/-- the source is taken as aligned: its states are none at all times -/
def alz (al : Nat → Nat → Bool) : Nat → Nat → Bool := fun o i => al o i || o == 0
theorem alz_t {al : Nat → Nat → Bool} {o i : Nat} (h : al o i = true) : alz al o i = true := by unfold alz; rw [h]; rfl
/-- THE RELATION: a state, the ticks counted so far, the address of the whole; fi, ps: what is left for new batches, for the latencies -/
def RepX (a : aA) (tk x0 g0 fi ps : Nat) (Y : xY) (V : xVV) (I : xII) (J : xJJ) (A : xVV) : Prop := XSi Y V x0 a.cf a.nm a.fl tk a.inp.length ∧ XOl Y V A g0 a.n ∧ XOp Y V a.n a.op a.stt ∧ XKs Y V I J a.n a.p a.st (alz a.al) ∧ XIn Y V I J a.n a.p a.ls a.sp a.pt a.hd ∧ XCt Y V a.n a.p a.ct a.al ∧ XOf Y V a.of a.rn ∧ XCh Y V I A a.n a.p a.ch fi ∧ XAr Y A a.n a.p ∧ XVe Y V A g0 a.n a.p ∧ XIp Y I a.inp ∧ XTx Y V I a.txt ∧ XWr Y V I a.wr ∧ XEx Y V A g0 a.ex ∧ XLa Y V ps
theorem RepX.Si {a : aA} {tk x0 g0 fi ps : Nat} {Y : xY} {V : xVV} {I : xII} {J : xJJ} {A : xVV} (H : RepX a tk x0 g0 fi ps Y V I J A) : XSi Y V x0 a.cf a.nm a.fl tk a.inp.length := H.1
theorem RepX.Ol {a : aA} {tk x0 g0 fi ps : Nat} {Y : xY} {V : xVV} {I : xII} {J : xJJ} {A : xVV} (H : RepX a tk x0 g0 fi ps Y V I J A) : XOl Y V A g0 a.n := H.2.1
theorem RepX.Op {a : aA} {tk x0 g0 fi ps : Nat} {Y : xY} {V : xVV} {I : xII} {J : xJJ} {A : xVV} (H : RepX a tk x0 g0 fi ps Y V I J A) : XOp Y V a.n a.op a.stt := H.2.2.1
theorem RepX.Ks {a : aA} {tk x0 g0 fi ps : Nat} {Y : xY} {V : xVV} {I : xII} {J : xJJ} {A : xVV} (H : RepX a tk x0 g0 fi ps Y V I J A) : XKs Y V I J a.n a.p a.st (alz a.al) := H.2.2.2.1
theorem RepX.In {a : aA} {tk x0 g0 fi ps : Nat} {Y : xY} {V : xVV} {I : xII} {J : xJJ} {A : xVV} (H : RepX a tk x0 g0 fi ps Y V I J A) : XIn Y V I J a.n a.p a.ls a.sp a.pt a.hd := H.2.2.2.2.1
theorem RepX.Ct {a : aA} {tk x0 g0 fi ps : Nat} {Y : xY} {V : xVV} {I : xII} {J : xJJ} {A : xVV} (H : RepX a tk x0 g0 fi ps Y V I J A) : XCt Y V a.n a.p a.ct a.al := H.2.2.2.2.2.1
theorem RepX.Of {a : aA} {tk x0 g0 fi ps : Nat} {Y : xY} {V : xVV} {I : xII} {J : xJJ} {A : xVV} (H : RepX a tk x0 g0 fi ps Y V I J A) : XOf Y V a.of a.rn := H.2.2.2.2.2.2.1
theorem RepX.Ch {a : aA} {tk x0 g0 fi ps : Nat} {Y : xY} {V : xVV} {I : xII} {J : xJJ} {A : xVV} (H : RepX a tk x0 g0 fi ps Y V I J A) : XCh Y V I A a.n a.p a.ch fi := H.2.2.2.2.2.2.2.1
theorem RepX.Ar {a : aA} {tk x0 g0 fi ps : Nat} {Y : xY} {V : xVV} {I : xII} {J : xJJ} {A : xVV} (H : RepX a tk x0 g0 fi ps Y V I J A) : XAr Y A a.n a.p := H.2.2.2.2.2.2.2.2.1
theorem RepX.Ve {a : aA} {tk x0 g0 fi ps : Nat} {Y : xY} {V : xVV} {I : xII} {J : xJJ} {A : xVV} (H : RepX a tk x0 g0 fi ps Y V I J A) : XVe Y V A g0 a.n a.p := H.2.2.2.2.2.2.2.2.2.1
theorem RepX.Ip {a : aA} {tk x0 g0 fi ps : Nat} {Y : xY} {V : xVV} {I : xII} {J : xJJ} {A : xVV} (H : RepX a tk x0 g0 fi ps Y V I J A) : XIp Y I a.inp := H.2.2.2.2.2.2.2.2.2.2.1
theorem RepX.Tx {a : aA} {tk x0 g0 fi ps : Nat} {Y : xY} {V : xVV} {I : xII} {J : xJJ} {A : xVV} (H : RepX a tk x0 g0 fi ps Y V I J A) : XTx Y V I a.txt := H.2.2.2.2.2.2.2.2.2.2.2.1
theorem RepX.Wr {a : aA} {tk x0 g0 fi ps : Nat} {Y : xY} {V : xVV} {I : xII} {J : xJJ} {A : xVV} (H : RepX a tk x0 g0 fi ps Y V I J A) : XWr Y V I a.wr := H.2.2.2.2.2.2.2.2.2.2.2.2.1
theorem RepX.Ex {a : aA} {tk x0 g0 fi ps : Nat} {Y : xY} {V : xVV} {I : xII} {J : xJJ} {A : xVV} (H : RepX a tk x0 g0 fi ps Y V I J A) : XEx Y V A g0 a.ex := H.2.2.2.2.2.2.2.2.2.2.2.2.2.1
theorem RepX.La {a : aA} {tk x0 g0 fi ps : Nat} {Y : xY} {V : xVV} {I : xII} {J : xJJ} {A : xVV} (H : RepX a tk x0 g0 fi ps Y V I J A) : XLa Y V ps := H.2.2.2.2.2.2.2.2.2.2.2.2.2.2
