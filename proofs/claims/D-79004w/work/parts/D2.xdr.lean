set_option maxRecDepth 100000
/-- what building makes anew -/
def dR (r : Nat) : Prop := gIn r ∨ r = 101 ∨ r = 2 ∨ r = 6001 ∨ r = 9001 ∨ r = 8001 ∨ r = 10 ∨ r = 41 ∨ r = 5001
def yDr (Y : xY) : xY := (Y.1, fun r o x => yAt Y r o x ∧ ¬ dR r, Y.2.2)
theorem yDr_at (Y : xY) {r : Nat} (h : ¬ dR r) : yAt (yDr Y) r = yAt Y r := by
  funext o x
  exact propext ⟨And.left, fun q => ⟨q, h⟩⟩
theorem yDr_no (Y : xY) {r o x : Nat} (h : dR r) : ¬ yAt (yDr Y) r o x := fun q => q.2 h
theorem PX.dr {Y : xY} {V : xVV} {I : xII} {J : xJJ} {A : xVV} {w0 : xW} {T : xT} {O R : xO} (P : PX Y V I J A w0 T O R) : PX (yDr Y) V I J A w0 T O R := P.less (fun r o x h => ⟨h.1, rfl, rfl⟩)
theorem bN1_dr (Y : xY) : bN1 (yDr Y) 0 0 := ⟨fun r c x h _ => yDr_no Y (by rcases h with h | h; exact Or.inl h; exact Or.inr (Or.inl h)), fun c x _ => yDr_no Y (by unfold dR; omega), fun c x _ => yDr_no Y (by unfold dR; omega)⟩
theorem bN2_dr (Y : xY) : bN2 (yDr Y) 0 0 0 := ⟨fun c x _ => yDr_no Y (by unfold dR; omega), fun c x _ => yDr_no Y (by unfold dR; omega), fun r c x h _ => yDr_no Y (by unfold dR; omega)⟩
theorem xAl.dr {Y : xY} {V : xVV} {A : xVV} {r rd x g0 : Nat} {l : List Nat} (h1 : ¬ dR r) (h2 : ¬ dR rd) (h : xAl Y V A r rd x g0 l) : xAl (yDr Y) V A r rd x g0 l := by
  unfold xAl at h ⊢
  rw [yDr_at Y h1, yDr_at Y h2]
  exact h
theorem XOl.dr {Y : xY} {V : xVV} {A : xVV} {g0 n : Nat} (h : XOl Y V A g0 n) : XOl (yDr Y) V A g0 n := by
  unfold XOl xAl at h ⊢
  rw [yDr_at Y (show ¬ dR 34 by unfold dR gIn; omega), yDr_at Y (show ¬ dR 5002 by unfold dR gIn; omega), yDr_at Y (show ¬ dR 4 by unfold dR gIn; omega)]
  exact h
theorem XOp.dr {Y : xY} {V : xVV} {n : Nat} {op : Nat → Nat × Int32 × Int32 × Nat} {stt : Nat → Nat → Int32} (h : XOp Y V n op stt) : XOp (yDr Y) V n op stt := by
  unfold XOp xOp at h ⊢
  rw [yDr_at Y (show ¬ dR 4 by unfold dR gIn; omega), yDr_at Y (show ¬ dR 1 by unfold dR gIn; omega)]
  exact h
theorem XKs.dr {Y : xY} {V : xVV} {I : xII} {J : xJJ} {n : Nat} {p : Nat → Nat} {st : Nat → Nat → Nat → Option (Int32 × Int32)} {al : Nat → Nat → Bool} (h : XKs Y V I J n p st al) : XKs (yDr Y) V I J n p st al := by
  unfold XKs xVk xKs xBs at h ⊢
  rw [yDr_at Y (show ¬ dR 1 by unfold dR gIn; omega), yDr_at Y (show ¬ dR 6 by unfold dR gIn; omega), yDr_at Y (show ¬ dR 35 by unfold dR gIn; omega), yDr_at Y (show ¬ dR 4001 by unfold dR gIn; omega), yDr_at Y (show ¬ dR 1021 by unfold dR gIn; omega), yDr_at Y (show ¬ dR 1022 by unfold dR gIn; omega)]
  exact h
theorem XOf.dr {Y : xY} {V : xVV} {of : Nat → Nat} {rn : Nat} (h : XOf Y V of rn) : XOf (yDr Y) V of rn := by
  unfold XOf xVc xCn at h ⊢
  rw [yDr_at Y (show ¬ dR 201 by unfold dR gIn; omega), yDr_at Y (show ¬ dR 102 by unfold dR gIn; omega)]
  exact h
theorem XSi.dr {Y : xY} {V : xVV} {x0 : Nat} {cf nm : Nat → Nat} {fl : Int32} {tk il : Nat} (h : XSi Y V x0 cf nm fl tk il) : XSi (yDr Y) V x0 cf nm fl tk il := by
  unfold XSi xPt at h ⊢
  rw [yDr_at Y (show ¬ dR 0 by unfold dR gIn; omega), yDr_at Y (show ¬ dR 33 by unfold dR gIn; omega), yDr_at Y (show ¬ dR 1031 by unfold dR gIn; omega), yDr_at Y (show ¬ dR 1032 by unfold dR gIn; omega), yDr_at Y (show ¬ dR 34 by unfold dR gIn; omega), yDr_at Y (show ¬ dR 201 by unfold dR gIn; omega), yDr_at Y (show ¬ dR 134 by unfold dR gIn; omega), yDr_at Y (show ¬ dR 7001 by unfold dR gIn; omega), yDr_at Y (show ¬ dR 10001 by unfold dR gIn; omega), yDr_at Y (show ¬ dR 3 by unfold dR gIn; omega), yDr_at Y (show ¬ dR 234 by unfold dR gIn; omega), yDr_at Y (show ¬ dR 43 by unfold dR gIn; omega), yDr_at Y (show ¬ dR 143 by unfold dR gIn; omega)]
  exact h
theorem XIp.dr {Y : xY} {I : xII} {inp : List (Nat × Int32)} (h : XIp Y I inp) : XIp (yDr Y) I inp := by
  unfold XIp at h ⊢
  rw [yDr_at Y (show ¬ dR 1031 by unfold dR gIn; omega), yDr_at Y (show ¬ dR 1032 by unfold dR gIn; omega)]
  exact h
theorem XTx.dr {Y : xY} {V : xVV} {I : xII} {l : List Nat} (h : XTx Y V I l) : XTx (yDr Y) V I l := by
  unfold XTx xSb at h ⊢
  rw [yDr_at Y (show ¬ dR 43 by unfold dR gIn; omega), yDr_at Y (show ¬ dR 3001 by unfold dR gIn; omega)]
  exact h
theorem XWr.dr {Y : xY} {V : xVV} {I : xII} {l : List Nat} (h : XWr Y V I l) : XWr (yDr Y) V I l := by
  unfold XWr xSb at h ⊢
  rw [yDr_at Y (show ¬ dR 143 by unfold dR gIn; omega), yDr_at Y (show ¬ dR 3002 by unfold dR gIn; omega)]
  exact h
theorem XEx.dr {Y : xY} {V : xVV} {A : xVV} {g0 : Nat} {ex : List (Nat × Nat)} (h : XEx Y V A g0 ex) : XEx (yDr Y) V A g0 ex := by
  unfold XEx xAl at h ⊢
  rw [yDr_at Y (show ¬ dR 234 by unfold dR gIn; omega), yDr_at Y (show ¬ dR 5004 by unfold dR gIn; omega), yDr_at Y (show ¬ dR 23 by unfold dR gIn; omega)]
  exact h
theorem XLa.dr {Y : xY} {V : xVV} {ps : Nat} (h : XLa Y V ps) : XLa (yDr Y) V ps := by
  unfold XLa at h ⊢
  rw [yDr_at Y (show ¬ dR 3 by unfold dR gIn; omega), yDr_at Y (show ¬ dR 1041 by unfold dR gIn; omega)]
  exact h
theorem xNd.dr {Y : xY} {V : xVV} : ∀ (sp : List (Nat × Nat)), xNd Y V sp → xNd (yDr Y) V sp
  | [], _ => trivial
  | p :: r, h => ⟨by rw [yDr_at Y (show ¬ dR 53 by unfold dR gIn; omega)]; exact h.1, h.2.1, h.2.2.1, xNd.dr r h.2.2.2⟩
theorem xSp.dr {Y : xY} {V : xVV} {x : Nat} {sp : List (Nat × Nat)} (h : xSp Y V x sp) : xSp (yDr Y) V x sp := ⟨by rw [yDr_at Y (show ¬ dR 33 by unfold dR gIn; omega)]; exact h.1, h.2.1, h.2.2.1, h.2.2.2.1, h.2.2.2.2.1.dr, h.2.2.2.2.2⟩
theorem xSB.dr {Y : xY} {V : xVV} {sp : List (Nat × Nat)} (h : xSB Y V sp) : xSB (yDr Y) V sp := fun p hp => by
  have h := h p hp
  unfold xBA at h ⊢
  rw [yDr_at Y (show ¬ dR 11 by unfold dR gIn; omega), yDr_at Y (show ¬ dR 1001 by unfold dR gIn; omega), yDr_at Y (show ¬ dR 1002 by unfold dR gIn; omega), yDr_at Y (show ¬ dR 1003 by unfold dR gIn; omega)]
  exact h
theorem usum_ge (ch : Nat → Nat → Nat → aCh) : 54 ≤ usum ch := by
  have key : ∀ (f : Nat → Nat) (l : List Nat), l.length ≤ (l.map (fun c => 1 + f c)).sum := fun f l => by
    induction l with
    | nil => exact Nat.le_refl 0
    | cons c l ih => rw [List.map_cons, List.sum_cons, List.length_cons]; omega
  have h := key (fun c => (ch (c / 9) (c / 3 % 3) (c % 3)).1.length) (List.range 54)
  rw [List.length_range] at h
  exact h
theorem vl_cg {n : Nat} {p q : Nat → Nat} (h : ∀ o, o < n → q o = p o) : vl n q = vl n p := by
  induction n with
  | zero => rfl
  | succ n ih =>
    rw [← vlI_n, ← vlI_n]
    unfold vlI
    rw [ih (fun o ho => h o (by omega)), h n (by omega)]
/-- sizes that agree where it counts -/
theorem XIn.pc {Y : xY} {V : xVV} {I : xII} {J : xJJ} {n : Nat} {p q : Nat → Nat} {ls : Nat → Nat → List aRec} {sp : Nat → Nat → Nat → Bool} {pt : Nat → Nat → Nat} {hd : Nat → Nat → Bool} (h : XIn Y V I J n q ls sp pt hd) (e : ∀ o, o < n → q o = p o) : XIn Y V I J n p ls sp pt hd := fun o ho i hi => h o ho i (by rw [e o ho]; exact hi)
theorem XCh.pc {Y : xY} {V : xVV} {I : xII} {A : xVV} {n fi : Nat} {p q : Nat → Nat} {ch : Nat → Nat → Nat → aCh} (h : XCh Y V I A n q ch fi) (e : ∀ o, o < n → q o = p o) : XCh Y V I A n p ch fi := by
  obtain ⟨bo, bq, sp, lc, xl, HC, h2⟩ := h
  exact ⟨bo, bq, sp, lc, xl, fun o i j h1 h3 h4 => HC o i j h1 (by rw [e o (by omega)]; exact h3) (by rw [e (o + 1) h1]; exact h4), h2⟩
theorem XAr.pc {Y : xY} {A : xVV} {n : Nat} {p q : Nat → Nat} (h : XAr Y A n q) (e : ∀ o, o < n → q o = p o) : XAr Y A n p := by
  obtain ⟨⟨xi, a1, a2, a3⟩, xj, b1, b2, b3⟩ := h
  refine ⟨⟨xi, a1, a2, fun o ho => ?_⟩, xj, b1, b2, fun o ho => ?_⟩
  · obtain ⟨xr, c1, c2, c3, c4⟩ := a3 o ho
    exact ⟨xr, c1, c2, by rw [← e o ho]; exact c3, fun i hi => c4 i (by rw [e o ho]; exact hi)⟩
  · obtain ⟨xr, c1, c2, c3, c4⟩ := b3 o ho
    refine ⟨xr, c1, c2, by rw [← e o (by omega)]; exact c3, fun i hi => ?_⟩
    obtain ⟨xs, d1, d2, d3, d4⟩ := c4 i (by rw [e o (by omega)]; exact hi)
    exact ⟨xs, d1, d2, by rw [← e (o + 1) ho]; exact d3, fun j hj => d4 j (by rw [e (o + 1) ho]; exact hj)⟩
theorem XVe.pc {Y : xY} {V A : xVV} {g0 n : Nat} {p q : Nat → Nat} (h : XVe Y V A g0 n q) (e : ∀ o, o < n → q o = p o) : XVe Y V A g0 n p := by
  unfold XVe at h ⊢
  rw [vl_cg e] at h
  exact h
/-- sizes -/
def sOk (a : aA) : Prop := 2 ≤ a.n ∧ a.n ≤ 6 ∧ (∀ o, o < a.n → 1 ≤ a.p o ∧ a.p o ≤ 3) ∧ ∀ o, o < a.n → a.kd o ≤ 8
theorem sOk.n2 {a : aA} (h : sOk a) : 2 ≤ a.n := h.1
theorem sOk.n6 {a : aA} (h : sOk a) : a.n ≤ 6 := h.2.1
theorem sOk.p1 {a : aA} (h : sOk a) : ∀ o, o < a.n → 1 ≤ a.p o ∧ a.p o ≤ 3 := h.2.2.1
theorem sOk.kd8 {a : aA} (h : sOk a) {o : Nat} (ho : o < a.n) : a.kd o ≤ 8 := h.2.2.2 o ho
theorem WF.sOk {B : Nat} {a : aA} (h : WF B a) : sOk a := ⟨h.n2, h.n6, h.p1, fun o ho => h.kd8 ho⟩
/-- what building needs -/
theorem RepX.bo {a : aA} {tk x0 g0 fi ps : Nat} {Y : xY} {V : xVV} {I : xII} {J : xJJ} {A : xVV} {w0 : xW} {T : xT} {O R : xO} (P : PX Y V I J A w0 T O R) (H : RepX a tk x0 g0 fi ps Y V I J A) (W : sOk a) : ∃ pl pv po p7 p10 ll lv xl sp, xBo (yDr Y) V A x0 pl pv po p7 p10 g0 a.n (fun o => min (a.p o) 3) ll ∧ xAl (yDr Y) V A 134 5003 pv g0 lv ∧ xSm (yDr Y) V x0 xl (a.cf 0) (a.cf 1) (a.cf 2) ∧ bSp (yDr Y) V xl sp (fun _ => 54) ∧ sp.length ≤ 324 := by
  have hn2 := W.n2
  obtain ⟨h0, ⟨⟨pa0, pb0, pc0⟩, -, -, ⟨pa8, pb8, pc8⟩, ⟨pa9, pb9, pc9⟩, ⟨pa10, pb10, pc10⟩, ⟨pa11, pb11, pc11⟩, ⟨pa12, pb12, pc12⟩, -⟩, ⟨nq1, nq2, nq3, nq4⟩, -⟩ := H.Si
  obtain ⟨xol, ll, Lol, lln, llo⟩ := H.Ol
  obtain rfl : pa8 = xol := P.fn pc8 Lol.1
  obtain ⟨xvl, lv, Lv, -, -⟩ := H.Ve
  obtain rfl : pa10 = xvl := P.fn pc10 Lv.1
  obtain ⟨⟨x7, e7, e7n, -⟩, x10, e10, e10n, -⟩ := H.Ar
  obtain rfl : pa11 = x7 := P.fn pc11 e7
  obtain rfl : pa12 = x10 := P.fn pc12 e10
  obtain ⟨bo, bq, sp, lc, xl, HC, dsp, dsb, hls, hfi⟩ := H.Ch
  obtain rfl : pa0 = xl := P.fn pc0 dsp.1
  have hus := usum_ge a.ch
  obtain ⟨-, hnd, -⟩ := HC 0 0 0 (by omega) (by have := (W.p1 0 (by omega)).1; omega) (by have := (W.p1 (0 + 1) (by omega)).1; omega)
  refine ⟨pa8, pa10, pa9, pa11, pa12, ll, lv, pa0, sp, ⟨?_, ⟨pb8, pb9, pb10, pb11, pb12⟩, ?_, ?_, ⟨?_, e7n⟩, ⟨?_, e10n⟩, Lol.dr (by unfold dR gIn; omega) (by unfold dR gIn; omega), lln, fun o ho => ?_⟩, Lv.dr (by unfold dR gIn; omega) (by unfold dR gIn; omega), ⟨?_, pb0, nq1, nq2, nq3⟩, ⟨dsp.dr, dsb.dr, lCh_sp hnd, fun _ _ => rfl⟩, by omega⟩
  · rw [yDr_at Y (show ¬ dR 0 by unfold dR gIn; omega)]; exact h0
  · rw [yDr_at Y (show ¬ dR 201 by unfold dR gIn; omega)]; exact pc9
  · rw [yDr_at Y (show ¬ dR 134 by unfold dR gIn; omega)]; exact pc10
  · rw [yDr_at Y (show ¬ dR 7001 by unfold dR gIn; omega)]; exact e7
  · rw [yDr_at Y (show ¬ dR 10001 by unfold dR gIn; omega)]; exact e10
  · obtain ⟨xo, k0, k1, k2, k3, k4, k5, ⟨xk, k6, k7⟩, -⟩ := H.Op o ho
    refine ⟨by rw [yDr_at Y (show ¬ dR 4 by unfold dR gIn; omega)]; exact llo o ho, ?_, xk, k6, by rw [yDr_at Y (show ¬ dR 1 by unfold dR gIn; omega)]; exact k7⟩
    show V 4 o 3 = .int (nI (min (a.p o) 3))
    rw [Nat.min_eq_left (W.p1 o ho).2]
    exact k5
  · rw [yDr_at Y (show ¬ dR 0 by unfold dR gIn; omega)]; exact h0
/-! the versions while they are set back -/
def rsV (Y : xY) (V : xVV) (I : xII) (J : xJJ) (n : Nat) (p : Nat → Nat) (k : Nat) : Prop := (∃ x q, xVc Y V 201 102 0 x q ∧ (0 < k → q = fun _ => 0)) ∧ (∀ o, o < n → ∃ x q, xVk Y V I J 1 6 35 4001 1021 1022 o x q) ∧ ∀ o, o < n → ∀ i, i < p o → ∃ x, xVc Y V 101 2 (3 * o + i) x (fun _ => 0)
theorem rsV.fr {Y Y1 : xY} {V V1 : xVV} {I I1 : xII} {J J1 : xJJ} {A A1 : xVV} {S : Nat → Nat → Prop} {n k : Nat} {p : Nat → Nat} (h : rsV Y V I J n p k) (f : xFr S Y V I J A Y1 V1 I1 J1 A1) (hS : ∀ r o, S r o → r = 50) : rsV Y1 V1 I1 J1 n p k := by
  have s := fun (r o : Nat) (hr : r ≠ 50) (e : S r o) => hr (hS r o e)
  obtain ⟨⟨x, q, h1, h2⟩, h3, h4⟩ := h
  refine ⟨⟨x, q, h1.fr f (s _ _ (by decide)) (fun v _ => s _ _ (by decide)), h2⟩, fun o ho => ?_, fun o ho i hi => ?_⟩
  · obtain ⟨x, q, k⟩ := h3 o ho
    exact ⟨x, q, k.fr f (s _ _ (by decide)) (fun r v _ hr => s _ _ (by omega))⟩
  · obtain ⟨x, k⟩ := h4 o ho i hi
    exact ⟨x, k.fr f (s _ _ (by decide)) (fun v _ => s _ _ (by decide))⟩
theorem rsV.O {Y Y1 : xY} {V V1 : xVV} {I I1 : xII} {J J1 : xJJ} {A A1 : xVV} {S : Nat → Nat → Prop} {n k x : Nat} {p : Nat → Nat} (h : rsV Y V I J n p k) (f : xFr (sVc 102 0) Y V I J A Y1 V1 I1 J1 A1) (d : xVc Y1 V1 201 102 0 x (fun _ => 0)) : rsV Y1 V1 I1 J1 n p (k + 1) := by
  obtain ⟨-, h3, h4⟩ := h
  refine ⟨⟨x, _, d, fun _ => rfl⟩, fun o ho => ?_, fun o ho i hi => ?_⟩
  · obtain ⟨x, q, k⟩ := h3 o ho
    exact ⟨x, q, k.fr f (fun e => by unfold sVc at e; omega) (fun r v _ hr e => by unfold sVc at e; omega)⟩
  · obtain ⟨x, k⟩ := h4 o ho i hi
    exact ⟨x, k.fr f (fun e => by unfold sVc at e; omega) (fun v _ e => by unfold sVc at e; omega)⟩
theorem rsV.K {Y Y1 : xY} {V V1 : xVV} {I I1 : xII} {J J1 : xJJ} {A A1 : xVV} {S : Nat → Nat → Prop} {n k o x : Nat} {p : Nat → Nat} {st : Nat → Nat → Option (Int32 × Int32)} (h : rsV Y V I J n p k) (hk : 0 < k) (f : xFr (sVk 35 4001 1021 1022 o) Y V I J A Y1 V1 I1 J1 A1) (d : xVk Y1 V1 I1 J1 1 6 35 4001 1021 1022 o x st) : rsV Y1 V1 I1 J1 n p (k + 1) := by
  obtain ⟨⟨x1, q, h1, h2⟩, h3, h4⟩ := h
  refine ⟨⟨x1, q, h1.fr f (fun e => by unfold sVk at e; omega) (fun v _ e => by unfold sVk at e; omega), fun _ => h2 hk⟩, fun o2 ho => ?_, fun o2 ho i hi => ?_⟩
  · by_cases e : o2 = o
    · subst e; exact ⟨x, st, d⟩
    · obtain ⟨x, q, k⟩ := h3 o2 ho
      exact ⟨x, q, k.fr f (fun e => by unfold sVk at e; omega) (fun r v _ hr e => by unfold sVk at e; omega)⟩
  · obtain ⟨x, k⟩ := h4 o2 ho i hi
    exact ⟨x, k.fr f (fun e => by unfold sVk at e; omega) (fun v _ e => by unfold sVk at e; omega)⟩
theorem rsV.C {Y Y1 : xY} {V V1 : xVV} {I I1 : xII} {J J1 : xJJ} {A A1 : xVV} {S : Nat → Nat → Prop} {n k o i x : Nat} {p : Nat → Nat} (hp : ∀ o, o < n → p o ≤ 3) (h : rsV Y V I J n p k) (hk : 0 < k) (ho : o < n) (hi : i < p o) (f : xFr (sVc 2 (3 * o + i)) Y V I J A Y1 V1 I1 J1 A1) (d : xVc Y1 V1 101 2 (3 * o + i) x (fun _ => 0)) : rsV Y1 V1 I1 J1 n p (k + 1) := by
  obtain ⟨⟨x1, q, h1, h2⟩, h3, h4⟩ := h
  refine ⟨⟨x1, q, h1.fr f (fun e => by unfold sVc at e; omega) (fun v _ e => by unfold sVc at e; omega), fun _ => h2 hk⟩, fun o2 ho2 => ?_, fun o2 ho2 i2 hi2 => ?_⟩
  · obtain ⟨x, q, k⟩ := h3 o2 ho2
    exact ⟨x, q, k.fr f (fun e => by unfold sVc at e; omega) (fun r v _ hr e => by unfold sVc at e; omega)⟩
  · by_cases e : 3 * o2 + i2 = 3 * o + i
    · rw [e]; exact ⟨x, d⟩
    · obtain ⟨x, k⟩ := h4 o2 ho2 i2 hi2
      exact ⟨x, k.fr f (fun e => by unfold sVc at e; omega) (fun v _ e => by unfold sVc at e; omega)⟩
/-- the operators while they are set back -/
def rsO (Y : xY) (V : xVV) (I : xII) (J : xJJ) (n : Nat) (op : Nat → Nat × Int32 × Int32 × Nat) (k : Nat) : Prop := ∀ o, o < n → ∃ x xk st4 q, xOp Y V o x (op o) st4 ∧ V 4 o 4 = .ref xk ∧ xVk Y V I J 1 6 35 4001 1021 1022 o xk q ∧ (o < k → (∀ j, j < 4 → st4 j = 0) ∧ q = fun _ _ => none)
def sOR (o : Nat) : Nat → Nat → Prop := fun r c => (r = 4 ∧ c = o) ∨ sVk 35 4001 1021 1022 o r c
theorem rsO.fr {Y Y1 : xY} {V V1 : xVV} {I I1 : xII} {J J1 : xJJ} {A A1 : xVV} {S : Nat → Nat → Prop} {n k : Nat} {op : Nat → Nat × Int32 × Int32 × Nat} (h : rsO Y V I J n op k) (f : xFr S Y V I J A Y1 V1 I1 J1 A1) (hS : ∀ r o, S r o → r = 50) : rsO Y1 V1 I1 J1 n op k := fun o ho => by
  have s := fun (r o : Nat) (hr : r ≠ 50) (e : S r o) => hr (hS r o e)
  obtain ⟨x, xk, st4, q, h1, h2, h3, h4⟩ := h o ho
  have e := (f.2 4 o x h1.1 (s _ _ (by decide))).1
  exact ⟨x, xk, st4, q, h1.fr f (s _ _ (by decide)), by rw [e]; exact h2, h3.fr f (s _ _ (by decide)) (fun r v _ hr => s _ _ (by omega)), h4⟩
theorem rsO.step {Y Y1 : xY} {V V1 : xVV} {I I1 : xII} {J J1 : xJJ} {A A1 : xVV} {S : Nat → Nat → Prop} {n k x xk : Nat} {op : Nat → Nat × Int32 × Int32 × Nat} {st4 : Nat → Int32} {q : Nat → Nat → Option (Int32 × Int32)} (h : rsO Y V I J n op k) (f : xFr (sOR k) Y V I J A Y1 V1 I1 J1 A1) (h1 : xOp Y1 V1 k x (op k) st4) (h2 : V1 4 k 4 = .ref xk) (h3 : xVk Y1 V1 I1 J1 1 6 35 4001 1021 1022 k xk q) (h4 : (∀ j, j < 4 → st4 j = 0) ∧ q = fun _ _ => none) : rsO Y1 V1 I1 J1 n op (k + 1) := fun o ho => by
  by_cases e : o = k
  · subst e; exact ⟨x, xk, st4, q, h1, h2, h3, fun _ => h4⟩
  · obtain ⟨x, xk, st4, q, h1, h2, h3, h4⟩ := h o ho
    have ne : ∀ r c, sOR k r c → r ≠ 50 := fun r c e => by unfold sOR sVk at e; omega
    have e4 := (f.2 4 o x h1.1 (fun e => by unfold sOR sVk at e; omega)).1
    exact ⟨x, xk, st4, q, h1.fr f (fun e => by unfold sOR sVk at e; omega), by rw [e4]; exact h2, h3.fr f (fun e => by unfold sOR sVk at e; omega) (fun r v _ hr e => by unfold sOR sVk at e; omega), fun hk => h4 (by omega)⟩
