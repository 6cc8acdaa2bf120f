set_option maxRecDepth 100000
theorem resc_eq (a : aA) (o m : Nat) : (((a.resc o m).breaks.cf = a.cf ∧ (a.resc o m).breaks.nm = a.failF.2.nm ∧ (a.resc o m).breaks.fl = a.failF.2.fl ∧ (a.resc o m).breaks.inp = a.inp ∧ (a.resc o m).breaks.txt = a.txt ∧ (a.resc o m).breaks.ex = a.ex ∧ (a.resc o m).breaks.wr = a.wr) ∧ ((a.resc o m).breaks.op = up1 a.op o ((a.op o).1, (a.op o).2.1, (a.op o).2.2.1, m) ∧ (a.resc o m).breaks.stt = a.stt ∧ (a.resc o m).breaks.st = a.failF.2.st ∧ (a.resc o m).breaks.of = a.failF.2.of)) ∧ ((a.resc o m).breaks.ls = (fun _ _ => []) ∧ (a.resc o m).breaks.sp = (fun _ _ _ => false) ∧ (a.resc o m).breaks.pt = (fun _ _ => 0) ∧ (a.resc o m).breaks.hd = (fun _ _ => false) ∧ (a.resc o m).breaks.ch = (fun _ _ _ => c0) ∧ (a.resc o m).breaks.al = (fun _ _ => false)) ∧ ((a.resc o m).breaks.ct 0 = (fun x i => if x = o then 0 else a.ct 2 x i) ∧ (a.resc o m).breaks.ct 2 = (fun x i => if x = o then 0 else a.ct 2 x i)) := ⟨⟨⟨rfl, rfl, rfl, rfl, rfl, rfl, rfl⟩, ⟨rfl, rfl, rfl, rfl⟩⟩, ⟨rfl, rfl, rfl, rfl, rfl, rfl⟩, ⟨rfl, rfl⟩⟩
theorem fail_eq (a : aA) : (a.failF.2.cf = a.cf ∧ a.failF.2.inp = a.inp ∧ a.failF.2.txt = a.txt ∧ a.failF.2.ex = a.ex ∧ a.failF.2.wr = a.wr ∧ a.failF.2.op = a.op ∧ a.failF.2.stt = a.stt ∧ a.failF.2.n = a.n ∧ a.failF.2.p = a.p) ∧ (a.failF.2.ct 0 = a.ct 2 ∧ a.failF.2.ct 2 = a.ct 2 ∧ a.failF.2.al = (fun _ _ => false) ∧ a.failF.2.st 0 = a.st 2) := ⟨⟨rfl, rfl, rfl, rfl, rfl, rfl, rfl, rfl, rfl⟩, ⟨rfl, rfl, rfl, rfl⟩⟩
def rsP (a : aA) (o m : Nat) : Nat → Nat := up1 a.p o m
theorem resc_p (a : aA) (o m : Nat) : (a.resc o m).breaks.p = rsP a o m := by
  funext x
  show (up1 a.op o ((a.op o).1, (a.op o).2.1, (a.op o).2.2.1, m) x).2.2.2 = up1 a.p o m x
  by_cases e : x = o
  · subst e; rw [up1_s, up1_s]
  · rw [up1_n e, up1_n e]; rfl
theorem resc_n (a : aA) (o m : Nat) : (a.resc o m).breaks.n = a.n := rfl
/-- the relation behind a rescaling, from its groups -/
theorem RepX.rsc {a : aA} {o m x0 g0 fi ps tk : Nat} {Y : xY} {V : xVV} {I : xII} {J : xJJ} {A : xVV} (ho : 0 < o) (h6 : a.n ≤ 6) (hp3 : ∀ x, x < a.n → rsP a o m x ≤ 3) (hSi : XSi Y V x0 a.cf a.failF.2.nm a.failF.2.fl tk a.inp.length) (hOl : XOl Y V A g0 a.n) (hOp : XOp Y V a.n (up1 a.op o ((a.op o).1, (a.op o).2.1, (a.op o).2.2.1, m)) a.stt) (hKs : XKs Y V I J a.n a.p a.failF.2.st (alz (fun _ _ => false))) (hIn : XIn Y V I J a.n (rsP a o m) (fun _ _ => []) (fun _ _ _ => false) (fun _ _ => 0) (fun _ _ => false)) (hC : bCQ Y V a.n (rsP a o m) o 100 (a.ct 2) (a.ct 2)) (hOf : XOf Y V a.failF.2.of 0) (hCh : XCh Y V I A a.n (rsP a o m) (fun _ _ _ => ([], [], 0)) fi) (hAr : XAr Y A a.n (rsP a o m)) (hVe : XVe Y V A g0 a.n (rsP a o m)) (hIp : XIp Y I a.inp) (hTx : XTx Y V I a.txt) (hWr : XWr Y V I a.wr) (hEx : XEx Y V A g0 a.ex) (hLa : XLa Y V ps) : RepX (a.resc o m).breaks tk x0 g0 fi ps Y V I J A := by
  have en := resc_n a o m
  have ep := resc_p a o m
  obtain ⟨⟨⟨e1, e2, e3, e4, e5, e6, e7⟩, e8, e9, e10, e11⟩, ⟨i1, i2, i3, i4, i5, i6⟩, c1, c2⟩ := resc_eq a o m
  have er : (a.resc o m).breaks.rn = 0 := rfl
  generalize (a.resc o m).breaks = b at *
  unfold RepX
  rw [e1, e2, e3, e4, e5, e6, e7, e8, e9, e10, e11, en, ep, er, i1, i2, i3, i4, i5, i6]
  refine ⟨hSi, hOl, hOp, fun x hx => ?_, hIn, fun x hx i hi => ?_, hOf, hCh, hAr, hVe, hIp, hTx, hWr, hEx, hLa⟩
  · obtain ⟨xk, q, k, k1, k2⟩ := hKs x hx
    refine ⟨xk, q, k, k1, fun key hk ha => ?_⟩
    by_cases e : x = 0
    · subst e
      rw [show rsP a o m 0 = a.p 0 from up1_n (by omega)] at ha
      exact k2 key hk ha
    · have : alz (fun _ _ => false) x (aHome key (rsP a o m x)) = false := by
        unfold alz
        rw [Bool.false_or]
        exact beq_false_of_ne e
      rw [this] at ha
      cases ha
  · obtain ⟨xc, q, k, k1, k2⟩ := hC x hx i hi
    have q3 := hp3 x hx
    refine ⟨xc, q, k, ?_, ?_, fun ha => absurd ha Bool.false_ne_true⟩
    · rw [c1]
      show q 0 = nI (if x = o then 0 else a.ct 2 x i)
      by_cases e : x = o
      · rw [if_pos e]; exact (k2 (fun c => c.1 e)).1
      · rw [if_neg e]; exact (k1 ⟨e, by omega⟩).1
    · rw [c2]
      show q 2 = nI (if x = o then 0 else a.ct 2 x i)
      by_cases e : x = o
      · rw [if_pos e]; exact (k2 (fun c => c.1 e)).2
      · rw [if_neg e]; exact (k1 ⟨e, by omega⟩).2
