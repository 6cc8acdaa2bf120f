set_option maxRecDepth 100000
/-- all but the lists, the stops, the pointers, the held barriers and the channels -/
def fS (b a : aA) : Prop := b.txt = a.txt ∧ b.inp = a.inp ∧ b.nm = a.nm ∧ b.fl = a.fl ∧ b.cf = a.cf ∧ b.op = a.op ∧ b.stt = a.stt ∧ b.st = a.st ∧ b.ct = a.ct ∧ b.of = a.of ∧ b.al = a.al ∧ b.ex = a.ex ∧ b.wr = a.wr
theorem fS.rf {a : aA} : fS a a := ⟨rfl, rfl, rfl, rfl, rfl, rfl, rfl, rfl, rfl, rfl, rfl, rfl, rfl⟩
theorem fS.n {b a : aA} (h : fS b a) : b.n = a.n := congrFun h.2.2.1 5
theorem fS.p {b a : aA} (h : fS b a) : b.p = a.p := by funext o; unfold aA.p; rw [h.2.2.2.2.2.1]
theorem fS.drop {b a : aA} {o i : Nat} (h : fS b a) : fS (b.drop o i) a := h
theorem drop_ch {b : aA} {o i : Nat} : (b.drop o i).ch = b.ch := rfl
/-- the instances before (o, i) have forgotten -/
def fZ (a b : aA) (o i : Nat) : Prop := ∀ x y, x < a.n → y < a.p x → (x < o ∨ (x = o ∧ y < i)) → b.ls x y = [] ∧ b.sp x y = (fun _ => false) ∧ b.pt x y = 0 ∧ b.hd x y = false
theorem fZ.step {a b : aA} {o i : Nat} (h : fZ a b o i) : fZ a (b.drop o i) o (i + 1) := fun x y hx hy hm => by
  show up2 b.ls o i [] x y = [] ∧ (fun f => if x = o ∧ y = i then false else b.sp x y f) = (fun _ => false) ∧ up2 b.pt o i 0 x y = 0 ∧ up2 b.hd o i false x y = false
  by_cases e : x = o ∧ y = i
  · obtain ⟨rfl, rfl⟩ := e
    rw [up2_s, up2_s, up2_s]
    exact ⟨rfl, by funext f; exact if_pos ⟨rfl, rfl⟩, rfl, rfl⟩
  · rw [up2_n e, up2_n e, up2_n e]
    have q : (fun f => if x = o ∧ y = i then false else b.sp x y f) = b.sp x y := by funext f; exact if_neg e
    rw [q]
    exact h x y hx hy (by omega)
theorem fZ.row {a b : aA} {o : Nat} (h : fZ a b o (a.p o)) : fZ a b (o + 1) 0 := fun x y hx hy hm => by
  by_cases e : x = o
  · subst e; exact h x y hx hy (Or.inr ⟨rfl, hy⟩)
  · exact h x y hx hy (Or.inl (by omega))
/-- the channels before (o, i, j) are empty -/
def kM (f : Nat → Nat → Nat → aCh) (o i j : Nat) : Nat → Nat → Nat → aCh := fun x y z => if x < o ∨ (x = o ∧ (y < i ∨ (y = i ∧ z < j))) then c0 else f x y z
theorem kM_0 (f : Nat → Nat → Nat → aCh) : kM f 0 0 0 = f := by
  funext x y z
  unfold kM
  exact if_neg (by omega)
theorem kM_c {a : aA} {B o i j o' i' j' : Nat} (W : WF B a) (h : ∀ x y z, x + 1 < a.n → y < a.p x → z < a.p (x + 1) → ((x < o ∨ (x = o ∧ (y < i ∨ (y = i ∧ z < j)))) ↔ (x < o' ∨ (x = o' ∧ (y < i' ∨ (y = i' ∧ z < j')))))) : kM a.ch o i j = kM a.ch o' i' j' := by
  funext x y z
  by_cases c : x + 1 < a.n ∧ y < a.p x ∧ z < a.p (x + 1)
  · unfold kM
    have k := h x y z c.1 c.2.1 c.2.2
    by_cases e : x < o ∨ (x = o ∧ (y < i ∨ (y = i ∧ z < j)))
    · rw [if_pos e, if_pos (k.mp e)]
    · rw [if_neg e, if_neg (fun q => e (k.mpr q))]
  · unfold kM
    rw [W.chu x y z c]
    simp
theorem kM_row {a : aA} {B o i : Nat} (W : WF B a) : kM a.ch o i (a.p (o + 1)) = kM a.ch o (i + 1) 0 := kM_c W (fun x y z h1 h2 h3 => by
  constructor
  · intro h; omega
  · intro h
    rcases h with h | ⟨rfl, h⟩
    · exact Or.inl h
    · exact Or.inr ⟨rfl, by omega⟩)
theorem kM_op {a : aA} {B o : Nat} (W : WF B a) : kM a.ch o (a.p o) 0 = kM a.ch (o + 1) 0 0 := kM_c W (fun x y z h1 h2 h3 => by
  constructor
  · intro h; omega
  · intro h
    by_cases e : x = o
    · subst e; exact Or.inr ⟨rfl, by omega⟩
    · exact Or.inl (by omega))
theorem kM_end {a : aA} {B o : Nat} (W : WF B a) (ho : a.n ≤ o + 1) : kM a.ch o 0 0 = fun _ _ _ => c0 := by
  funext x y z
  by_cases c : x + 1 < a.n ∧ y < a.p x ∧ z < a.p (x + 1)
  · unfold kM
    exact if_pos (Or.inl (by omega))
  · unfold kM
    rw [W.chu x y z c]
    simp
theorem kM_at (f : Nat → Nat → Nat → aCh) (o i j : Nat) : kM f o i j o i j = f o i j := by
  unfold kM
  exact if_neg (by omega)
theorem kM_st (f : Nat → Nat → Nat → aCh) (o i j : Nat) : up3 (kM f o i j) o i j c0 = kM f o i (j + 1) := by
  funext x y z
  by_cases e : x = o ∧ y = i ∧ z = j
  · obtain ⟨rfl, rfl, rfl⟩ := e
    rw [up3_s]
    unfold kM
    rw [if_pos (by omega)]
  · rw [up3_n e]
    unfold kM
    by_cases c : x < o ∨ (x = o ∧ (y < i ∨ (y = i ∧ z < j)))
    · rw [if_pos c, if_pos (by omega)]
    · rw [if_neg c, if_neg (by omega)]
theorem kM_le {a : aA} {B : Nat} (W : WF B a) (o i j x y z : Nat) : (kM a.ch o i j x y z).1.length ≤ 4 := by
  have h := W.ch x y z
  have hc := W.cf
  unfold kM
  split
  · exact Nat.zero_le _
  · have := h.1; omega
/-- all but the channels -/
def fC (c b : aA) : Prop := fS c b ∧ c.ls = b.ls ∧ c.sp = b.sp ∧ c.pt = b.pt ∧ c.hd = b.hd
theorem fC.rf {b : aA} : fC b b := ⟨fS.rf, rfl, rfl, rfl, rfl⟩
theorem fC.step {c b : aA} {q : Nat → Nat → Nat → aCh} (h : fC c b) : fC (c.w_ch q) b := h
theorem XKs.lea {Y : xY} {V : xVV} {I : xII} {J : xJJ} {n : Nat} {p : Nat → Nat} {st : Nat → Nat → Nat → Option (Int32 × Int32)} {al al' : Nat → Nat → Bool} (h : XKs Y V I J n p st al) (e : ∀ o i, al' o i = true → al o i = true) : XKs Y V I J n p st al' := fun o ho => by
  obtain ⟨x, q, k, k1, k2⟩ := h o ho
  exact ⟨x, q, k, k1, fun key hk ha => k2 key hk (e _ _ ha)⟩
theorem XCt.lea {Y : xY} {V : xVV} {n : Nat} {p : Nat → Nat} {ct : Nat → Nat → Nat → Nat} {al al' : Nat → Nat → Bool} (h : XCt Y V n p ct al) (e : ∀ o i, al' o i = true → al o i = true) : XCt Y V n p ct al' := fun o ho i hi => by
  obtain ⟨x, q, k, k0, k2, k1⟩ := h o ho i hi
  exact ⟨x, q, k, k0, k2, fun ha => k1 (e _ _ ha)⟩
theorem XIn.cg {Y : xY} {V : xVV} {I : xII} {J : xJJ} {n : Nat} {p : Nat → Nat} {ls ls' : Nat → Nat → List aRec} {sp sp' : Nat → Nat → Nat → Bool} {pt pt' : Nat → Nat → Nat} {hd hd' : Nat → Nat → Bool} (h : XIn Y V I J n p ls sp pt hd) (e : ∀ o i, o < n → i < p o → ls' o i = ls o i ∧ sp' o i = sp o i ∧ pt' o i = pt o i ∧ hd' o i = hd o i) : XIn Y V I J n p ls' sp' pt' hd' := fun o ho i hi => by
  obtain ⟨e1, e2, e3, e4⟩ := e o i ho hi
  rw [e1, e2, e3, e4]
  exact h o ho i hi
theorem alz_f {al : Nat → Nat → Bool} : ∀ o i, alz (fun _ _ => false) o i = true → alz al o i = true := fun o i h => by
  unfold alz at h ⊢
  have h0 : (o == 0) = true := h
  rw [h0]
  exact Bool.or_true _
/-- the relation at another state, the same where it is looked at -/
theorem alz_mono {al al' : Nat → Nat → Bool} (e : ∀ o i, al' o i = true → al o i = true) : ∀ o i, alz al' o i = true → alz al o i = true := fun o i h => by
  unfold alz at h ⊢
  rw [Bool.or_eq_true] at h ⊢
  exact h.imp_left (e o i)
theorem RepX.cgr {a b : aA} {tk x0 g0 fi ps : Nat} {Y : xY} {V : xVV} {I : xII} {J : xJJ} {A : xVV} (H : RepX b tk x0 g0 fi ps Y V I J A) (e1 : a.cf = b.cf) (e2 : a.nm = b.nm) (e3 : a.fl = b.fl) (e4 : a.inp = b.inp) (e5 : a.op = b.op) (e6 : a.stt = b.stt) (e7 : ∀ v o key, v = 0 ∨ v = 2 → o < b.n → key < 16 → a.st v o key = b.st v o key) (e7b : ∀ o key, o < b.n → key < 16 → alz a.al o (aHome key (b.p o)) = true → a.st 1 o key = b.st 1 o key) (e8 : ∀ o i, a.al o i = true → b.al o i = true) (e9 : ∀ o i, o < b.n → i < b.p o → a.ls o i = b.ls o i ∧ a.sp o i = b.sp o i ∧ a.pt o i = b.pt o i ∧ a.hd o i = b.hd o i) (e10 : ∀ v o i, v < 3 → o < b.n → i < b.p o → a.ct v o i = b.ct v o i) (e11 : ∀ v, v = 0 ∨ v = 2 → a.of v = b.of v) (e11b : 0 < b.rn → a.of 1 = b.of 1) (e12 : a.ch = b.ch) (e13 : a.txt = b.txt) (e14 : a.wr = b.wr) (e15 : a.ex = b.ex) : RepX a tk x0 g0 fi ps Y V I J A := by
  have en : a.n = b.n := congrFun e2 5
  have ep : a.p = b.p := by funext o; unfold aA.p; rw [e5]
  have er : a.rn = b.rn := congrFun e2 2
  unfold RepX
  rw [e1, e2, e3, e4, e5, e6, e12, e13, e14, e15, en, ep, er]
  refine ⟨H.Si, H.Ol, H.Op, fun o ho => ?_, H.In.cg e9, (H.Ct.cg e10).lea e8, ?_, H.Ch, H.Ar, H.Ve, H.Ip, H.Tx, H.Wr, H.Ex, H.La⟩
  · obtain ⟨x, q, k, k1, k2⟩ := H.Ks o ho
    exact ⟨x, q, k, fun key hk => ⟨(k1 key hk).1.trans (e7 0 o key (Or.inl rfl) ho hk).symm, (k1 key hk).2.trans (e7 2 o key (Or.inr rfl) ho hk).symm⟩, fun key hk ha => (k2 key hk (alz_mono e8 _ _ ha)).trans (e7b o key ho hk ha).symm⟩
  · obtain ⟨x, q, k, k0, k2, k1⟩ := H.Of
    exact ⟨x, q, k, by rw [e11 0 (Or.inl rfl)]; exact k0, by rw [e11 2 (Or.inr rfl)]; exact k2, fun h => by rw [e11b h]; exact k1 h⟩
theorem fail_end {a b c a0 : aA} {tk x0 g0 fi ps Bd : Nat} {Y : xY} {V : xVV} {I : xII} {J : xJJ} {A : xVV} (W : WF Bd a) (h0 : a0 = ((a.w_fl (a.fl + nI 1)).w_nm (up1 a.nm 2 0)).w_al (fun _ _ => false)) (s1 : fS b a0) (z : fZ a b a.n 0) (s2 : fC c b) (hc : c.ch = fun _ _ _ => c0) (H : RepX (c.vst 0 2 (fun _ => true) (fun _ _ => true) true) tk x0 g0 fi ps Y V I J A) : RepX a.failF.2 tk x0 g0 fi ps Y V I J A := by
  obtain ⟨⟨d1, d2, d3, d4, d5, d6, d7, d8, d9, d10, d11, d12, d13⟩, g1, g2, g3, g4⟩ := s2
  obtain ⟨f1, f2, f3, f4, f5, f6, f7, f8, f9, f10, f11, f12, f13⟩ := s1
  have en : c.n = a.n := by show c.nm 5 = a.nm 5; rw [d3, f3, h0]; rfl
  have ep : c.p = a.p := by funext o; unfold aA.p; rw [d6, f6, h0]; rfl
  have q8 : c.st = a.st := by rw [d8, f8, h0]; rfl
  have q9 : c.ct = a.ct := by rw [d9, f9, h0]; rfl
  have q10 : c.of = a.of := by rw [d10, f10, h0]; rfl
  have q3 : c.nm = up1 a.nm 2 0 := by rw [d3, f3, h0]; rfl
  have k1 := aA.vst_st c 0 2 (fun _ => true) (fun _ _ => true) true
  have k2 := aA.vst_ct c 0 2 (fun _ => true) (fun _ _ => true) true
  have k3 := aA.vst_of c 0 2 (fun _ => true) (fun _ _ => true) true
  refine H.cgr ?_ ?_ ?_ ?_ ?_ ?_ (fun v o key hv ho hk => ?_) (fun o key ho hk ha => ?_) (fun o i h => ?_) (fun o i ho hi => ?_) (fun v o i hv ho hi => ?_) (fun v hv => ?_) (fun h => ?_) ?_ ?_ ?_ ?_
  · show a.cf = c.cf; rw [d5, f5, h0]; rfl
  · show up1 a.nm 2 0 = c.nm; exact q3.symm
  · show a.fl + nI 1 = c.fl; rw [d4, f4, h0]; rfl
  · show a.inp = c.inp; rw [d2, f2, h0]; rfl
  · show a.op = c.op; rw [d6, f6, h0]; rfl
  · show a.stt = c.stt; rw [d7, f7, h0]; rfl
  · rw [k1]
    show (if v = 0 then a.st 2 else if v = 1 then (fun _ _ => none) else a.st v) o key = (if v = 0 ∧ true = true then c.st 2 o key else c.st v o key)
    rw [q8]
    rcases hv with rfl | rfl
    · rfl
    · rfl
  · rw [k1]
    show none = (if 1 = 0 ∧ true = true then c.st 2 o key else c.st 1 o key)
    rw [q8, if_neg (fun q => absurd q.1 (by decide))]
    have h0 : o = 0 := by
      have ha : (false || o == 0) = true := ha
      simpa using ha
    subst h0
    exact ((W.st 1 0 key).1 (by rw [W.k0]; rfl)).symm
  · cases h
  · have ho' : o < a.n := by have : o < c.n := ho; omega
    have hi' : i < a.p o := by have q : i < c.p o := hi; rw [ep] at q; exact q
    obtain ⟨z1, z2, z3, z4⟩ := z o i ho' hi' (Or.inl ho')
    refine ⟨?_, ?_, ?_, ?_⟩
    · show [] = c.ls o i; rw [g1, z1]
    · show (fun _ => false) = c.sp o i; rw [g2, z2]
    · show 0 = c.pt o i; rw [g3, z3]
    · show false = c.hd o i; rw [g4, z4]
  · rw [k2]
    show (if v = 0 then a.ct 2 else a.ct v) o i = (if v = 0 ∧ true = true then c.ct 2 o i else c.ct v o i)
    rw [q9]
    by_cases e : v = 0
    · rw [if_pos e, if_pos ⟨e, rfl⟩]
    · rw [if_neg e, if_neg (fun q => e q.1)]
  · rw [k3]
    show (if v = 0 then a.of 2 else if v = 1 then 0 else a.of v) = (if v = 0 ∧ true = true then c.of 2 else c.of v)
    rw [q10]
    rcases hv with rfl | rfl
    · rfl
    · rfl
  · have h : 0 < c.nm 2 := h
    rw [q3] at h
    exact absurd h (Nat.lt_irrefl 0)
  · show (fun _ _ _ => c0) = c.ch; rw [hc]
  · show a.txt = c.txt; rw [d1, f1, h0]; rfl
  · show a.wr = c.wr; rw [d13, f13, h0]; rfl
  · show a.ex = c.ex; rw [d12, f12, h0]; rfl
theorem c_X0_fail {G : xG} {T : xT} {O R : xO} {Y : xY} {V : xVV} {I : xII} {J : xJJ} {A : xVV} {w0 : xW} {a : aA} {tk x0 g0 fi ps : Nat} {Bd : Nat} (P : PX Y V I J A w0 T O R) (H : RepX a tk x0 g0 fi ps Y V I J A) (W : WF Bd a) (h0q : yAt Y 0 0 x0) : xCtr G yX0_fail cX0_fail 10 (some Jvm.ClassFile.FieldType.int) 9 197 301 904 [.ref x0] (T, O, R) (xA (fun v T2 O2 R2 => v = .int a.failF.1 ∧ xR w0 Y a.failF.2 tk x0 g0 fi ps T2 O2 R2)) := by
  refine xCtr.of (by decide +kernel) (Nat.le_of_ble_eq_true rfl) ?_
  intro Z B E hz hnm
  change xV Z (T, O, R) 0 [(0, .ref x0)] [] 301 904
  have hn6 := W.n6
  have hn2 := W.n2
  have hcf := W.cf
  have hp3 : ∀ o, o < a.n → a.p o ≤ 3 := fun o ho => (W.p1 o ho).2
  obtain ⟨h0, ⟨⟨pa0, pb0, pc0⟩, ⟨pa5, pb5, pc5⟩, ⟨pa6, pb6, pc6⟩, ⟨pa8, pb8, pc8⟩, ⟨pa9, pb9, pc9⟩, ⟨pa10, pb10, pc10⟩, ⟨pa11, pb11, pc11⟩, ⟨pa12, pb12, pc12⟩, ⟨pa13, pb13, pc13⟩, ⟨pa20, pb20, pc20⟩, ⟨pa21, pb21, pc21⟩, ⟨pa22, pb22, pc22⟩⟩, ⟨nq1, nq2, nq3, nq4⟩, nq7, nq14, nq15, nq16, nq17, nq18, nq19⟩ := H.Si
  refine g_aload_n B 0 dX0_fail_0 rfl ?_
  refine g_dup B dX0_fail_1 rfl ?_
  refine x_get B P h0q (by decide) rfl F_X0_219_0 (by decide) nq18 dX0_fail_2 ?_
  refine g_iconst (v := nI 1) B dX0_fail_5 (by decide) ?_
  refine g_iadd B dX0_fail_6 ?_
  refine x_put (q := (RX0, TX0, 23)) B P h0q (by decide) rfl F_X0_219_0 rfl rfl (tyX0_ok 18 (by decide)) rfl rfl dX0_fail_7 (fun O1 V1 hs1 hk1 P1 => ?_)
  refine g_aload_n B 0 dX0_fail_10 rfl ?_
  refine g_iconst (v := nI 0) B dX0_fail_11 (by decide) ?_
  refine x_put (q := (RX0, TX0, 23)) B P1 h0q (by decide) rfl F_X0_213_0 rfl rfl (tyX0_ok 16 (by decide)) rfl rfl dX0_fail_12 (fun O2 V2 hs2 hk2 P2 => ?_)
  have fz : xFr (s1 0 0) Y V I J A Y V2 I J A := ((xFr.uV (S := s1 0 0) (r := 0) (o := 0) ⟨rfl, rfl⟩ hs1 hk1).tr (xFr.uV (S := s1 0 0) (r := 0) (o := 0) ⟨rfl, rfl⟩ hs2 hk2))
  have hX : XSi Y V2 x0 a.cf (up1 a.nm 2 0) (a.fl + nI 1) tk a.inp.length := ⟨h0, ⟨⟨pa0, (rdK hs2 (by decide) (rdK hs1 (by decide) pb0)), pc0⟩, ⟨pa5, (rdK hs2 (by decide) (rdK hs1 (by decide) pb5)), pc5⟩, ⟨pa6, (rdK hs2 (by decide) (rdK hs1 (by decide) pb6)), pc6⟩, ⟨pa8, (rdK hs2 (by decide) (rdK hs1 (by decide) pb8)), pc8⟩, ⟨pa9, (rdK hs2 (by decide) (rdK hs1 (by decide) pb9)), pc9⟩, ⟨pa10, (rdK hs2 (by decide) (rdK hs1 (by decide) pb10)), pc10⟩, ⟨pa11, (rdK hs2 (by decide) (rdK hs1 (by decide) pb11)), pc11⟩, ⟨pa12, (rdK hs2 (by decide) (rdK hs1 (by decide) pb12)), pc12⟩, ⟨pa13, (rdK hs2 (by decide) (rdK hs1 (by decide) pb13)), pc13⟩, ⟨pa20, (rdK hs2 (by decide) (rdK hs1 (by decide) pb20)), pc20⟩, ⟨pa21, (rdK hs2 (by decide) (rdK hs1 (by decide) pb21)), pc21⟩, ⟨pa22, (rdK hs2 (by decide) (rdK hs1 (by decide) pb22)), pc22⟩⟩, ⟨(rdK hs2 (by decide) (rdK hs1 (by decide) nq1)), (rdK hs2 (by decide) (rdK hs1 (by decide) nq2)), (rdK hs2 (by decide) (rdK hs1 (by decide) nq3)), (rdK hs2 (by decide) (rdK hs1 (by decide) nq4))⟩, (rdK hs2 (by decide) (rdK hs1 (by decide) nq7)), (rdK hs2 (by decide) (rdK hs1 (by decide) nq14)), (rdK hs2 (by decide) (rdK hs1 (by decide) nq15)), (rdS hs2), (fun hr17 => absurd (show 0 < 0 from hr17) (Nat.lt_irrefl 0)), (rdK hs2 (by decide) (rdS hs1)), (rdK hs2 (by decide) (rdK hs1 (by decide) nq19))⟩
  have hOf : XOf Y V a.of 0 := by obtain ⟨x, q, k, h0, h2, -⟩ := H.Of; exact ⟨x, q, k, h0, h2, fun h => absurd h (by decide)⟩
  have H0 : RepX (((a.w_fl (a.fl + nI 1)).w_nm (up1 a.nm 2 0)).w_al (fun _ _ => false)) tk x0 g0 fi ps Y V2 I J A := ⟨hX, H.Ol.fr fz (fun r o e q => by unfold s1 at e; unfold gOl at q; omega), H.Op.fr fz (fun r o e q => by unfold s1 at e; unfold gOp at q; omega), (H.Ks.fr fz (fun r o e q => by unfold s1 at e; unfold gKs at q; omega)).lea alz_f, H.In.fr fz (fun r o e q => by unfold s1 at e; unfold gIn at q; omega), (H.Ct.fr fz (fun r o e q => by unfold s1 at e; unfold gCt at q; omega)).lea (fun _ _ h => by cases h), hOf.fr fz (fun r o e q => by unfold s1 at e; unfold gOf at q; omega), H.Ch.fr fz (fun r o e q => by unfold s1 at e; unfold gCh at q; omega), H.Ar.fr fz (fun r o e q => by unfold s1 at e; unfold gAr at q; omega), H.Ve.fr fz (fun r o e q => by unfold s1 at e; unfold gVe at q; omega), H.Ip.fr fz (fun r o e q => by unfold s1 at e; unfold gIp at q; omega), H.Tx.fr fz (fun r o e q => by unfold s1 at e; unfold gTx at q; omega), H.Wr.fr fz (fun r o e q => by unfold s1 at e; unfold gWr at q; omega), H.Ex.fr fz (fun r o e q => by unfold s1 at e; unfold gEx at q; omega), H.La.fr fz (fun r o e q => by unfold s1 at e; unfold gLa at q; omega)⟩
  obtain ⟨a0, ha0⟩ : ∃ b, b = ((a.w_fl (a.fl + nI 1)).w_nm (up1 a.nm 2 0)).w_al (fun _ _ => false) := ⟨_, rfl⟩
  rw [← ha0] at H0
  have a0_n : a0.n = a.n := by rw [ha0]; rfl
  have a0_p : a0.p = a.p := by rw [ha0]; rfl
  have a0_ch : a0.ch = a.ch := by rw [ha0]; rfl
  have a0_cf : a0.cf = a.cf := by rw [ha0]; rfl
  have a0_nm : a0.nm = up1 a.nm 2 0 := by rw [ha0]; rfl
  refine g_iconst (v := nI 0) B dX0_fail_15 (by decide) ?_
  refine g_istore_n (lv2 := [(1, _), (0, _)]) B dX0_fail_16 (by decide) rfl ?_
  have L : ∀ (d : Nat) (o : Nat) (b : aA) (Y1 : xY) (V1 : xVV) (I1 : xII) (J1 : xJJ) (A1 : xVV) (T1 : xT) (O1 R1 : xO), d = a.n - o → PX Y1 V1 I1 J1 A1 w0 T1 O1 R1 → (o ≤ a.n) → (RepX b tk x0 g0 fi ps Y1 V1 I1 J1 A1) → (fS b a0) → (b.ch = a.ch) → (fZ a b o 0) → (yLe Y Y1) → xV Z (T1, O1, R1) 17 [(1, .int (nI o)), (0, .ref x0)] [] 301 904 := by
    intro d
    induction d using Nat.strongRecOn with
    | _ d ih =>
      intro o b Y1 V1 I1 J1 A1 T1 O1 R1 hd P1 hok H1 sB hcA zB le1
      have hb0 := le1.at h0q
      have b_n : b.n = a.n := sB.n.trans a0_n
      have b_p : b.p = a.p := sB.p.trans a0_p
      have b_cf : b.cf = a.cf := sB.2.2.2.2.1.trans a0_cf
      obtain ⟨h0, ⟨⟨pa0, pb0, pc0⟩, ⟨pa5, pb5, pc5⟩, ⟨pa6, pb6, pc6⟩, ⟨pa8, pb8, pc8⟩, ⟨pa9, pb9, pc9⟩, ⟨pa10, pb10, pc10⟩, ⟨pa11, pb11, pc11⟩, ⟨pa12, pb12, pc12⟩, ⟨pa13, pb13, pc13⟩, ⟨pa20, pb20, pc20⟩, ⟨pa21, pb21, pc21⟩, ⟨pa22, pb22, pc22⟩⟩, ⟨nq1, nq2, nq3, nq4⟩, nq7, nq14, nq15, nq16, nq17, nq18, nq19⟩ := H1.Si
      obtain ⟨xol, ll, Lol, lln, llo⟩ := H1.Ol
      obtain rfl : pa8 = xol := P1.fn pc8 Lol.1
      have lln : ll.length = a.n := by rw [lln]; exact b_n
      obtain ⟨⟨xi, e1, e2, e3⟩, -⟩ := H1.Ar
      obtain rfl : pa11 = xi := P1.fn pc11 e1
      refine g_iload_n B 0 dX0_fail_17 rfl ?_
      refine g_aload_n B 1 dX0_fail_18 rfl ?_
      refine x_get B P1 hb0 (by decide) rfl F_X0_115_0 (by decide) pb8 dX0_fail_19 ?_
      obtain ⟨n101, u101, ty101⟩ := P1.ty pc8 (by decide) rfl
      refine g_callV (rest := [_]) B M_J4_size q502 q503 q504 ty101 rfl (c_J4_size (r := 34) (rd := 5002) P1 (by decide) rfl Lol) rfl rfl (Nat.le_of_ble_eq_true rfl) (Nat.le_of_ble_eq_true rfl) (Nat.le_of_ble_eq_true rfl) (Nat.le_refl _) (Nat.le_refl _) dX0_fail_22 (xkA (fun v101 T101 O101 R101 le101 p101 => ?_))
      obtain ⟨rfl, eT101, eO101, eR101⟩ := p101
      obtain rfl := eT101.symm
      obtain rfl := eO101.symm
      obtain rfl := eR101.symm
      refine g_icmp_geN (tgt := 70) B (by omega) (by omega) dX0_fail_25 (by decide) (fun c102 => ?_) (fun c102 => ?_)
      · have eo : o = a.n := by omega
        rw [eo] at zB
        have hk0 : b.ch = kM a.ch 0 0 0 := hcA.trans (kM_0 _).symm
        refine g_iconst (v := nI 0) B dX0_fail_70 (by decide) ?_
        refine g_istore_n (lv2 := [(1, _), (0, _)]) B dX0_fail_71 (by decide) rfl ?_
        refine xV.room (kc' := 36 * (a.n - 0) + 1) (ks' := 108 * (a.n - 0) + 4) (by omega) (by omega) ?_
        have LD : ∀ (dD : Nat) (oD : Nat) (c : aA) (Y1D : xY) (V1D : xVV) (I1D : xII) (J1D : xJJ) (A1D : xVV) (T1D : xT) (O1D R1D : xO), dD = a.n - oD → PX Y1D V1D I1D J1D A1D w0 T1D O1D R1D → (oD + 1 ≤ a.n) → (RepX c tk x0 g0 fi ps Y1D V1D I1D J1D A1D) → (fC c b) → (c.ch = kM a.ch oD 0 0) → (yLe Y Y1D) → xV Z (T1D, O1D, R1D) 72 [(1, .int (nI oD)), (0, .ref x0)] [] (36 * (a.n - oD) + 1) (108 * (a.n - oD) + 4) := by
          intro dD
          induction dD using Nat.strongRecOn with
          | _ dD ihD =>
            intro oD c Y1D V1D I1D J1D A1D T1D O1D R1D hdD P1D hoDk H1D sD hD le1D
            have hbD := le1D.at h0q
            have sD0 : fS c a0 := by obtain ⟨⟨d1, d2, d3, d4, d5, d6, d7, d8, d9, d10, d11, d12, d13⟩, -⟩ := sD; obtain ⟨f1, f2, f3, f4, f5, f6, f7, f8, f9, f10, f11, f12, f13⟩ := sB; exact ⟨d1.trans f1, d2.trans f2, d3.trans f3, d4.trans f4, d5.trans f5, d6.trans f6, d7.trans f7, d8.trans f8, d9.trans f9, d10.trans f10, d11.trans f11, d12.trans f12, d13.trans f13⟩
            have c_n : c.n = a.n := sD0.n.trans a0_n
            have c_p : c.p = a.p := sD0.p.trans a0_p
            have c_cf : c.cf = a.cf := sD0.2.2.2.2.1.trans a0_cf
            obtain ⟨h0, ⟨⟨pa0, pb0, pc0⟩, ⟨pa5, pb5, pc5⟩, ⟨pa6, pb6, pc6⟩, ⟨pa8, pb8, pc8⟩, ⟨pa9, pb9, pc9⟩, ⟨pa10, pb10, pc10⟩, ⟨pa11, pb11, pc11⟩, ⟨pa12, pb12, pc12⟩, ⟨pa13, pb13, pc13⟩, ⟨pa20, pb20, pc20⟩, ⟨pa21, pb21, pc21⟩, ⟨pa22, pb22, pc22⟩⟩, ⟨nq1, nq2, nq3, nq4⟩, nq7, nq14, nq15, nq16, nq17, nq18, nq19⟩ := H1D.Si
            obtain ⟨xol, ll, Lol, lln, llo⟩ := H1D.Ol
            obtain rfl : pa8 = xol := P1D.fn pc8 Lol.1
            have lln : ll.length = a.n := by rw [lln]; exact c_n
            obtain ⟨-, xj, b1, b2, b3⟩ := H1D.Ar
            obtain rfl : pa12 = xj := P1D.fn pc12 b1
            refine g_iload_n B 0 dX0_fail_72 rfl ?_
            refine g_iconst (v := nI 1) B dX0_fail_73 (by decide) ?_
            refine g_iaddN B dX0_fail_74 ?_
            refine g_aload_n B 1 dX0_fail_75 rfl ?_
            refine x_get B P1D hbD (by decide) rfl F_X0_115_0 (by decide) pb8 dX0_fail_76 ?_
            obtain ⟨n101, u101, ty101⟩ := P1D.ty pc8 (by decide) rfl
            refine g_callV (kc2 := (36 * (a.n - oD) + 1)) (ks2 := (108 * (a.n - oD) + 4)) (rest := [_]) B M_J4_size q502 q503 q504 ty101 rfl (c_J4_size (r := 34) (rd := 5002) P1D (by decide) rfl Lol) rfl rfl (Nat.le_of_ble_eq_true rfl) (Nat.le_of_ble_eq_true rfl) (Nat.le_of_ble_eq_true rfl) (Nat.le_refl _) (Nat.le_refl _) dX0_fail_79 (xkA (fun v101 T101 O101 R101 le101 p101 => ?_))
            obtain ⟨rfl, eT101, eO101, eR101⟩ := p101
            obtain rfl := eT101.symm
            obtain rfl := eO101.symm
            obtain rfl := eR101.symm
            refine g_icmp_geN (tgt := 159) B (by omega) (by omega) dX0_fail_82 (by decide) (fun c102 => ?_) (fun c102 => ?_)
            · rw [kM_end W (by omega)] at hD
              have hp13 : ∀ o, o < c.n → 1 ≤ c.p o ∧ c.p o ≤ 3 := by rw [c_n, c_p]; exact W.p1
              obtain ⟨xl, lv, v1, v2, v3⟩ := H1D.Ve
              obtain rfl : pa10 = xl := P1D.fn pc10 v1.1
              refine xV.room (kc' := 1) (ks' := 4) (by omega) (by omega) ?_
              refine g_aload_n B 1 dX0_fail_159 rfl ?_
              refine x_get B P1D hbD (by decide) rfl F_X0_127_0 (by decide) pb10 dX0_fail_160 ?_
              refine g_callS (kc2 := 0) (ks2 := 0) (rest := []) B M_X0_restoreAll q1842 q1843 (c_X0_restoreAll P1D H1D (Or.inr ⟨rfl, rfl⟩) hp13 v1 v2 v3) rfl rfl (Nat.le_of_ble_eq_true rfl) (Nat.le_of_ble_eq_true rfl) (Nat.le_of_ble_eq_true rfl) (by decide) (by decide) dX0_fail_163 (xkN (fun T103 O103 R103 le103 p103 => ?_))
              obtain ⟨Y103, V103, I103, J103, A103, P103, l103, H103⟩ := p103
              have HF := fail_end W ha0 sB zB sD hD H103
              have hb9 := l103.at hbD
              obtain ⟨h0f, ⟨⟨pa0f, pb0f, pc0f⟩, ⟨pa5f, pb5f, pc5f⟩, ⟨pa6f, pb6f, pc6f⟩, ⟨pa8f, pb8f, pc8f⟩, ⟨pa9f, pb9f, pc9f⟩, ⟨pa10f, pb10f, pc10f⟩, ⟨pa11f, pb11f, pc11f⟩, ⟨pa12f, pb12f, pc12f⟩, ⟨pa13f, pb13f, pc13f⟩, ⟨pa20f, pb20f, pc20f⟩, ⟨pa21f, pb21f, pc21f⟩, ⟨pa22f, pb22f, pc22f⟩⟩, ⟨nq1f, nq2f, nq3f, nq4f⟩, nq7f, nq14f, nq15f, nq16f, nq17f, nq18f, nq19f⟩ := HF.Si
              refine g_aload_n B 1 dX0_fail_166 rfl ?_
              refine x_get B P103 hb9 (by decide) rfl F_X0_210_0 (by decide) nq15f dX0_fail_167 ?_
              refine g_iret B E rfl rfl dX0_fail_170 ?_
              exact ⟨_, rfl, rfl, _, _, _, _, _, P103, le1D.tr l103, HF⟩
            · have hoD : oD + 1 < a.n := by omega
              obtain ⟨xr, c1, c2, c3, c4⟩ := b3 oD (by rw [c_n]; exact hoD)
              rw [c_p] at c3
              have hpo := W.p1 oD (by omega)
              have hpo1 := W.p1 (oD + 1) hoD
              obtain ⟨md, hmd⟩ : ∃ md, a.n - oD = md + 1 := ⟨a.n - oD - 1, by omega⟩
              refine xV.room (kc' := 36 * md + 12 * a.p oD + 1) (ks' := 108 * md + 36 * a.p oD + 4) (by omega) (by omega) ?_
              refine g_aload_n B 1 dX0_fail_85 rfl ?_
              refine x_get B P1D hbD (by decide) rfl F_X0_138_0 (by decide) pb12 dX0_fail_86 ?_
              refine g_iload_n B 0 dX0_fail_89 rfl ?_
              refine x_ldA B P1D pc12 (by decide) rfl rfl rfl b2 (by omega) (by omega) c1 dX0_fail_90 ?_
              refine g_astore_n (lv2 := [(2, _), (1, _), (0, _)]) B dX0_fail_91 (by decide) rfl ?_
              refine g_aload_n B 0 dX0_fail_92 rfl ?_
              refine x_alen B P1D c2 (by decide) rfl c3 dX0_fail_93 ?_
              refine g_istore_n (lv2 := [(3, _), (2, _), (1, _), (0, _)]) B dX0_fail_94 (by decide) rfl ?_
              refine g_iconst (v := nI 0) B dX0_fail_95 (by decide) ?_
              refine g_istore (lv2 := [(4, _), (3, _), (2, _), (1, _), (0, _)]) B dX0_fail_96 (by decide) rfl ?_
              have LE : ∀ (dE : Nat) (iE : Nat) (cE : aA) (Y1E : xY) (V1E : xVV) (I1E : xII) (J1E : xJJ) (A1E : xVV) (T1E : xT) (O1E R1E : xO), dE = a.p oD - iE → PX Y1E V1E I1E J1E A1E w0 T1E O1E R1E → (iE ≤ a.p oD) → (RepX cE tk x0 g0 fi ps Y1E V1E I1E J1E A1E) → (fC cE c) → (cE.ch = kM a.ch oD iE 0) → (yLe Y Y1E) → (yLe Y1D Y1E) → xV Z (T1E, O1E, R1E) 98 [(4, .int (nI iE)), (3, .int (nI (a.p oD))), (2, .ref xr), (1, .int (nI oD)), (0, .ref x0)] [] (36 * md + 12 * (a.p oD - iE) + 1) (108 * md + 36 * (a.p oD - iE) + 4) := by
                intro dE
                induction dE using Nat.strongRecOn with
                | _ dE ihE =>
                  intro iE cE Y1E V1E I1E J1E A1E T1E O1E R1E hdE P1E hik H1E sE hE le1E lrE
                  have hbE := le1E.at h0q
                  have cE2 := lrE.at c2
                  have cE3 : yN Y1E 9001 oD = a.p oD := lrE.n c2 c3
                  have e_n : cE.n = a.n := sE.1.n.trans c_n
                  have e_p : cE.p = a.p := sE.1.p.trans c_p
                  obtain ⟨-, xjE, bE1, bE2, bE3⟩ := H1E.Ar
                  obtain ⟨xrE, ce1, ce2, ce3, ce4⟩ := bE3 oD (by rw [e_n]; exact hoD)
                  refine g_iload B 0 dX0_fail_98 rfl ?_
                  refine g_iload_n B 1 dX0_fail_100 rfl ?_
                  refine g_icmp_geN (tgt := 153) B (by omega) (by omega) dX0_fail_101 (by decide) (fun c101 => ?_) (fun c101 => ?_)
                  · refine g_iinc (v := nI (oD + 1)) (lv2 := [(1, _), (4, _), (3, _), (2, _), (0, _)]) B 3 dX0_fail_153 rfl (nI_1 _) (by decide) rfl ?_
                    refine g_goto (tgt := 72) B dX0_fail_156 (by decide) ?_
                    have eip : iE = a.p oD := by omega
                    rw [eip, kM_op W] at hE
                    refine xV.room (kc' := 36 * (a.n - (oD + 1)) + 1) (ks' := 108 * (a.n - (oD + 1)) + 4) (by omega) (by omega) ?_
                    have sDE : fC cE b := by obtain ⟨⟨d1, d2, d3, d4, d5, d6, d7, d8, d9, d10, d11, d12, d13⟩, d14, d15, d16, d17⟩ := sE; obtain ⟨⟨f1, f2, f3, f4, f5, f6, f7, f8, f9, f10, f11, f12, f13⟩, f14, f15, f16, f17⟩ := sD; exact ⟨⟨d1.trans f1, d2.trans f2, d3.trans f3, d4.trans f4, d5.trans f5, d6.trans f6, d7.trans f7, d8.trans f8, d9.trans f9, d10.trans f10, d11.trans f11, d12.trans f12, d13.trans f13⟩, d14.trans f14, d15.trans f15, d16.trans f16, d17.trans f17⟩
                    refine g_pick [0, 4] rfl ?_
                    exact ihD (a.n - (oD + 1)) ((by omega)) (oD + 1) cE _ _ _ _ _ _ _ _ rfl P1E (by omega) H1E sDE hE le1E
                  · have hip : iE < a.p oD := by omega
                    obtain ⟨xs, d1, d2, d3, d4⟩ := ce4 iE (by rw [e_p]; exact hip)
                    rw [e_p] at d3
                    obtain ⟨me, hme⟩ : ∃ me, a.p oD - iE = me + 1 := ⟨a.p oD - iE - 1, by omega⟩
                    refine xV.room (kc' := 36 * md + 12 * me + 4 * a.p (oD + 1) + 1) (ks' := 108 * md + 36 * me + 12 * a.p (oD + 1) + 4) (by omega) (by omega) ?_
                    refine g_aload_n B 2 dX0_fail_104 rfl ?_
                    refine g_iload B 0 dX0_fail_105 rfl ?_
                    refine x_ldA B P1E cE2 (by decide) rfl rfl rfl cE3 (by omega) (by omega) d1 dX0_fail_107 ?_
                    refine g_astore (lv2 := [(5, _), (4, _), (3, _), (2, _), (1, _), (0, _)]) B dX0_fail_108 (by decide) rfl ?_
                    refine g_aload B 0 dX0_fail_110 rfl ?_
                    refine g_astore (lv2 := [(6, _), (5, _), (4, _), (3, _), (2, _), (1, _), (0, _)]) B dX0_fail_112 (by decide) rfl ?_
                    refine g_aload B 0 dX0_fail_114 rfl ?_
                    refine x_alen B P1E d2 (by decide) rfl d3 dX0_fail_116 ?_
                    refine g_istore (lv2 := [(7, _), (6, _), (5, _), (4, _), (3, _), (2, _), (1, _), (0, _)]) B dX0_fail_117 (by decide) rfl ?_
                    refine g_iconst (v := nI 0) B dX0_fail_119 (by decide) ?_
                    refine g_istore (lv2 := [(8, _), (7, _), (6, _), (5, _), (4, _), (3, _), (2, _), (1, _), (0, _)]) B dX0_fail_120 (by decide) rfl ?_
                    have LF : ∀ (dF : Nat) (j : Nat) (cF : aA) (Y1F : xY) (V1F : xVV) (I1F : xII) (J1F : xJJ) (A1F : xVV) (T1F : xT) (O1F R1F : xO), dF = a.p (oD + 1) - j → PX Y1F V1F I1F J1F A1F w0 T1F O1F R1F → (j ≤ a.p (oD + 1)) → (RepX cF tk x0 g0 fi ps Y1F V1F I1F J1F A1F) → (fC cF c) → (cF.ch = kM a.ch oD iE j) → (yLe Y Y1F) → (yLe Y1E Y1F) → xV Z (T1F, O1F, R1F) 122 [(8, .int (nI j)), (7, .int (nI (a.p (oD + 1)))), (6, .ref xs), (5, .ref xs), (4, .int (nI iE)), (3, .int (nI (a.p oD))), (2, .ref xr), (1, .int (nI oD)), (0, .ref x0)] [] (36 * md + 12 * me + 4 * (a.p (oD + 1) - j) + 1) (108 * md + 36 * me + 12 * (a.p (oD + 1) - j) + 4) := by
                      intro dF
                      induction dF using Nat.strongRecOn with
                      | _ dF ihF =>
                        intro j cF Y1F V1F I1F J1F A1F T1F O1F R1F hdF P1F hjk H1F sF hF le1F lrF
                        have hbF := le1F.at h0q
                        have cF2 := (lrE.tr lrF).at c2
                        have dF2 := lrF.at d2
                        have dF3 : yN Y1F 8001 (3 * oD + iE) = a.p (oD + 1) := lrF.n d2 d3
                        have f_n : cF.n = a.n := sF.1.n.trans c_n
                        have f_p : cF.p = a.p := sF.1.p.trans c_p
                        have f_cf : cF.cf = a.cf := sF.1.2.2.2.2.1.trans c_cf
                        obtain ⟨-, xjF, bF1, bF2, bF3⟩ := H1F.Ar
                        obtain ⟨xrF, cg1, cg2, cg3, cg4⟩ := bF3 oD (by rw [f_n]; exact hoD)
                        obtain ⟨xsF, cd1, cd2, cd3, cd4⟩ := cg4 iE (by rw [f_p]; exact hip)
                        refine g_iload B 0 dX0_fail_122 rfl ?_
                        refine g_iload B 1 dX0_fail_124 rfl ?_
                        refine g_icmp_geN (tgt := 147) B (by omega) (by omega) dX0_fail_126 (by decide) (fun c101 => ?_) (fun c101 => ?_)
                        · refine g_iinc (v := nI (iE + 1)) (lv2 := [(4, _), (8, _), (7, _), (6, _), (5, _), (3, _), (2, _), (1, _), (0, _)]) B 4 dX0_fail_147 rfl (nI_1 _) (by decide) rfl ?_
                          refine g_goto (tgt := 98) B dX0_fail_150 (by decide) ?_
                          have ejp : j = a.p (oD + 1) := by omega
                          rw [ejp, kM_row W] at hF
                          refine xV.room (kc' := 36 * md + 12 * (a.p oD - (iE + 1)) + 1) (ks' := 108 * md + 36 * (a.p oD - (iE + 1)) + 4) (by omega) (by omega) ?_
                          refine g_pick [0, 5, 6, 7, 8] rfl ?_
                          exact ihE (a.p oD - (iE + 1)) ((by omega)) (iE + 1) cF _ _ _ _ _ _ _ _ rfl P1F (by omega) H1F sF hF le1F (lrE.tr lrF)
                        · have hjp : j < a.p (oD + 1) := by omega
                          obtain ⟨xm, hq1, hq0⟩ := cd4 j (by rw [f_p]; exact hjp)
                          obtain ⟨h0c, ⟨⟨pa0c, pb0c, pc0c⟩, ⟨pa5c, pb5c, pc5c⟩, ⟨pa6c, pb6c, pc6c⟩, ⟨pa8c, pb8c, pc8c⟩, ⟨pa9c, pb9c, pc9c⟩, ⟨pa10c, pb10c, pc10c⟩, ⟨pa11c, pb11c, pc11c⟩, ⟨pa12c, pb12c, pc12c⟩, ⟨pa13c, pb13c, pc13c⟩, ⟨pa20c, pb20c, pc20c⟩, ⟨pa21c, pb21c, pc21c⟩, ⟨pa22c, pb22c, pc22c⟩⟩, ⟨nq1c, nq2c, nq3c, nq4c⟩, nq7c, nq14c, nq15c, nq16c, nq17c, nq18c, nq19c⟩ := H1F.Si
                          obtain ⟨boc, bqc, spc, lcc, xlc, HCc, dspc, dsbc, hlsc, hfic⟩ := H1F.Ch
                          have hplc : pa0c = xlc := P1F.fn pc0c dspc.1
                          have hsmc : xSm Y1F V1F x0 xlc (cF.cf 0) (cF.cf 1) (cF.cf 2) := ⟨h0c, pb0c.trans (congrArg Value.ref hplc), nq1c, nq2c, nq3c⟩
                          obtain ⟨⟨xh2, Cg⟩, nd, lch⟩ := HCc oD iE j (by rw [f_n]; exact hoD) (by rw [f_p]; exact hip) (by rw [f_p]; exact hjp)
                          have exm : xh2 = xm := P1F.fn Cg.1 hq0
                          rw [exm] at Cg
                          have ech : cF.ch oD iE j = a.ch oD iE j := by rw [hF]; exact kM_at _ oD iE j
                          rw [ech] at Cg
                          have hchk := W.ch oD iE j
                          have hus : usum cF.ch ≤ 270 := usum_le (fun x y z => by rw [hF]; exact kM_le W oD iE j x y z)
                          have hficc : fi + spc.length + usum cF.ch = 378 := hfic
                          obtain ⟨mf, hmf⟩ : ∃ mf, a.p (oD + 1) - j = mf + 1 := ⟨a.p (oD + 1) - j - 1, by omega⟩
                          refine g_aload B 2 dX0_fail_129 rfl ?_
                          refine g_iload B 0 dX0_fail_131 rfl ?_
                          refine x_ldA B P1F dF2 (by decide) rfl rfl rfl dF3 (by omega) (by omega) hq1 dX0_fail_133 ?_
                          refine g_astore (lv2 := [(9, _), (8, _), (7, _), (6, _), (5, _), (4, _), (3, _), (2, _), (1, _), (0, _)]) B dX0_fail_134 (by decide) rfl ?_
                          refine g_aload B 0 dX0_fail_136 rfl ?_
                          obtain ⟨n102, u102, ty102⟩ := P1F.ty hq0 (by decide) rfl
                          have hbl := xQs.len _ _ Cg.2.2.2.2.2.2
                          have hb4 : (bqc (mLn oD iE j)).length ≤ 4 := by have := hchk.1; omega
                          refine g_callV (kc2 := 36 * md + 12 * me + 4 * mf + 1) (ks2 := 108 * md + 36 * me + 12 * mf + 4) (rest := []) B M_X10_clear q1833 q1834 q1835 ty102 rfl (c_X10_clear P1F hsmc Cg dspc dsbc nd (by omega)) rfl rfl (Nat.le_of_ble_eq_true rfl) (Nat.le_of_ble_eq_true rfl) (Nat.le_of_ble_eq_true rfl) (by omega) (by omega) dX0_fail_138 (xkN (fun T102 O102 R102 le102 p102 => ?_))
                          obtain ⟨Y102, V102, I102, J102, A102, P102, rfl, sp2102, C102, ds102, sb102, hn102, lo102, f102⟩ := p102
                          have n2 := XCh.one (ch := cF.ch) HCc hlsc hficc (by rw [f_n]; exact hn6) (by rw [f_n, f_p]; exact hp3) (by rw [f_n]; exact hoD) (by rw [f_p]; exact hip) (by rw [f_p]; exact hjp) C102 ds102 sb102 lo102 f102 (fi2 := fi) (by rw [hn102, ech, hbl]; simp [c0]; omega)
                          have H2 : RepX (cF.w_ch (up3 cF.ch oD iE j c0)) tk x0 g0 fi ps Y102 V102 I102 J1F A102 := H1F.w_ch f102 gChS n2
                          have hF2 : (cF.w_ch (up3 cF.ch oD iE j c0)).ch = kM a.ch oD iE (j + 1) := by show up3 cF.ch oD iE j c0 = _; rw [hF]; exact kM_st _ oD iE j
                          refine g_iinc (v := nI (j + 1)) (lv2 := [(8, _), (9, _), (7, _), (6, _), (5, _), (4, _), (3, _), (2, _), (1, _), (0, _)]) B 1 dX0_fail_141 rfl (nI_1 _) (by decide) rfl ?_
                          refine g_goto (tgt := 122) B dX0_fail_144 (by decide) ?_
                          have emf : a.p (oD + 1) - (j + 1) = mf := by omega
                          rw [← emf]
                          refine g_pick [0, 2, 3, 4, 5, 6, 7, 8, 9] rfl ?_
                          exact ihF (a.p (oD + 1) - (j + 1)) ((by omega)) (j + 1) (cF.w_ch (up3 cF.ch oD iE j c0)) _ _ _ _ _ _ _ _ rfl P102 (by omega) H2 sF.step hF2 (le1F.tr f102.1.1) (lrF.tr f102.1.1)
                    exact LF _ 0 cE _ _ _ _ _ _ _ _ rfl P1E (Nat.zero_le _) H1E sE hE le1E yLe.rf
              exact LE _ 0 c _ _ _ _ _ _ _ _ rfl P1D (Nat.zero_le _) H1D fC.rf hD le1D yLe.rf
        exact LD _ 0 b _ _ _ _ _ _ _ _ rfl P1 (by omega) H1 fC.rf hk0 le1
      · have hon : o < a.n := by omega
        obtain ⟨xr, c1, c2, c3, c4⟩ := e3 o (by rw [b_n]; exact hon)
        rw [b_p] at c3
        have hpo := W.p1 o hon
        refine g_aload_n B 1 dX0_fail_28 rfl ?_
        refine x_get B P1 hb0 (by decide) rfl F_X0_132_0 (by decide) pb11 dX0_fail_29 ?_
        refine g_iload_n B 0 dX0_fail_32 rfl ?_
        refine x_ldA B P1 pc11 (by decide) rfl rfl rfl e2 (by omega) (by omega) c1 dX0_fail_33 ?_
        refine g_astore_n (lv2 := [(2, _), (1, _), (0, _)]) B dX0_fail_34 (by decide) rfl ?_
        refine g_aload_n B 0 dX0_fail_35 rfl ?_
        refine x_alen B P1 c2 (by decide) rfl c3 dX0_fail_36 ?_
        refine g_istore_n (lv2 := [(3, _), (2, _), (1, _), (0, _)]) B dX0_fail_37 (by decide) rfl ?_
        refine g_iconst (v := nI 0) B dX0_fail_38 (by decide) ?_
        refine g_istore (lv2 := [(4, _), (3, _), (2, _), (1, _), (0, _)]) B dX0_fail_39 (by decide) rfl ?_
        have LB : ∀ (dB : Nat) (i : Nat) (bB : aA) (Y1B : xY) (V1B : xVV) (I1B : xII) (J1B : xJJ) (A1B : xVV) (T1B : xT) (O1B R1B : xO), dB = a.p o - i → PX Y1B V1B I1B J1B A1B w0 T1B O1B R1B → (i ≤ a.p o) → (RepX bB tk x0 g0 fi ps Y1B V1B I1B J1B A1B) → (fS bB a0) → (bB.ch = a.ch) → (fZ a bB o i) → (yLe Y Y1B) → (yLe Y1 Y1B) → xV Z (T1B, O1B, R1B) 41 [(4, .int (nI i)), (3, .int (nI (a.p o))), (2, .ref xr), (1, .int (nI o)), (0, .ref x0)] [] 301 904 := by
          intro dB
          induction dB using Nat.strongRecOn with
          | _ dB ihB =>
            intro i bB Y1B V1B I1B J1B A1B T1B O1B R1B hdB P1B hik H1B sBB hcB zBB le1B lrB
            have hb0B := le1B.at h0q
            have cB2 := lrB.at c2
            have cB3 : yN Y1B 6001 o = a.p o := lrB.n c2 c3
            have bB_n : bB.n = a.n := sBB.n.trans a0_n
            have bB_p : bB.p = a.p := sBB.p.trans a0_p
            have bB_cf : bB.cf = a.cf := sBB.2.2.2.2.1.trans a0_cf
            obtain ⟨⟨xiB, eB1, eB2, eB3⟩, -⟩ := H1B.Ar
            obtain ⟨xrB, cc1, cc2, cc3, cc4⟩ := eB3 o (by rw [bB_n]; exact hon)
            refine g_iload B 0 dX0_fail_41 rfl ?_
            refine g_iload_n B 1 dX0_fail_43 rfl ?_
            refine g_icmp_geN (tgt := 64) B (by omega) (by omega) dX0_fail_44 (by decide) (fun c101 => ?_) (fun c101 => ?_)
            · refine g_iinc (v := nI (o + 1)) (lv2 := [(1, _), (4, _), (3, _), (2, _), (0, _)]) B 3 dX0_fail_64 rfl (nI_1 _) (by decide) rfl ?_
              refine g_goto (tgt := 17) B dX0_fail_67 (by decide) ?_
              have eip : i = a.p o := by omega
              rw [eip] at zBB
              refine g_pick [0, 4] rfl ?_
              exact ih (a.n - (o + 1)) ((by omega)) (o + 1) bB _ _ _ _ _ _ _ _ rfl P1B (by omega) H1B sBB hcB zBB.row le1B
            · have hip : i < a.p o := by omega
              obtain ⟨xw, d1, d2⟩ := cc4 i (by rw [bB_p]; exact hip)
              refine g_aload_n B 2 dX0_fail_47 rfl ?_
              refine g_iload B 0 dX0_fail_48 rfl ?_
              refine x_ldA B P1B cB2 (by decide) rfl rfl rfl cB3 (by omega) (by omega) d1 dX0_fail_50 ?_
              refine g_astore (lv2 := [(5, _), (4, _), (3, _), (2, _), (1, _), (0, _)]) B dX0_fail_51 (by decide) rfl ?_
              refine g_aload B 0 dX0_fail_53 rfl ?_
              obtain ⟨n102, u102, ty102⟩ := P1B.ty d2 (by decide) rfl
              refine g_callV (rest := []) B M_X9_drop q1829 q1830 q1831 ty102 rfl (c_X9_drop P1B H1B (by rw [bB_n, bB_p]; exact hp3) (by rw [bB_n]; exact hon) (by rw [bB_p]; exact hip) d2) rfl rfl (Nat.le_of_ble_eq_true rfl) (Nat.le_of_ble_eq_true rfl) (Nat.le_of_ble_eq_true rfl) (Nat.le_refl _) (Nat.le_refl _) dX0_fail_55 (xkN (fun T102 O102 R102 le102 p102 => ?_))
              obtain ⟨Y102, V102, I102, J102, A102, P102, l102, H102⟩ := p102
              refine g_iinc (v := nI (i + 1)) (lv2 := [(4, _), (5, _), (3, _), (2, _), (1, _), (0, _)]) B 1 dX0_fail_58 rfl (nI_1 _) (by decide) rfl ?_
              refine g_goto (tgt := 41) B dX0_fail_61 (by decide) ?_
              refine g_pick [0, 2, 3, 4, 5] rfl ?_
              exact ihB (a.p o - (i + 1)) ((by omega)) (i + 1) (bB.drop o i) _ _ _ _ _ _ _ _ rfl P102 (by omega) H102 sBB.drop (drop_ch.trans hcB) zBB.step (le1B.tr l102) (lrB.tr l102)
        exact LB _ 0 b _ _ _ _ _ _ _ _ rfl P1 (Nat.zero_le _) H1 sB hcA zB le1 yLe.rf
  exact L _ 0 a0 _ _ _ _ _ _ _ _ rfl P2 (by omega) H0 fS.rf a0_ch (fun x y h1 h2 h3 => by omega) yLe.rf
