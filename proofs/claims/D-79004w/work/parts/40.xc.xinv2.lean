set_option maxRecDepth 100000
/-! barriers are taken, instances align, the checkpoint completes -/
theorem r123 {P : List Nat → Prop} {p : Nat} (h1 : 1 ≤ p) (h3 : p ≤ 3) (a : P [0]) (b : P [0, 1]) (c : P [0, 1, 2]) : P (List.range p) := by
  rcases (show p = 1 ∨ p = 2 ∨ p = 3 by omega) with rfl | rfl | rfl
  · exact a
  · exact b
  · exact c
theorem cnt_lem {s : Nat → Bool} {p i : Nat} (h3 : p ≤ 3) (hi : i < p) (hs : s i = false) (hc : (List.range p).countP s + 1 = p) : ∀ y, y < p → y ≠ i → s y = true := by
  intro y hy hyi
  rcases (show p = 1 ∨ p = 2 ∨ p = 3 by omega) with rfl | rfl | rfl
  · omega
  · rw [show List.range 2 = [0, 1] from rfl] at hc
    simp only [List.countP_cons, List.countP_nil] at hc
    rcases (show i = 0 ∨ i = 1 by omega) with rfl | rfl <;> rcases (show y = 0 ∨ y = 1 by omega) with rfl | rfl <;> first | (exact absurd rfl hyi) | (rw [hs] at hc; revert hc; cases s 0 <;> cases s 1 <;> simp)
  · rw [show List.range 3 = [0, 1, 2] from rfl] at hc
    simp only [List.countP_cons, List.countP_nil] at hc
    rcases (show i = 0 ∨ i = 1 ∨ i = 2 by omega) with rfl | rfl | rfl <;> rcases (show y = 0 ∨ y = 1 ∨ y = 2 by omega) with rfl | rfl | rfl <;> first | (exact absurd rfl hyi) | (rw [hs] at hc; revert hc; cases s 0 <;> cases s 1 <;> cases s 2 <;> simp)
theorem cnt_up {s : Nat → Bool} {p i : Nat} (h3 : p ≤ 3) (hi : i < p) (hs : s i = false) : (List.range p).countP (up1 s i true) = (List.range p).countP s + 1 := by
  rcases (show p = 1 ∨ p = 2 ∨ p = 3 by omega) with rfl | rfl | rfl
  · rw [show List.range 1 = [0] from rfl]
    simp only [List.countP_cons, List.countP_nil]
    rcases (show i = 0 by omega) with rfl
    rw [up1_s, hs]; rfl
  · rw [show List.range 2 = [0, 1] from rfl]
    simp only [List.countP_cons, List.countP_nil]
    rcases (show i = 0 ∨ i = 1 by omega) with rfl | rfl
    · rw [up1_s, up1_n (by decide), hs]; cases s 1 <;> rfl
    · rw [up1_s, up1_n (by decide), hs]; cases s 0 <;> rfl
  · rw [show List.range 3 = [0, 1, 2] from rfl]
    simp only [List.countP_cons, List.countP_nil]
    rcases (show i = 0 ∨ i = 1 ∨ i = 2 by omega) with rfl | rfl | rfl
    · rw [up1_s, up1_n (by decide), up1_n (by decide), hs]; cases s 1 <;> cases s 2 <;> rfl
    · rw [up1_s, up1_n (by decide), up1_n (by decide), hs]; cases s 0 <;> cases s 2 <;> rfl
    · rw [up1_s, up1_n (by decide), up1_n (by decide), hs]; cases s 0 <;> cases s 1 <;> rfl
theorem and_t {x y : Bool} (h : 1 ≤ tN (x && !y)) : x = true ∧ y = false := by cases x <;> cases y <;> first | exact ⟨rfl, rfl⟩ | exact absurd h (by decide)
theorem AInv.down1 {a : aA} (h : AInv a) (hrn : 0 < a.rn) {x : Nat} (hx : x + 1 < a.n) (hp : 1 ≤ a.p (x + 1)) (hal : a.al (x + 1) 0 = true) : ∀ y, y < a.p x → a.al x y = true ∧ a.hd x y = false := fun y hy => by
  have k := (h.1 x y 0 hx hy (by omega)).2 hrn
  rw [tN_t hal] at k
  exact and_t (by omega)
theorem AInv.downs {a : aA} (h : AInv a) (hrn : 0 < a.rn) (hp : ∀ o, o < a.n → 1 ≤ a.p o) : ∀ k o, o < a.n → (∀ i, i < a.p o → a.al o i = true) → ∀ x, x + k = o → ∀ y, y < a.p x → a.al x y = true
  | 0, o, ho, hal, x, e, y, hy => by
    obtain rfl : x = o := by omega
    exact hal y hy
  | k + 1, o, ho, hal, x, e, y, hy => by
    have h1 := AInv.downs h hrn hp k o ho hal (x + 1) (by omega)
    exact (h.down1 hrn (by omega) (hp (x + 1) (by omega)) (h1 0 (by have := hp (x + 1) (by omega); omega)) y hy).1
theorem qB_cons (q : List (Option (List aRec))) : qB (none :: q) = qB q + 1 := by unfold qB; rw [List.countP_cons]; rfl
theorem qB_consS (q : List (Option (List aRec))) (l : List aRec) : qB (some l :: q) = qB q := by unfold qB; rw [List.countP_cons]; rfl
theorem AInv.rn_of {a : aA} (h : AInv a) {o f i : Nat} {qs : List (Option (List aRec))} (ho : o + 1 < a.n) (hf : f < a.p o) (hi : i < a.p (o + 1)) (hq : (a.ch o f i).1 = none :: qs) : 0 < a.rn ∧ a.sp (o + 1) i f = false ∧ a.al (o + 1) i = false ∧ a.al o f = true ∧ a.hd o f = false ∧ qB qs = 0 := by
  have h1 := h.1 o f i ho hf hi
  rw [hq, qB_cons] at h1
  have hrn : 0 < a.rn := by
    rcases Nat.eq_zero_or_pos a.rn with q | q
    · have := (h1.1 q).1; omega
    · exact q
  have k := h1.2 hrn
  have t := tN_le (a.al o f && !a.hd o f)
  obtain ⟨k1, k2⟩ := and_t (x := a.al o f) (y := a.hd o f) (by omega)
  exact ⟨hrn, tN_0 (by omega), tN_0 (by omega), k1, k2, by omega⟩
theorem AInv.tok {a : aA} (h : AInv a) {Bd o i : Nat} (W : WF Bd a) (ho : o + 1 < a.n) (hi : i < a.p (o + 1)) : tOk a (o + 1) i := by
  intro f qs hf hq hall
  have hf : f < a.p o := hf
  have hq : (a.ch o f i).1 = none :: qs := hq
  have hall : (List.range (a.p o)).all (fun g => up3 a.sp (o + 1) i f true (o + 1) i g) = true := hall
  obtain ⟨hrn, k1, k2, k3, k4, k5⟩ := h.rn_of ho hf hi hq
  refine ⟨hrn, fun hl hsk => ?_⟩
  have hrow : ∀ y, y < a.p o → a.al o y = true := fun y hy => by
    by_cases e : y = f
    · rw [e]; exact k3
    · have hs := List.all_eq_true.mp hall y (List.mem_range.mpr hy)
      have hs : up3 a.sp (o + 1) i f true (o + 1) i y = true := hs
      rw [up3_n (fun q => e q.2.2)] at hs
      have k := (h.1 o y i ho hy hi).2 hrn
      rw [tN_t hs] at k
      exact (and_t (x := a.al o y) (y := a.hd o y) (by omega)).1
  have hc := h.2.2 hrn
  rw [show a.n - 1 = o + 1 by omega] at hc
  have hl2 := cnt_lem (s := fun j => a.al (o + 1) j) (W.p1 (o + 1) ho).2 hi k2 (by rw [← hc]; exact hsk)
  intro x hx y hy
  by_cases e : x = o + 1
  · subst e
    by_cases e2 : y = i
    · subst e2; exact up2_s
    · rw [up2_n (fun q => e2 q.2)]; exact hl2 y hy e2
  · rw [up2_n (fun q => e q.1)]
    exact h.downs hrn (fun o ho => (W.p1 o ho).1) (o - x) o (by omega) hrow x (by omega) y hy
/-- the barrier is taken off its channel -/
theorem AInv.rem {a d : aA} (h : AInv a) {o f i : Nat} {qs : List (Option (List aRec))} (ho : o + 1 < a.n) (hf : f < a.p o) (hi : i < a.p (o + 1)) (hq : (a.ch o f i).1 = none :: qs)
    (e1 : d.n = a.n) (e2 : d.p = a.p) (e3 : d.rn = a.rn) (e4 : d.sk = a.sk) (e5 : d.al = a.al) (e6 : d.hd = a.hd) (e7 : d.sp = up3 a.sp (o + 1) i f true) (e8 : ∀ x y z, (d.ch x y z).1 = if x = o ∧ y = f ∧ z = i then qs else (a.ch x y z).1) : AInv d := by
  obtain ⟨hrn, k1, k2, k3, k4, k5⟩ := h.rn_of ho hf hi hq
  unfold AInv
  rw [e1, e2, e3, e4, e5, e6, e7]
  refine ⟨fun x y z h1 h2 h3 => ⟨fun q => by omega, fun _ => ?_⟩, h.2.1, h.2.2⟩
  rw [e8]
  have k := (h.1 x y z h1 h2 h3).2 hrn
  by_cases e : x = o ∧ y = f ∧ z = i
  · obtain ⟨rfl, rfl, rfl⟩ := e
    rw [if_pos ⟨rfl, rfl, rfl⟩, up3_s]
    rw [hq, qB_cons, k1] at k
    rw [← k]
    show qB qs + 1 + tN _ = qB qs + 1 + 0 + tN _
    omega
  · rw [if_neg e, up3_n (fun q => e ⟨by omega, q.2.2, q.2.1⟩)]
    exact k
theorem AInv.finish {e : aA} (h : AInv e) (hrn : 0 < e.rn) (hn : 1 ≤ e.n) (hsk : e.sk = e.p (e.n - 1)) (hp : ∀ o, o < e.n → 1 ≤ e.p o) (hdl : ∀ i, e.hd (e.n - 1) i = false) : AInv e.finish := by
  have hc := h.2.2 hrn
  rw [hsk] at hc
  have hl : ∀ j, j < e.p (e.n - 1) → e.al (e.n - 1) j = true := fun j hj => by
    have q := List.countP_eq_length.mp (show (List.range (e.p (e.n - 1))).countP (fun j => e.al (e.n - 1) j) = (List.range (e.p (e.n - 1))).length by rw [List.length_range]; exact hc.symm)
    exact q j (List.mem_range.mpr hj)
  have hall : ∀ x, x < e.n → ∀ y, y < e.p x → e.al x y = true := fun x hx y hy => h.downs hrn hp (e.n - 1 - x) (e.n - 1) (by omega) hl x (by omega) y hy
  refine ⟨fun o i j h1 h2 h3 => ⟨fun _ => ?_, fun q => ?_⟩, fun o i h1 h2 => ⟨fun _ => ?_, fun q => ?_⟩, fun q => ?_⟩
  · show qB (e.ch o i j).1 = 0 ∧ e.sp (o + 1) j i = false
    have k := (h.1 o i j h1 h2 h3).2 hrn
    rw [tN_t (hall (o + 1) h1 j h3)] at k
    have t := tN_le (e.al o i && !e.hd o i)
    exact ⟨by omega, tN_0 (by omega)⟩
  · exact absurd q (Nat.lt_irrefl 0)
  · show e.hd o i = false
    have h1 : o < e.n := h1
    by_cases c : o + 1 < e.n
    · exact (h.down1 hrn c (hp (o + 1) c) (hall (o + 1) c 0 (by have := hp (o + 1) c; omega)) i h2).2
    · rw [show o = e.n - 1 by omega]; exact hdl i
  · exact absurd q (Nat.lt_irrefl 0)
  · exact absurd q (Nat.lt_irrefl 0)
/-- the parts that the barriers' law speaks of -/
def bF (b c : aA) : Prop := c.n = b.n ∧ c.p = b.p ∧ c.rn = b.rn ∧ c.sk = b.sk ∧ c.ch = b.ch
theorem bF.tr {a b c : aA} (h : bF a b) (g : bF b c) : bF a c := ⟨g.1.trans h.1, g.2.1.trans h.2.1, g.2.2.1.trans h.2.2.1, g.2.2.2.1.trans h.2.2.2.1, g.2.2.2.2.trans h.2.2.2.2⟩
theorem bF_sp (b : aA) (x : Nat → Nat → Nat → Bool) : bF b (b.w_sp x) ∧ (b.w_sp x).sp = x ∧ (b.w_sp x).al = b.al ∧ (b.w_sp x).hd = b.hd := ⟨⟨rfl, rfl, rfl, rfl, rfl⟩, rfl, rfl, rfl⟩
theorem bF_st (b : aA) (x : Nat → Nat → Nat → Option (Int32 × Int32)) : bF b (b.w_st x) ∧ (b.w_st x).sp = b.sp ∧ (b.w_st x).al = b.al ∧ (b.w_st x).hd = b.hd := ⟨⟨rfl, rfl, rfl, rfl, rfl⟩, rfl, rfl, rfl⟩
theorem bF_ct (b : aA) (x : Nat → Nat → Nat → Nat) : bF b (b.w_ct x) ∧ (b.w_ct x).sp = b.sp ∧ (b.w_ct x).al = b.al ∧ (b.w_ct x).hd = b.hd := ⟨⟨rfl, rfl, rfl, rfl, rfl⟩, rfl, rfl, rfl⟩
theorem bF_al (b : aA) (x : Nat → Nat → Bool) : bF b (b.w_al x) ∧ (b.w_al x).sp = b.sp ∧ (b.w_al x).al = x ∧ (b.w_al x).hd = b.hd := ⟨⟨rfl, rfl, rfl, rfl, rfl⟩, rfl, rfl, rfl⟩
theorem bF_hd (b : aA) (x : Nat → Nat → Bool) : bF b (b.w_hd x) ∧ (b.w_hd x).sp = b.sp ∧ (b.w_hd x).al = b.al ∧ (b.w_hd x).hd = x := ⟨⟨rfl, rfl, rfl, rfl, rfl⟩, rfl, rfl, rfl⟩
theorem bF_sk (b : aA) (k : Nat) (q : Nat → Nat) (h : q = b.nm) : (b.w_nm (up1 q 3 k)).n = b.n ∧ (b.w_nm (up1 q 3 k)).p = b.p ∧ (b.w_nm (up1 q 3 k)).rn = b.rn ∧ (b.w_nm (up1 q 3 k)).sk = k ∧ (b.w_nm (up1 q 3 k)).ch = b.ch ∧ (b.w_nm (up1 q 3 k)).sp = b.sp ∧ (b.w_nm (up1 q 3 k)).al = b.al ∧ (b.w_nm (up1 q 3 k)).hd = b.hd := by subst h; exact ⟨rfl, rfl, rfl, rfl, rfl, rfl, rfl, rfl⟩
theorem bF_align0 (d : aA) (o i : Nat) : bF d (d.align0 o i) ∧ (d.align0 o i).sp = (fun x y f => if x = o ∧ y = i then false else d.sp x y f) ∧ (d.align0 o i).al = up2 d.al o i true ∧ (d.align0 o i).hd = d.hd := by
  unfold aA.align0
  obtain ⟨a1, a2, a3, a4⟩ := bF_sp d (fun x y f => if x = o ∧ y = i then false else d.sp x y f)
  generalize d.w_sp (fun x y f => if x = o ∧ y = i then false else d.sp x y f) = b1 at a1 a2 a3 a4 ⊢
  obtain ⟨b1', b2, b3, b4⟩ := bF_st b1 (fun v x key => if v = 1 ∧ x = o ∧ d.ky o = true ∧ key < 16 ∧ aHome key (d.p o) = i then d.st 0 o key else d.st v x key)
  generalize b1.w_st (fun v x key => if v = 1 ∧ x = o ∧ d.ky o = true ∧ key < 16 ∧ aHome key (d.p o) = i then d.st 0 o key else d.st v x key) = c1 at b1' b2 b3 b4 ⊢
  obtain ⟨c1', c2, c3, c4⟩ := bF_ct c1 (up3 d.ct 1 o i (d.ct 0 o i))
  generalize c1.w_ct (up3 d.ct 1 o i (d.ct 0 o i)) = d1 at c1' c2 c3 c4 ⊢
  obtain ⟨d1', d2, d3, d4⟩ := bF_al d1 (up2 d.al o i true)
  exact ⟨((a1.tr b1').tr c1').tr d1', by rw [d2, c2, b2, a2], d3, by rw [d4, c4, b4, a4]⟩
theorem AInv.w_pt {a : aA} (h : AInv a) (x : Nat → Nat → Nat) : AInv (a.w_pt x) := h.cg rfl rfl rfl rfl rfl rfl rfl (fun _ _ _ => rfl)
theorem AInv.w_chq {a : aA} (h : AInv a) (x : Nat → Nat → Nat → aCh) (hx : ∀ o i j, qB (x o i j).1 = qB (a.ch o i j).1) : AInv (a.w_ch x) := h.cg rfl rfl rfl rfl rfl rfl rfl hx
theorem AInv.align {d : aA} (h : AInv d) {Bd o i : Nat} (W : WF Bd d) (hrn : 0 < d.rn) (ho : o + 1 < d.n) (hi : i < d.p (o + 1)) (hfull : ∀ f, f < d.p o → d.sp (o + 1) i f = true) : AInv (d.align (o + 1) i) := by
  have hp := fun o ho => (W.p1 o ho).1
  have hin : ∀ f, f < d.p o → qB (d.ch o f i).1 = 0 ∧ d.al (o + 1) i = false ∧ tN (d.al o f && !d.hd o f) = 1 := fun f hf => by
    have k := (h.1 o f i ho hf hi).2 hrn
    rw [tN_t (hfull f hf)] at k
    have t := tN_le (d.al o f && !d.hd o f)
    exact ⟨by omega, tN_0 (by omega), by omega⟩
  have hal0 := (hin 0 (by have := hp o (by omega); omega)).2.1
  -- what holds of any state with the sets and marks of the aligned instance
  have main : ∀ c : aA, c.n = d.n → c.p = d.p → c.rn = d.rn → c.ch = d.ch → c.sp = (fun x y f => if x = o + 1 ∧ y = i then false else d.sp x y f) → c.al = up2 d.al (o + 1) i true → ((o + 1 + 1 < d.n ∧ c.hd = up2 d.hd (o + 1) i true ∧ c.sk = d.sk) ∨ (¬ o + 1 + 1 < d.n ∧ c.hd = d.hd ∧ c.sk = d.sk + 1)) → AInv c := by
    intro c e1 e2 e3 e4 e5 e6 e7
    unfold AInv
    rw [e1, e2, e3, e4, e5, e6]
    have hdo : ∀ x y, ¬ (x = o + 1 ∧ y = i) → c.hd x y = d.hd x y := fun x y hn => by
      rcases e7 with ⟨_, q, _⟩ | ⟨_, q, _⟩
      · rw [q]; exact up2_n hn
      · rw [q]
    refine ⟨fun x y z h1 h2 h3 => ⟨fun q => by omega, fun _ => ?_⟩, fun x y h1 h2 => ⟨fun q => by omega, fun _ hh => ?_⟩, fun _ => ?_⟩
    · have k := (h.1 x y z h1 h2 h3).2 hrn
      show qB (d.ch x y z).1 + tN (if x + 1 = o + 1 ∧ z = i then false else d.sp (x + 1) z y) + tN (up2 d.al (o + 1) i true (x + 1) z) = tN (up2 d.al (o + 1) i true x y && !c.hd x y)
      by_cases eA : x + 1 = o + 1 ∧ z = i
      · obtain ⟨ex, rfl⟩ := eA
        obtain rfl : x = o := by omega
        obtain ⟨q1, q2, q3⟩ := hin y h2
        rw [if_pos ⟨rfl, rfl⟩, up2_s, q1, up2_n (fun q => by omega), hdo x y (fun q => by omega), q3]
        rfl
      · rw [if_neg eA, up2_n (x := true) eA]
        by_cases eB : x = o + 1 ∧ y = i
        · obtain ⟨rfl, rfl⟩ := eB
          rcases e7 with ⟨_, q, _⟩ | ⟨q, _, _⟩
          · rw [hal0] at k
            rw [q, up2_s, up2_s]
            exact k
          · exact absurd h1 q
        · rw [up2_n eB, hdo x y eB]
          exact k
    · by_cases eB : x = o + 1 ∧ y = i
      · obtain ⟨rfl, rfl⟩ := eB; exact up2_s
      · rw [up2_n eB]
        rw [hdo x y eB] at hh
        exact (h.2.1 x y h1 h2).2 hrn hh
    · have k := h.2.2 hrn
      rcases e7 with ⟨q1, _, q⟩ | ⟨q1, _, q⟩
      · rw [q, k]
        rw [show (fun j => up2 d.al (o + 1) i true (d.n - 1) j) = (fun j => d.al (d.n - 1) j) from funext (fun j => up2_n (fun q => by omega))]
      · rw [q, k, show d.n - 1 = o + 1 by omega]
        rw [show (fun j => up2 d.al (o + 1) i true (o + 1) j) = up1 (fun j => d.al (o + 1) j) i true from funext (fun j => by unfold up2 up1; by_cases e : j = i; rw [if_pos ⟨rfl, e⟩, if_pos e]; rw [if_neg (fun q => e q.2), if_neg e])]
        exact (cnt_up (W.p1 (o + 1) ho).2 hi hal0).symm
  rw [aA.align_eq]
  obtain ⟨⟨z1, z2, z3, z4, z5⟩, z6, z7, z8⟩ := bF_align0 d (o + 1) i
  have z9 := (aA.align0_st d (o + 1) i).2.2
  generalize d.align0 (o + 1) i = z at z1 z2 z3 z4 z5 z6 z7 z8 z9 ⊢
  by_cases hl : o + 1 + 1 < d.n
  · rw [if_pos hl]
    obtain ⟨⟨y1, y2, y3, y4, y5⟩, y6, y7, y8⟩ := bF_hd z (up2 d.hd (o + 1) i true)
    exact main _ (y1.trans z1) (y2.trans z2) (y3.trans z3) (y5.trans z5) (y6.trans z6) (y7.trans z7) (Or.inl ⟨hl, y8, y4.trans z4⟩)
  · rw [if_neg hl]
    obtain ⟨y1, y2, y3, y4, y5, y6, y7, y8⟩ := bF_sk z (d.sk + 1) d.nm z9.symm
    generalize z.w_nm (up1 d.nm 3 (d.sk + 1)) = e at y1 y2 y3 y4 y5 y6 y7 y8 ⊢
    have m := main e (y1.trans z1) (y2.trans z2) (y3.trans z3) (y5.trans z5) (y6.trans z6) (y7.trans z7) (Or.inr ⟨hl, y8.trans z8, y4⟩)
    have en : e.n = d.n := y1.trans z1
    have ep : e.p = d.p := y2.trans z2
    by_cases hs : d.sk + 1 = d.p (o + 1)
    · rw [if_pos hs]
      refine m.finish (by rw [y3, z3]; exact hrn) (by omega) ?_ (by rw [en, ep]; exact hp) (fun j => ?_)
      · rw [y4, en, ep, show d.n - 1 = o + 1 by omega]; exact hs
      · rw [y8, z8, en]; exact W.hdu _ _ (fun q => by omega)
    · rw [if_neg hs]
      exact m
theorem AInv.take {a : aA} (h : AInv a) {Bd o i : Nat} (W : WF Bd a) (hb : a.nm 4 ≠ 0) (ho : o < a.n) (hi : i < a.p o) : AInv (a.take o i).2 := by
  cases o with
  | zero =>
    unfold aA.take
    rw [if_pos rfl]
    split
    · exact h
    · exact AInv.takeIn (h.cg (b := a.w_of (up1 a.of 0 (a.of 0 + 1))) rfl rfl rfl rfl rfl rfl rfl (fun _ _ _ => rfl)) 0 0 _
  | succ o =>
    cases hr : a.ready (o + 1) i with
    | none => rw [take_n1 hr]; exact h
    | some f =>
      rw [take_s1 hr]
      obtain ⟨hf, hsf, hne⟩ := aA.ready_some (o := o + 1) hr (show 0 < a.p o by have := (W.p1 o (by omega)).1; omega)
      have hf : f < a.p o := hf
      have hne : (a.ch o f i).1 ≠ [] := hne
      obtain ⟨⟨cq, op, ag⟩, hc⟩ : ∃ c : aCh, a.ch o f i = c := ⟨_, rfl⟩
      rw [hc] at hne
      obtain ⟨q0, qs, hq⟩ : ∃ q0 qs, cq = q0 :: qs := by
        cases cq with
        | nil => exact absurd rfl hne
        | cons q0 qs => exact ⟨q0, qs, rfl⟩
      subst hq
      cases q0 with
      | none =>
        have hq1 : (a.ch o f i).1 = none :: qs := by rw [hc]
        obtain ⟨hrn, k1, k2, k3, k4, k5⟩ := h.rn_of ho hf hi hq1
        obtain ⟨d, hd⟩ : ∃ d, d = ((a.w_pt (up2 a.pt (o + 1) i ((f + 1) % a.p o))).w_ch (up3 a.ch o f i (qs, op, ag))).w_sp (up3 a.sp (o + 1) i f true) := ⟨_, rfl⟩
        have ht := takeItem_n1 hc (b := (a.w_pt (up2 a.pt (o + 1) i ((f + 1) % a.p o))).w_ch (up3 a.ch o f i (qs, op, ag))) (a2 := d) rfl (by rw [hd]; rfl)
        have hA : AInv d := h.rem ho hf hi hq1 (by rw [hd]; rfl) (by rw [hd]; rfl) (by rw [hd]; rfl) (by rw [hd]; rfl) (by rw [hd]; rfl) (by rw [hd]; rfl) (by rw [hd]; rfl) (fun x y z => by
          rw [hd]
          show (up3 a.ch o f i (qs, op, ag) x y z).1 = _
          unfold up3
          split <;> rfl)
        have hW : WF Bd d := by
          have hp := W.p1 o (by omega)
          have h1 : WF Bd (a.w_pt (up2 a.pt (o + 1) i ((f + 1) % a.p o))) := W.w_pt (by have := Nat.mod_lt (f + 1) (show 0 < a.p o by omega); omega)
          have h2 := (h1.w_chq (x := o) (y := f) (z := i) (c := (qs, op, ag)) hb (by show (a.ch o f i).1 ≠ []; rw [hc]; exact fun e => by cases e) (by have k := W.ch o f i; rw [hc] at k; exact k.tail rfl)).w_sp (up3 a.sp (o + 1) i f true) (up3_P (P := fun x y z b => ¬ (0 < x ∧ x < a.n ∧ y < a.p x ∧ z < a.p (x - 1)) → b = false) W.spu (fun c => absurd ⟨Nat.succ_pos o, ho, hi, hf⟩ c))
          rw [hd]; exact h2
        rw [ht]
        split
        · rename_i hful
          have hdn : d.n = a.n := by rw [hd]; rfl
          have hdp : d.p = a.p := by rw [hd]; rfl
          have hdr : d.rn = a.rn := by rw [hd]; rfl
          refine AInv.align hA hW (by rw [hdr]; exact hrn) (by rw [hdn]; exact ho) (by rw [hdp]; exact hi) (fun g hg => ?_)
          have hful : (List.range (d.p o)).all (fun q => d.sp (o + 1) i q) = true := hful
          exact List.all_eq_true.mp hful g (List.mem_range.mpr hg)
        · exact hA
      | some l =>
        obtain ⟨r, rs, hl⟩ : ∃ r rs, l = r :: rs := by
          have hl1 := ((W.ch o f i).2.2.2.2.1 l (by rw [hc]; exact List.mem_cons_self)).1
          cases l with
          | nil => exact absurd hl1 (by decide)
          | cons r rs => exact ⟨r, rs, rfl⟩
        subst hl
        rw [takeItem_s1 hc rfl]
        refine AInv.takeIn ((h.w_pt _).w_chq _ (fun x y z => ?_)) _ _ _
        show qB (up3 a.ch o f i _ x y z).1 = qB (a.ch x y z).1
        unfold up3
        split
        · rename_i e; obtain ⟨rfl, rfl, rfl⟩ := e
          rw [hc, qB_consS]
          show qB (if rs.isEmpty = true then qs else some rs :: qs) = _
          split
          · rfl
          · exact qB_consS _ _
        · rfl
