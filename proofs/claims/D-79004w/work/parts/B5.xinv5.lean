set_option maxRecDepth 100000
/-! WHAT ALWAYS HOLDS, over the calls: WF, AInv, spf -/
theorem WF.stn {B : Nat} {a : aA} (h : WF B a) (o : Nat) : stOk (a.kd o) (a.pa o) (none : Option (Int32 × Int32)) := by
  have q := h.st 0 o 16
  rw [h.stu 0 o 16 (fun c => absurd c.2 (by decide))] at q
  exact q
/-- all that is left to show of a state that went back -/
theorem WF.mkb {B : Nat} {b : aA} (n2 : 2 ≤ b.n) (n6 : b.n ≤ 6) (p1 : ∀ o, o < b.n → 1 ≤ b.p o ∧ b.p o ≤ 3) (p0 : b.p 0 = 1) (k0 : b.kd 0 = 7) (kl : b.kd (b.n - 1) = 8) (km : ∀ o, 0 < o → o + 1 < b.n → b.kd o ≤ 6) (k3 : ∀ o, o < b.n → b.kd o = 3 → ∃ m : Nat, m ≤ 3 ∧ b.pa o = nI m) (kr : ∀ o, o < b.n → (-99 ≤ (b.pa o).toInt ∧ (b.pa o).toInt ≤ 99) ∧ (-99 ≤ (b.pb o).toInt ∧ (b.pb o).toInt ≤ 99)) (cf : (1 ≤ b.cf 0 ∧ b.cf 0 ≤ 4) ∧ (1 ≤ b.cf 1 ∧ b.cf 1 ≤ 9) ∧ (2 ≤ b.cf 2 ∧ b.cf 2 ≤ 4) ∧ (1 ≤ b.cf 3 ∧ b.cf 3 ≤ 5)) (inp : b.inp.length ≤ 60) (inpk : ∀ x, x ∈ b.inp → x.1 < 16) (ofs : ∀ v, 2 ≤ v → b.of v ≤ b.inp.length) (nms : b.nm 0 ≤ B ∧ b.nm 1 ≤ B ∧ b.nm 3 ≤ B ∧ b.nm 4 ≤ 1) (ct : ∀ v o i, b.ct v o i ≤ B) (st : ∀ v o key, 2 ≤ v → stOk (b.kd o) (b.pa o) (b.st v o key)) (stn : ∀ o, stOk (b.kd o) (b.pa o) (none : Option (Int32 × Int32))) (stu : ∀ v o key, 2 ≤ v → ¬ (o < b.n ∧ key < 16) → b.st v o key = none) : WF B b.breaks :=
  ⟨n2, n6, p1, p0, k0, kl, km, k3, kr, cf, inp, inpk, fun v => by
    show (if v = 0 then b.of 2 else if v = 1 then 0 else b.of v) ≤ _
    split
    · exact ofs 2 (Nat.le_refl 2)
    · split
      · exact Nat.zero_le _
      · exact ofs v (by omega), ⟨nms.1, nms.2.1, Nat.zero_le _, nms.2.2.1, nms.2.2.2⟩, fun _ _ => ⟨Nat.zero_le _, rsOk.nil⟩, fun _ _ _ => rfl, fun _ _ _ => chOk.c0, fun _ _ _ _ => rfl, fun v o i => by
    show (if v = 0 then b.ct 2 else b.ct v) o i ≤ B
    split
    · exact ct 2 o i
    · exact ct v o i, fun o i => ct 2 o i, fun v o key => by
    show stOk _ _ ((if v = 0 then b.st 2 else if v = 1 then (fun _ _ => none) else b.st v) o key)
    split
    · exact st 2 o key (Nat.le_refl 2)
    · split
      · exact stn o
      · exact st v o key (by omega), fun v o key hk => by
    show (if v = 0 then b.st 2 else if v = 1 then (fun _ _ => none) else b.st v) o key = none
    split
    · exact stu 2 o key (Nat.le_refl 2) hk
    · split
      · rfl
      · exact stu v o key (by omega) hk, fun _ _ => by show 0 < 3; decide, fun _ _ _ => rfl, fun _ _ _ _ => rfl, fun _ _ _ _ => rfl⟩
theorem AInv.breaks (b : aA) : AInv b.breaks := ⟨fun o i j _ _ _ => ⟨fun _ => ⟨rfl, rfl⟩, fun h => absurd h (Nat.lt_irrefl 0)⟩, fun o i _ _ => ⟨fun _ => rfl, fun h => absurd h (Nat.lt_irrefl 0)⟩, fun h => absurd h (Nat.lt_irrefl 0)⟩
theorem aA.spf.brk {b : aA} (hp : ∀ o, o < b.n → 1 ≤ b.p o) : b.breaks.spf := fun o i h0 ho hi => ⟨0, hp (o - 1) (by have : o < b.n := ho; omega), rfl⟩
theorem aA.spf.cg {a b : aA} (h : a.spf) (e1 : b.n = a.n) (e2 : b.p = a.p) (e3 : b.sp = a.sp) : b.spf := fun o i h0 ho hi => by
  rw [e1] at ho
  rw [e2] at hi
  obtain ⟨f, hf, hs⟩ := h o i h0 ho hi
  exact ⟨f, by rw [e2]; exact hf, by rw [e3]; exact hs⟩
/-! stops while a tick runs -/
theorem sendL_sp (o i : Nat) (l : List aRec) : ∀ a : aA, (aA.sendL o i l a).2.sp = a.sp := by
  induction l with
  | nil => exact fun _ => rfl
  | cons r rest ih =>
    intro a
    rw [aA.sendL_cons]
    split
    · exact (ih _).trans rfl
    · rfl
theorem putBs_sp (o i : Nat) (k : Nat) : ∀ (j : Nat) (a : aA), (aA.putBs o i k j a).sp = a.sp := by
  induction k with
  | zero => exact fun _ _ => rfl
  | succ k ih => exact fun j a => (ih (j + 1) (a.w_ch (up3 a.ch o i j (cPutB (a.ch o i j))))).trans rfl
theorem flush_sp (a : aA) (o i : Nat) : (a.flush o i).2.sp = a.sp := by
  have e := sendL_sp o i (a.ls o i) a
  cases hq : aA.sendL o i (a.ls o i) a with
  | mk t b =>
    rw [hq] at e
    have e : b.sp = a.sp := e
    cases t with
    | false => rw [flush_no hq]; exact e
    | true =>
      cases hh : b.hd o i with
      | false => rw [flush_hd hq hh]; exact e
      | true =>
        cases hbr : b.bar o i with
        | some j => rw [flush_bar hq hh hbr]; exact e
        | none => rw [flush_go hq hh hbr]; exact (putBs_sp o i _ 0 b).trans e
theorem aA.spf.flush {a : aA} (h : a.spf) {B o i : Nat} (W : WF B a) (hb : a.nm 4 ≠ 0) (ho : o < a.n) (hi : i < a.p o) : (a.flush o i).2.spf := by
  obtain ⟨-, f2, -⟩ := W.flush hb ho hi
  exact h.cg f2.n (funext f2.p) (flush_sp a o i)
theorem emits_sp (o i b : Nat) (l : List (Nat × Int32)) : ∀ a : aA, (aA.emits o i b l a).sp = a.sp := by
  induction l with
  | nil => exact fun _ => rfl
  | cons y l ih => exact fun a => (ih _).trans rfl
theorem takeIn_sp (a : aA) (o i : Nat) (r : aRec) : (a.takeIn o i r).sp = a.sp := by
  unfold aA.takeIn
  exact (emits_sp _ _ _ _ _).trans rfl
theorem spl_hd (b : aA) (f : Nat → Nat → Bool) : (b.w_hd f).sp = b.sp := rfl
theorem spl_nm (b : aA) (f : Nat → Nat) : (b.w_nm f).sp = b.sp := rfl
theorem spl_of (b : aA) (f : Nat → Nat) : (b.w_of f).sp = b.sp := rfl
theorem spl_ct (b : aA) (f : Nat → Nat → Nat → Nat) : (b.w_ct f).sp = b.sp := rfl
theorem spl_st (b : aA) (f : Nat → Nat → Nat → Option (Int32 × Int32)) : (b.w_st f).sp = b.sp := rfl
theorem spl_finish (b : aA) : b.finish.sp = b.sp := by
  unfold aA.finish
  rw [spl_nm, spl_of, spl_ct, spl_st]
theorem align_sp (d : aA) (o i : Nat) : (d.align o i).sp = (fun x y f => if x = o ∧ y = i then false else d.sp x y f) := by
  rw [aA.align_eq]
  have z := (bF_align0 d o i).2.1
  generalize d.align0 o i = z0 at z ⊢
  split
  · rw [spl_hd]; exact z
  · split
    · rw [spl_finish, spl_nm]; exact z
    · rw [spl_nm]; exact z
theorem aA.spf.take {a : aA} (h : a.spf) {B o i : Nat} (W : WF B a) (hb : a.nm 4 ≠ 0) (ht : 0 < a.tk) (ho : o < a.n) (hi : i < a.p o) (hls : a.ls o i = []) : (a.take o i).2.spf := by
  obtain ⟨-, S⟩ := W.take hb ht ho hi hls
  have en := S.n
  have ep := funext S.p
  cases o with
  | zero =>
    unfold aA.take at en ep ⊢
    rw [if_pos rfl] at en ep ⊢
    split
    · exact h
    · rename_i c
      rw [if_neg c] at en ep
      refine h.cg en ep ?_
      exact (takeIn_sp _ _ _ _).trans rfl
  | succ o =>
    cases hr : a.ready (o + 1) i with
    | none => rw [take_n1 hr]; exact h
    | some f =>
      rw [take_s1 hr] at en ep ⊢
      obtain ⟨hf, hsf, hne⟩ := aA.ready_some (o := o + 1) hr (show 0 < a.p o by have := (W.p1 o (by omega)).1; omega)
      have hf : f < a.p o := hf
      have hne : (a.ch o f i).1 ≠ [] := hne
      obtain ⟨⟨cq, op, ag⟩, hc⟩ : ∃ c : aCh, a.ch o f i = c := ⟨_, rfl⟩
      rw [hc] at hne
      obtain ⟨q0, qs, hq⟩ : ∃ q0 qs, cq = q0 :: qs := by
        cases cq with
        | nil => exact absurd rfl hne
        | cons q0 qs => exact ⟨q0, qs, rfl⟩
      subst hq
      cases q0 with
      | none =>
        obtain ⟨d, hd⟩ : ∃ d, d = ((a.w_pt (up2 a.pt (o + 1) i ((f + 1) % a.p o))).w_ch (up3 a.ch o f i (qs, op, ag))).w_sp (up3 a.sp (o + 1) i f true) := ⟨_, rfl⟩
        have hti := takeItem_n1 hc (b := (a.w_pt (up2 a.pt (o + 1) i ((f + 1) % a.p o))).w_ch (up3 a.ch o f i (qs, op, ag))) (a2 := d) rfl (by rw [hd]; rfl)
        have dsp : d.sp = up3 a.sp (o + 1) i f true := by rw [hd]; rfl
        have dp : d.p = a.p := by rw [hd]; rfl
        rw [hti] at en ep ⊢
        by_cases hful : d.full (o + 1) i = true
        · rw [if_pos hful] at en ep ⊢
          intro x y h0 hx hy
          have en : (d.align (o + 1) i).n = a.n := en
          have ep : (d.align (o + 1) i).p = a.p := ep
          rw [en] at hx
          rw [ep] at hy ⊢
          rw [align_sp, dsp]
          by_cases e : x = o + 1 ∧ y = i
          · exact ⟨0, by have := (W.p1 (x - 1) (by omega)).1; omega, if_pos e⟩
          · obtain ⟨g, hg, hgs⟩ := h x y h0 hx hy
            exact ⟨g, hg, (if_neg e).trans ((up3_n (fun q => e ⟨q.1, q.2.1⟩)).trans hgs)⟩
        · rw [if_neg hful] at en ep ⊢
          intro x y h0 hx hy
          have en : d.n = a.n := en
          rw [en] at hx
          rw [dp] at hy ⊢
          rw [dsp]
          by_cases e : x = o + 1 ∧ y = i
          · obtain ⟨rfl, rfl⟩ := e
            have hf2 : ¬ (List.range (d.p o)).all (fun g => d.sp (o + 1) y g) = true := hful
            rw [List.all_eq_true] at hf2
            obtain ⟨g, hg⟩ := Classical.not_forall.mp hf2
            obtain ⟨hg1, hg2⟩ := Classical.not_imp.mp hg
            rw [dp, List.mem_range] at hg1
            rw [dsp] at hg2
            exact ⟨g, hg1, by simpa using hg2⟩
          · obtain ⟨g, hg, hgs⟩ := h x y h0 hx hy
            exact ⟨g, hg, (up3_n (fun q => e ⟨q.1, q.2.1⟩)).trans hgs⟩
      | some l =>
        obtain ⟨r, rs, hl⟩ : ∃ r rs, l = r :: rs := by
          have hl1 := ((W.ch o f i).2.2.2.2.1 l (by rw [hc]; exact List.mem_cons_self)).1
          cases l with
          | nil => exact absurd hl1 (by decide)
          | cons r rs => exact ⟨r, rs, rfl⟩
        subst hl
        rw [takeItem_s1 hc rfl] at en ep ⊢
        refine h.cg en ep ?_
        exact (takeIn_sp _ _ _ _).trans rfl
theorem aA.spf.work {o i : Nat} (b : Nat) {B : Nat} {a : aA} (h : a.spf) (W : WF B a) (hb : a.nm 4 ≠ 0) (ht : 0 < a.tk) (ho : o < a.n) (hi : i < a.p o) : (aA.work o i b a).spf := by
  induction b generalizing a B with
  | zero =>
    rw [aA.work_eq]
    have f := h.flush W hb ho hi
    split
    · exact f.cg rfl rfl rfl
    · exact f
  | succ b ih =>
    obtain ⟨f1, f2, f3⟩ := W.flush hb ho hi
    have f := h.flush W hb ho hi
    rw [aA.work_eq]
    split
    · exact f.cg rfl rfl rfl
    · rename_i c
      have c : (a.flush o i).1 = true := by simpa using c
      obtain ⟨t1, t2⟩ := f1.take (o := o) (i := i) (by rw [f2.2.2.2.2.2.1]; exact hb) (by rw [f2.tk]; exact ht) (by rw [f2.n]; exact ho) (by rw [f2.p]; exact hi) (f3 c)
      have t3 := t2.tr f2
      have t := f.take f1 (o := o) (i := i) (by rw [f2.2.2.2.2.2.1]; exact hb) (by rw [f2.tk]; exact ht) (by rw [f2.n]; exact ho) (by rw [f2.p]; exact hi) (f3 c)
      dsimp only
      split
      · exact t.cg rfl rfl rfl
      · exact ih t t1 (by rw [t3.2.2.2.2.2.1]; exact hb) (by rw [t3.tk]; exact ht) (by rw [t3.n]; exact ho) (by rw [t3.p]; exact hi)
theorem aA.spf.works {o : Nat} (k i : Nat) {B : Nat} {a : aA} (h : a.spf) (W : WF B a) (hb : a.nm 4 ≠ 0) (ht : 0 < a.tk) (ho : o < a.n) (hi : i + k ≤ a.p o) : (aA.works o k i a).spf := by
  induction k generalizing i a B with
  | zero => exact h
  | succ k ih =>
    rw [aA.works_s]
    obtain ⟨w1, w2⟩ := W.work (a.cf 3) hb ht ho (show i < a.p o by omega)
    exact ih (i + 1) (h.work (a.cf 3) W hb ht ho (by omega)) w1 (by rw [w2.2.2.2.2.2.1]; exact hb) (by rw [w2.tk]; exact ht) (by rw [w2.n]; exact ho) (by rw [w2.p]; omega)
theorem aA.spf.allWork (o : Nat) {B : Nat} {a : aA} (h : a.spf) (W : WF B a) (hb : a.nm 4 ≠ 0) (ht : 0 < a.tk) (ho : o ≤ a.n) : (aA.allWork o a).spf := by
  induction o generalizing a B with
  | zero => exact h
  | succ o ih =>
    rw [aA.allWork_s]
    obtain ⟨w1, w2⟩ := W.works (o := o) (a.p o) 0 hb ht (by omega) (by omega)
    exact ih (h.works (o := o) (a.p o) 0 W hb ht (by omega) (by omega)) w1 (by rw [w2.2.2.2.2.2.1]; exact hb) (by rw [w2.tk]; exact ht) (by rw [w2.n]; omega)
theorem aA.spf.tick1 {a : aA} {B : Nat} (h : a.spf) (W : WF B a) : a.tick1.spf := by
  rw [aA.tick1_eq]
  exact (h.cg (b := a.tick0) rfl rfl rfl).allWork a.n W.tick0 (by show (1 : Nat) ≠ 0; decide) (by show 0 < a.tk + 1; omega) (Nat.le_refl _)
/-- what holds between two calls: the numbers' bound, the ticks' bound -/
def Inv (B K : Nat) (a : aA) : Prop := WF B a ∧ AInv a ∧ a.spf ∧ a.tk ≤ K ∧ txOk a.txt ∧ a.ex.length ≤ 8 ∧ a.wr.length ≤ 80
theorem Inv.mono {B B' K K' : Nat} {a : aA} (h : Inv B K a) (h1 : B ≤ B') (h2 : K ≤ K') : Inv B' K' a := ⟨h.1.mono h1, h.2.1, h.2.2.1, Nat.le_trans h.2.2.2.1 h2, h.2.2.2.2⟩
theorem Inv.ticks (k : Nat) {B K : Nat} {a : aA} (h : Inv B K a) : Inv (B + 300 * k) (K + k) (aA.ticks k a).2 := by
  induction k generalizing B K a with
  | zero => exact h
  | succ k ih =>
    rw [aA.ticks_s]
    split
    · exact h.mono (by omega) (by omega)
    · obtain ⟨h1, h2, h3, h4, h5, h6, h7⟩ := h
      have S : sSt a.tick1 a.tick0 := by
        rw [aA.tick1_eq]
        exact (h1.tick0.allWork a.n (by show (1 : Nat) ≠ 0; decide) (by show 0 < a.tk + 1; omega) (Nat.le_refl _)).2
      have q : Inv (B + 300) (K + 1) a.tick1 := ⟨h1.tick1, h2.tick1 h1, h3.tick1 h1, by rw [tick1_tk h1]; omega, by rw [S.2.2.2.1]; exact h5, by rw [S.2.2.2.2.2.2.2.2.1]; exact h6, by rw [S.2.2.2.2.2.2.2.2.2]; exact h7⟩
      exact (ih q).mono (by omega) (by omega)
theorem Inv.tickF {B K : Nat} {a : aA} (h : Inv B K a) (l : Int32) : Inv (B + 60001) (K + 200) (a.tickF l).2 := by
  unfold aA.tickF
  split
  · rename_i c
    obtain ⟨n, h1, h2, rfl⟩ := inB1_nI (by decide) c
    rw [nI_clamp (by omega)]
    exact (h.ticks n).mono (by omega) (by omega)
  · exact h.mono (by omega) (by omega)
theorem Inv.w_fl {B K : Nat} {a : aA} (h : Inv B K a) (x : Int32) : Inv B K (a.w_fl x) := h
theorem Inv.breaks {B K : Nat} {b : aA} (W : WF B b.breaks) (hk : b.tk ≤ K) (h5 : txOk b.txt) (h6 : b.ex.length ≤ 8) (h7 : b.wr.length ≤ 80) : Inv B K b.breaks := ⟨W, AInv.breaks b, aA.spf.brk (fun o ho => (W.p1 o ho).1), hk, h5, h6, h7⟩
theorem Inv.failF {B K : Nat} {a : aA} (h : Inv B K a) : Inv B K a.failF.2 := by
  obtain ⟨h1, h2, h3, h4, h5, h6, h7⟩ := h
  exact Inv.breaks (b := a.w_fl (a.fl + nI 1)) (WF.mkb h1.n2 h1.n6 h1.p1 h1.p0 h1.k0 h1.kl h1.km h1.k3 h1.kr h1.cf h1.inp h1.inpk (fun v _ => h1.ofs v) ⟨h1.nms.1, h1.nms.2.1, h1.nms.2.2.2.1, h1.nms.2.2.2.2⟩ h1.ct (fun v o key _ => h1.st v o key) h1.stn (fun v o key _ => h1.stu v o key)) h4 h5 h6 h7
/-- a new beginning of a state whose operators are well -/
theorem Inv.begins {B K : Nat} {b : aA} (n2 : 2 ≤ b.n) (n6 : b.n ≤ 6) (p1 : ∀ o, o < b.n → 1 ≤ b.p o ∧ b.p o ≤ 3) (p0 : b.p 0 = 1) (k0 : b.kd 0 = 7) (kl : b.kd (b.n - 1) = 8) (km : ∀ o, 0 < o → o + 1 < b.n → b.kd o ≤ 6) (k3 : ∀ o, o < b.n → b.kd o = 3 → ∃ m : Nat, m ≤ 3 ∧ b.pa o = nI m) (kr : ∀ o, o < b.n → (-99 ≤ (b.pa o).toInt ∧ (b.pa o).toInt ≤ 99) ∧ (-99 ≤ (b.pb o).toInt ∧ (b.pb o).toInt ≤ 99)) (cf : (1 ≤ b.cf 0 ∧ b.cf 0 ≤ 4) ∧ (1 ≤ b.cf 1 ∧ b.cf 1 ≤ 9) ∧ (2 ≤ b.cf 2 ∧ b.cf 2 ≤ 4) ∧ (1 ≤ b.cf 3 ∧ b.cf 3 ≤ 5)) (inp : b.inp.length ≤ 60) (inpk : ∀ x, x ∈ b.inp → x.1 < 16) (nm3 : b.nm 3 ≤ B) (ct : ∀ v o i, b.ct v o i ≤ B) (stn : ∀ o, stOk (b.kd o) (b.pa o) (none : Option (Int32 × Int32))) (h5 : txOk b.txt) (h6 : b.ex.length ≤ 8) (h7 : b.wr.length ≤ 80) : Inv B K b.begins := by
  refine Inv.breaks (b := b.begin0) (WF.mkb (b := b.begin0) n2 n6 p1 p0 k0 kl km k3 kr cf inp inpk (fun v hv => ?_) ⟨Nat.zero_le _, Nat.zero_le _, nm3, Nat.zero_le _⟩ (fun v o i => ?_) (fun v o key hv => ?_) stn (fun v o key hv _ => ?_)) (Nat.zero_le _) h5 h6 h7
  · show (if v < 2 then b.of v else 0) ≤ _
    rw [if_neg (by omega)]
    exact Nat.zero_le _
  · show (if v = 2 then (fun _ _ => 0) else b.ct v) o i ≤ B
    split
    · exact Nat.zero_le _
    · exact ct v o i
  · show stOk _ _ ((if v < 2 then b.st v else (fun _ _ => none)) o key)
    rw [if_neg (by omega)]
    exact stn o
  · show (if v < 2 then b.st v else (fun _ _ => none)) o key = none
    rw [if_neg (by omega)]
theorem Inv.clearF {B K : Nat} {a : aA} (h : Inv B K a) : Inv B K a.clearF.2 := by
  obtain ⟨h1, h2, h3, h4, h5, h6, h7⟩ := h
  exact Inv.begins (b := a.w_inp []) h1.n2 h1.n6 h1.p1 h1.p0 h1.k0 h1.kl h1.km h1.k3 h1.kr h1.cf (Nat.zero_le _) (fun x hx => by cases hx) h1.nms.2.2.2.1 h1.ct h1.stn h5 h6 h7
theorem Inv.confF {B K : Nat} {a : aA} (h : Inv B K a) (s g c r : Int32) : Inv B K (a.confF s g c r).2 := by
  obtain ⟨h1, h2, h3, h4, h5, h6, h7⟩ := h
  unfold aA.confF
  split
  · rename_i q
    obtain ⟨q1, q2, q3, q4⟩ := q
    split
    · rename_i hb
      obtain ⟨n1, a1, b1, rfl⟩ := inB1_nI (by decide) q1
      obtain ⟨n2, a2, b2, rfl⟩ := inB1_nI (by decide) q2
      obtain ⟨n3, a3, b3, rfl⟩ := inB2_nI (by decide) q3
      obtain ⟨n4, a4, b4, rfl⟩ := inB1_nI (by decide) q4
      rw [nI_clamp (show n1 < 2 ^ 31 by omega), nI_clamp (show n2 < 2 ^ 31 by omega), nI_clamp (show n3 < 2 ^ 31 by omega), nI_clamp (show n4 < 2 ^ 31 by omega)]
      refine ⟨⟨h1.n2, h1.n6, h1.p1, h1.p0, h1.k0, h1.kl, h1.km, h1.k3, h1.kr, ⟨⟨a1, b1⟩, ⟨a2, b2⟩, ⟨a3, b3⟩, ⟨a4, b4⟩⟩, h1.inp, h1.inpk, h1.ofs, h1.nms, h1.ls, h1.lsu, fun o i j => by show chOk n1 n3 a.tk B (a.ch o i j); rw [h1.bg hb]; exact chOk.c0, h1.chu, h1.ct, h1.ctl, h1.st, h1.stu, h1.pt, h1.hdu, h1.spu, h1.bg⟩, h2.cg rfl rfl rfl rfl rfl rfl rfl (fun _ _ _ => rfl), h3.cg rfl rfl rfl, h4, h5, h6, h7⟩
    · exact ⟨h1, h2, h3, h4, h5, h6, h7⟩
  · exact ⟨h1, h2, h3, h4, h5, h6, h7⟩
theorem Inv.pushF {B K : Nat} {a : aA} (h : Inv B K a) (k u : Int32) : Inv B K (a.pushF k u).2 := by
  obtain ⟨h1, h2, h3, h4, h5, h6, h7⟩ := h
  unfold aA.pushF
  split
  · rename_i q
    split
    · exact ⟨h1, h2, h3, h4, h5, h6, h7⟩
    · rename_i c
      obtain ⟨n1, a1, rfl⟩ := inB_nI (by decide) q.1
      rw [nI_clamp (show n1 < 2 ^ 31 by omega)]
      refine ⟨⟨h1.n2, h1.n6, h1.p1, h1.p0, h1.k0, h1.kl, h1.km, h1.k3, h1.kr, h1.cf, by show (a.inp ++ [(n1, u)]).length ≤ 60; have := h1.inp; rw [List.length_append]; show a.inp.length + 1 ≤ 60; omega, fun x hx => by rcases List.mem_append.mp hx with e | e; exact h1.inpk x e; rw [List.mem_singleton.mp e]; show n1 < 16; omega, fun v => by show a.of v ≤ (a.inp ++ [(n1, u)]).length; have := h1.ofs v; rw [List.length_append]; omega, h1.nms, h1.ls, h1.lsu, h1.ch, h1.chu, h1.ct, h1.ctl, h1.st, h1.stu, h1.pt, h1.hdu, h1.spu, h1.bg⟩, h2.cg rfl rfl rfl rfl rfl rfl rfl (fun _ _ _ => rfl), h3.cg rfl rfl rfl, h4, h5, h6, h7⟩
  · exact ⟨h1, h2, h3, h4, h5, h6, h7⟩
theorem Inv.appF {B K : Nat} {a : aA} (h : Inv B K a) (c k : Int32) : Inv B K (a.appF c k).2 := by
  obtain ⟨h1, h2, h3, h4, h5, h6, h7⟩ := h
  unfold aA.appF
  split
  · rename_i q
    obtain ⟨n1, a1, rfl⟩ := inB_nI (by decide) q.1
    rw [nI_clamp (show n1 < 2 ^ 31 by omega)]
    split
    · exact ⟨h1, h2, h3, h4, h5, h6, h7⟩
    · rename_i c2
      refine ⟨⟨h1.n2, h1.n6, h1.p1, h1.p0, h1.k0, h1.kl, h1.km, h1.k3, h1.kr, h1.cf, h1.inp, h1.inpk, h1.ofs, h1.nms, h1.ls, h1.lsu, h1.ch, h1.chu, h1.ct, h1.ctl, h1.st, h1.stu, h1.pt, h1.hdu, h1.spu, h1.bg⟩, h2.cg rfl rfl rfl rfl rfl rfl rfl (fun _ _ _ => rfl), h3.cg rfl rfl rfl, h4, ⟨?_, fun x hx => ?_⟩, h6, h7⟩
      · show (a.txt ++ List.replicate k.toNatClampNeg n1).length ≤ 60
        rw [List.length_append, List.length_replicate]; omega
      · rcases List.mem_append.mp hx with e | e
        · exact h5.2 x e
        · rw [(List.mem_replicate.mp e).2]; omega
  · exact ⟨h1, h2, h3, h4, h5, h6, h7⟩
theorem Inv.chkF {B K : Nat} {a : aA} (h : Inv B K a) : Inv (B + 1) K a.chkF.2 := by
  obtain ⟨h1, h2, h3, h4, h5, h6, h7⟩ := h
  have hA := h2.chkF h1
  unfold aA.chkF at hA ⊢
  split
  · rename_i c
    rw [if_pos c] at hA
    exact ⟨h1.mono (by omega), hA, h3, h4, h5, h6, h7⟩
  · rename_i c
    rw [if_neg c] at hA
    have W := h1.mono (B' := B + 1) (by omega)
    refine ⟨?_, hA, h3.cg rfl rfl rfl, h4, h5, h6, h7⟩
    exact ⟨W.n2, W.n6, W.p1, W.p0, W.k0, W.kl, W.km, W.k3, W.kr, W.cf, W.inp, W.inpk, fun v => by show (if v = 1 then a.of 0 else a.of v) ≤ _; split; exact h1.ofs 0; exact h1.ofs v, ⟨W.nms.1, W.nms.2.1, by show a.nm 1 + 1 ≤ B + 1; have := h1.nms.2.1; omega, Nat.zero_le _, Nat.le_refl 1⟩, W.ls, W.lsu, W.ch, W.chu, fun v o i => by show (if v = 1 then up2 (fun _ _ => 0) 0 0 (a.ct 0 0 0) else a.ct v) o i ≤ B + 1; split; (unfold up2; split; exact W.ct 0 0 0; exact Nat.zero_le _); exact W.ct v o i, W.ctl, fun v o key => by show stOk _ _ ((if v = 1 then (fun _ _ => none) else a.st v) o key); split; exact h1.stn o; exact h1.st v o key, fun v o key hk => by show (if v = 1 then (fun _ _ => none) else a.st v) o key = none; split; rfl; exact h1.stu v o key hk, W.pt, fun o i hn => by show up2 a.hd 0 0 true o i = false; by_cases e : o = 0 ∧ i = 0; (exact absurd ⟨by have := h1.n2; show o + 1 < a.n; omega, by rw [e.1, e.2]; show 0 < a.p 0; rw [h1.p0]; decide⟩ hn); (rw [up2_n e]; exact h1.hdu o i hn), W.spu, fun h => absurd h (by show ¬ (1 : Nat) = 0; decide)⟩
theorem Inv.w_ex {B K : Nat} {a : aA} (h : Inv B K a) {l : List (Nat × Nat)} (hl : l.length ≤ 8) : Inv B K (a.w_ex l) := ⟨h.1.w_ex l, h.2.1.cg rfl rfl rfl rfl rfl rfl rfl (fun _ _ _ => rfl), h.2.2.1.cg rfl rfl rfl, h.2.2.2.1, h.2.2.2.2.1, hl, h.2.2.2.2.2.2⟩
theorem Inv.exF {B K : Nat} {a : aA} (h : Inv B K a) (o i : Int32) : Inv B K (a.exF o i).2 := by
  unfold aA.exF
  split
  · exact h.w_ex (a.expl_len 8 _ _)
  · exact h
theorem rescF_inv {B K : Nat} {a : aA} (h : Inv B K a) {o m : Nat} (h0 : 0 < o) (ho : o < a.n) (hm : 1 ≤ m ∧ m ≤ 3) : Inv B K (a.resc o m).breaks := by
  obtain ⟨h1, h2, h3, h4, h5, h6, h7⟩ := h
  have eop : ∀ x, (up1 a.op o ((a.op o).1, (a.op o).2.1, (a.op o).2.2.1, m) x).1 = (a.op x).1 ∧ (up1 a.op o ((a.op o).1, (a.op o).2.1, (a.op o).2.2.1, m) x).2.1 = (a.op x).2.1 ∧ (up1 a.op o ((a.op o).1, (a.op o).2.1, (a.op o).2.2.1, m) x).2.2.1 = (a.op x).2.2.1 := fun x => by
    by_cases c : x = o
    · subst c; rw [up1_s]; exact ⟨rfl, rfl, rfl⟩
    · rw [up1_n c]; exact ⟨rfl, rfl, rfl⟩
  have ekd : ∀ x, (a.resc o m).kd x = a.kd x := fun x => (eop x).1
  have epa : ∀ x, (a.resc o m).pa x = a.pa x := fun x => (eop x).2.1
  have epb : ∀ x, (a.resc o m).pb x = a.pb x := fun x => (eop x).2.2
  have ep : ∀ x, (a.resc o m).p x = if x = o then m else a.p x := fun x => by
    show (up1 a.op o _ x).2.2.2 = _
    by_cases c : x = o
    · subst c; rw [up1_s, if_pos rfl]
    · rw [up1_n c, if_neg c]; rfl
  refine Inv.breaks (b := a.resc o m) (WF.mkb (b := a.resc o m) h1.n2 h1.n6 (fun x hx => ?_) ?_ ?_ ?_ (fun x q1 q2 => ?_) (fun x q1 q2 => ?_) (fun x q1 => ?_) h1.cf h1.inp h1.inpk (fun v _ => h1.ofs v) ⟨h1.nms.1, h1.nms.2.1, h1.nms.2.2.2.1, h1.nms.2.2.2.2⟩ (fun v x i => ?_) (fun v x key _ => ?_) (fun x => ?_) (fun v x key _ => h1.stu v x key)) h4 h5 h6 h7
  · rw [ep]; split
    · exact hm
    · exact h1.p1 x hx
  · rw [ep, if_neg (by omega)]; exact h1.p0
  · rw [ekd]; exact h1.k0
  · rw [ekd]; exact h1.kl
  · rw [ekd]; exact h1.km x q1 q2
  · rw [ekd] at q2; rw [epa]; exact h1.k3 x q1 q2
  · rw [epa, epb]; exact h1.kr x q1
  · show (if v = 2 then (fun x i => if x = o then 0 else a.ct 2 x i) else a.ct v) x i ≤ B
    split
    · dsimp only
      split
      · exact Nat.zero_le _
      · exact h1.ct 2 x i
    · exact h1.ct v x i
  · rw [ekd, epa]; exact h1.st v x key
  · rw [ekd, epa]; exact h1.stn x
theorem Inv.rescF {B K : Nat} {a : aA} (h : Inv B K a) (o m : Int32) : Inv B K (a.rescF o m).2 := by
  unfold aA.rescF
  split
  · rename_i c
    obtain ⟨no, g1, rfl⟩ := inB_nI (by have := h.1.n6; omega) c.1
    have hn := h.1.n2
    have hn6 := h.1.n6
    rw [nI_clamp (show no < 2 ^ 31 by omega)]
    split
    · rename_i c2
      obtain ⟨nm, m1, m2, rfl⟩ := inB1_nI (by decide) c2
      rw [nI_clamp (show nm < 2 ^ 31 by omega)]
      refine rescF_inv h ?_ (by omega) ⟨m1, m2⟩
      rcases Nat.eq_zero_or_pos no with e | e
      · exact absurd (by rw [e]; rfl) c.2
      · exact e
    · exact h
  · exact h
