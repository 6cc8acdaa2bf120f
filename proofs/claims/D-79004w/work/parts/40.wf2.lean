set_option maxRecDepth 100000
set_option linter.unusedVariables false
theorem aHome_lt {key p : Nat} (hp : 1 ≤ p) : aHome key p < p := by
  unfold aHome
  have h1 : key % 8 ≤ 7 := by omega
  have h2 : key % 8 * p ≤ 7 * p := Nat.mul_le_mul_right _ h1
  omega
theorem WF.goal {B : Nat} {a : aA} (h : WF B a) {o i : Nat} {r : aRec} (ho : o + 1 < a.n) : a.goal o i r < a.p (o + 1) := by
  have hp := h.p1 (o + 1) ho
  unfold aA.goal
  split
  · exact aHome_lt hp.1
  · exact Nat.mod_lt _ (by omega)
theorem WF.send {B : Nat} {a : aA} (h : WF B a) (hb : a.nm 4 ≠ 0) {o i : Nat} {r : aRec} {rest : List aRec} (ho : o + 1 < a.n) (hi : i < a.p o) (hl : a.ls o i = r :: rest) (hf : cFit (a.cf 0) (a.cf 2) (a.ch o i (a.goal o i r)) = true) : WF B (a.send o i r rest) := by
  have hls := h.ls o i
  have hct := h.ctl o i
  rw [hl] at hls hct
  have hg := h.goal (i := i) (r := r) ho
  have hr : rOk a.tk r := hls.2 r (List.mem_cons_self ..)
  have h3 : rest.length + 1 ≤ 3 := hls.1
  have hct2 : a.ct 0 o i + (rest.length + 1) ≤ B := hct
  have c1 : ∀ v x y, (if a.ky (o + 1) = true then a.ct else up3 a.ct 0 o i (a.ct 0 o i + 1)) v x y ≤ B := by
    split
    · exact h.ct
    · exact up3_P (P := fun _ _ _ c => c ≤ B) h.ct (by omega)
  have c2 : ∀ x y, (if a.ky (o + 1) = true then a.ct else up3 a.ct 0 o i (a.ct 0 o i + 1)) 0 x y + (up2 a.ls o i rest x y).length ≤ B := fun x y => by
    by_cases e : x = o ∧ y = i
    · obtain ⟨rfl, rfl⟩ := e
      rw [up2_s]
      split
      · omega
      · rw [up3_s]; omega
    · rw [up2_n e]
      split
      · exact h.ctl x y
      · rw [up3_n (fun c => e c.2)]; exact h.ctl x y
  exact ⟨h.n2, h.n6, h.p1, h.p0, h.k0, h.kl, h.km, h.k3, h.kr, h.cf, h.inp, h.inpk, h.ofs, h.nms, up2_P (P := fun _ _ (l : List aRec) => l.length ≤ 3 ∧ rsOk a.tk l) h.ls ⟨by omega, fun q hq => hls.2 q (List.mem_cons_of_mem _ hq)⟩, up2_P (P := fun x y (l : List aRec) => ¬ (x + 1 < a.n ∧ y < a.p x) → l = []) h.lsu (fun c => absurd ⟨ho, hi⟩ c), up3_P (P := fun _ _ _ c => chOk (a.cf 0) (a.cf 2) a.tk B c) h.ch ((h.ch o i _).put h.cf.1.1 h.cf.1.2 hf hr), up3_P (P := fun x y z c => ¬ (x + 1 < a.n ∧ y < a.p x ∧ z < a.p (x + 1)) → c = c0) h.chu (fun c => absurd ⟨ho, hi, hg⟩ c), c1, c2, h.st, h.stu, h.pt, h.hdu, h.spu, fun e => absurd e hb⟩
theorem sSt.send (a : aA) (o i : Nat) (r : aRec) (rest : List aRec) : sSt (a.send o i r rest) a := sSt.rf
theorem aA.sendL_cons {o i : Nat} {r : aRec} {rest : List aRec} {a : aA} : aA.sendL o i (r :: rest) a = if cFit (a.cf 0) (a.cf 2) (a.ch o i (a.goal o i r)) = true then aA.sendL o i rest (a.send o i r rest) else (false, a) := rfl
theorem WF.sendL {o i B : Nat} (l : List aRec) {a : aA} (h : WF B a) (hb : a.nm 4 ≠ 0) (ho : o + 1 < a.n) (hi : i < a.p o) (hl : a.ls o i = l) : WF B (aA.sendL o i l a).2 ∧ sSt (aA.sendL o i l a).2 a ∧ ((aA.sendL o i l a).1 = true → (aA.sendL o i l a).2.ls o i = []) ∧ (aA.sendL o i l a).2.hd = a.hd := by
  induction l generalizing a with
  | nil => exact ⟨h, sSt.rf, fun _ => hl, rfl⟩
  | cons r rest ih =>
    rw [aA.sendL_cons]
    split
    · rename_i hf
      obtain ⟨i1, i2, i3, i4⟩ := ih (a := a.send o i r rest) (h.send hb ho hi hl hf) hb ho hi up2_s
      exact ⟨i1, i2.tr (sSt.send a o i r rest), i3, i4⟩
    · exact ⟨h, sSt.rf, fun e => (by cases e), rfl⟩
theorem aA.bar_none {a : aA} {o i : Nat} (h : a.bar o i = none) : ∀ j, j < a.p (o + 1) → cFitB (a.cf 2) (a.ch o i j) = true := fun j hj => by
  have := List.find?_eq_none.mp h j (List.mem_range.mpr hj)
  simpa using this
theorem aA.putBs_s {o i k j : Nat} {a : aA} : aA.putBs o i (k + 1) j a = aA.putBs o i k (j + 1) (a.w_ch (up3 a.ch o i j (cPutB (a.ch o i j)))) := rfl
theorem WF.putB {B : Nat} {a : aA} (h : WF B a) (hb : a.nm 4 ≠ 0) {o i j : Nat} (ho : o + 1 < a.n) (hi : i < a.p o) (hj : j < a.p (o + 1)) (hf : cFitB (a.cf 2) (a.ch o i j) = true) : WF B (a.w_ch (up3 a.ch o i j (cPutB (a.ch o i j)))) := ⟨h.n2, h.n6, h.p1, h.p0, h.k0, h.kl, h.km, h.k3, h.kr, h.cf, h.inp, h.inpk, h.ofs, h.nms, h.ls, h.lsu, up3_P (P := fun _ _ _ c => chOk (a.cf 0) (a.cf 2) a.tk B c) h.ch ((h.ch o i j).putB h.cf.1.2 hf), up3_P (P := fun x y z c => ¬ (x + 1 < a.n ∧ y < a.p x ∧ z < a.p (x + 1)) → c = c0) h.chu (fun c => absurd ⟨ho, hi, hj⟩ c), h.ct, h.ctl, h.st, h.stu, h.pt, h.hdu, h.spu, fun e => absurd e hb⟩
theorem WF.putBs {o i B : Nat} (k j : Nat) {a : aA} (h : WF B a) (hb : a.nm 4 ≠ 0) (ho : o + 1 < a.n) (hi : i < a.p o) (hk : j + k ≤ a.p (o + 1)) (hf : ∀ x, j ≤ x → x < j + k → cFitB (a.cf 2) (a.ch o i x) = true) : WF B (aA.putBs o i k j a) ∧ sSt (aA.putBs o i k j a) a ∧ (aA.putBs o i k j a).ls = a.ls := by
  induction k generalizing a j with
  | zero => exact ⟨h, sSt.rf, rfl⟩
  | succ k ih =>
    rw [aA.putBs_s]
    obtain ⟨i1, i2, i3⟩ := ih (j + 1) (a := a.w_ch (up3 a.ch o i j (cPutB (a.ch o i j)))) (h.putB hb ho hi (by omega) (hf j (Nat.le_refl _) (by omega))) hb ho hi (by show j + 1 + k ≤ a.p (o + 1); omega) (fun x h1 h2 => by
      show cFitB (a.cf 2) (up3 a.ch o i j _ o i x) = true
      rw [up3_n (fun c => by omega)]
      exact hf x (by omega) (by omega))
    exact ⟨i1, i2.tr sSt.rf, i3⟩
theorem aA.putBs_hd {o i k j : Nat} {a : aA} : (aA.putBs o i k j a).hd = a.hd := by
  induction k generalizing a j with
  | zero => rfl
  | succ k ih => exact ih (a := a.w_ch (up3 a.ch o i j (cPutB (a.ch o i j))))
theorem WF.hdF {B : Nat} {a : aA} (h : WF B a) (o i : Nat) : WF B (a.w_hd (up2 a.hd o i false)) := ⟨h.n2, h.n6, h.p1, h.p0, h.k0, h.kl, h.km, h.k3, h.kr, h.cf, h.inp, h.inpk, h.ofs, h.nms, h.ls, h.lsu, h.ch, h.chu, h.ct, h.ctl, h.st, h.stu, h.pt, up2_P (P := fun x y c => ¬ (x + 1 < a.n ∧ y < a.p x) → c = false) h.hdu (fun _ => rfl), h.spu, h.bg⟩
theorem WF.flush {o i B : Nat} {a : aA} (h : WF B a) (hb : a.nm 4 ≠ 0) (ho : o < a.n) (hi : i < a.p o) : WF B (a.flush o i).2 ∧ sSt (a.flush o i).2 a ∧ ((a.flush o i).1 = true → (a.flush o i).2.ls o i = []) := by
  by_cases hn : o + 1 < a.n
  · obtain ⟨s1, s2, s3, s4⟩ := WF.sendL (a.ls o i) h hb hn hi rfl
    unfold aA.flush
    dsimp only
    generalize aA.sendL o i (a.ls o i) a = s at s1 s2 s3 s4
    have hb2 : s.2.nm 4 ≠ 0 := by rw [s2.2.2.2.2.2.1]; exact hb
    have ho2 : o + 1 < s.2.n := by rw [s2.n]; exact hn
    have hi2 : i < s.2.p o := by rw [s2.p]; exact hi
    split
    · exact ⟨s1, s2, s3⟩
    · rename_i c1
      have c1 : s.1 = true := by simpa using c1
      split
      · exact ⟨s1, s2, s3⟩
      · split
        · exact ⟨s1, s2, fun e => by cases e⟩
        · rename_i c2
          have c2 : s.2.bar o i = none := by simpa using c2
          obtain ⟨p1, p2, p3⟩ := WF.putBs (s.2.p (o + 1)) 0 s1 hb2 ho2 hi2 (by omega) (fun x _ hx => aA.bar_none c2 x (by omega))
          have q1 := p1.hdF o i
          refine ⟨?_, ?_, fun _ => ?_⟩
          · have e : (aA.putBs o i (s.2.p (o + 1)) 0 s.2).w_hd (up2 s.2.hd o i false) = (aA.putBs o i (s.2.p (o + 1)) 0 s.2).w_hd (up2 (aA.putBs o i (s.2.p (o + 1)) 0 s.2).hd o i false) := by rw [aA.putBs_hd]
            rw [e]; exact q1
          · exact (sSt.rf (a := aA.putBs o i (s.2.p (o + 1)) 0 s.2)).tr (p2.tr s2)
          · show (aA.putBs o i (s.2.p (o + 1)) 0 s.2).ls o i = []
            rw [p3]; exact s3 c1
  · have hl := h.lsu o i (fun c => hn c.1)
    have hh := h.hdu o i (fun c => hn c.1)
    have : a.flush o i = (true, a) := by
      unfold aA.flush
      rw [hl]
      show (if (true, a).1 = false then _ else if a.hd o i = false then (true, a) else _) = (true, a)
      rw [hh]; rfl
    rw [this]
    exact ⟨h, sSt.rf, fun _ => hl⟩
theorem WF.finish {B : Nat} {a : aA} (h : WF B a) : WF B a.finish := ⟨h.n2, h.n6, h.p1, h.p0, h.k0, h.kl, h.km, h.k3, h.kr, h.cf, h.inp, h.inpk, fun v => by show (if v = 2 then a.of 1 else a.of v) ≤ _; split; exact h.ofs 1; exact h.ofs v, ⟨h.nms.1, h.nms.2.2.1, Nat.zero_le _, h.nms.2.2.2.1, h.nms.2.2.2.2⟩, h.ls, h.lsu, h.ch, h.chu, fun v x y => by show (if v = 2 then a.ct 1 else a.ct v) x y ≤ B; split; exact h.ct 1 x y; exact h.ct v x y, h.ctl, fun v x key => by show stOk _ _ ((if v = 2 then a.st 1 else a.st v) x key); split; exact h.st 1 x key; exact h.st v x key, fun v x key c => by show (if v = 2 then a.st 1 else a.st v) x key = none; split; exact h.stu 1 x key c; exact h.stu v x key c, h.pt, h.hdu, h.spu, h.bg⟩
theorem sSt.finish (a : aA) : sSt a.finish a := sSt.rf
/-- what align begins with -/
def aA.align0 (a : aA) (o i : Nat) : aA := (((a.w_sp (fun x y f => if x = o ∧ y = i then false else a.sp x y f)).w_st (fun v x key => if v = 1 ∧ x = o ∧ a.ky o = true ∧ key < 16 ∧ aHome key (a.p o) = i then a.st 0 o key else a.st v x key)).w_ct (up3 a.ct 1 o i (a.ct 0 o i))).w_al (up2 a.al o i true)
theorem aA.align_eq (a : aA) (o i : Nat) : a.align o i = (if o + 1 < a.n then (a.align0 o i).w_hd (up2 a.hd o i true) else if a.sk + 1 = a.p o then ((a.align0 o i).w_nm (up1 a.nm 3 (a.sk + 1))).finish else (a.align0 o i).w_nm (up1 a.nm 3 (a.sk + 1))) := rfl
theorem WF.w_sp {B : Nat} {a : aA} (h : WF B a) (s : Nat → Nat → Nat → Bool) (hs : ∀ o i f, ¬ (0 < o ∧ o < a.n ∧ i < a.p o ∧ f < a.p (o - 1)) → s o i f = false) : WF B (a.w_sp s) := ⟨h.n2, h.n6, h.p1, h.p0, h.k0, h.kl, h.km, h.k3, h.kr, h.cf, h.inp, h.inpk, h.ofs, h.nms, h.ls, h.lsu, h.ch, h.chu, h.ct, h.ctl, h.st, h.stu, h.pt, h.hdu, hs, h.bg⟩
theorem WF.w_al {B : Nat} {a : aA} (h : WF B a) (s : Nat → Nat → Bool) : WF B (a.w_al s) := ⟨h.n2, h.n6, h.p1, h.p0, h.k0, h.kl, h.km, h.k3, h.kr, h.cf, h.inp, h.inpk, h.ofs, h.nms, h.ls, h.lsu, h.ch, h.chu, h.ct, h.ctl, h.st, h.stu, h.pt, h.hdu, h.spu, h.bg⟩
theorem WF.w_hdT {B : Nat} {a : aA} (h : WF B a) {o i : Nat} (hn : o + 1 < a.n) (hi : i < a.p o) : WF B (a.w_hd (up2 a.hd o i true)) := ⟨h.n2, h.n6, h.p1, h.p0, h.k0, h.kl, h.km, h.k3, h.kr, h.cf, h.inp, h.inpk, h.ofs, h.nms, h.ls, h.lsu, h.ch, h.chu, h.ct, h.ctl, h.st, h.stu, h.pt, up2_P (P := fun x y c => ¬ (x + 1 < a.n ∧ y < a.p x) → c = false) h.hdu (fun c => absurd ⟨hn, hi⟩ c), h.spu, h.bg⟩
theorem WF.w_sk {B : Nat} {a : aA} (h : WF B a) : WF (B + 1) (a.w_nm (up1 a.nm 3 (a.sk + 1))) := by
  have hs : a.sk ≤ B := h.nms.2.2.2.1
  have h := h.mono (Nat.le_succ B)
  exact ⟨h.n2, h.n6, h.p1, h.p0, h.k0, h.kl, h.km, h.k3, h.kr, h.cf, h.inp, h.inpk, h.ofs, ⟨h.nms.1, h.nms.2.1, h.nms.2.2.1, Nat.succ_le_succ hs, h.nms.2.2.2.2⟩, h.ls, h.lsu, h.ch, h.chu, h.ct, h.ctl, h.st, h.stu, h.pt, h.hdu, h.spu, h.bg⟩
theorem WF.w_ct1 {B : Nat} {a : aA} (h : WF B a) {o i q : Nat} (hx : q ≤ B) : WF B (a.w_ct (up3 a.ct 1 o i q)) := ⟨h.n2, h.n6, h.p1, h.p0, h.k0, h.kl, h.km, h.k3, h.kr, h.cf, h.inp, h.inpk, h.ofs, h.nms, h.ls, h.lsu, h.ch, h.chu, up3_P (P := fun _ _ _ c => c ≤ B) h.ct hx, fun x y => by show up3 a.ct 1 o i q 0 x y + (a.ls x y).length ≤ B; rw [up3_n (by omega)]; exact h.ctl x y, h.st, h.stu, h.pt, h.hdu, h.spu, h.bg⟩
theorem WF.w_st1 {B : Nat} {a : aA} (h : WF B a) (o i : Nat) : WF B (a.w_st (fun v x key => if v = 1 ∧ x = o ∧ a.ky o = true ∧ key < 16 ∧ aHome key (a.p o) = i then a.st 0 o key else a.st v x key)) := by
  have c3 : ∀ v x key, stOk (a.kd x) (a.pa x) (if v = 1 ∧ x = o ∧ a.ky o = true ∧ key < 16 ∧ aHome key (a.p o) = i then a.st 0 o key else a.st v x key) := fun v x key => by
    split
    · rename_i c; rw [c.2.1]; exact h.st 0 o key
    · exact h.st v x key
  have c4 : ∀ v x key, ¬ (x < a.n ∧ key < 16) → (if v = 1 ∧ x = o ∧ a.ky o = true ∧ key < 16 ∧ aHome key (a.p o) = i then a.st 0 o key else a.st v x key) = none := fun v x key e => by
    split
    · rename_i c; exact h.stu 0 o key (by rw [← c.2.1]; exact e)
    · exact h.stu v x key e
  exact ⟨h.n2, h.n6, h.p1, h.p0, h.k0, h.kl, h.km, h.k3, h.kr, h.cf, h.inp, h.inpk, h.ofs, h.nms, h.ls, h.lsu, h.ch, h.chu, h.ct, h.ctl, c3, c4, h.pt, h.hdu, h.spu, h.bg⟩
theorem WF.align0 {B : Nat} {a : aA} (h : WF B a) (o i : Nat) : WF B (a.align0 o i) := by
  have h1 := h.w_sp (fun x y f => if x = o ∧ y = i then false else a.sp x y f) (fun x y f c => by split; rfl; exact h.spu x y f c)
  have h2 := h1.w_st1 o i
  have h3 := h2.w_ct1 (o := o) (i := i) (q := a.ct 0 o i) (h.ct 0 o i)
  exact h3.w_al (up2 a.al o i true)
theorem aA.align0_st (a : aA) (o i : Nat) : sSt (a.align0 o i) a ∧ (a.align0 o i).hd = a.hd ∧ (a.align0 o i).nm = a.nm := ⟨sSt.rf, rfl, rfl⟩
theorem sSt.w_hd {a : aA} (x : Nat → Nat → Bool) : sSt (a.w_hd x) a := sSt.rf
theorem sSt.w_sk {a : aA} (x : Nat) : sSt (a.w_nm (up1 a.nm 3 x)) a := sSt.rf
theorem WF.align {B : Nat} {a : aA} (h : WF B a) {o i : Nat} (ho : o < a.n) (hi : i < a.p o) : WF (B + 1) (a.align o i) ∧ sSt (a.align o i) a := by
  have h0 := h.align0 o i
  have g := aA.align0_st a o i
  rw [aA.align_eq]
  generalize a.align0 o i = b at h0 g
  obtain ⟨g1, g2, g3⟩ := g
  unfold aA.sk
  rw [← g2, ← g3]
  split
  · rename_i hn
    exact ⟨(h0.w_hdT (o := o) (i := i) (by rw [g1.n]; exact hn) (by rw [g1.p]; exact hi)).mono (Nat.le_succ B), (sSt.w_hd _).tr g1⟩
  · split
    · exact ⟨h0.w_sk.finish, (sSt.finish _).tr ((sSt.w_sk _).tr g1)⟩
    · exact ⟨h0.w_sk, (sSt.w_sk _).tr g1⟩
theorem WF.w_pt {B : Nat} {a : aA} (h : WF B a) {o i x : Nat} (hx : x < 3) : WF B (a.w_pt (up2 a.pt o i x)) := ⟨h.n2, h.n6, h.p1, h.p0, h.k0, h.kl, h.km, h.k3, h.kr, h.cf, h.inp, h.inpk, h.ofs, h.nms, h.ls, h.lsu, h.ch, h.chu, h.ct, h.ctl, h.st, h.stu, up2_P (P := fun _ _ c => c < 3) h.pt hx, h.hdu, h.spu, h.bg⟩
theorem WF.w_chq {B : Nat} {a : aA} (h : WF B a) (hb : a.nm 4 ≠ 0) {x y z : Nat} {c : aCh} (hu : (a.ch x y z).1 ≠ []) (hc : chOk (a.cf 0) (a.cf 2) a.tk B c) : WF B (a.w_ch (up3 a.ch x y z c)) := by
  have hu2 : x + 1 < a.n ∧ y < a.p x ∧ z < a.p (x + 1) := Classical.byContradiction fun e => hu (by rw [h.chu x y z e]; rfl)
  exact ⟨h.n2, h.n6, h.p1, h.p0, h.k0, h.kl, h.km, h.k3, h.kr, h.cf, h.inp, h.inpk, h.ofs, h.nms, h.ls, h.lsu, up3_P (P := fun _ _ _ c => chOk (a.cf 0) (a.cf 2) a.tk B c) h.ch hc, up3_P (P := fun x y z c => ¬ (x + 1 < a.n ∧ y < a.p x ∧ z < a.p (x + 1)) → c = c0) h.chu (fun c => absurd hu2 c), h.ct, h.ctl, h.st, h.stu, h.pt, h.hdu, h.spu, fun e => absurd e hb⟩
theorem WF.takeItem {B : Nat} {a : aA} (h : WF B a) (hb : a.nm 4 ≠ 0) {o i f : Nat} (h0 : 0 < o) (ho : o < a.n) (hi : i < a.p o) (hls : a.ls o i = []) : WF (B + 3) (a.takeItem o i f) ∧ sSt (a.takeItem o i f) a := by
  have hp := h.p1 (o - 1) (by omega)
  have h1 : WF B (a.w_pt (up2 a.pt o i ((f + 1) % a.p (o - 1)))) := h.w_pt (by have := Nat.mod_lt (f + 1) (show 0 < a.p (o - 1) by omega); omega)
  have hch := h.ch (o - 1) f i
  unfold aA.takeItem
  dsimp only
  split
  · exact ⟨h1.mono (by omega), sSt.rf⟩
  · rename_i q hq
    have hu : o - 1 + 1 < a.n ∧ f < a.p (o - 1) ∧ i < a.p (o - 1 + 1) := Classical.byContradiction fun e => by rw [h.chu (o - 1) f i e] at hq; cases hq
    have h2 := (h1.w_chq (x := o - 1) (y := f) (z := i) (c := (q, (a.ch (o - 1) f i).2.1, (a.ch (o - 1) f i).2.2)) hb (by show (a.ch (o - 1) f i).1 ≠ []; rw [hq]; simp) (hch.tail hq)).w_sp (up3 a.sp o i f true) (up3_P (P := fun x y z b => ¬ (0 < x ∧ x < a.n ∧ y < a.p x ∧ z < a.p (x - 1)) → b = false) h.spu (fun c => absurd ⟨h0, ho, hi, hu.2.1⟩ c))
    split
    · have := h2.align ho hi
      exact ⟨this.1.mono (by omega), this.2.tr sSt.rf⟩
    · exact ⟨h2.mono (by omega), sSt.rf⟩
  · rename_i q hq
    exact ⟨(h1.w_chq (x := o - 1) (y := f) (z := i) (c := (q, (a.ch (o - 1) f i).2.1, (a.ch (o - 1) f i).2.2)) hb (by show (a.ch (o - 1) f i).1 ≠ []; rw [hq]; simp) (hch.tail hq)).mono (by omega), sSt.rf⟩
  · rename_i r rs q hq
    have hr : rOk a.tk r := (hch.2.2.2.2.1 (r :: rs) (by rw [hq]; exact List.mem_cons_self ..)).2.2 r (List.mem_cons_self ..)
    have hc : chOk (a.cf 0) (a.cf 2) a.tk B ((if rs.isEmpty = true then q else some rs :: q), (a.ch (o - 1) f i).2.1, (a.ch (o - 1) f i).2.2) := by
      split
      · exact hch.tail hq
      · rename_i e
        exact hch.eat hq (fun c => by rw [c] at e; exact e rfl)
    have h2 := h1.w_chq (x := o - 1) (y := f) (z := i) hb (by show (a.ch (o - 1) f i).1 ≠ []; rw [hq]; simp) hc
    exact ⟨h2.takeIn ho hi hls hr, (sSt.takeIn _ _ _ _).tr sSt.rf⟩
theorem WF.takeInput {B : Nat} {a : aA} (h : WF B a) (ht : 0 < a.tk) (hls : a.ls 0 0 = []) (hof : a.of 0 ≠ a.inp.length) : WF (B + 3) a.takeInput ∧ sSt a.takeInput a := by
  have hl := h.ofs 0
  have h1 : WF B (a.w_of (up1 a.of 0 (a.of 0 + 1))) := ⟨h.n2, h.n6, h.p1, h.p0, h.k0, h.kl, h.km, h.k3, h.kr, h.cf, h.inp, h.inpk, up1_P (P := fun _ x => x ≤ a.inp.length) h.ofs (by omega), h.nms, h.ls, h.lsu, h.ch, h.chu, h.ct, h.ctl, h.st, h.stu, h.pt, h.hdu, h.spu, h.bg⟩
  have hm : a.inp.getD (a.of 0) (0, 0) ∈ a.inp := by
    rw [List.getD_eq_getElem?_getD, List.getElem?_eq_getElem (by omega)]
    exact List.getElem_mem _
  have hr : rOk a.tk ((a.inp.getD (a.of 0) (0, 0)).1, (a.inp.getD (a.of 0) (0, 0)).2, a.tk - 1) := ⟨h.inpk _ hm, by show a.tk - 1 < a.tk; omega⟩
  exact ⟨h1.takeIn (o := 0) (i := 0) (by have := h.n2; show 0 < a.n; omega) (by show 0 < a.p 0; rw [h.p0]; decide) hls hr, (sSt.takeIn _ _ _ _).tr sSt.rf⟩
theorem WF.take {B : Nat} {a : aA} (h : WF B a) (hb : a.nm 4 ≠ 0) (ht : 0 < a.tk) {o i : Nat} (ho : o < a.n) (hi : i < a.p o) (hls : a.ls o i = []) : WF (B + 3) (a.take o i).2 ∧ sSt (a.take o i).2 a := by
  unfold aA.take
  split
  · rename_i h0
    subst h0
    have : i = 0 := by rw [h.p0] at hi; omega
    subst this
    split
    · exact ⟨h.mono (by omega), sSt.rf⟩
    · rename_i c
      exact h.takeInput ht hls c
  · rename_i h0
    split
    · exact ⟨h.mono (by omega), sSt.rf⟩
    · exact h.takeItem hb (by omega) ho hi hls
theorem aA.work_eq (o i b : Nat) (a : aA) : aA.work o i b a = (if (a.flush o i).1 = false then (a.flush o i).2.inc 2 o else match b with
      | 0 => (a.flush o i).2
      | b + 1 => if ((a.flush o i).2.take o i).1 = false then ((a.flush o i).2.take o i).2.inc 3 o else aA.work o i b ((a.flush o i).2.take o i).2) := by
  cases b <;> rfl
theorem WF.work {o i : Nat} (b : Nat) {B : Nat} {a : aA} (h : WF B a) (hb : a.nm 4 ≠ 0) (ht : 0 < a.tk) (ho : o < a.n) (hi : i < a.p o) : WF (B + 3 * b) (aA.work o i b a) ∧ sSt (aA.work o i b a) a := by
  induction b generalizing a B with
  | zero =>
    obtain ⟨f1, f2, f3⟩ := h.flush hb ho hi
    rw [aA.work_eq]
    split
    · exact ⟨f1.inc 2 o, (sSt.rf (a := (a.flush o i).2)).tr f2⟩
    · exact ⟨f1, f2⟩
  | succ b ih =>
    obtain ⟨f1, f2, f3⟩ := h.flush hb ho hi
    rw [aA.work_eq]
    split
    · exact ⟨(f1.inc 2 o).mono (by omega), (sSt.rf (a := (a.flush o i).2)).tr f2⟩
    · rename_i c
      have c : (a.flush o i).1 = true := by simpa using c
      obtain ⟨t1, t2⟩ := f1.take (o := o) (i := i) (by rw [f2.2.2.2.2.2.1]; exact hb) (by rw [f2.tk]; exact ht) (by rw [f2.n]; exact ho) (by rw [f2.p]; exact hi) (f3 c)
      have t3 := t2.tr f2
      dsimp only
      split
      · exact ⟨(t1.inc 3 o).mono (by omega), (sSt.rf (a := ((a.flush o i).2.take o i).2)).tr t3⟩
      · obtain ⟨i1, i2⟩ := ih t1 (by rw [t3.2.2.2.2.2.1]; exact hb) (by rw [t3.tk]; exact ht) (by rw [t3.n]; exact ho) (by rw [t3.p]; exact hi)
        exact ⟨i1.mono (by omega), i2.tr t3⟩
theorem aA.works_s {o k i : Nat} {a : aA} : aA.works o (k + 1) i a = aA.works o k (i + 1) (aA.work o i (a.cf 3) a) := rfl
theorem WF.works {o : Nat} (k i : Nat) {B : Nat} {a : aA} (h : WF B a) (hb : a.nm 4 ≠ 0) (ht : 0 < a.tk) (ho : o < a.n) (hi : i + k ≤ a.p o) : WF (B + 15 * k) (aA.works o k i a) ∧ sSt (aA.works o k i a) a := by
  induction k generalizing a B i with
  | zero => exact ⟨h, sSt.rf⟩
  | succ k ih =>
    rw [aA.works_s]
    obtain ⟨w1, w2⟩ := h.work (i := i) (a.cf 3) hb ht ho (by omega)
    have h5 := h.cf.2.2.2.2
    obtain ⟨i1, i2⟩ := ih (i + 1) (w1.mono (B' := B + 15) (by omega)) (by rw [w2.2.2.2.2.2.1]; exact hb) (by rw [w2.tk]; exact ht) (by rw [w2.n]; exact ho) (by rw [w2.p]; omega)
    exact ⟨i1.mono (by omega), i2.tr w2⟩
theorem aA.allWork_s {o : Nat} {a : aA} : aA.allWork (o + 1) a = aA.allWork o (aA.works o (a.p o) 0 a) := rfl
theorem WF.allWork (o : Nat) {B : Nat} {a : aA} (h : WF B a) (hb : a.nm 4 ≠ 0) (ht : 0 < a.tk) (ho : o ≤ a.n) : WF (B + 45 * o) (aA.allWork o a) ∧ sSt (aA.allWork o a) a := by
  induction o generalizing a B with
  | zero => exact ⟨h, sSt.rf⟩
  | succ o ih =>
    rw [aA.allWork_s]
    have hp := h.p1 o (by omega)
    obtain ⟨w1, w2⟩ := h.works (o := o) (a.p o) 0 hb ht (by omega) (by omega)
    obtain ⟨i1, i2⟩ := ih (w1.mono (B' := B + 45) (by omega)) (by rw [w2.2.2.2.2.2.1]; exact hb) (by rw [w2.tk]; exact ht) (by rw [w2.n]; omega)
    exact ⟨i1.mono (by omega), i2.tr w2⟩
/-- a tick's begin -/
def aA.tick0 (a : aA) : aA := (a.grow).w_nm (up1 (up1 a.nm 4 1) 0 (a.tk + 1))
theorem cGrow_c0 (g cr : Nat) : cGrow g cr c0 = c0 := rfl
theorem WF.tick0 {B : Nat} {a : aA} (h : WF B a) : WF (B + 1) a.tick0 := by
  have h0 := h
  have h := h.mono (Nat.le_succ B)
  exact ⟨h.n2, h.n6, h.p1, h.p0, h.k0, h.kl, h.km, h.k3, h.kr, h.cf, h.inp, h.inpk, h.ofs, ⟨Nat.succ_le_succ h0.nms.1, h.nms.2.1, h.nms.2.2.1, h.nms.2.2.2.1, Nat.le_refl _⟩, fun o i => ⟨(h.ls o i).1, (h.ls o i).2.mono (Nat.le_succ _)⟩, h.lsu, fun o i j => ((h0.ch o i j).grow h.cf.1.2).mono (Nat.le_succ _) (Nat.le_refl _), fun o i j c => by show cGrow _ _ (a.ch o i j) = c0; rw [h.chu o i j c]; rfl, h.ct, h.ctl, h.st, h.stu, h.pt, h.hdu, h.spu, fun e => by cases e⟩
theorem aA.tick1_eq (a : aA) : a.tick1 = aA.allWork a.n a.tick0 := rfl
theorem WF.tick1 {B : Nat} {a : aA} (h : WF B a) : WF (B + 300) a.tick1 := by
  have := (h.tick0.allWork a.n (by show (1 : Nat) ≠ 0; decide) (by show 0 < a.tk + 1; omega) (Nat.le_refl _)).1
  exact this.mono (by have := h.n6; omega)
theorem WF.ticks (k : Nat) {B : Nat} {a : aA} (h : WF B a) : WF (B + 300 * k) (aA.ticks k a).2 := by
  induction k generalizing a B with
  | zero => exact h
  | succ k ih =>
    have : aA.ticks (k + 1) a = if a.quiet = true then (0, a) else ((aA.ticks k a.tick1).1 + 1, (aA.ticks k a.tick1).2) := rfl
    rw [this]
    split
    · exact h.mono (by omega)
    · exact (ih h.tick1).mono (by omega)
