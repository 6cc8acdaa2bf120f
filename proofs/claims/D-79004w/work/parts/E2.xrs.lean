set_option maxRecDepth 100000
theorem yRn_q (Y : xY) {r o x : Nat} (h : rQ r) (q : yAt Y (sgR r) o x) : yAt (yRn Y) r o x := ⟨q, Or.inl h⟩
/-- the old ones, renamed -/
theorem RepX.old {b : aA} {tk x0 g0 fi ps ox : Nat} {p : Nat → Nat} {Y : xY} {V : xVV} {I : xII} {J : xJJ} {A : xVV} {w0 : xW} {T : xT} {O R : xO} (P : PX Y V I J A w0 T O R) (H : RepX b tk x0 g0 fi ps Y V I J A) (hp : ∀ k, k < b.n → k ≠ ox → p k = b.p k) : bOld (yRn Y) (vRn V) (vRn A) b.n p ox (b.ct 0) (b.ct 2) (vRn A 7001 0) := fun k hk => by
  obtain ⟨⟨x7, m1, m2, m3⟩, -⟩ := H.Ar
  obtain ⟨xr, w1, w2, w3, w4⟩ := m3 k hk
  refine ⟨xr, w1, yRn_q Y (by unfold rQ; omega) w2, fun hne => ⟨?_, fun i hi => ?_⟩⟩
  · show yN Y 6001 k = p k
    rw [hp k hk hne]
    exact w3
  · rw [hp k hk hne] at hi
    obtain ⟨x, n1, n2⟩ := w4 i hi
    obtain ⟨xi, e9, -, -, -, -, -, -, -, -, -, ⟨xv, i21, i22⟩, -⟩ := H.In k hk i hi
    obtain ⟨xc, q, c1, c2, c3, -⟩ := H.Ct k hk i hi
    have ev : xv = xc := P.fn i22 c1.1
    refine ⟨x, xv, q, n1, yRn_q Y (by unfold rQ; omega) n2, i21, ⟨yRn_q Y (by unfold rQ; omega) i22, fun v hv => ?_⟩, c2, c3⟩
    obtain ⟨xk, g1, g2, g3⟩ := c1.2 v hv
    exact ⟨xk, g1, yRn_q Y (by unfold rQ; omega) g2, g3⟩
theorem xAl.rnV {Y : xY} {V A : xVV} {x g0 : Nat} {l : List Nat} (h : xAl Y V A 134 5003 x g0 l) : xAl (yRn Y) (vRn V) (vRn A) 134 5003 x g0 l := by
  unfold xAl at h ⊢
  simp only [yRn_at Y (show kR 134 by unfold kR rQ dR gIn; omega), yRn_n Y (show kR 134 by unfold kR rQ dR gIn; omega), yRn_at Y (show kR 5003 by unfold kR rQ dR gIn; omega), yRn_n Y (show kR 5003 by unfold kR rQ dR gIn; omega), vRn_at V (show kR 134 by unfold kR rQ dR gIn; omega), vRn_at A (show kR 5003 by unfold kR rQ dR gIn; omega)]
  exact h
theorem xNd.rn {Y : xY} {V : xVV} : ∀ (sp : List (Nat × Nat)), xNd Y V sp → xNd (yRn Y) (vRn V) sp
  | [], _ => trivial
  | p :: r, h => ⟨by rw [yRn_at Y (show kR 53 by unfold kR rQ dR gIn; omega)]; exact h.1, h.2.1, h.2.2.1, xNd.rn r h.2.2.2⟩
theorem xSp.rn {Y : xY} {V : xVV} {x : Nat} {sp : List (Nat × Nat)} (h : xSp Y V x sp) : xSp (yRn Y) (vRn V) x sp := ⟨by rw [yRn_at Y (show kR 33 by unfold kR rQ dR gIn; omega)]; exact h.1, h.2.1, h.2.2.1, h.2.2.2.1, h.2.2.2.2.1.rn, h.2.2.2.2.2⟩
theorem xSB.rn {Y : xY} {V : xVV} {sp : List (Nat × Nat)} (h : xSB Y V sp) : xSB (yRn Y) (vRn V) sp := fun p hp => by
  have h := h p hp
  unfold xBA at h ⊢
  simp only [yRn_at Y (show kR 11 by unfold kR rQ dR gIn; omega), yRn_n Y (show kR 11 by unfold kR rQ dR gIn; omega), yRn_at Y (show kR 1001 by unfold kR rQ dR gIn; omega), yRn_n Y (show kR 1001 by unfold kR rQ dR gIn; omega), yRn_at Y (show kR 1002 by unfold kR rQ dR gIn; omega), yRn_n Y (show kR 1002 by unfold kR rQ dR gIn; omega), yRn_at Y (show kR 1003 by unfold kR rQ dR gIn; omega), yRn_n Y (show kR 1003 by unfold kR rQ dR gIn; omega), vRn_at V (show kR 11 by unfold kR rQ dR gIn; omega)]
  exact h
/-- what rebuilding needs, renamed; V1: the operator's size has been set -/
theorem RepX.bo2 {b : aA} {tk x0 g0 fi ps o m : Nat} {Y : xY} {V V1 : xVV} {I : xII} {J : xJJ} {A : xVV} {w0 : xW} {T : xT} {O R : xO} (P : PX Y V1 I J A w0 T O R) (H : RepX b tk x0 g0 fi ps Y V I J A) (W : sOk b) (hm : m ≤ 3) (f : xFr (fun r c => r = 4 ∧ c = o) Y V I J A Y V1 I J A) (h3 : V1 4 o 3 = .int (nI m)) (hk : ∀ k, k ≠ 3 → V1 4 o k = V 4 o k) : ∃ pl pv po p7 p10 ll lv xl sp, xBo (yRn Y) (vRn V1) (vRn A) x0 pl pv po p7 p10 g0 b.n (fun x => min (rsP b o m x) 3) ll ∧ xAl (yRn Y) (vRn V1) (vRn A) 134 5003 pv g0 lv ∧ xSm (yRn Y) (vRn V1) x0 xl (b.cf 0) (b.cf 1) (b.cf 2) ∧ bSp (yRn Y) (vRn V1) xl sp (fun _ => 54) ∧ sp.length ≤ 324 := by
  have hn2 := W.n2
  have f0 : ∀ r c x, yAt Y r c x → r ≠ 4 → V1 r c = V r c := fun r c x hx hr => (f.2 r c x hx (fun e => hr e.1)).1
  obtain ⟨h0, ⟨⟨pa0, pb0, pc0⟩, -, -, ⟨pa8, pb8, pc8⟩, ⟨pa9, pb9, pc9⟩, ⟨pa10, pb10, pc10⟩, ⟨pa11, pb11, pc11⟩, ⟨pa12, pb12, pc12⟩, -⟩, ⟨nq1, nq2, nq3, nq4⟩, -⟩ := H.Si
  have e0 := f0 0 0 x0 h0 (by decide)
  obtain ⟨xol, ll, Lol, lln, llo⟩ := H.Ol
  obtain rfl : pa8 = xol := P.fn pc8 Lol.1
  obtain ⟨xvl, lv, Lv, -, -⟩ := H.Ve
  obtain rfl : pa10 = xvl := P.fn pc10 Lv.1
  obtain ⟨⟨x7, e7, e7n, -⟩, x10, e10, e10n, -⟩ := H.Ar
  obtain rfl : pa11 = x7 := P.fn pc11 e7
  obtain rfl : pa12 = x10 := P.fn pc12 e10
  obtain ⟨bo, bq, sp, lc, xl, HC, dsp, dsb, hls, hfi⟩ := H.Ch
  obtain rfl : pa0 = xl := P.fn pc0 dsp.1
  have hus := usum_ge b.ch
  obtain ⟨-, hnd, -⟩ := HC 0 0 0 (by omega) (by have := (W.p1 0 (by omega)).1; omega) (by have := (W.p1 (0 + 1) (by omega)).1; omega)
  have Lr : xAl (yRn Y) (vRn V1) (vRn A) 34 5002 pa8 g0 ll := by
    have L1 := Lol.fr f (fun e => by omega) (fun o e => by omega)
    unfold xAl at L1 ⊢
    simp only [yRn_at Y (show kR 34 by unfold kR rQ dR gIn; omega), yRn_n Y (show kR 34 by unfold kR rQ dR gIn; omega), yRn_at Y (show kR 5002 by unfold kR rQ dR gIn; omega), yRn_n Y (show kR 5002 by unfold kR rQ dR gIn; omega), vRn_at V1 (show kR 34 by unfold kR rQ dR gIn; omega), vRn_at A (show kR 5002 by unfold kR rQ dR gIn; omega)]
    exact L1
  refine ⟨pa8, pa10, pa9, pa11, pa12, ll, lv, pa0, sp, ⟨?_, ⟨?_, ?_, ?_, ?_, ?_⟩, ?_, ?_, ⟨?_, e7n⟩, ⟨?_, e10n⟩, Lr, lln, fun x hx => ?_⟩, (Lv.fr f (fun e => by omega) (fun o e => by omega)).rnV, ⟨?_, ?_, ?_, ?_, ?_⟩, ⟨(dsp.fr f (fun r c e => by omega)).rn, (dsb.fr f (fun p _ e => by omega)).rn, lCh_sp hnd, fun _ _ => rfl⟩, by omega⟩
  · rw [yRn_at Y (show kR 0 by unfold kR rQ dR gIn; omega)]; exact h0
  · exact (congrFun e0 8).trans pb8
  · exact (congrFun e0 9).trans pb9
  · exact (congrFun e0 10).trans pb10
  · exact (congrFun e0 11).trans pb11
  · exact (congrFun e0 12).trans pb12
  · rw [yRn_at Y (show kR 201 by unfold kR rQ dR gIn; omega)]; exact pc9
  · rw [yRn_at Y (show kR 134 by unfold kR rQ dR gIn; omega)]; exact pc10
  · rw [yRn_at Y (show kR 7001 by unfold kR rQ dR gIn; omega)]; exact e7
  · rw [yRn_at Y (show kR 10001 by unfold kR rQ dR gIn; omega)]; exact e10
  · obtain ⟨xo, k0, k1, k2, k3, k4, k5, ⟨xk, k6, k7⟩, -⟩ := H.Op x hx
    have pm := (W.p1 x hx).2
    refine ⟨by rw [yRn_at Y (show kR 4 by unfold kR rQ dR gIn; omega)]; exact llo x hx, ?_, xk, ?_, by rw [yRn_at Y (show kR 1 by unfold kR rQ dR gIn; omega)]; exact k7⟩
    · show V1 4 x 3 = .int (nI (min (rsP b o m x) 3))
      unfold rsP
      by_cases e : x = o
      · subst e; rw [up1_s, Nat.min_eq_left hm]; exact h3
      · rw [up1_n e, Nat.min_eq_left pm, (f.2 4 x xo k0 (fun q => e q.2)).1]; exact k5
    · show V1 4 x 4 = .ref xk
      by_cases e : x = o
      · subst e; exact (hk 4 (by decide)).trans k6
      · rw [(f.2 4 x xo k0 (fun q => e q.2)).1]; exact k6
  · rw [yRn_at Y (show kR 0 by unfold kR rQ dR gIn; omega)]; exact h0
  · exact (congrFun e0 0).trans pb0
  · exact (congrFun e0 1).trans nq1
  · exact (congrFun e0 2).trans nq2
  · exact (congrFun e0 3).trans nq3
theorem fr_rn {Y : xY} {V V1 : xVV} {I : xII} {J : xJJ} {A : xVV} {o : Nat} (f : xFr (fun r c => r = 4 ∧ c = o) Y V I J A Y V1 I J A) : xFr (fun r c => r = 4 ∧ c = o) (yRn Y) (vRn V) I J (vRn A) (yRn Y) (vRn V1) I J (vRn A) := ⟨yLs.rf, fun r c x hx hs => ⟨(f.2 (sgR r) c x hx.1 (fun e => hs ⟨by
  by_cases q : rQ r
  · have := (sgR_c r).2 q; omega
  · rw [sgR_n q] at e; exact e.1, e.2⟩)).1, rfl, rfl, rfl⟩⟩
