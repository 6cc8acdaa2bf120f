set_option maxRecDepth 100000
theorem xBt.bar {Y : xY} {V V1 : xVV} {I : xII} {b : Nat} (d : xBt Y V I b 0 false []) (hs : V1 11 = va_up (V 11) b (va_up (V 11 b) 5 (.int (nI 1)))) : xBt Y V1 I b 0 true [] := by
  obtain ⟨⟨k1, ⟨⟨x1, k2, k3⟩, k4⟩, ⟨⟨x2, k5, k6⟩, k7⟩, ⟨x3, k8, k9⟩, k10⟩, g1, g2, g3, g4, g5⟩ := d
  exact ⟨⟨k1, ⟨⟨x1, k2, rdK hs (by decide) k3⟩, k4⟩, ⟨⟨x2, k5, rdK hs (by decide) k6⟩, k7⟩, ⟨x3, k8, rdK hs (by decide) k9⟩, k10⟩, rdK hs (by decide) g1, rdK hs (by decide) g2, g3, rdS hs, g5⟩
theorem cPutB_a {c : aCh} (h : 0 < c.2.1.length) : cPutB c = ((c.1 ++ [some c.2.1]) ++ [none], [], 0) := by
  unfold cPutB
  rw [if_pos h]
  rfl
theorem cPutB_b {c : aCh} (h : c.2.1 = []) : cPutB c = (c.1 ++ [none], [], 0) := by
  unfold cPutB
  rw [if_neg (by rw [h]; simp)]
theorem cRecs_bar {c : aCh} (h : c.2.1 = []) : cRecs c = qLen (c.1 ++ [none]) := by
  unfold cRecs
  rw [qLen_app, h]
  rfl
theorem cGrow_a {o cr : Nat} {c : aCh} (h : c.2.1.length = 0) : cGrow o cr c = c := if_pos h
theorem cGrow_b {o cr : Nat} {c : aCh} (h : ¬ c.2.1.length = 0) (h2 : o ≤ c.2.2 + 1 ∧ c.1.length < cr) : cGrow o cr c = (c.1 ++ [some c.2.1], [], 0) := by
  unfold cGrow
  rw [if_neg h, if_pos h2]
  rfl
theorem cGrow_c {o cr : Nat} {c : aCh} (h : ¬ c.2.1.length = 0) (h2 : ¬ (o ≤ c.2.2 + 1 ∧ c.1.length < cr)) : cGrow o cr c = (c.1, c.2.1, c.2.2 + 1) := by
  unfold cGrow
  rw [if_neg h, if_neg h2]
theorem c_X10_putBarrier {G : xG} {T : xT} {O R : xO} {Y : xY} {V : xVV} {I : xII} {J : xJJ} {A : xVV} {w0 : xW} {x0 xl bz old cr h x ob k : Nat} {c c2 : aCh} {bs : List Nat} {sp : List (Nat × Nat)} (P : PX Y V I J A w0 T O R) (hsm : xSm Y V x0 xl bz old cr) (C : xCh Y V I A h x c ob bs) (dsp : xSp Y V xl sp) (dsb : xSB Y V sp) (hL : (lCh ob bs sp).Nodup) (hcr : cr ≤ 4) (hbz : bz ≤ 4) (hol : c.2.1.length ≤ bz) (hql4 : c.1.length ≤ 4) (hp : cPutB c = c2) (hk : c2.1.length = c.1.length + k) : xCtr G yX10_putBarrier cX10_putBarrier 1 none 4 84 (4 * cB k sp) (18 * cB k sp) [.ref x] (T, O, R) (xN (xPN w0 (fun Y2 V2 I2 J2 A2 => J = J2 ∧ ∃ ob2 bs2 sp2, xCh Y2 V2 I2 A2 h x c2 ob2 bs2 ∧ xSp Y2 V2 xl sp2 ∧ xSB Y2 V2 sp2 ∧ sp2.length = sp.length - k ∧ lOk Y (lCh ob bs sp) (lCh ob2 bs2 sp2) ∧ xFr (sCh Y h (lCh ob bs sp)) Y V I J A Y2 V2 I2 J2 A2))) := by
  have h0 := hsm.1
  have hC := C
  obtain ⟨g1, ⟨xd, g2, dq⟩, ⟨g3, ot⟩, g4, g5, ⟨x0b, k0, g6⟩, g7⟩ := C
  obtain rfl := P.fn h0 k0
  have hql := xQs.len bs c.1 g7
  refine xCtr.of (by decide +kernel) (Nat.le_of_ble_eq_true rfl) ?_
  intro Z B E hz hnm
  change xV Z (T, O, R) 0 [(0, .ref x)] [] (4 * cB k sp) (18 * cB k sp)
  rcases Nat.eq_zero_or_pos c.2.1.length with hb0 | hb
  · have hb : c.2.1 = [] := List.eq_nil_of_length_eq_zero hb0
    have e2 := hp.symm.trans (cPutB_b hb)
    subst e2
    obtain rfl : k = 1 := by simp at hk; omega
    refine g_aload_n B 0 dX10_putBarrier_0 rfl ?_
    refine x_get B P g1 (by decide) rfl F_X10_26_10 (by decide) g3 dX10_putBarrier_1 ?_
    obtain ⟨n1, u1, ty1⟩ := P.ty ot.1.1 (by decide) rfl
    refine g_callV (rest := []) B M_X11_size q1283 q1284 q1285 ty1 rfl (c_X11_size P ot) rfl rfl (Nat.le_of_ble_eq_true rfl) (Nat.le_of_ble_eq_true rfl) (Nat.le_of_ble_eq_true rfl) (Nat.le_refl _) (Nat.le_refl _) dX10_putBarrier_4 (xkA (fun v1 T1 O1 R1 le1 p1 => ?_))
    obtain ⟨rfl, eT1, eO1, eR1⟩ := p1
    obtain rfl := eT1.symm
    obtain rfl := eO1.symm
    obtain rfl := eR1.symm
    refine g_if_leN (tgt := 14) B (by omega) dX10_putBarrier_7 (by decide) (fun _ => ?_) (fun e => absurd e (by rw [hb]; simp))
    refine g_aload_n B 0 dX10_putBarrier_14 rfl ?_
    refine x_get B P g1 (by decide) rfl F_X10_26_10 (by decide) g3 dX10_putBarrier_15 ?_
    refine g_iconst (v := nI 1) B dX10_putBarrier_18 (by decide) ?_
    refine x_put (q := (RX11, TX11, 6)) B P ot.1.1 (by decide) rfl F_X10_64_11 rfl rfl (tyX11_ok 5 (by decide)) rfl rfl dX10_putBarrier_19 (fun O2 V2 hs2 hk2 P2 => ?_)
    have fbb2 := xFr.uV (S := sBt ob) (Y := Y) (I := I) (J := J) (A := A) ⟨Or.inl rfl, rfl⟩ hs2 hk2
    obtain ⟨nd1b2, nd2b2, nd3b2⟩ := lCh_nd hL
    have hs1b2 : xQs Y V2 I bs c.1 := xQs.fr fbb2 bs c.1 g7 (fun c hc r hr e => nd2b2 (by rw [← e.2]; exact hc))
    have nbb2 : V2 10 h = V 10 h := (fbb2.2 10 h x g1 (fun e => by have := rB_no e.1; omega)).1
    have cob2 : xCo Y V2 I A h x c.1 ob none bs (cRecs c) := ⟨g1, ⟨xd, (congrFun nbb2 0).trans g2, dq.fr fbb2 (fun e => by have := rB_no e.1; omega) (fun e => by have := rB_no e.1; omega)⟩, ⟨(congrFun nbb2 1).trans g3, xBt.bar (by rw [hb] at ot; exact ot) hs2⟩, ⟨_, (congrFun nbb2 2).trans g4⟩, (congrFun nbb2 3).trans g5, ⟨x0, h0, (congrFun nbb2 4).trans g6⟩, hs1b2⟩
    have fcb2 := fbb2.mono (S2 := sCh Y h (lCh ob bs sp)) sBt_sCh
    have Fb2 := fcb2
    have LOb2 : lOk Y (lCh ob bs sp) (lCh ob bs sp) := lOk_rf hL
    have hsmb2 := hsm.fr Fb2 (fun e => by rcases e with e | e | e; omega; omega; have := rB_no e.1; omega)
    have dspb2 := dsp.fr fbb2 (fun r o e => by have := rB_no e.1; omega)
    have dsbb2 := dsb.fr fbb2 (fun p hp e => nd1b2 (List.mem_map.mpr ⟨p, hp, e.2⟩))
    have hLb2 := hL
    have hqlb2 := hql
    refine g_aload_n B 0 dX10_putBarrier_22 rfl ?_
    obtain ⟨n3, u3, ty3⟩ := P2.ty g1 (by decide) rfl
    have hlenb2 : bs.length + 1 ≤ 8 := by have := hqlb2; simp at this ⊢ <;> omega
    refine g_callV (kc2 := 4 * cB 0 sp.tail) (ks2 := 18 * cB 0 sp.tail) (rest := []) B M_X10_close q1292 q1294 qs15 ty3 rfl (c_X10_close P2 hsmb2 cob2 dspb2 dsbb2 hLb2 (cRecs_bar hb) hlenb2) rfl rfl (Nat.le_of_ble_eq_true rfl) (Nat.le_of_ble_eq_true rfl) (Nat.le_of_ble_eq_true rfl) cB_split4 cB_split18 dX10_putBarrier_23 (xkN (fun T3 O3 R3 le3 p3 => ?_))
    obtain ⟨Y3, V3, I3, J3, A3, P3, rfl, b3, sp3, C3, ds3, sb3, ht3, lo3, f3⟩ := p3
    rw [← ht3]
    have F3 := Fb2.tr (f3.mono (sCh.mono (fun x b hx => Fb2.1.at hx) LOb2.2))
    have LO3 := lOk.tr (fun x b hx => Fb2.1.at hx) LOb2 lo3
    have sm3 := hsm.fr F3 (fun e => by rcases e with e | e | e; omega; omega; have := rB_no e.1; omega)
    have dsp3 := ds3
    have dsb3 := sb3
    have hL3 := LO3.1
    have h03 := sm3.1
    have hsm3 := sm3
    have ⟨g13, ⟨xd3, g23, dq3⟩, ⟨g33, ot3⟩, g43, g53, ⟨xq3, kq3, g6q3⟩, g73⟩ := C3
    have hql3 := xQs.len _ _ g73
    have g63 : V3 10 h 4 = .ref x0 := g6q3.trans (congrArg Value.ref (P3.fn kq3 h03))
    refine g_vret B E rfl dX10_putBarrier_26 ?_
    exact ⟨rfl, _, _, _, _, _, P3, rfl, b3, (bs ++ [ob]), sp3, C3, dsp3, dsb3, by rw [ht3]; simp [List.length_tail] <;> omega, LO3, F3⟩
  · have e2 := hp.symm.trans (cPutB_a hb)
    subst e2
    obtain rfl : k = 2 := by simp at hk; omega
    refine g_aload_n B 0 dX10_putBarrier_0 rfl ?_
    refine x_get B P g1 (by decide) rfl F_X10_26_10 (by decide) g3 dX10_putBarrier_1 ?_
    obtain ⟨n4, u4, ty4⟩ := P.ty ot.1.1 (by decide) rfl
    refine g_callV (rest := []) B M_X11_size q1283 q1284 q1285 ty4 rfl (c_X11_size P ot) rfl rfl (Nat.le_of_ble_eq_true rfl) (Nat.le_of_ble_eq_true rfl) (Nat.le_of_ble_eq_true rfl) (Nat.le_refl _) (Nat.le_refl _) dX10_putBarrier_4 (xkA (fun v4 T4 O4 R4 le4 p4 => ?_))
    obtain ⟨rfl, eT4, eO4, eR4⟩ := p4
    obtain rfl := eT4.symm
    obtain rfl := eO4.symm
    obtain rfl := eR4.symm
    refine g_if_leN (tgt := 14) B (by omega) dX10_putBarrier_7 (by decide) (fun e => absurd e (by omega)) (fun _ => ?_)
    refine g_aload_n B 0 dX10_putBarrier_10 rfl ?_
    obtain ⟨n5, u5, ty5⟩ := P.ty g1 (by decide) rfl
    have hlen : bs.length + 1 ≤ 8 := by have := hql; simp at this ⊢ <;> omega
    refine g_callV (kc2 := 4 * cB 1 sp.tail) (ks2 := 18 * cB 1 sp.tail) (rest := []) B M_X10_close q1292 q1294 qs15 ty5 rfl (c_X10_close P hsm hC.co dsp dsb hL (cRecs_close _).symm hlen) rfl rfl (Nat.le_of_ble_eq_true rfl) (Nat.le_of_ble_eq_true rfl) (Nat.le_of_ble_eq_true rfl) cB_split4 cB_split18 dX10_putBarrier_11 (xkN (fun T5 O5 R5 le5 p5 => ?_))
    obtain ⟨Y5, V5, I5, J5, A5, P5, rfl, b5, sp5, C5, ds5, sb5, ht5, lo5, f5⟩ := p5
    rw [← ht5]
    have F5 := f5
    have LO5 := lo5
    have sm5 := hsm.fr F5 (fun e => by rcases e with e | e | e; omega; omega; have := rB_no e.1; omega)
    have dsp5 := ds5
    have dsb5 := sb5
    have hL5 := LO5.1
    have h05 := sm5.1
    have hsm5 := sm5
    have ⟨g15, ⟨xd5, g25, dq5⟩, ⟨g35, ot5⟩, g45, g55, ⟨xq5, kq5, g6q5⟩, g75⟩ := C5
    have hql5 := xQs.len _ _ g75
    have g65 : V5 10 h 4 = .ref x0 := g6q5.trans (congrArg Value.ref (P5.fn kq5 h05))
    refine g_aload_n B 0 dX10_putBarrier_14 rfl ?_
    refine x_get B P5 g15 (by decide) rfl F_X10_26_10 (by decide) g35 dX10_putBarrier_15 ?_
    refine g_iconst (v := nI 1) B dX10_putBarrier_18 (by decide) ?_
    refine x_put (q := (RX11, TX11, 6)) B P5 ot5.1.1 (by decide) rfl F_X10_64_11 rfl rfl (tyX11_ok 5 (by decide)) rfl rfl dX10_putBarrier_19 (fun O6 V6 hs6 hk6 P6 => ?_)
    have fbb6 := xFr.uV (S := sBt b5) (Y := Y5) (I := I5) (J := J) (A := A5) ⟨Or.inl rfl, rfl⟩ hs6 hk6
    obtain ⟨nd1b6, nd2b6, nd3b6⟩ := lCh_nd hL5
    have hs1b6 : xQs Y5 V6 I5 (bs ++ [ob]) ((c.1 ++ [some c.2.1], [], 0) : aCh).1 := xQs.fr fbb6 (bs ++ [ob]) ((c.1 ++ [some c.2.1], [], 0) : aCh).1 g75 (fun c hc r hr e => nd2b6 (by rw [← e.2]; exact hc))
    have nbb6 : V6 10 h = V5 10 h := (fbb6.2 10 h x g15 (fun e => by have := rB_no e.1; omega)).1
    have cob6 : xCo Y5 V6 I5 A5 h x ((c.1 ++ [some c.2.1], [], 0) : aCh).1 b5 none (bs ++ [ob]) (cRecs ((c.1 ++ [some c.2.1], [], 0) : aCh)) := ⟨g15, ⟨xd5, (congrFun nbb6 0).trans g25, dq5.fr fbb6 (fun e => by have := rB_no e.1; omega) (fun e => by have := rB_no e.1; omega)⟩, ⟨(congrFun nbb6 1).trans g35, xBt.bar ot5 hs6⟩, ⟨_, (congrFun nbb6 2).trans g45⟩, (congrFun nbb6 3).trans g55, ⟨x0, h05, (congrFun nbb6 4).trans g65⟩, hs1b6⟩
    have fcb6 := fbb6.mono (S2 := sCh Y5 h (lCh b5 (bs ++ [ob]) sp5)) sBt_sCh
    have Fb6 := F5.tr (fcb6.mono (sCh.mono (fun x b hx => F5.1.at hx) LO5.2))
    have LOb6 := LO5
    have hsmb6 := hsm.fr Fb6 (fun e => by rcases e with e | e | e; omega; omega; have := rB_no e.1; omega)
    have dspb6 := dsp5.fr fbb6 (fun r o e => by have := rB_no e.1; omega)
    have dsbb6 := dsb5.fr fbb6 (fun p hp e => nd1b6 (List.mem_map.mpr ⟨p, hp, e.2⟩))
    have hLb6 := hL5
    have hqlb6 := hql5
    refine g_aload_n B 0 dX10_putBarrier_22 rfl ?_
    obtain ⟨n7, u7, ty7⟩ := P6.ty g15 (by decide) rfl
    have hlenb6 : (bs ++ [ob]).length + 1 ≤ 8 := by have := hqlb6; simp at this ⊢ <;> omega
    refine g_callV (kc2 := 4 * cB 0 sp5.tail) (ks2 := 18 * cB 0 sp5.tail) (rest := []) B M_X10_close q1292 q1294 qs15 ty7 rfl (c_X10_close P6 hsmb6 cob6 dspb6 dsbb6 hLb6 (cRecs_bar rfl) hlenb6) rfl rfl (Nat.le_of_ble_eq_true rfl) (Nat.le_of_ble_eq_true rfl) (Nat.le_of_ble_eq_true rfl) cB_split4 cB_split18 dX10_putBarrier_23 (xkN (fun T7 O7 R7 le7 p7 => ?_))
    obtain ⟨Y7, V7, I7, J7, A7, P7, rfl, b7, sp7, C7, ds7, sb7, ht7, lo7, f7⟩ := p7
    rw [← ht7]
    have F7 := Fb6.tr (f7.mono (sCh.mono (fun x b hx => Fb6.1.at hx) LOb6.2))
    have LO7 := lOk.tr (fun x b hx => Fb6.1.at hx) LOb6 lo7
    have sm7 := hsm.fr F7 (fun e => by rcases e with e | e | e; omega; omega; have := rB_no e.1; omega)
    have dsp7 := ds7
    have dsb7 := sb7
    have hL7 := LO7.1
    have h07 := sm7.1
    have hsm7 := sm7
    have ⟨g17, ⟨xd7, g27, dq7⟩, ⟨g37, ot7⟩, g47, g57, ⟨xq7, kq7, g6q7⟩, g77⟩ := C7
    have hql7 := xQs.len _ _ g77
    have g67 : V7 10 h 4 = .ref x0 := g6q7.trans (congrArg Value.ref (P7.fn kq7 h07))
    refine g_vret B E rfl dX10_putBarrier_26 ?_
    exact ⟨rfl, _, _, _, _, _, P7, rfl, b7, ((bs ++ [ob]) ++ [b5]), sp7, C7, dsp7, dsb7, by rw [ht7, ht5]; simp [List.length_tail] <;> omega, LO7, F7⟩
theorem c_X10_grow {G : xG} {T : xT} {O R : xO} {Y : xY} {V : xVV} {I : xII} {J : xJJ} {A : xVV} {w0 : xW} {x0 xl bz old cr h x ob k : Nat} {c c2 : aCh} {bs : List Nat} {sp : List (Nat × Nat)} (P : PX Y V I J A w0 T O R) (hsm : xSm Y V x0 xl bz old cr) (C : xCh Y V I A h x c ob bs) (dsp : xSp Y V xl sp) (dsb : xSB Y V sp) (hL : (lCh ob bs sp).Nodup) (hcr : cr ≤ 4) (hbz : bz ≤ 4) (hol : c.2.1.length ≤ bz) (hql4 : c.1.length ≤ 4) (hold : old ≤ 9) (hag : c.2.2 < 2000000) (hp : cGrow old cr c = c2) (hk : c2.1.length = c.1.length + k) : xCtr G yX10_grow cX10_grow 1 none 4 84 (4 * cB k sp) (18 * cB k sp) [.ref x] (T, O, R) (xN (xPN w0 (fun Y2 V2 I2 J2 A2 => J = J2 ∧ ∃ ob2 bs2 sp2, xCh Y2 V2 I2 A2 h x c2 ob2 bs2 ∧ xSp Y2 V2 xl sp2 ∧ xSB Y2 V2 sp2 ∧ sp2.length = sp.length - k ∧ lOk Y (lCh ob bs sp) (lCh ob2 bs2 sp2) ∧ xFr (sCh Y h (lCh ob bs sp)) Y V I J A Y2 V2 I2 J2 A2))) := by
  have h0 := hsm.1
  have hC := C
  obtain ⟨g1, ⟨xd, g2, dq⟩, ⟨g3, ot⟩, g4, g5, ⟨x0b, k0, g6⟩, g7⟩ := C
  obtain rfl := P.fn h0 k0
  have hql := xQs.len bs c.1 g7
  refine xCtr.of (by decide +kernel) (Nat.le_of_ble_eq_true rfl) ?_
  intro Z B E hz hnm
  change xV Z (T, O, R) 0 [(0, .ref x)] [] (4 * cB k sp) (18 * cB k sp)
  by_cases hb : c.2.1.length = 0
  ·
    have e2 := hp.symm.trans (cGrow_a hb)
    subst e2
    obtain rfl : k = 0 := by omega
    have F0 : xFr (sCh Y h (lCh ob bs sp)) Y V I J A Y V I J A := xFr.rf
    have LO0 : lOk Y (lCh ob bs sp) (lCh ob bs sp) := lOk_rf hL
    refine g_aload_n B 0 dX10_grow_0 rfl ?_
    refine x_get B P g1 (by decide) rfl F_X10_26_10 (by decide) g3 dX10_grow_1 ?_
    obtain ⟨n1, u1, ty1⟩ := P.ty ot.1.1 (by decide) rfl
    refine g_callV (rest := []) B M_X11_size q1283 q1284 q1285 ty1 rfl (c_X11_size P ot) rfl rfl (Nat.le_of_ble_eq_true rfl) (Nat.le_of_ble_eq_true rfl) (Nat.le_of_ble_eq_true rfl) (Nat.le_refl _) (Nat.le_refl _) dX10_grow_4 (xkA (fun v1 T1 O1 R1 le1 p1 => ?_))
    obtain ⟨rfl, eT1, eO1, eR1⟩ := p1
    obtain rfl := eT1.symm
    obtain rfl := eO1.symm
    obtain rfl := eR1.symm
    refine g_if_neN (tgt := 11) B (by omega) dX10_grow_7 (by decide) (fun e => absurd hb e) (fun _ => ?_)
    refine g_vret B E rfl dX10_grow_10 ?_
    exact ⟨rfl, _, _, _, _, _, P, rfl, ob, bs, sp, hC, dsp, dsb, by simp, LO0, F0⟩
  ·
    by_cases hb2 : old ≤ c.2.2 + 1 ∧ c.1.length < cr
    · have e2 := hp.symm.trans (cGrow_b hb hb2)
      subst e2
      obtain rfl : k = 1 := by simp at hk; omega
      refine g_aload_n B 0 dX10_grow_0 rfl ?_
      refine x_get B P g1 (by decide) rfl F_X10_26_10 (by decide) g3 dX10_grow_1 ?_
      obtain ⟨n2, u2, ty2⟩ := P.ty ot.1.1 (by decide) rfl
      refine g_callV (rest := []) B M_X11_size q1283 q1284 q1285 ty2 rfl (c_X11_size P ot) rfl rfl (Nat.le_of_ble_eq_true rfl) (Nat.le_of_ble_eq_true rfl) (Nat.le_of_ble_eq_true rfl) (Nat.le_refl _) (Nat.le_refl _) dX10_grow_4 (xkA (fun v2 T2 O2 R2 le2 p2 => ?_))
      obtain ⟨rfl, eT2, eO2, eR2⟩ := p2
      obtain rfl := eT2.symm
      obtain rfl := eO2.symm
      obtain rfl := eR2.symm
      refine g_if_neN (tgt := 11) B (by omega) dX10_grow_7 (by decide) (fun _ => ?_) (fun e => absurd e hb)
      refine g_aload_n B 0 dX10_grow_11 rfl ?_
      refine g_dup B dX10_grow_12 rfl ?_
      refine x_get B P g1 (by decide) rfl F_X10_42_10 (by decide) g4 dX10_grow_13 ?_
      refine g_iconst (v := nI 1) B dX10_grow_16 (by decide) ?_
      refine g_iaddN B dX10_grow_17 ?_
      refine x_put (q := (RX10, TX10, 5)) B P g1 (by decide) rfl F_X10_42_10 rfl rfl (tyX10_ok 2 (by decide)) rfl rfl dX10_grow_18 (fun O3 V3 hs3 hk3 P3 => ?_)
      have fba3 := xFr.uV (S := s1 10 h) (Y := Y) (I := I) (J := J) (A := A) ⟨rfl, rfl⟩ hs3 hk3
      have Ca3 : xCh Y V3 I A h x ((c.1, c.2.1, c.2.2 + 1) : aCh) ob bs := ⟨g1, ⟨xd, (rdK hs3 (by decide) g2), dq.fr fba3 (fun e => by unfold s1 at e; omega) (fun e => by unfold s1 at e; omega)⟩, ⟨(rdK hs3 (by decide) g3), ot.fr fba3 (fun r hr e => by have := rB_no hr; unfold s1 at e; omega)⟩, (rdS hs3), (rdK hs3 (by decide) g5), ⟨x0, h0, (rdK hs3 (by decide) g6)⟩, xQs.fr fba3 bs c.1 g7 (fun c hc r hr e => by have := rB_no hr; unfold s1 at e; omega)⟩
      have Fa3 := fba3.mono (S2 := sCh Y h (lCh ob bs sp)) s1_sCh
      have LOa3 : lOk Y (lCh ob bs sp) (lCh ob bs sp) := lOk_rf hL
      have sma3 := hsm.fr Fa3 (fun e => by rcases e with e | e | e; omega; omega; have := rB_no e.1; omega)
      have dspa3 := dsp.fr fba3 (fun r o e => by unfold s1 at e; omega)
      have dsba3 := dsb.fr fba3 (fun p hp e => by unfold s1 at e; omega)
      have hLa3 := hL
      have h0a3 := sma3.1
      have hsma3 := sma3
      have ⟨g1a3, ⟨xda3, g2a3, dqa3⟩, ⟨g3a3, ota3⟩, g4a3, g5a3, ⟨xqa3, kqa3, g6qa3⟩, g7a3⟩ := Ca3
      have hqla3 := xQs.len _ _ g7a3
      have g6a3 : V3 10 h 4 = .ref x0 := g6qa3.trans (congrArg Value.ref (P3.fn kqa3 h0a3))
      refine g_aload_n B 0 dX10_grow_21 rfl ?_
      refine x_get B P3 g1a3 (by decide) rfl F_X10_42_10 (by decide) g4a3 dX10_grow_22 ?_
      refine g_aload_n B 0 dX10_grow_25 rfl ?_
      refine x_get B P3 g1a3 (by decide) rfl F_X10_1_10 (by decide) g6a3 dX10_grow_26 ?_
      refine x_get B P3 h0a3 (by decide) rfl F_X10_68_0 (by decide) hsma3.2.2.2.1 dX10_grow_29 ?_
      refine g_icmp_ltN (tgt := 46) B (by show c.2.2 + 1 < _; omega) (by omega) dX10_grow_32 (by decide) (fun e => absurd (show c.2.2 + 1 < old from e) (by omega)) (fun _ => ?_)
      refine g_aload_n B 0 dX10_grow_35 rfl ?_
      obtain ⟨n4, u4, ty4⟩ := P3.ty g1a3 (by decide) rfl
      refine g_callV (rest := []) B M_X10_hasRoom q1287 q1288 q1289 ty4 rfl (c_X10_hasRoom P3 hsma3 Ca3 dspa3 hcr (by first | omega | (have q_ := hqla3; simp at q_ ⊢ <;> omega))) rfl rfl (Nat.le_of_ble_eq_true rfl) (Nat.le_of_ble_eq_true rfl) (Nat.le_of_ble_eq_true rfl) (Nat.le_refl _) (Nat.le_refl _) dX10_grow_36 (xkA (fun v4 T4 O4 R4 le4 p4 => ?_))
      obtain ⟨rfl, eT4, eO4, eR4⟩ := p4
      obtain rfl := eT4.symm
      obtain rfl := eO4.symm
      obtain rfl := eR4.symm
      refine g_if_eqB (tgt := 46) B dX10_grow_39 (by decide) (fun e => absurd hb2.2 (of_decide_eq_false e)) (fun _ => ?_)
      refine g_aload_n B 0 dX10_grow_42 rfl ?_
      obtain ⟨n5, u5, ty5⟩ := P3.ty g1a3 (by decide) rfl
      have hlena3 : bs.length + 1 ≤ 8 := by have := hqla3; simp at this ⊢ <;> omega
      refine g_callV (kc2 := 4 * cB 0 sp.tail) (ks2 := 18 * cB 0 sp.tail) (rest := []) B M_X10_close q1292 q1294 qs15 ty5 rfl (c_X10_close P3 hsma3 Ca3.co dspa3 dsba3 hLa3 (cRecs_close _).symm hlena3) rfl rfl (Nat.le_of_ble_eq_true rfl) (Nat.le_of_ble_eq_true rfl) (Nat.le_of_ble_eq_true rfl) cB_split4 cB_split18 dX10_grow_43 (xkN (fun T5 O5 R5 le5 p5 => ?_))
      obtain ⟨Y5, V5, I5, J5, A5, P5, rfl, b5, sp5, C5, ds5, sb5, ht5, lo5, f5⟩ := p5
      rw [← ht5]
      have F5 := Fa3.tr (f5.mono (sCh.mono (fun x b hx => Fa3.1.at hx) LOa3.2))
      have LO5 := lOk.tr (fun x b hx => Fa3.1.at hx) LOa3 lo5
      have sm5 := hsm.fr F5 (fun e => by rcases e with e | e | e; omega; omega; have := rB_no e.1; omega)
      have dsp5 := ds5
      have dsb5 := sb5
      have hL5 := LO5.1
      have h05 := sm5.1
      have hsm5 := sm5
      have ⟨g15, ⟨xd5, g25, dq5⟩, ⟨g35, ot5⟩, g45, g55, ⟨xq5, kq5, g6q5⟩, g75⟩ := C5
      have hql5 := xQs.len _ _ g75
      have g65 : V5 10 h 4 = .ref x0 := g6q5.trans (congrArg Value.ref (P5.fn kq5 h05))
      refine g_vret B E rfl dX10_grow_46 ?_
      exact ⟨rfl, _, _, _, _, _, P5, rfl, b5, (bs ++ [ob]), sp5, C5, dsp5, dsb5, by rw [ht5]; simp [List.length_tail] <;> omega, LO5, F5⟩
    · have e2 := hp.symm.trans (cGrow_c hb hb2)
      subst e2
      obtain rfl : k = 0 := by simp at hk; omega
      refine g_aload_n B 0 dX10_grow_0 rfl ?_
      refine x_get B P g1 (by decide) rfl F_X10_26_10 (by decide) g3 dX10_grow_1 ?_
      obtain ⟨n6, u6, ty6⟩ := P.ty ot.1.1 (by decide) rfl
      refine g_callV (rest := []) B M_X11_size q1283 q1284 q1285 ty6 rfl (c_X11_size P ot) rfl rfl (Nat.le_of_ble_eq_true rfl) (Nat.le_of_ble_eq_true rfl) (Nat.le_of_ble_eq_true rfl) (Nat.le_refl _) (Nat.le_refl _) dX10_grow_4 (xkA (fun v6 T6 O6 R6 le6 p6 => ?_))
      obtain ⟨rfl, eT6, eO6, eR6⟩ := p6
      obtain rfl := eT6.symm
      obtain rfl := eO6.symm
      obtain rfl := eR6.symm
      refine g_if_neN (tgt := 11) B (by omega) dX10_grow_7 (by decide) (fun _ => ?_) (fun e => absurd e hb)
      refine g_aload_n B 0 dX10_grow_11 rfl ?_
      refine g_dup B dX10_grow_12 rfl ?_
      refine x_get B P g1 (by decide) rfl F_X10_42_10 (by decide) g4 dX10_grow_13 ?_
      refine g_iconst (v := nI 1) B dX10_grow_16 (by decide) ?_
      refine g_iaddN B dX10_grow_17 ?_
      refine x_put (q := (RX10, TX10, 5)) B P g1 (by decide) rfl F_X10_42_10 rfl rfl (tyX10_ok 2 (by decide)) rfl rfl dX10_grow_18 (fun O7 V7 hs7 hk7 P7 => ?_)
      have fba7 := xFr.uV (S := s1 10 h) (Y := Y) (I := I) (J := J) (A := A) ⟨rfl, rfl⟩ hs7 hk7
      have Ca7 : xCh Y V7 I A h x ((c.1, c.2.1, c.2.2 + 1) : aCh) ob bs := ⟨g1, ⟨xd, (rdK hs7 (by decide) g2), dq.fr fba7 (fun e => by unfold s1 at e; omega) (fun e => by unfold s1 at e; omega)⟩, ⟨(rdK hs7 (by decide) g3), ot.fr fba7 (fun r hr e => by have := rB_no hr; unfold s1 at e; omega)⟩, (rdS hs7), (rdK hs7 (by decide) g5), ⟨x0, h0, (rdK hs7 (by decide) g6)⟩, xQs.fr fba7 bs c.1 g7 (fun c hc r hr e => by have := rB_no hr; unfold s1 at e; omega)⟩
      have Fa7 := fba7.mono (S2 := sCh Y h (lCh ob bs sp)) s1_sCh
      have LOa7 : lOk Y (lCh ob bs sp) (lCh ob bs sp) := lOk_rf hL
      have sma7 := hsm.fr Fa7 (fun e => by rcases e with e | e | e; omega; omega; have := rB_no e.1; omega)
      have dspa7 := dsp.fr fba7 (fun r o e => by unfold s1 at e; omega)
      have dsba7 := dsb.fr fba7 (fun p hp e => by unfold s1 at e; omega)
      have hLa7 := hL
      have h0a7 := sma7.1
      have hsma7 := sma7
      have ⟨g1a7, ⟨xda7, g2a7, dqa7⟩, ⟨g3a7, ota7⟩, g4a7, g5a7, ⟨xqa7, kqa7, g6qa7⟩, g7a7⟩ := Ca7
      have hqla7 := xQs.len _ _ g7a7
      have g6a7 : V7 10 h 4 = .ref x0 := g6qa7.trans (congrArg Value.ref (P7.fn kqa7 h0a7))
      refine g_aload_n B 0 dX10_grow_21 rfl ?_
      refine x_get B P7 g1a7 (by decide) rfl F_X10_42_10 (by decide) g4a7 dX10_grow_22 ?_
      refine g_aload_n B 0 dX10_grow_25 rfl ?_
      refine x_get B P7 g1a7 (by decide) rfl F_X10_1_10 (by decide) g6a7 dX10_grow_26 ?_
      refine x_get B P7 h0a7 (by decide) rfl F_X10_68_0 (by decide) hsma7.2.2.2.1 dX10_grow_29 ?_
      refine g_icmp_ltN (tgt := 46) B (by first | omega | (simp <;> omega)) (by first | omega | (simp <;> omega)) dX10_grow_32 (by decide) (fun c8 => ?_) (fun c8 => ?_)
      · refine g_vret B E rfl dX10_grow_46 ?_
        exact ⟨rfl, _, _, _, _, _, P7, rfl, ob, bs, sp, Ca7, dspa7, dsba7, by simp, LOa7, Fa7⟩
      · refine g_aload_n B 0 dX10_grow_35 rfl ?_
        obtain ⟨n9, u9, ty9⟩ := P7.ty g1a7 (by decide) rfl
        refine g_callV (rest := []) B M_X10_hasRoom q1287 q1288 q1289 ty9 rfl (c_X10_hasRoom P7 hsma7 Ca7 dspa7 hcr (by first | omega | (have q_ := hqla7; simp at q_ ⊢ <;> omega))) rfl rfl (Nat.le_of_ble_eq_true rfl) (Nat.le_of_ble_eq_true rfl) (Nat.le_of_ble_eq_true rfl) (Nat.le_refl _) (Nat.le_refl _) dX10_grow_36 (xkA (fun v9 T9 O9 R9 le9 p9 => ?_))
        obtain ⟨rfl, eT9, eO9, eR9⟩ := p9
        obtain rfl := eT9.symm
        obtain rfl := eO9.symm
        obtain rfl := eR9.symm
        refine g_if_eqB (tgt := 46) B dX10_grow_39 (by decide) (fun _ => ?_) (fun e => absurd ⟨c8, of_decide_eq_true e⟩ hb2)
        refine g_vret B E rfl dX10_grow_46 ?_
        exact ⟨rfl, _, _, _, _, _, P7, rfl, ob, bs, sp, Ca7, dspa7, dsba7, by simp, LOa7, Fa7⟩
