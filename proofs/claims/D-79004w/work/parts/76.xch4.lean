set_option maxRecDepth 100000
theorem cPut1_len {c : aCh} {l : List aRec} : cRecs (c.1, l, c.2.2) = qLen c.1 + l.length := rfl
theorem cB_split {k : Nat} {sp : List (Nat × Nat)} : cB k sp.tail + cB 1 sp ≤ cB (k + 1) sp := by
  unfold cB
  rw [List.length_tail]
  omega
theorem cB_split4 {k : Nat} {sp : List (Nat × Nat)} : 4 * cB k sp.tail + 4 * cB 1 sp ≤ 4 * cB (k + 1) sp := by have := @cB_split k sp; omega
theorem cB_split18 {k : Nat} {sp : List (Nat × Nat)} : 18 * cB k sp.tail + 18 * cB 1 sp ≤ 18 * cB (k + 1) sp := by have := @cB_split k sp; omega
theorem xBt_ch {Y : xY} {V : xVV} {I : xII} {A : xVV} {h x ob : Nat} {c : aCh} {bs : List Nat} {sp : List (Nat × Nat)} (C : xCh Y V I A h x c ob bs) (dsb : xSB Y V sp) : ∀ d, d ∈ lCh ob bs sp → yAt Y 11 d d := C.co.mem dsb
/-- a store into the pending batch alone -/
theorem sBt_sCh {Y : xY} {h ob : Nat} {bs : List Nat} {sp : List (Nat × Nat)} : ∀ r o, sBt ob r o → sCh Y h (lCh ob bs sp) r o := fun r o e => Or.inr (Or.inr ⟨e.1, Or.inl (by rw [e.2]; exact List.mem_append.mpr (Or.inl List.mem_cons_self))⟩)
theorem s1_sCh {Y : xY} {h : Nat} {L : List Nat} : ∀ r o, s1 10 h r o → sCh Y h L r o := fun r o e => Or.inl (by unfold s1 at e; omega)
theorem cPut_a {bz cr : Nat} {c : aCh} {r : aRec} (hf : c.2.1.length = bz) (hB : 1 = bz ∧ c.1.length + 1 < cr) : cPut bz cr c r = ((c.1 ++ [some c.2.1]) ++ [some ([] ++ [r])], [], 0) := by
  unfold cPut
  rw [if_pos hf]
  exact if_pos ⟨by simpa [cClose] using hB.1, by simpa [cClose] using hB.2⟩
theorem cPut_b {bz cr : Nat} {c : aCh} {r : aRec} (hf : c.2.1.length = bz) (hB : ¬ (1 = bz ∧ c.1.length + 1 < cr)) : cPut bz cr c r = (c.1 ++ [some c.2.1], [] ++ [r], 0) := by
  unfold cPut
  rw [if_pos hf]
  exact if_neg (fun e => hB ⟨by simpa [cClose] using e.1, by simpa [cClose] using e.2⟩)
theorem cPut_c {bz cr : Nat} {c : aCh} {r : aRec} (hf : ¬ c.2.1.length = bz) (hB : c.2.1.length + 1 = bz ∧ c.1.length < cr) : cPut bz cr c r = (c.1 ++ [some (c.2.1 ++ [r])], [], 0) := by
  unfold cPut
  rw [if_neg hf]
  exact if_pos ⟨by simpa using hB.1, hB.2⟩
theorem cPut_d {bz cr : Nat} {c : aCh} {r : aRec} (hf : ¬ c.2.1.length = bz) (hB : ¬ (c.2.1.length + 1 = bz ∧ c.1.length < cr)) : cPut bz cr c r = (c.1, c.2.1 ++ [r], c.2.2) := by
  unfold cPut
  rw [if_neg hf]
  exact if_neg (fun e => hB ⟨by simpa using e.1, e.2⟩)
theorem lOk_rf {Y : xY} {L : List Nat} (h : L.Nodup) : lOk Y L L := ⟨h, fun b hb => Or.inl hb⟩
theorem c_X10_put {G : xG} {T : xT} {O R : xO} {Y : xY} {V : xVV} {I : xII} {J : xJJ} {A : xVV} {w0 : xW} {x0 xl bz old cr h x ob k : Nat} {c c2 : aCh} {bs : List Nat} {sp : List (Nat × Nat)} {key birth : Nat} {v : Int32} (P : PX Y V I J A w0 T O R) (hsm : xSm Y V x0 xl bz old cr) (C : xCh Y V I A h x c ob bs) (dsp : xSp Y V xl sp) (dsb : xSB Y V sp) (hL : (lCh ob bs sp).Nodup) (hcr : cr ≤ 4) (hbz : bz ≤ 4) (hol : c.2.1.length ≤ bz) (hql4 : c.1.length ≤ 4) (hfit : cFit bz cr c = true) (hp : cPut bz cr c (key, v, birth) = c2) (hk : c2.1.length = c.1.length + k) : xCtr G yX10_put cX10_put 4 none 4 84 (4 * cB k sp) (18 * cB k sp) [.ref x, .int (nI key), .int v, .int (nI birth)] (T, O, R) (xN (xPN w0 (fun Y2 V2 I2 J2 A2 => J = J2 ∧ ∃ ob2 bs2 sp2, xCh Y2 V2 I2 A2 h x c2 ob2 bs2 ∧ xSp Y2 V2 xl sp2 ∧ xSB Y2 V2 sp2 ∧ sp2.length = sp.length - k ∧ lOk Y (lCh ob bs sp) (lCh ob2 bs2 sp2) ∧ xFr (sCh Y h (lCh ob bs sp)) Y V I J A Y2 V2 I2 J2 A2))) := by
  have h0 := hsm.1
  have hC := C
  obtain ⟨g1, ⟨xd, g2, dq⟩, ⟨g3, ot⟩, g4, g5, ⟨x0b, k0, g6⟩, g7⟩ := C
  obtain rfl := P.fn h0 k0
  have hql := xQs.len bs c.1 g7
  refine xCtr.of (by decide +kernel) (Nat.le_of_ble_eq_true rfl) ?_
  intro Z B E hz hnm
  change xV Z (T, O, R) 0 [(0, .ref x), (1, .int (nI key)), (2, .int v), (3, .int (nI birth))] [] (4 * cB k sp) (18 * cB k sp)
  by_cases hfull : c.2.1.length = bz
  ·
    by_cases hB : 1 = bz ∧ c.1.length + 1 < cr
    · have e2 := hp.symm.trans (cPut_a hfull hB)
      subst e2
      obtain rfl : k = 2 := by simp at hk; omega
      refine g_aload_n B 0 dX10_put_0 rfl ?_
      refine x_get B P g1 (by decide) rfl F_X10_26_10 (by decide) g3 dX10_put_1 ?_
      obtain ⟨n1, u1, ty1⟩ := P.ty ot.1.1 (by decide) rfl
      refine g_callV (rest := []) B M_X11_size q1283 q1284 q1285 ty1 rfl (c_X11_size P ot) rfl rfl (Nat.le_of_ble_eq_true rfl) (Nat.le_of_ble_eq_true rfl) (Nat.le_of_ble_eq_true rfl) (Nat.le_refl _) (Nat.le_refl _) dX10_put_4 (xkA (fun v1 T1 O1 R1 le1 p1 => ?_))
      obtain ⟨rfl, eT1, eO1, eR1⟩ := p1
      obtain rfl := eT1.symm
      obtain rfl := eO1.symm
      obtain rfl := eR1.symm
      refine g_aload_n B 0 dX10_put_7 rfl ?_
      refine x_get B P g1 (by decide) rfl F_X10_1_10 (by decide) g6 dX10_put_8 ?_
      refine x_get B P h0 (by decide) rfl F_X10_48_0 (by decide) hsm.2.2.1 dX10_put_11 ?_
      refine g_icmp_neN (tgt := 21) B (by omega) (by omega) dX10_put_14 (by decide) (fun e => absurd hfull e) (fun _ => ?_)
      refine g_aload_n B 0 dX10_put_17 rfl ?_
      obtain ⟨n2, u2, ty2⟩ := P.ty g1 (by decide) rfl
      have hlen : bs.length + 1 ≤ 8 := by have := hql; simp at this ⊢ <;> omega
      refine g_callV (kc2 := 4 * cB 1 sp.tail) (ks2 := 18 * cB 1 sp.tail) (rest := []) B M_X10_close q1292 q1294 qs15 ty2 rfl (c_X10_close P hsm hC.co dsp dsb hL (cRecs_close _).symm hlen) rfl rfl (Nat.le_of_ble_eq_true rfl) (Nat.le_of_ble_eq_true rfl) (Nat.le_of_ble_eq_true rfl) cB_split4 cB_split18 dX10_put_18 (xkN (fun T2 O2 R2 le2 p2 => ?_))
      obtain ⟨Y2, V2, I2, J2, A2, P2, rfl, b2, sp2, C2, ds2, sb2, ht2, lo2, f2⟩ := p2
      rw [← ht2]
      have F2 := f2
      have LO2 := lo2
      have sm2 := hsm.fr F2 (fun e => by rcases e with e | e | e; omega; omega; have := rB_no e.1; omega)
      have dsp2 := ds2
      have dsb2 := sb2
      have hL2 := LO2.1
      have h02 := sm2.1
      have hsm2 := sm2
      have ⟨g12, ⟨xd2, g22, dq2⟩, ⟨g32, ot2⟩, g42, g52, ⟨xq2, kq2, g6q2⟩, g72⟩ := C2
      have hql2 := xQs.len _ _ g72
      have g62 : V2 10 h 4 = .ref x0 := g6q2.trans (congrArg Value.ref (P2.fn kq2 h02))
      refine g_aload_n B 0 dX10_put_21 rfl ?_
      refine x_get B P2 g12 (by decide) rfl F_X10_26_10 (by decide) g32 dX10_put_22 ?_
      refine g_iload_n B 1 dX10_put_25 rfl ?_
      refine g_iload_n B 2 dX10_put_26 rfl ?_
      refine g_iload_n B 3 dX10_put_27 rfl ?_
      obtain ⟨n3, u3, ty3⟩ := P2.ty ot2.1.1 (by decide) rfl
      refine g_callV (rest := []) B M_X11_add q1370 q1371 q1372 ty3 rfl (c_X11_add P2 ot2 (by first | omega | (simp <;> omega))) rfl rfl (Nat.le_of_ble_eq_true rfl) (Nat.le_of_ble_eq_true rfl) (Nat.le_of_ble_eq_true rfl) (Nat.le_refl _) (Nat.le_refl _) dX10_put_28 (xkN (fun T3 O3 R3 le3 p3 => ?_))
      obtain ⟨Y3, V3, I3, J3, A3, P3, rfl, rfl, rfl, d3, f3⟩ := p3
      have na3 : V3 10 h = V2 10 h := (f3.2 10 h x g12 (fun e => by have := rB_no e.1; omega)).1
      refine g_aload_n B 0 dX10_put_31 rfl ?_
      refine g_dup B dX10_put_32 rfl ?_
      refine x_get B P3 g12 (by decide) rfl F_X10_61_10 (by decide) ((congrFun na3 3).trans g52) dX10_put_33 ?_
      refine g_iconst (v := nI 1) B dX10_put_36 (by decide) ?_
      refine g_iaddN B dX10_put_37 ?_
      refine x_put (q := (RX10, TX10, 5)) B P3 g12 (by decide) rfl F_X10_61_10 rfl rfl (tyX10_ok 3 (by decide)) rfl rfl dX10_put_38 (fun O4 V4 hs4 hk4 P4 => ?_)
      have fba3 := xFr.uV (S := s1 10 h) (Y := Y2) (I := I3) (J := J) (A := A2) ⟨rfl, rfl⟩ hs4 hk4
      obtain ⟨nd1a3, nd2a3, nd3a3⟩ := lCh_nd hL2
      have hra3 : V4 10 h 3 = .int (nI (cRecs ((((c.1 ++ [some c.2.1], [], 0) : aCh).1, ((c.1 ++ [some c.2.1], [], 0) : aCh).2.1 ++ [(key, v, birth)], ((c.1 ++ [some c.2.1], [], 0) : aCh).2.2) : aCh))) := (rdS hs4).trans (congrArg (fun z => Value.int (nI z)) (by simp [cRecs] <;> omega))
      have hda3 := (dq2.fr f3 (fun e => by have := rB_no e.1; omega) (fun e => by have := rB_no e.1; omega)).fr fba3 (fun e => by unfold s1 at e; omega) (fun e => by unfold s1 at e; omega)
      have hoa3 := d3.fr fba3 (fun r hr e => by have := rB_no hr; unfold s1 at e; omega)
      have hs1a3 : xQs Y2 V3 I3 (bs ++ [ob]) ((c.1 ++ [some c.2.1], [], 0) : aCh).1 := xQs.fr f3 (bs ++ [ob]) ((c.1 ++ [some c.2.1], [], 0) : aCh).1 g72 (fun c hc r hr e => nd2a3 (by rw [← e.2]; exact hc))
      have hs2a3 : xQs Y2 V4 I3 (bs ++ [ob]) ((c.1 ++ [some c.2.1], [], 0) : aCh).1 := xQs.fr fba3 (bs ++ [ob]) ((c.1 ++ [some c.2.1], [], 0) : aCh).1 hs1a3 (fun c hc r hr e => by have := rB_no hr; unfold s1 at e; omega)
      have Ca3 : xCh Y2 V4 I3 A2 h x ((((c.1 ++ [some c.2.1], [], 0) : aCh).1, ((c.1 ++ [some c.2.1], [], 0) : aCh).2.1 ++ [(key, v, birth)], ((c.1 ++ [some c.2.1], [], 0) : aCh).2.2) : aCh) b2 (bs ++ [ob]) := ⟨g12, ⟨xd2, (rdK hs4 (by decide) ((congrFun na3 0).trans g22)), hda3⟩, ⟨(rdK hs4 (by decide) ((congrFun na3 1).trans g32)), hoa3⟩, (rdK hs4 (by decide) ((congrFun na3 2).trans g42)), hra3, ⟨x0, h02, (rdK hs4 (by decide) ((congrFun na3 4).trans g62))⟩, hs2a3⟩
      have fca3 := (f3.mono (S2 := sCh Y2 h (lCh b2 (bs ++ [ob]) sp2)) sBt_sCh).tr (fba3.mono s1_sCh)
      have Fa3 := F2.tr (fca3.mono (sCh.mono (fun x b hx => F2.1.at hx) LO2.2))
      have LOa3 := LO2
      have sma3 := hsm.fr Fa3 (fun e => by rcases e with e | e | e; omega; omega; have := rB_no e.1; omega)
      have dspa3 := (dsp2.fr f3 (fun r o e => by have := rB_no e.1; omega)).fr fba3 (fun r o e => by unfold s1 at e; omega)
      have dsba3 := (dsb2.fr f3 (fun p hp e => nd1a3 (List.mem_map.mpr ⟨p, hp, e.2⟩))).fr fba3 (fun p hp e => by unfold s1 at e; omega)
      have hLa3 := hL2
      have h0a3 := sma3.1
      have hsma3 := sma3
      have ⟨g1a3, ⟨xda3, g2a3, dqa3⟩, ⟨g3a3, ota3⟩, g4a3, g5a3, ⟨xqa3, kqa3, g6qa3⟩, g7a3⟩ := Ca3
      have hqla3 := xQs.len _ _ g7a3
      have g6a3 : V4 10 h 4 = .ref x0 := g6qa3.trans (congrArg Value.ref (P4.fn kqa3 h0a3))
      refine g_aload_n B 0 dX10_put_41 rfl ?_
      refine x_get B P4 g1a3 (by decide) rfl F_X10_26_10 (by decide) g3a3 dX10_put_42 ?_
      obtain ⟨n5, u5, ty5⟩ := P4.ty ota3.1.1 (by decide) rfl
      refine g_callV (rest := []) B M_X11_size q1283 q1284 q1285 ty5 rfl (c_X11_size P4 ota3) rfl rfl (Nat.le_of_ble_eq_true rfl) (Nat.le_of_ble_eq_true rfl) (Nat.le_of_ble_eq_true rfl) (Nat.le_refl _) (Nat.le_refl _) dX10_put_45 (xkA (fun v5 T5 O5 R5 le5 p5 => ?_))
      obtain ⟨rfl, eT5, eO5, eR5⟩ := p5
      obtain rfl := eT5.symm
      obtain rfl := eO5.symm
      obtain rfl := eR5.symm
      refine g_aload_n B 0 dX10_put_48 rfl ?_
      refine x_get B P4 g1a3 (by decide) rfl F_X10_1_10 (by decide) g6a3 dX10_put_49 ?_
      refine x_get B P4 h0a3 (by decide) rfl F_X10_48_0 (by decide) hsma3.2.2.1 dX10_put_52 ?_
      refine g_icmp_neN (tgt := 69) B (by first | omega | (simp <;> omega)) (by omega) dX10_put_55 (by decide) (fun e => absurd (by simpa using hB.1) e) (fun _ => ?_)
      refine g_aload_n B 0 dX10_put_58 rfl ?_
      obtain ⟨n6, u6, ty6⟩ := P4.ty g1a3 (by decide) rfl
      refine g_callV (rest := []) B M_X10_hasRoom q1287 q1288 q1289 ty6 rfl (c_X10_hasRoom P4 hsma3 Ca3 dspa3 hcr (by first | omega | (have q_ := hqla3; simp at q_ ⊢ <;> omega))) rfl rfl (Nat.le_of_ble_eq_true rfl) (Nat.le_of_ble_eq_true rfl) (Nat.le_of_ble_eq_true rfl) (Nat.le_refl _) (Nat.le_refl _) dX10_put_59 (xkA (fun v6 T6 O6 R6 le6 p6 => ?_))
      obtain ⟨rfl, eT6, eO6, eR6⟩ := p6
      obtain rfl := eT6.symm
      obtain rfl := eO6.symm
      obtain rfl := eR6.symm
      refine g_if_eqB (tgt := 69) B dX10_put_62 (by decide) (fun e => absurd (by simpa using hB.2) (of_decide_eq_false e)) (fun _ => ?_)
      refine g_aload_n B 0 dX10_put_65 rfl ?_
      obtain ⟨n7, u7, ty7⟩ := P4.ty g1a3 (by decide) rfl
      have hlena3 : (bs ++ [ob]).length + 1 ≤ 8 := by have := hqla3; simp at this ⊢ <;> omega
      refine g_callV (kc2 := 4 * cB 0 sp2.tail) (ks2 := 18 * cB 0 sp2.tail) (rest := []) B M_X10_close q1292 q1294 qs15 ty7 rfl (c_X10_close P4 hsma3 Ca3.co dspa3 dsba3 hLa3 (cRecs_close _).symm hlena3) rfl rfl (Nat.le_of_ble_eq_true rfl) (Nat.le_of_ble_eq_true rfl) (Nat.le_of_ble_eq_true rfl) cB_split4 cB_split18 dX10_put_66 (xkN (fun T7 O7 R7 le7 p7 => ?_))
      obtain ⟨Y7, V7, I7, J7, A7, P7, rfl, b7, sp7, C7, ds7, sb7, ht7, lo7, f7⟩ := p7
      rw [← ht7]
      have F7 := Fa3.tr (f7.mono (sCh.mono (fun x b hx => Fa3.1.at hx) LOa3.2))
      have LO7 := lOk.tr (fun x b hx => Fa3.1.at hx) LOa3 lo7
      have sm7 := hsm.fr F7 (fun e => by rcases e with e | e | e; omega; omega; have := rB_no e.1; omega)
      have dsp7 := ds7
      have dsb7 := sb7
      have hL7 := LO7.1
      have h07 := sm7.1
      have hsm7 := sm7
      have ⟨g17, ⟨xd7, g27, dq7⟩, ⟨g37, ot7⟩, g47, g57, ⟨xq7, kq7, g6q7⟩, g77⟩ := C7
      have hql7 := xQs.len _ _ g77
      have g67 : V7 10 h 4 = .ref x0 := g6q7.trans (congrArg Value.ref (P7.fn kq7 h07))
      refine g_vret B E rfl dX10_put_69 ?_
      exact ⟨rfl, _, _, _, _, _, P7, rfl, b7, ((bs ++ [ob]) ++ [b2]), sp7, C7, dsp7, dsb7, by rw [ht7, ht2]; simp [List.length_tail] <;> omega, LO7, F7⟩
    · have e2 := hp.symm.trans (cPut_b hfull hB)
      subst e2
      obtain rfl : k = 1 := by simp at hk; omega
      refine g_aload_n B 0 dX10_put_0 rfl ?_
      refine x_get B P g1 (by decide) rfl F_X10_26_10 (by decide) g3 dX10_put_1 ?_
      obtain ⟨n8, u8, ty8⟩ := P.ty ot.1.1 (by decide) rfl
      refine g_callV (rest := []) B M_X11_size q1283 q1284 q1285 ty8 rfl (c_X11_size P ot) rfl rfl (Nat.le_of_ble_eq_true rfl) (Nat.le_of_ble_eq_true rfl) (Nat.le_of_ble_eq_true rfl) (Nat.le_refl _) (Nat.le_refl _) dX10_put_4 (xkA (fun v8 T8 O8 R8 le8 p8 => ?_))
      obtain ⟨rfl, eT8, eO8, eR8⟩ := p8
      obtain rfl := eT8.symm
      obtain rfl := eO8.symm
      obtain rfl := eR8.symm
      refine g_aload_n B 0 dX10_put_7 rfl ?_
      refine x_get B P g1 (by decide) rfl F_X10_1_10 (by decide) g6 dX10_put_8 ?_
      refine x_get B P h0 (by decide) rfl F_X10_48_0 (by decide) hsm.2.2.1 dX10_put_11 ?_
      refine g_icmp_neN (tgt := 21) B (by omega) (by omega) dX10_put_14 (by decide) (fun e => absurd hfull e) (fun _ => ?_)
      refine g_aload_n B 0 dX10_put_17 rfl ?_
      obtain ⟨n9, u9, ty9⟩ := P.ty g1 (by decide) rfl
      have hlen : bs.length + 1 ≤ 8 := by have := hql; simp at this ⊢ <;> omega
      refine g_callV (kc2 := 4 * cB 0 sp.tail) (ks2 := 18 * cB 0 sp.tail) (rest := []) B M_X10_close q1292 q1294 qs15 ty9 rfl (c_X10_close P hsm hC.co dsp dsb hL (cRecs_close _).symm hlen) rfl rfl (Nat.le_of_ble_eq_true rfl) (Nat.le_of_ble_eq_true rfl) (Nat.le_of_ble_eq_true rfl) cB_split4 cB_split18 dX10_put_18 (xkN (fun T9 O9 R9 le9 p9 => ?_))
      obtain ⟨Y9, V9, I9, J9, A9, P9, rfl, b9, sp9, C9, ds9, sb9, ht9, lo9, f9⟩ := p9
      rw [← ht9]
      have F9 := f9
      have LO9 := lo9
      have sm9 := hsm.fr F9 (fun e => by rcases e with e | e | e; omega; omega; have := rB_no e.1; omega)
      have dsp9 := ds9
      have dsb9 := sb9
      have hL9 := LO9.1
      have h09 := sm9.1
      have hsm9 := sm9
      have ⟨g19, ⟨xd9, g29, dq9⟩, ⟨g39, ot9⟩, g49, g59, ⟨xq9, kq9, g6q9⟩, g79⟩ := C9
      have hql9 := xQs.len _ _ g79
      have g69 : V9 10 h 4 = .ref x0 := g6q9.trans (congrArg Value.ref (P9.fn kq9 h09))
      refine g_aload_n B 0 dX10_put_21 rfl ?_
      refine x_get B P9 g19 (by decide) rfl F_X10_26_10 (by decide) g39 dX10_put_22 ?_
      refine g_iload_n B 1 dX10_put_25 rfl ?_
      refine g_iload_n B 2 dX10_put_26 rfl ?_
      refine g_iload_n B 3 dX10_put_27 rfl ?_
      obtain ⟨n10, u10, ty10⟩ := P9.ty ot9.1.1 (by decide) rfl
      refine g_callV (rest := []) B M_X11_add q1370 q1371 q1372 ty10 rfl (c_X11_add P9 ot9 (by first | omega | (simp <;> omega))) rfl rfl (Nat.le_of_ble_eq_true rfl) (Nat.le_of_ble_eq_true rfl) (Nat.le_of_ble_eq_true rfl) (Nat.le_refl _) (Nat.le_refl _) dX10_put_28 (xkN (fun T10 O10 R10 le10 p10 => ?_))
      obtain ⟨Y10, V10, I10, J10, A10, P10, rfl, rfl, rfl, d10, f10⟩ := p10
      have na10 : V10 10 h = V9 10 h := (f10.2 10 h x g19 (fun e => by have := rB_no e.1; omega)).1
      refine g_aload_n B 0 dX10_put_31 rfl ?_
      refine g_dup B dX10_put_32 rfl ?_
      refine x_get B P10 g19 (by decide) rfl F_X10_61_10 (by decide) ((congrFun na10 3).trans g59) dX10_put_33 ?_
      refine g_iconst (v := nI 1) B dX10_put_36 (by decide) ?_
      refine g_iaddN B dX10_put_37 ?_
      refine x_put (q := (RX10, TX10, 5)) B P10 g19 (by decide) rfl F_X10_61_10 rfl rfl (tyX10_ok 3 (by decide)) rfl rfl dX10_put_38 (fun O11 V11 hs11 hk11 P11 => ?_)
      have fba10 := xFr.uV (S := s1 10 h) (Y := Y9) (I := I10) (J := J) (A := A9) ⟨rfl, rfl⟩ hs11 hk11
      obtain ⟨nd1a10, nd2a10, nd3a10⟩ := lCh_nd hL9
      have hra10 : V11 10 h 3 = .int (nI (cRecs ((((c.1 ++ [some c.2.1], [], 0) : aCh).1, ((c.1 ++ [some c.2.1], [], 0) : aCh).2.1 ++ [(key, v, birth)], ((c.1 ++ [some c.2.1], [], 0) : aCh).2.2) : aCh))) := (rdS hs11).trans (congrArg (fun z => Value.int (nI z)) (by simp [cRecs] <;> omega))
      have hda10 := (dq9.fr f10 (fun e => by have := rB_no e.1; omega) (fun e => by have := rB_no e.1; omega)).fr fba10 (fun e => by unfold s1 at e; omega) (fun e => by unfold s1 at e; omega)
      have hoa10 := d10.fr fba10 (fun r hr e => by have := rB_no hr; unfold s1 at e; omega)
      have hs1a10 : xQs Y9 V10 I10 (bs ++ [ob]) ((c.1 ++ [some c.2.1], [], 0) : aCh).1 := xQs.fr f10 (bs ++ [ob]) ((c.1 ++ [some c.2.1], [], 0) : aCh).1 g79 (fun c hc r hr e => nd2a10 (by rw [← e.2]; exact hc))
      have hs2a10 : xQs Y9 V11 I10 (bs ++ [ob]) ((c.1 ++ [some c.2.1], [], 0) : aCh).1 := xQs.fr fba10 (bs ++ [ob]) ((c.1 ++ [some c.2.1], [], 0) : aCh).1 hs1a10 (fun c hc r hr e => by have := rB_no hr; unfold s1 at e; omega)
      have Ca10 : xCh Y9 V11 I10 A9 h x ((((c.1 ++ [some c.2.1], [], 0) : aCh).1, ((c.1 ++ [some c.2.1], [], 0) : aCh).2.1 ++ [(key, v, birth)], ((c.1 ++ [some c.2.1], [], 0) : aCh).2.2) : aCh) b9 (bs ++ [ob]) := ⟨g19, ⟨xd9, (rdK hs11 (by decide) ((congrFun na10 0).trans g29)), hda10⟩, ⟨(rdK hs11 (by decide) ((congrFun na10 1).trans g39)), hoa10⟩, (rdK hs11 (by decide) ((congrFun na10 2).trans g49)), hra10, ⟨x0, h09, (rdK hs11 (by decide) ((congrFun na10 4).trans g69))⟩, hs2a10⟩
      have fca10 := (f10.mono (S2 := sCh Y9 h (lCh b9 (bs ++ [ob]) sp9)) sBt_sCh).tr (fba10.mono s1_sCh)
      have Fa10 := F9.tr (fca10.mono (sCh.mono (fun x b hx => F9.1.at hx) LO9.2))
      have LOa10 := LO9
      have sma10 := hsm.fr Fa10 (fun e => by rcases e with e | e | e; omega; omega; have := rB_no e.1; omega)
      have dspa10 := (dsp9.fr f10 (fun r o e => by have := rB_no e.1; omega)).fr fba10 (fun r o e => by unfold s1 at e; omega)
      have dsba10 := (dsb9.fr f10 (fun p hp e => nd1a10 (List.mem_map.mpr ⟨p, hp, e.2⟩))).fr fba10 (fun p hp e => by unfold s1 at e; omega)
      have hLa10 := hL9
      have h0a10 := sma10.1
      have hsma10 := sma10
      have ⟨g1a10, ⟨xda10, g2a10, dqa10⟩, ⟨g3a10, ota10⟩, g4a10, g5a10, ⟨xqa10, kqa10, g6qa10⟩, g7a10⟩ := Ca10
      have hqla10 := xQs.len _ _ g7a10
      have g6a10 : V11 10 h 4 = .ref x0 := g6qa10.trans (congrArg Value.ref (P11.fn kqa10 h0a10))
      refine g_aload_n B 0 dX10_put_41 rfl ?_
      refine x_get B P11 g1a10 (by decide) rfl F_X10_26_10 (by decide) g3a10 dX10_put_42 ?_
      obtain ⟨n12, u12, ty12⟩ := P11.ty ota10.1.1 (by decide) rfl
      refine g_callV (rest := []) B M_X11_size q1283 q1284 q1285 ty12 rfl (c_X11_size P11 ota10) rfl rfl (Nat.le_of_ble_eq_true rfl) (Nat.le_of_ble_eq_true rfl) (Nat.le_of_ble_eq_true rfl) (Nat.le_refl _) (Nat.le_refl _) dX10_put_45 (xkA (fun v12 T12 O12 R12 le12 p12 => ?_))
      obtain ⟨rfl, eT12, eO12, eR12⟩ := p12
      obtain rfl := eT12.symm
      obtain rfl := eO12.symm
      obtain rfl := eR12.symm
      refine g_aload_n B 0 dX10_put_48 rfl ?_
      refine x_get B P11 g1a10 (by decide) rfl F_X10_1_10 (by decide) g6a10 dX10_put_49 ?_
      refine x_get B P11 h0a10 (by decide) rfl F_X10_48_0 (by decide) hsma10.2.2.1 dX10_put_52 ?_
      refine g_icmp_neN (tgt := 69) B (by first | omega | (simp <;> omega)) (by first | omega | (simp <;> omega)) dX10_put_55 (by decide) (fun c13 => ?_) (fun c13 => ?_)
      · refine g_vret B E rfl dX10_put_69 ?_
        exact ⟨rfl, _, _, _, _, _, P11, rfl, b9, (bs ++ [ob]), sp9, Ca10, dspa10, dsba10, by rw [ht9]; simp [List.length_tail] <;> omega, LOa10, Fa10⟩
      · refine g_aload_n B 0 dX10_put_58 rfl ?_
        obtain ⟨n14, u14, ty14⟩ := P11.ty g1a10 (by decide) rfl
        refine g_callV (rest := []) B M_X10_hasRoom q1287 q1288 q1289 ty14 rfl (c_X10_hasRoom P11 hsma10 Ca10 dspa10 hcr (by first | omega | (have q_ := hqla10; simp at q_ ⊢ <;> omega))) rfl rfl (Nat.le_of_ble_eq_true rfl) (Nat.le_of_ble_eq_true rfl) (Nat.le_of_ble_eq_true rfl) (Nat.le_refl _) (Nat.le_refl _) dX10_put_59 (xkA (fun v14 T14 O14 R14 le14 p14 => ?_))
        obtain ⟨rfl, eT14, eO14, eR14⟩ := p14
        obtain rfl := eT14.symm
        obtain rfl := eO14.symm
        obtain rfl := eR14.symm
        refine g_if_eqB (tgt := 69) B dX10_put_62 (by decide) (fun _ => ?_) (fun e => absurd ⟨by simpa using c13, by simpa using of_decide_eq_true e⟩ hB)
        refine g_vret B E rfl dX10_put_69 ?_
        exact ⟨rfl, _, _, _, _, _, P11, rfl, b9, (bs ++ [ob]), sp9, Ca10, dspa10, dsba10, by rw [ht9]; simp [List.length_tail] <;> omega, LOa10, Fa10⟩
  ·
    by_cases hB : c.2.1.length + 1 = bz ∧ c.1.length < cr
    · have e2 := hp.symm.trans (cPut_c hfull hB)
      subst e2
      obtain rfl : k = 1 := by simp at hk; omega
      refine g_aload_n B 0 dX10_put_0 rfl ?_
      refine x_get B P g1 (by decide) rfl F_X10_26_10 (by decide) g3 dX10_put_1 ?_
      obtain ⟨n15, u15, ty15⟩ := P.ty ot.1.1 (by decide) rfl
      refine g_callV (rest := []) B M_X11_size q1283 q1284 q1285 ty15 rfl (c_X11_size P ot) rfl rfl (Nat.le_of_ble_eq_true rfl) (Nat.le_of_ble_eq_true rfl) (Nat.le_of_ble_eq_true rfl) (Nat.le_refl _) (Nat.le_refl _) dX10_put_4 (xkA (fun v15 T15 O15 R15 le15 p15 => ?_))
      obtain ⟨rfl, eT15, eO15, eR15⟩ := p15
      obtain rfl := eT15.symm
      obtain rfl := eO15.symm
      obtain rfl := eR15.symm
      refine g_aload_n B 0 dX10_put_7 rfl ?_
      refine x_get B P g1 (by decide) rfl F_X10_1_10 (by decide) g6 dX10_put_8 ?_
      refine x_get B P h0 (by decide) rfl F_X10_48_0 (by decide) hsm.2.2.1 dX10_put_11 ?_
      refine g_icmp_neN (tgt := 21) B (by omega) (by omega) dX10_put_14 (by decide) (fun _ => ?_) (fun e => absurd e hfull)
      refine g_aload_n B 0 dX10_put_21 rfl ?_
      refine x_get B P g1 (by decide) rfl F_X10_26_10 (by decide) g3 dX10_put_22 ?_
      refine g_iload_n B 1 dX10_put_25 rfl ?_
      refine g_iload_n B 2 dX10_put_26 rfl ?_
      refine g_iload_n B 3 dX10_put_27 rfl ?_
      obtain ⟨n16, u16, ty16⟩ := P.ty ot.1.1 (by decide) rfl
      refine g_callV (rest := []) B M_X11_add q1370 q1371 q1372 ty16 rfl (c_X11_add P ot (by first | omega | (simp <;> omega))) rfl rfl (Nat.le_of_ble_eq_true rfl) (Nat.le_of_ble_eq_true rfl) (Nat.le_of_ble_eq_true rfl) (Nat.le_refl _) (Nat.le_refl _) dX10_put_28 (xkN (fun T16 O16 R16 le16 p16 => ?_))
      obtain ⟨Y16, V16, I16, J16, A16, P16, rfl, rfl, rfl, d16, f16⟩ := p16
      have na16 : V16 10 h = V 10 h := (f16.2 10 h x g1 (fun e => by have := rB_no e.1; omega)).1
      refine g_aload_n B 0 dX10_put_31 rfl ?_
      refine g_dup B dX10_put_32 rfl ?_
      refine x_get B P16 g1 (by decide) rfl F_X10_61_10 (by decide) ((congrFun na16 3).trans g5) dX10_put_33 ?_
      refine g_iconst (v := nI 1) B dX10_put_36 (by decide) ?_
      refine g_iaddN B dX10_put_37 ?_
      refine x_put (q := (RX10, TX10, 5)) B P16 g1 (by decide) rfl F_X10_61_10 rfl rfl (tyX10_ok 3 (by decide)) rfl rfl dX10_put_38 (fun O17 V17 hs17 hk17 P17 => ?_)
      have fba16 := xFr.uV (S := s1 10 h) (Y := Y) (I := I16) (J := J) (A := A) ⟨rfl, rfl⟩ hs17 hk17
      obtain ⟨nd1a16, nd2a16, nd3a16⟩ := lCh_nd hL
      have hra16 : V17 10 h 3 = .int (nI (cRecs ((c.1, c.2.1 ++ [(key, v, birth)], c.2.2) : aCh))) := (rdS hs17).trans (congrArg (fun z => Value.int (nI z)) (by simp [cRecs] <;> omega))
      have hda16 := (dq.fr f16 (fun e => by have := rB_no e.1; omega) (fun e => by have := rB_no e.1; omega)).fr fba16 (fun e => by unfold s1 at e; omega) (fun e => by unfold s1 at e; omega)
      have hoa16 := d16.fr fba16 (fun r hr e => by have := rB_no hr; unfold s1 at e; omega)
      have hs1a16 : xQs Y V16 I16 bs c.1 := xQs.fr f16 bs c.1 g7 (fun c hc r hr e => nd2a16 (by rw [← e.2]; exact hc))
      have hs2a16 : xQs Y V17 I16 bs c.1 := xQs.fr fba16 bs c.1 hs1a16 (fun c hc r hr e => by have := rB_no hr; unfold s1 at e; omega)
      have Ca16 : xCh Y V17 I16 A h x ((c.1, c.2.1 ++ [(key, v, birth)], c.2.2) : aCh) ob bs := ⟨g1, ⟨xd, (rdK hs17 (by decide) ((congrFun na16 0).trans g2)), hda16⟩, ⟨(rdK hs17 (by decide) ((congrFun na16 1).trans g3)), hoa16⟩, (rdK hs17 (by decide) ((congrFun na16 2).trans g4)), hra16, ⟨x0, h0, (rdK hs17 (by decide) ((congrFun na16 4).trans g6))⟩, hs2a16⟩
      have fca16 := (f16.mono (S2 := sCh Y h (lCh ob bs sp)) sBt_sCh).tr (fba16.mono s1_sCh)
      have Fa16 := fca16
      have LOa16 : lOk Y (lCh ob bs sp) (lCh ob bs sp) := lOk_rf hL
      have sma16 := hsm.fr Fa16 (fun e => by rcases e with e | e | e; omega; omega; have := rB_no e.1; omega)
      have dspa16 := (dsp.fr f16 (fun r o e => by have := rB_no e.1; omega)).fr fba16 (fun r o e => by unfold s1 at e; omega)
      have dsba16 := (dsb.fr f16 (fun p hp e => nd1a16 (List.mem_map.mpr ⟨p, hp, e.2⟩))).fr fba16 (fun p hp e => by unfold s1 at e; omega)
      have hLa16 := hL
      have h0a16 := sma16.1
      have hsma16 := sma16
      have ⟨g1a16, ⟨xda16, g2a16, dqa16⟩, ⟨g3a16, ota16⟩, g4a16, g5a16, ⟨xqa16, kqa16, g6qa16⟩, g7a16⟩ := Ca16
      have hqla16 := xQs.len _ _ g7a16
      have g6a16 : V17 10 h 4 = .ref x0 := g6qa16.trans (congrArg Value.ref (P17.fn kqa16 h0a16))
      refine g_aload_n B 0 dX10_put_41 rfl ?_
      refine x_get B P17 g1a16 (by decide) rfl F_X10_26_10 (by decide) g3a16 dX10_put_42 ?_
      obtain ⟨n18, u18, ty18⟩ := P17.ty ota16.1.1 (by decide) rfl
      refine g_callV (rest := []) B M_X11_size q1283 q1284 q1285 ty18 rfl (c_X11_size P17 ota16) rfl rfl (Nat.le_of_ble_eq_true rfl) (Nat.le_of_ble_eq_true rfl) (Nat.le_of_ble_eq_true rfl) (Nat.le_refl _) (Nat.le_refl _) dX10_put_45 (xkA (fun v18 T18 O18 R18 le18 p18 => ?_))
      obtain ⟨rfl, eT18, eO18, eR18⟩ := p18
      obtain rfl := eT18.symm
      obtain rfl := eO18.symm
      obtain rfl := eR18.symm
      refine g_aload_n B 0 dX10_put_48 rfl ?_
      refine x_get B P17 g1a16 (by decide) rfl F_X10_1_10 (by decide) g6a16 dX10_put_49 ?_
      refine x_get B P17 h0a16 (by decide) rfl F_X10_48_0 (by decide) hsma16.2.2.1 dX10_put_52 ?_
      refine g_icmp_neN (tgt := 69) B (by first | omega | (simp <;> omega)) (by omega) dX10_put_55 (by decide) (fun e => absurd (by simpa using hB.1) e) (fun _ => ?_)
      refine g_aload_n B 0 dX10_put_58 rfl ?_
      obtain ⟨n19, u19, ty19⟩ := P17.ty g1a16 (by decide) rfl
      refine g_callV (rest := []) B M_X10_hasRoom q1287 q1288 q1289 ty19 rfl (c_X10_hasRoom P17 hsma16 Ca16 dspa16 hcr (by first | omega | (have q_ := hqla16; simp at q_ ⊢ <;> omega))) rfl rfl (Nat.le_of_ble_eq_true rfl) (Nat.le_of_ble_eq_true rfl) (Nat.le_of_ble_eq_true rfl) (Nat.le_refl _) (Nat.le_refl _) dX10_put_59 (xkA (fun v19 T19 O19 R19 le19 p19 => ?_))
      obtain ⟨rfl, eT19, eO19, eR19⟩ := p19
      obtain rfl := eT19.symm
      obtain rfl := eO19.symm
      obtain rfl := eR19.symm
      refine g_if_eqB (tgt := 69) B dX10_put_62 (by decide) (fun e => absurd (by simpa using hB.2) (of_decide_eq_false e)) (fun _ => ?_)
      refine g_aload_n B 0 dX10_put_65 rfl ?_
      obtain ⟨n20, u20, ty20⟩ := P17.ty g1a16 (by decide) rfl
      have hlena16 : bs.length + 1 ≤ 8 := by have := hqla16; simp at this ⊢ <;> omega
      refine g_callV (kc2 := 4 * cB 0 sp.tail) (ks2 := 18 * cB 0 sp.tail) (rest := []) B M_X10_close q1292 q1294 qs15 ty20 rfl (c_X10_close P17 hsma16 Ca16.co dspa16 dsba16 hLa16 (cRecs_close _).symm hlena16) rfl rfl (Nat.le_of_ble_eq_true rfl) (Nat.le_of_ble_eq_true rfl) (Nat.le_of_ble_eq_true rfl) cB_split4 cB_split18 dX10_put_66 (xkN (fun T20 O20 R20 le20 p20 => ?_))
      obtain ⟨Y20, V20, I20, J20, A20, P20, rfl, b20, sp20, C20, ds20, sb20, ht20, lo20, f20⟩ := p20
      rw [← ht20]
      have F20 := Fa16.tr (f20.mono (sCh.mono (fun x b hx => Fa16.1.at hx) LOa16.2))
      have LO20 := lOk.tr (fun x b hx => Fa16.1.at hx) LOa16 lo20
      have sm20 := hsm.fr F20 (fun e => by rcases e with e | e | e; omega; omega; have := rB_no e.1; omega)
      have dsp20 := ds20
      have dsb20 := sb20
      have hL20 := LO20.1
      have h020 := sm20.1
      have hsm20 := sm20
      have ⟨g120, ⟨xd20, g220, dq20⟩, ⟨g320, ot20⟩, g420, g520, ⟨xq20, kq20, g6q20⟩, g720⟩ := C20
      have hql20 := xQs.len _ _ g720
      have g620 : V20 10 h 4 = .ref x0 := g6q20.trans (congrArg Value.ref (P20.fn kq20 h020))
      refine g_vret B E rfl dX10_put_69 ?_
      exact ⟨rfl, _, _, _, _, _, P20, rfl, b20, (bs ++ [ob]), sp20, C20, dsp20, dsb20, by rw [ht20]; simp [List.length_tail] <;> omega, LO20, F20⟩
    · have e2 := hp.symm.trans (cPut_d hfull hB)
      subst e2
      obtain rfl : k = 0 := by simp at hk; omega
      refine g_aload_n B 0 dX10_put_0 rfl ?_
      refine x_get B P g1 (by decide) rfl F_X10_26_10 (by decide) g3 dX10_put_1 ?_
      obtain ⟨n21, u21, ty21⟩ := P.ty ot.1.1 (by decide) rfl
      refine g_callV (rest := []) B M_X11_size q1283 q1284 q1285 ty21 rfl (c_X11_size P ot) rfl rfl (Nat.le_of_ble_eq_true rfl) (Nat.le_of_ble_eq_true rfl) (Nat.le_of_ble_eq_true rfl) (Nat.le_refl _) (Nat.le_refl _) dX10_put_4 (xkA (fun v21 T21 O21 R21 le21 p21 => ?_))
      obtain ⟨rfl, eT21, eO21, eR21⟩ := p21
      obtain rfl := eT21.symm
      obtain rfl := eO21.symm
      obtain rfl := eR21.symm
      refine g_aload_n B 0 dX10_put_7 rfl ?_
      refine x_get B P g1 (by decide) rfl F_X10_1_10 (by decide) g6 dX10_put_8 ?_
      refine x_get B P h0 (by decide) rfl F_X10_48_0 (by decide) hsm.2.2.1 dX10_put_11 ?_
      refine g_icmp_neN (tgt := 21) B (by omega) (by omega) dX10_put_14 (by decide) (fun _ => ?_) (fun e => absurd e hfull)
      refine g_aload_n B 0 dX10_put_21 rfl ?_
      refine x_get B P g1 (by decide) rfl F_X10_26_10 (by decide) g3 dX10_put_22 ?_
      refine g_iload_n B 1 dX10_put_25 rfl ?_
      refine g_iload_n B 2 dX10_put_26 rfl ?_
      refine g_iload_n B 3 dX10_put_27 rfl ?_
      obtain ⟨n22, u22, ty22⟩ := P.ty ot.1.1 (by decide) rfl
      refine g_callV (rest := []) B M_X11_add q1370 q1371 q1372 ty22 rfl (c_X11_add P ot (by first | omega | (simp <;> omega))) rfl rfl (Nat.le_of_ble_eq_true rfl) (Nat.le_of_ble_eq_true rfl) (Nat.le_of_ble_eq_true rfl) (Nat.le_refl _) (Nat.le_refl _) dX10_put_28 (xkN (fun T22 O22 R22 le22 p22 => ?_))
      obtain ⟨Y22, V22, I22, J22, A22, P22, rfl, rfl, rfl, d22, f22⟩ := p22
      have na22 : V22 10 h = V 10 h := (f22.2 10 h x g1 (fun e => by have := rB_no e.1; omega)).1
      refine g_aload_n B 0 dX10_put_31 rfl ?_
      refine g_dup B dX10_put_32 rfl ?_
      refine x_get B P22 g1 (by decide) rfl F_X10_61_10 (by decide) ((congrFun na22 3).trans g5) dX10_put_33 ?_
      refine g_iconst (v := nI 1) B dX10_put_36 (by decide) ?_
      refine g_iaddN B dX10_put_37 ?_
      refine x_put (q := (RX10, TX10, 5)) B P22 g1 (by decide) rfl F_X10_61_10 rfl rfl (tyX10_ok 3 (by decide)) rfl rfl dX10_put_38 (fun O23 V23 hs23 hk23 P23 => ?_)
      have fba22 := xFr.uV (S := s1 10 h) (Y := Y) (I := I22) (J := J) (A := A) ⟨rfl, rfl⟩ hs23 hk23
      obtain ⟨nd1a22, nd2a22, nd3a22⟩ := lCh_nd hL
      have hra22 : V23 10 h 3 = .int (nI (cRecs ((c.1, c.2.1 ++ [(key, v, birth)], c.2.2) : aCh))) := (rdS hs23).trans (congrArg (fun z => Value.int (nI z)) (by simp [cRecs] <;> omega))
      have hda22 := (dq.fr f22 (fun e => by have := rB_no e.1; omega) (fun e => by have := rB_no e.1; omega)).fr fba22 (fun e => by unfold s1 at e; omega) (fun e => by unfold s1 at e; omega)
      have hoa22 := d22.fr fba22 (fun r hr e => by have := rB_no hr; unfold s1 at e; omega)
      have hs1a22 : xQs Y V22 I22 bs c.1 := xQs.fr f22 bs c.1 g7 (fun c hc r hr e => nd2a22 (by rw [← e.2]; exact hc))
      have hs2a22 : xQs Y V23 I22 bs c.1 := xQs.fr fba22 bs c.1 hs1a22 (fun c hc r hr e => by have := rB_no hr; unfold s1 at e; omega)
      have Ca22 : xCh Y V23 I22 A h x ((c.1, c.2.1 ++ [(key, v, birth)], c.2.2) : aCh) ob bs := ⟨g1, ⟨xd, (rdK hs23 (by decide) ((congrFun na22 0).trans g2)), hda22⟩, ⟨(rdK hs23 (by decide) ((congrFun na22 1).trans g3)), hoa22⟩, (rdK hs23 (by decide) ((congrFun na22 2).trans g4)), hra22, ⟨x0, h0, (rdK hs23 (by decide) ((congrFun na22 4).trans g6))⟩, hs2a22⟩
      have fca22 := (f22.mono (S2 := sCh Y h (lCh ob bs sp)) sBt_sCh).tr (fba22.mono s1_sCh)
      have Fa22 := fca22
      have LOa22 : lOk Y (lCh ob bs sp) (lCh ob bs sp) := lOk_rf hL
      have sma22 := hsm.fr Fa22 (fun e => by rcases e with e | e | e; omega; omega; have := rB_no e.1; omega)
      have dspa22 := (dsp.fr f22 (fun r o e => by have := rB_no e.1; omega)).fr fba22 (fun r o e => by unfold s1 at e; omega)
      have dsba22 := (dsb.fr f22 (fun p hp e => nd1a22 (List.mem_map.mpr ⟨p, hp, e.2⟩))).fr fba22 (fun p hp e => by unfold s1 at e; omega)
      have hLa22 := hL
      have h0a22 := sma22.1
      have hsma22 := sma22
      have ⟨g1a22, ⟨xda22, g2a22, dqa22⟩, ⟨g3a22, ota22⟩, g4a22, g5a22, ⟨xqa22, kqa22, g6qa22⟩, g7a22⟩ := Ca22
      have hqla22 := xQs.len _ _ g7a22
      have g6a22 : V23 10 h 4 = .ref x0 := g6qa22.trans (congrArg Value.ref (P23.fn kqa22 h0a22))
      refine g_aload_n B 0 dX10_put_41 rfl ?_
      refine x_get B P23 g1a22 (by decide) rfl F_X10_26_10 (by decide) g3a22 dX10_put_42 ?_
      obtain ⟨n24, u24, ty24⟩ := P23.ty ota22.1.1 (by decide) rfl
      refine g_callV (rest := []) B M_X11_size q1283 q1284 q1285 ty24 rfl (c_X11_size P23 ota22) rfl rfl (Nat.le_of_ble_eq_true rfl) (Nat.le_of_ble_eq_true rfl) (Nat.le_of_ble_eq_true rfl) (Nat.le_refl _) (Nat.le_refl _) dX10_put_45 (xkA (fun v24 T24 O24 R24 le24 p24 => ?_))
      obtain ⟨rfl, eT24, eO24, eR24⟩ := p24
      obtain rfl := eT24.symm
      obtain rfl := eO24.symm
      obtain rfl := eR24.symm
      refine g_aload_n B 0 dX10_put_48 rfl ?_
      refine x_get B P23 g1a22 (by decide) rfl F_X10_1_10 (by decide) g6a22 dX10_put_49 ?_
      refine x_get B P23 h0a22 (by decide) rfl F_X10_48_0 (by decide) hsma22.2.2.1 dX10_put_52 ?_
      refine g_icmp_neN (tgt := 69) B (by first | omega | (simp <;> omega)) (by first | omega | (simp <;> omega)) dX10_put_55 (by decide) (fun c25 => ?_) (fun c25 => ?_)
      · refine g_vret B E rfl dX10_put_69 ?_
        exact ⟨rfl, _, _, _, _, _, P23, rfl, ob, bs, sp, Ca22, dspa22, dsba22, by simp, LOa22, Fa22⟩
      · refine g_aload_n B 0 dX10_put_58 rfl ?_
        obtain ⟨n26, u26, ty26⟩ := P23.ty g1a22 (by decide) rfl
        refine g_callV (rest := []) B M_X10_hasRoom q1287 q1288 q1289 ty26 rfl (c_X10_hasRoom P23 hsma22 Ca22 dspa22 hcr (by first | omega | (have q_ := hqla22; simp at q_ ⊢ <;> omega))) rfl rfl (Nat.le_of_ble_eq_true rfl) (Nat.le_of_ble_eq_true rfl) (Nat.le_of_ble_eq_true rfl) (Nat.le_refl _) (Nat.le_refl _) dX10_put_59 (xkA (fun v26 T26 O26 R26 le26 p26 => ?_))
        obtain ⟨rfl, eT26, eO26, eR26⟩ := p26
        obtain rfl := eT26.symm
        obtain rfl := eO26.symm
        obtain rfl := eR26.symm
        refine g_if_eqB (tgt := 69) B dX10_put_62 (by decide) (fun _ => ?_) (fun e => absurd ⟨by simpa using c25, by simpa using of_decide_eq_true e⟩ hB)
        refine g_vret B E rfl dX10_put_69 ?_
        exact ⟨rfl, _, _, _, _, _, P23, rfl, ob, bs, sp, Ca22, dspa22, dsba22, by simp, LOa22, Fa22⟩
