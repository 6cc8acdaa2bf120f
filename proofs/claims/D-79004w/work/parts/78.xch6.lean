set_option maxRecDepth 100000
theorem lCh_q {ob b : Nat} {bs : List Nat} {sp : List (Nat × Nat)} (h : (lCh ob (b :: bs) sp).Nodup) : b ≠ ob ∧ b ∉ bs ∧ ∀ p, p ∈ sp → p.2 ≠ b := by
  unfold lCh at h
  rw [List.cons_append, List.cons_append, List.nodup_cons, List.nodup_cons] at h
  refine ⟨fun e => h.1 (by rw [e]; exact List.mem_cons_self), fun q => h.2.1 (List.mem_append.mpr (Or.inl q)), fun p hp e => h.2.1 (List.mem_append.mpr (Or.inr (List.mem_map.mpr ⟨p, hp, e⟩)))⟩
theorem c_X10_takeRecord {G : xG} {T : xT} {O R : xO} {Y : xY} {V : xVV} {I : xII} {J : xJJ} {A : xVV} {w0 : xW} {x0 xl bz old cr h x ob ag b : Nat} {r : aRec} {rs op : List aRec} {q : List (Option (List aRec))} {bs : List Nat} {sp : List (Nat × Nat)} (P : PX Y V I J A w0 T O R) (hsm : xSm Y V x0 xl bz old cr) (C : xCh Y V I A h x ((some (r :: rs) :: q, op, ag) : aCh) ob (b :: bs)) (dsp : xSp Y V xl sp) (dsb : xSB Y V sp) (hL : (lCh ob (b :: bs) sp).Nodup) (hlt : sp.length + 1 < 1000000) : xCtr G yX10_takeRecord cX10_takeRecord 1 none 5 107 1 3 [.ref x] (T, O, R) (xN (xPN w0 (fun Y2 V2 I2 J2 A2 => J = J2 ∧ ∃ bs2 sp2, xCh Y2 V2 I2 A2 h x (if rs.isEmpty = true then q else some rs :: q, op, ag) ob bs2 ∧ xSp Y2 V2 xl sp2 ∧ xSB Y2 V2 sp2 ∧ sp2.length = sp.length + (if rs.isEmpty = true then 1 else 0) ∧ lOk Y (lCh ob (b :: bs) sp) (lCh ob bs2 sp2) ∧ xFr (sCh Y h (lCh ob (b :: bs) sp)) Y V I J A Y2 V2 I2 J2 A2))) := by
  have h0 := hsm.1
  obtain ⟨g1, ⟨xd, g2, dq⟩, ⟨g3, ot⟩, g4, g5, ⟨x0b, k0, g6⟩, g7⟩ := C
  obtain rfl := P.fn h0 k0
  refine xCtr.of (by decide +kernel) (Nat.le_of_ble_eq_true rfl) ?_
  intro Z B E hz hnm
  change xV Z (T, O, R) 0 [(0, .ref x)] [] 1 3
  refine g_aload_n B 0 dX10_takeRecord_0 rfl ?_
  refine g_dup B dX10_takeRecord_1 rfl ?_
  refine x_get B P g1 (by decide) rfl F_X10_61_10 (by decide) g5 dX10_takeRecord_2 ?_
  refine g_iconst (v := nI 1) B dX10_takeRecord_5 (by decide) ?_
  refine g_isubN B (by first | omega | (unfold cRecs qLen; simp; omega)) dX10_takeRecord_6 ?_
  refine x_put (q := (RX10, TX10, 5)) B P g1 (by decide) rfl F_X10_61_10 rfl rfl (tyX10_ok 3 (by decide)) rfl rfl dX10_takeRecord_7 (fun O1 V1 hs1 hk1 P1 => ?_)
  have fb := xFr.uV (S := s1 10 h) (Y := Y) (I := I) (J := J) (A := A) ⟨rfl, rfl⟩ hs1 hk1
  have hq1 : xQs Y V1 I (b :: bs) (some (r :: rs) :: q) := xQs.fr fb (b :: bs) (some (r :: rs) :: q) g7 (fun c hc r hr e => by have := rB_no hr; unfold s1 at e; omega)
  have C1 : xCr Y V1 I A h x ((some (r :: rs) :: q, op, ag) : aCh) ob (b :: bs) (cRecs ((some (r :: rs) :: q, op, ag) : aCh) - 1) := ⟨g1, ⟨xd, (rdK hs1 (by decide) g2), dq.fr fb (fun e => by unfold s1 at e; omega) (fun e => by unfold s1 at e; omega)⟩, ⟨rdK hs1 (by decide) g3, ot.fr fb (fun r hr e => by have := rB_no hr; unfold s1 at e; omega)⟩, rdK hs1 (by decide) g4, rdS hs1, ⟨x0, h0, rdK hs1 (by decide) g6⟩, hq1⟩
  obtain ⟨tk, tb⟩ := hq1.1
  refine g_aload_n B 0 dX10_takeRecord_10 rfl ?_
  obtain ⟨n2, u2, ty2⟩ := P1.ty g1 (by decide) rfl
  refine g_callV (rest := []) B M_X10_first q1805 q1572 q1573 ty2 rfl (c_X10_first P1 C1) rfl rfl (Nat.le_of_ble_eq_true rfl) (Nat.le_of_ble_eq_true rfl) (Nat.le_of_ble_eq_true rfl) (Nat.le_refl _) (Nat.le_refl _) dX10_takeRecord_11 (xkA (fun v2 T2 O2 R2 le2 p2 => ?_))
  obtain ⟨rfl, eT2, eO2, eR2⟩ := p2
  obtain rfl := eT2.symm
  obtain rfl := eO2.symm
  obtain rfl := eR2.symm
  obtain ⟨n3, u3, ty3⟩ := P1.ty tb.1.1 (by decide) rfl
  refine g_callV (rest := []) B M_X11_take q1806 q1807 q1808 ty3 rfl (c_X11_take P1 tb) rfl rfl (Nat.le_of_ble_eq_true rfl) (Nat.le_of_ble_eq_true rfl) (Nat.le_of_ble_eq_true rfl) (Nat.le_refl _) (Nat.le_refl _) dX10_takeRecord_14 (xkN (fun T3 O3 R3 le3 p3 => ?_))
  obtain ⟨Y3, V3, I3, J3, A3, P3, rfl, rfl, rfl, d3, f3⟩ := p3
  obtain ⟨nq1, nq2, nq3⟩ := lCh_q hL
  have nt : V3 10 h = V1 10 h := (f3.2 10 h x g1 (fun e => by have := rB_no e.1; omega)).1
  have C2 : xCr Y V3 I3 A h x (some rs :: q, op, ag) ob (b :: bs) (cRecs ((some (r :: rs) :: q, op, ag) : aCh) - 1) := ⟨g1, ⟨xd, (congrFun nt 0).trans (rdK hs1 (by decide) g2), (C1.2.1.choose_spec.2 |> fun d => (by have e : C1.2.1.choose = xd := Value.ref.inj (C1.2.1.choose_spec.1.symm.trans (rdK hs1 (by decide) g2)); rw [e] at d; exact d.fr f3 (fun e => by have := rB_no e.1; omega) (fun e => by have := rB_no e.1; omega)))⟩, ⟨(congrFun nt 1).trans (rdK hs1 (by decide) g3), C1.2.2.1.2.fr f3 (fun r hr e => nq1 e.2.symm)⟩, (congrFun nt 2).trans (rdK hs1 (by decide) g4), (congrFun nt 3).trans (rdS hs1), ⟨x0, h0, (congrFun nt 4).trans (rdK hs1 (by decide) g6)⟩, ⟨_, d3⟩, xQs.fr f3 bs q hq1.2 (fun c hc r hr e => nq2 (by rw [← e.2]; exact hc))⟩
  have F2 := (fb.mono (S2 := sCh Y h (lCh ob (b :: bs) sp)) s1_sCh).tr (f3.mono (fun r o e => Or.inr (Or.inr ⟨e.1, Or.inl (by rw [e.2]; simp [lCh])⟩)))
  have sm2 := hsm.fr F2 (fun e => by rcases e with e | e | e; omega; omega; have := rB_no e.1; omega)
  have sp2 := (dsp.fr fb (fun r o e => by unfold s1 at e; omega)).fr f3 (fun r o e => by have := rB_no e.1; omega)
  have sb2 := (dsb.fr fb (fun p hp e => by unfold s1 at e; omega)).fr f3 (fun p hp e => nq3 p hp e.2)
  have tb2 := d3
  refine g_aload_n B 0 dX10_takeRecord_17 rfl ?_
  obtain ⟨n4, u4, ty4⟩ := P3.ty g1 (by decide) rfl
  refine g_callV (rest := []) B M_X10_first q1805 q1572 q1573 ty4 rfl (c_X10_first P3 C2) rfl rfl (Nat.le_of_ble_eq_true rfl) (Nat.le_of_ble_eq_true rfl) (Nat.le_of_ble_eq_true rfl) (Nat.le_refl _) (Nat.le_refl _) dX10_takeRecord_18 (xkA (fun v4 T4 O4 R4 le4 p4 => ?_))
  obtain ⟨rfl, eT4, eO4, eR4⟩ := p4
  obtain rfl := eT4.symm
  obtain rfl := eO4.symm
  obtain rfl := eR4.symm
  obtain ⟨n5, u5, ty5⟩ := P3.ty tb2.1.1 (by decide) rfl
  refine g_callV (rest := []) B M_X11_isUsed q1810 q1811 q1812 ty5 rfl (c_X11_isUsed P3 tb2) rfl rfl (Nat.le_of_ble_eq_true rfl) (Nat.le_of_ble_eq_true rfl) (Nat.le_of_ble_eq_true rfl) (Nat.le_refl _) (Nat.le_refl _) dX10_takeRecord_21 (xkA (fun v5 T5 O5 R5 le5 p5 => ?_))
  obtain ⟨rfl, eT5, eO5, eR5⟩ := p5
  obtain rfl := eT5.symm
  obtain rfl := eO5.symm
  obtain rfl := eR5.symm
  refine g_if_eqB (tgt := 31) B dX10_takeRecord_24 (by decide) (fun c6 => ?_) (fun c6 => ?_)
  · refine g_vret B E rfl dX10_takeRecord_31 ?_
    have e0 : (if rs.isEmpty = true then q else some rs :: q) = some rs :: q := by rw [c6]; rfl
    refine ⟨rfl, _, _, _, _, _, P3, rfl, b :: bs, sp, ?_, sp2, sb2, by rw [c6]; rfl, lOk_rf hL, F2⟩
    rw [e0]; exact C2.ch (by simp [cRecs, qLen]; omega)
  · refine g_aload_n B 0 dX10_takeRecord_27 rfl ?_
    obtain ⟨n7, u7, ty7⟩ := P3.ty g1 (by decide) rfl
    refine g_callV (kc2 := 0) (ks2 := 0) (rest := []) B M_X10_removeFirst q1814 q1584 q1585 ty7 rfl (c_X10_removeFirst P3 sm2 C2 sp2 sb2 hL hlt) rfl rfl (Nat.le_of_ble_eq_true rfl) (Nat.le_of_ble_eq_true rfl) (Nat.le_of_ble_eq_true rfl) (by decide) (by decide) dX10_takeRecord_28 (xkN (fun T7 O7 R7 le7 p7 => ?_))
    obtain ⟨Y7, V7, I7, J7, A7, P7, rfl, rfl, n7, C7, ds7, sb7, lo7, f7⟩ := p7
    refine g_vret B E rfl dX10_takeRecord_31 ?_
    have e1 : rs = [] := by simpa using c6
    have e0 : (if rs.isEmpty = true then q else some rs :: q) = q := by rw [c6]; rfl
    refine ⟨rfl, _, _, _, _, _, P7, rfl, bs, (n7, b) :: sp, ?_, ds7, sb7, by rw [c6]; rfl, lo7, F2.tr f7⟩
    rw [e0]; exact C7.ch (by rw [e1]; simp [cRecs, qLen]; omega)
theorem c_X10_clear {G : xG} {T : xT} {O R : xO} {Y : xY} {V : xVV} {I : xII} {J : xJJ} {A : xVV} {w0 : xW} {x0 xl bz old cr h x ob : Nat} {c : aCh} {bs : List Nat} {sp : List (Nat × Nat)} (P : PX Y V I J A w0 T O R) (hsm : xSm Y V x0 xl bz old cr) (C : xCh Y V I A h x c ob bs) (dsp : xSp Y V xl sp) (dsb : xSB Y V sp) (hL : (lCh ob bs sp).Nodup) (hlt : sp.length + bs.length < 1000000) : xCtr G yX10_clear cX10_clear 1 none 5 107 (bs.length) (3 * bs.length) [.ref x] (T, O, R) (xN (xPN w0 (fun Y2 V2 I2 J2 A2 => J = J2 ∧ ∃ sp2, xCh Y2 V2 I2 A2 h x c0 ob [] ∧ xSp Y2 V2 xl sp2 ∧ xSB Y2 V2 sp2 ∧ sp2.length = sp.length + bs.length ∧ lOk Y (lCh ob bs sp) (lCh ob [] sp2) ∧ xFr (sCh Y h (lCh ob bs sp)) Y V I J A Y2 V2 I2 J2 A2))) := by
  have g1 := C.1
  refine xCtr.of (by decide +kernel) (Nat.le_of_ble_eq_true rfl) ?_
  intro Z B E hz hnm
  change xV Z (T, O, R) 0 [(0, .ref x)] [] (bs.length) (3 * bs.length)
  have L : ∀ (d : Nat) (qs : List (Option (List aRec))) (bs1 : List Nat) (sp1 : List (Nat × Nat)) (Y1 : xY) (V1 : xVV) (A1 : xVV) (T1 : xT) (O1 R1 : xO), d = bs1.length → PX Y1 V1 I J A1 w0 T1 O1 R1 → (xCr Y1 V1 I A1 h x (qs, c.2.1, c.2.2) ob bs1 (cRecs c)) → (xSp Y1 V1 xl sp1) → (xSB Y1 V1 sp1) → (lOk Y (lCh ob bs sp) (lCh ob bs1 sp1)) → (xFr (sCh Y h (lCh ob bs sp)) Y V I J A Y1 V1 I J A1) → (sp1.length + bs1.length = sp.length + bs.length) → xV Z (T1, O1, R1) 0 [(0, .ref x)] [] (bs1.length) (3 * bs1.length) := by
    intro d
    induction d using Nat.strongRecOn with
    | _ d ih =>
      intro qs bs1 sp1 Y1 V1 A1 T1 O1 R1 hd P1 iC iS iB iL iF iN
      obtain ⟨qg1, ⟨qxd, qg2, qdq⟩, ⟨qg3, qot⟩, qg4, qg5, qk, qg7⟩ := iC
      have iC2 : xCr Y1 V1 I A1 h x (qs, c.2.1, c.2.2) ob bs1 (cRecs c) := ⟨qg1, ⟨qxd, qg2, qdq⟩, ⟨qg3, qot⟩, qg4, qg5, qk, qg7⟩
      refine g_aload_n B 0 dX10_clear_0 rfl ?_
      refine x_get B P1 qg1 (by decide) rfl F_X10_16_10 (by decide) qg2 dX10_clear_1 ?_
      obtain ⟨n101, u101, ty101⟩ := P1.ty qdq.1 (by decide) rfl
      refine g_callV (rest := []) B M_J11_isEmpty q1837 q1838 q1839 ty101 rfl (c_J11_isEmpty P1 qdq) rfl rfl (Nat.le_of_ble_eq_true rfl) (Nat.le_of_ble_eq_true rfl) (Nat.le_of_ble_eq_true rfl) (Nat.le_refl _) (Nat.le_refl _) dX10_clear_4 (xkA (fun v101 T101 O101 R101 le101 p101 => ?_))
      obtain ⟨rfl, eT101, eO101, eR101⟩ := p101
      obtain rfl := eT101.symm
      obtain rfl := eO101.symm
      obtain rfl := eR101.symm
      refine g_if_neB (tgt := 17) B dX10_clear_7 (by decide) (fun c102 => ?_) (fun c102 => ?_)
      · refine g_aload_n B 0 dX10_clear_17 rfl ?_
        refine x_get B P1 qg1 (by decide) rfl F_X10_26_10 (by decide) qg3 dX10_clear_18 ?_
        obtain ⟨n103, u103, ty103⟩ := P1.ty qot.1.1 (by decide) rfl
        refine g_callV (rest := []) B M_X11_clear q1841 q658 q659 ty103 rfl (c_X11_clear P1 qot.1) rfl rfl (Nat.le_of_ble_eq_true rfl) (Nat.le_of_ble_eq_true rfl) (Nat.le_of_ble_eq_true rfl) (Nat.le_refl _) (Nat.le_refl _) dX10_clear_21 (xkA (fun v103 T103 O103 R103 le103 p103 => ?_))
        obtain ⟨Y103, V103, I103, J103, A103, P103, rfl, rfl, rfl, rfl, d103, f103⟩ := p103
        have nk : V103 10 h = V1 10 h := (f103.2 10 h x qg1 (fun e => by have := rB_no e.1; omega)).1
        refine g_pop B dX10_clear_24 rfl ?_
        refine g_aload_n B 0 dX10_clear_25 rfl ?_
        refine g_iconst (v := nI 0) B dX10_clear_26 (by decide) ?_
        refine x_put (q := (RX10, TX10, 5)) B P103 qg1 (by decide) rfl F_X10_42_10 rfl rfl (tyX10_ok 2 (by decide)) rfl rfl dX10_clear_27 (fun O104 V104 hs104 hk104 P104 => ?_)
        refine g_aload_n B 0 dX10_clear_30 rfl ?_
        refine g_iconst (v := nI 0) B dX10_clear_31 (by decide) ?_
        refine x_put (q := (RX10, TX10, 5)) B P104 qg1 (by decide) rfl F_X10_61_10 rfl rfl (tyX10_ok 3 (by decide)) rfl rfl dX10_clear_32 (fun O105 V105 hs105 hk105 P105 => ?_)
        refine g_vret B E rfl dX10_clear_35 ?_
        have e3 : bs1 = [] := by cases bs1; rfl; cases c102
        subst e3
        obtain ⟨nd1, nd2, nd3⟩ := lCh_nd iL.1
        have fz := (xFr.uV (S := s1 10 h) (Y := Y1) (I := I103) (J := J) (A := A1) ⟨rfl, rfl⟩ hs104 hk104).tr (xFr.uV (S := s1 10 h) (Y := Y1) (I := I103) (J := J) (A := A1) ⟨rfl, rfl⟩ hs105 hk105)
        obtain ⟨qx0, qk1, qk2⟩ := qk
        have hd2 := (qdq.fr f103 (fun e => by have := rB_no e.1; omega) (fun e => by have := rB_no e.1; omega)).fr fz (fun e => by unfold s1 at e; omega) (fun e => by unfold s1 at e; omega)
        have ho2 := d103.fr fz (fun r hr e => by have := rB_no hr; unfold s1 at e; omega)
        exact ⟨rfl, _, _, _, _, _, P105, rfl, sp1, ⟨qg1, ⟨qxd, (rdK hs105 (by decide) (rdK hs104 (by decide) ((congrFun nk 0).trans qg2))), hd2⟩, ⟨(rdK hs105 (by decide) (rdK hs104 (by decide) ((congrFun nk 1).trans qg3))), ho2⟩, rdK hs105 (by decide) (rdS hs104), rdS hs105, ⟨qx0, qk1, (rdK hs105 (by decide) (rdK hs104 (by decide) ((congrFun nk 4).trans qk2)))⟩, trivial⟩, (iS.fr f103 (fun r o e => by have := rB_no e.1; omega)).fr fz (fun r o e => by unfold s1 at e; omega), (iB.fr f103 (fun p hp e => nd1 (List.mem_map.mpr ⟨p, hp, e.2⟩))).fr fz (fun p hp e => by unfold s1 at e; omega), (by simp at iN; omega), iL, iF.tr ((f103.mono (fun r o e => Or.inr (Or.inr ⟨e.1, iL.2 ob (List.mem_append.mpr (Or.inl List.mem_cons_self)) |> fun q => by rw [e.2]; exact q⟩))).tr (fz.mono s1_sCh))⟩
      · obtain ⟨b3, bs3, e3⟩ : ∃ b3 bs3, bs1 = b3 :: bs3 := by cases bs1 with
          | nil => cases c102
          | cons b3 bs3 => exact ⟨b3, bs3, rfl⟩
        subst e3
        obtain ⟨q3, qs3, e4⟩ : ∃ q3 qs3, qs = q3 :: qs3 := by cases qs with
          | nil => exact (qg7 : False).elim
          | cons q3 qs3 => exact ⟨q3, qs3, rfl⟩
        subst e4
        have iC3 := iC2
        have iL3 := iL
        refine g_aload_n B 0 dX10_clear_10 rfl ?_
        obtain ⟨n106, u106, ty106⟩ := P1.ty qg1 (by decide) rfl
        refine g_callV (kc2 := bs3.length) (ks2 := 3 * bs3.length) (rest := []) B M_X10_removeFirst q1814 q1584 q1585 ty106 rfl (c_X10_removeFirst P1 (hsm.fr iF (fun e => by rcases e with e | e | e; omega; omega; have := rB_no e.1; omega)) iC3 iS iB iL3.1 (by simp at iN; omega)) rfl rfl (Nat.le_of_ble_eq_true rfl) (Nat.le_of_ble_eq_true rfl) (Nat.le_of_ble_eq_true rfl) (by simp <;> omega) (by simp <;> omega) dX10_clear_11 (xkN (fun T106 O106 R106 le106 p106 => ?_))
        obtain ⟨Y106, V106, I106, J106, A106, P106, rfl, rfl, n106, C106, ds106, sb106, lo106, f106⟩ := p106
        refine g_goto (tgt := 0) B dX10_clear_14 (by decide) ?_
        exact ih (bs3.length) ((by rw [hd]; simp)) qs3 bs3 ((n106, b3) :: sp1) _ _ _ _ _ _ rfl P106 C106 ds106 sb106 (lOk.tr (fun x b hx => iF.1.at hx) iL3 lo106) (iF.tr (f106.mono (sCh.mono (fun x b hx => iF.1.at hx) iL3.2))) (by simp at iN ⊢; omega)
  exact L _ c.1 bs sp _ _ _ _ _ _ rfl P C.cr dsp dsb (lOk_rf hL) xFr.rf rfl
