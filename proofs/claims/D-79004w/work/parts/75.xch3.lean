set_option maxRecDepth 100000
theorem bI_t {b : Bool} (h : b = true) : nI 1 = bI b := by rw [h]; rfl
theorem bI_f {b : Bool} (h : b = false) : nI 0 = bI b := by rw [h]; rfl
theorem c_X10_hasRoom {G : xG} {T : xT} {O R : xO} {Y : xY} {V : xVV} {I : xII} {J : xJJ} {A : xVV} {w0 : xW} {x0 xl bz old cr h x ob : Nat} {c : aCh} {bs : List Nat} {sp : List (Nat × Nat)} (P : PX Y V I J A w0 T O R) (hsm : xSm Y V x0 xl bz old cr) (C : xCh Y V I A h x c ob bs) (dsp : xSp Y V xl sp) (hcr : cr ≤ 4) (hq8 : bs.length ≤ 8) : xCtr G yX10_hasRoom cX10_hasRoom 1 (some Jvm.ClassFile.FieldType.boolean) 2 42 0 0 [.ref x] (T, O, R) (xA (fun v T2 O2 R2 => v = .int (bI (decide (c.1.length < cr))) ∧ T2 = T ∧ O2 = O ∧ R2 = R)) := by
  have h0 := hsm.1
  have hC := C
  obtain ⟨g1, ⟨xd, g2, dq⟩, ⟨g3, ot⟩, g4, g5, ⟨x0b, k0, g6⟩, g7⟩ := C
  obtain rfl := P.fn h0 k0
  have hql := xQs.len bs c.1 g7
  refine xCtr.of (by decide +kernel) (Nat.le_of_ble_eq_true rfl) ?_
  intro Z B E hz hnm
  change xV Z (T, O, R) 0 [(0, .ref x)] [] 0 0
  refine g_aload_n B 0 dX10_hasRoom_0 rfl ?_
  refine x_get B P g1 (by decide) rfl F_X10_16_10 (by decide) g2 dX10_hasRoom_1 ?_
  obtain ⟨n1, u1, ty1⟩ := P.ty dq.1 (by decide) rfl
  refine g_callV (rest := []) B M_J11_size q1291 q613 q2928 ty1 rfl (c_J11_size P dq) rfl rfl (Nat.le_of_ble_eq_true rfl) (Nat.le_of_ble_eq_true rfl) (Nat.le_of_ble_eq_true rfl) (Nat.le_refl _) (Nat.le_refl _) dX10_hasRoom_4 (xkA (fun v1 T1 O1 R1 le1 p1 => ?_))
  obtain ⟨rfl, eT1, eO1, eR1⟩ := p1
  obtain rfl := eT1.symm
  obtain rfl := eO1.symm
  obtain rfl := eR1.symm
  refine g_aload_n B 0 dX10_hasRoom_7 rfl ?_
  refine x_get B P g1 (by decide) rfl F_X10_1_10 (by decide) g6 dX10_hasRoom_8 ?_
  refine x_get B P h0 (by decide) rfl F_X10_34_0 (by decide) hsm.2.2.2.2 dX10_hasRoom_11 ?_
  refine g_icmp_geN (tgt := 21) B (by omega) (by omega) dX10_hasRoom_14 (by decide) (fun c2 => ?_) (fun c2 => ?_)
  · refine g_iconst (v := nI 0) B dX10_hasRoom_21 (by decide) ?_
    refine g_iret B E rfl rfl dX10_hasRoom_22 ?_
    exact ⟨_, rfl, congrArg Value.int (bI_f (by rw [← hql]; simp; omega)), rfl, rfl, rfl⟩
  · refine g_iconst (v := nI 1) B dX10_hasRoom_17 (by decide) ?_
    refine g_goto (tgt := 22) B dX10_hasRoom_18 (by decide) ?_
    refine g_iret B E rfl rfl dX10_hasRoom_22 ?_
    exact ⟨_, rfl, congrArg Value.int (bI_t (by rw [← hql]; simp; omega)), rfl, rfl, rfl⟩
theorem c_X10_canPut {G : xG} {T : xT} {O R : xO} {Y : xY} {V : xVV} {I : xII} {J : xJJ} {A : xVV} {w0 : xW} {x0 xl bz old cr h x ob : Nat} {c : aCh} {bs : List Nat} {sp : List (Nat × Nat)} (P : PX Y V I J A w0 T O R) (hsm : xSm Y V x0 xl bz old cr) (C : xCh Y V I A h x c ob bs) (dsp : xSp Y V xl sp) (hcr : cr ≤ 4) (hq8 : bs.length ≤ 8) (hbz : bz ≤ 4) (hol : c.2.1.length ≤ 4) : xCtr G yX10_canPut cX10_canPut 1 (some Jvm.ClassFile.FieldType.boolean) 3 62 0 0 [.ref x] (T, O, R) (xA (fun v T2 O2 R2 => v = .int (bI (cFit bz cr c)) ∧ T2 = T ∧ O2 = O ∧ R2 = R)) := by
  have h0 := hsm.1
  have hC := C
  obtain ⟨g1, ⟨xd, g2, dq⟩, ⟨g3, ot⟩, g4, g5, ⟨x0b, k0, g6⟩, g7⟩ := C
  obtain rfl := P.fn h0 k0
  have hql := xQs.len bs c.1 g7
  refine xCtr.of (by decide +kernel) (Nat.le_of_ble_eq_true rfl) ?_
  intro Z B E hz hnm
  change xV Z (T, O, R) 0 [(0, .ref x)] [] 0 0
  refine g_aload_n B 0 dX10_canPut_0 rfl ?_
  refine x_get B P g1 (by decide) rfl F_X10_26_10 (by decide) g3 dX10_canPut_1 ?_
  obtain ⟨n1, u1, ty1⟩ := P.ty ot.1.1 (by decide) rfl
  refine g_callV (rest := []) B M_X11_size q1283 q1284 q1285 ty1 rfl (c_X11_size P ot) rfl rfl (Nat.le_of_ble_eq_true rfl) (Nat.le_of_ble_eq_true rfl) (Nat.le_of_ble_eq_true rfl) (Nat.le_refl _) (Nat.le_refl _) dX10_canPut_4 (xkA (fun v1 T1 O1 R1 le1 p1 => ?_))
  obtain ⟨rfl, eT1, eO1, eR1⟩ := p1
  obtain rfl := eT1.symm
  obtain rfl := eO1.symm
  obtain rfl := eR1.symm
  refine g_aload_n B 0 dX10_canPut_7 rfl ?_
  refine x_get B P g1 (by decide) rfl F_X10_1_10 (by decide) g6 dX10_canPut_8 ?_
  refine x_get B P h0 (by decide) rfl F_X10_48_0 (by decide) hsm.2.2.1 dX10_canPut_11 ?_
  refine g_icmp_ltN (tgt := 24) B (by omega) (by omega) dX10_canPut_14 (by decide) (fun c2 => ?_) (fun c2 => ?_)
  · refine g_iconst (v := nI 1) B dX10_canPut_24 (by decide) ?_
    refine g_goto (tgt := 29) B dX10_canPut_25 (by decide) ?_
    refine g_iret B E rfl rfl dX10_canPut_29 ?_
    exact ⟨_, rfl, congrArg Value.int (bI_t (by unfold cFit; rw [decide_eq_true (show c.2.1.length < bz by omega)]; rfl)), rfl, rfl, rfl⟩
  · refine g_aload_n B 0 dX10_canPut_17 rfl ?_
    obtain ⟨n3, u3, ty3⟩ := P.ty g1 (by decide) rfl
    refine g_callV (rest := []) B M_X10_hasRoom q1287 q1288 q1289 ty3 rfl (c_X10_hasRoom P hsm hC dsp hcr (by first | omega | (have q_ := hql; simp at q_ ⊢ <;> omega))) rfl rfl (Nat.le_of_ble_eq_true rfl) (Nat.le_of_ble_eq_true rfl) (Nat.le_of_ble_eq_true rfl) (Nat.le_refl _) (Nat.le_refl _) dX10_canPut_18 (xkA (fun v3 T3 O3 R3 le3 p3 => ?_))
    obtain ⟨rfl, eT3, eO3, eR3⟩ := p3
    obtain rfl := eT3.symm
    obtain rfl := eO3.symm
    obtain rfl := eR3.symm
    refine g_if_eqB (tgt := 28) B dX10_canPut_21 (by decide) (fun c4 => ?_) (fun c4 => ?_)
    · refine g_iconst (v := nI 0) B dX10_canPut_28 (by decide) ?_
      refine g_iret B E rfl rfl dX10_canPut_29 ?_
      exact ⟨_, rfl, congrArg Value.int (bI_f (by unfold cFit; rw [c4, decide_eq_false (show ¬ c.2.1.length < bz by omega)]; rfl)), rfl, rfl, rfl⟩
    · refine g_iconst (v := nI 1) B dX10_canPut_24 (by decide) ?_
      refine g_goto (tgt := 29) B dX10_canPut_25 (by decide) ?_
      refine g_iret B E rfl rfl dX10_canPut_29 ?_
      exact ⟨_, rfl, congrArg Value.int (bI_t (by unfold cFit; rw [c4]; simp)), rfl, rfl, rfl⟩
theorem c_X10_canPutBarrier {G : xG} {T : xT} {O R : xO} {Y : xY} {V : xVV} {I : xII} {J : xJJ} {A : xVV} {w0 : xW} {x0 xl bz old cr h x ob : Nat} {c : aCh} {bs : List Nat} {sp : List (Nat × Nat)} (P : PX Y V I J A w0 T O R) (hsm : xSm Y V x0 xl bz old cr) (C : xCh Y V I A h x c ob bs) (dsp : xSp Y V xl sp) (hcr : cr ≤ 4) (hq8 : bs.length ≤ 8) (hbz : bz ≤ 4) (hol : c.2.1.length ≤ 4) : xCtr G yX10_canPutBarrier cX10_canPutBarrier 1 (some Jvm.ClassFile.FieldType.boolean) 2 42 0 0 [.ref x] (T, O, R) (xA (fun v T2 O2 R2 => v = .int (bI (cFitB cr c)) ∧ T2 = T ∧ O2 = O ∧ R2 = R)) := by
  have h0 := hsm.1
  have hC := C
  obtain ⟨g1, ⟨xd, g2, dq⟩, ⟨g3, ot⟩, g4, g5, ⟨x0b, k0, g6⟩, g7⟩ := C
  obtain rfl := P.fn h0 k0
  have hql := xQs.len bs c.1 g7
  refine xCtr.of (by decide +kernel) (Nat.le_of_ble_eq_true rfl) ?_
  intro Z B E hz hnm
  change xV Z (T, O, R) 0 [(0, .ref x)] [] 0 0
  refine g_aload_n B 0 dX10_canPutBarrier_0 rfl ?_
  refine x_get B P g1 (by decide) rfl F_X10_16_10 (by decide) g2 dX10_canPutBarrier_1 ?_
  obtain ⟨n1, u1, ty1⟩ := P.ty dq.1 (by decide) rfl
  refine g_callV (rest := []) B M_J11_size q1291 q613 q2928 ty1 rfl (c_J11_size P dq) rfl rfl (Nat.le_of_ble_eq_true rfl) (Nat.le_of_ble_eq_true rfl) (Nat.le_of_ble_eq_true rfl) (Nat.le_refl _) (Nat.le_refl _) dX10_canPutBarrier_4 (xkA (fun v1 T1 O1 R1 le1 p1 => ?_))
  obtain ⟨rfl, eT1, eO1, eR1⟩ := p1
  obtain rfl := eT1.symm
  obtain rfl := eO1.symm
  obtain rfl := eR1.symm
  refine g_aload_n B 0 dX10_canPutBarrier_7 rfl ?_
  refine x_get B P g1 (by decide) rfl F_X10_26_10 (by decide) g3 dX10_canPutBarrier_8 ?_
  obtain ⟨n2, u2, ty2⟩ := P.ty ot.1.1 (by decide) rfl
  refine g_callV (rest := [_]) B M_X11_size q1283 q1284 q1285 ty2 rfl (c_X11_size P ot) rfl rfl (Nat.le_of_ble_eq_true rfl) (Nat.le_of_ble_eq_true rfl) (Nat.le_of_ble_eq_true rfl) (Nat.le_refl _) (Nat.le_refl _) dX10_canPutBarrier_11 (xkA (fun v2 T2 O2 R2 le2 p2 => ?_))
  obtain ⟨rfl, eT2, eO2, eR2⟩ := p2
  obtain rfl := eT2.symm
  obtain rfl := eO2.symm
  obtain rfl := eR2.symm
  refine g_if_leN (tgt := 21) B (by omega) dX10_canPutBarrier_14 (by decide) (fun c3 => ?_) (fun c3 => ?_)
  · refine g_iconst (v := nI 1) B dX10_canPutBarrier_21 (by decide) ?_
    refine g_iaddN B dX10_canPutBarrier_22 ?_
    refine g_aload_n B 0 dX10_canPutBarrier_23 rfl ?_
    refine x_get B P g1 (by decide) rfl F_X10_1_10 (by decide) g6 dX10_canPutBarrier_24 ?_
    refine x_get B P h0 (by decide) rfl F_X10_34_0 (by decide) hsm.2.2.2.2 dX10_canPutBarrier_27 ?_
    refine g_icmp_gtN (tgt := 37) B (by omega) (by omega) dX10_canPutBarrier_30 (by decide) (fun c4 => ?_) (fun c4 => ?_)
    · refine g_iconst (v := nI 0) B dX10_canPutBarrier_37 (by decide) ?_
      refine g_iret B E rfl rfl dX10_canPutBarrier_38 ?_
      exact ⟨_, rfl, congrArg Value.int (bI_f (by unfold cFitB; rw [← hql]; apply decide_eq_false; split <;> omega)), rfl, rfl, rfl⟩
    · refine g_iconst (v := nI 1) B dX10_canPutBarrier_33 (by decide) ?_
      refine g_goto (tgt := 38) B dX10_canPutBarrier_34 (by decide) ?_
      refine g_iret B E rfl rfl dX10_canPutBarrier_38 ?_
      exact ⟨_, rfl, congrArg Value.int (bI_t (by unfold cFitB; rw [← hql]; apply decide_eq_true; split <;> omega)), rfl, rfl, rfl⟩
  · refine g_iconst (v := nI 2) B dX10_canPutBarrier_17 (by decide) ?_
    refine g_goto (tgt := 22) B dX10_canPutBarrier_18 (by decide) ?_
    refine g_iaddN B dX10_canPutBarrier_22 ?_
    refine g_aload_n B 0 dX10_canPutBarrier_23 rfl ?_
    refine x_get B P g1 (by decide) rfl F_X10_1_10 (by decide) g6 dX10_canPutBarrier_24 ?_
    refine x_get B P h0 (by decide) rfl F_X10_34_0 (by decide) hsm.2.2.2.2 dX10_canPutBarrier_27 ?_
    refine g_icmp_gtN (tgt := 37) B (by omega) (by omega) dX10_canPutBarrier_30 (by decide) (fun c5 => ?_) (fun c5 => ?_)
    · refine g_iconst (v := nI 0) B dX10_canPutBarrier_37 (by decide) ?_
      refine g_iret B E rfl rfl dX10_canPutBarrier_38 ?_
      exact ⟨_, rfl, congrArg Value.int (bI_f (by unfold cFitB; rw [← hql]; apply decide_eq_false; split <;> omega)), rfl, rfl, rfl⟩
    · refine g_iconst (v := nI 1) B dX10_canPutBarrier_33 (by decide) ?_
      refine g_goto (tgt := 38) B dX10_canPutBarrier_34 (by decide) ?_
      refine g_iret B E rfl rfl dX10_canPutBarrier_38 ?_
      exact ⟨_, rfl, congrArg Value.int (bI_t (by unfold cFitB; rw [← hql]; apply decide_eq_true; split <;> omega)), rfl, rfl, rfl⟩
/-- a channel, its number of records apart -/
def xCr (Y : xY) (V : xVV) (I : xII) (A : xVV) (h x : Nat) (c : aCh) (ob : Nat) (bs : List Nat) (rc : Nat) : Prop :=
  yAt Y 10 h x ∧ (∃ xd, V 10 h 0 = .ref xd ∧ xDq Y V A h xd bs) ∧ (V 10 h 1 = .ref ob ∧ xBt Y V I ob 0 false c.2.1) ∧ V 10 h 2 = .int (nI c.2.2) ∧ V 10 h 3 = .int (nI rc) ∧ (∃ x0, yAt Y 0 0 x0 ∧ V 10 h 4 = .ref x0) ∧ xQs Y V I bs c.1
theorem xCr.ch {Y : xY} {V : xVV} {I : xII} {A : xVV} {h x ob rc : Nat} {c : aCh} {bs : List Nat} (d : xCr Y V I A h x c ob bs rc) (e : rc = cRecs c) : xCh Y V I A h x c ob bs := by subst e; exact d
theorem xCh.cr {Y : xY} {V : xVV} {I : xII} {A : xVV} {h x ob : Nat} {c : aCh} {bs : List Nat} (d : xCh Y V I A h x c ob bs) : xCr Y V I A h x c ob bs (cRecs c) := d
theorem c_X10_first {G : xG} {T : xT} {O R : xO} {Y : xY} {V : xVV} {I : xII} {J : xJJ} {A : xVV} {w0 : xW} {h x ob rc : Nat} {c : aCh} {bs : List Nat} (P : PX Y V I J A w0 T O R) (C : xCr Y V I A h x c ob bs rc) : xCtr G yX10_first cX10_first 1 (some (Jvm.ClassFile.FieldType.object "PipelineSimulator$Batch")) 2 41 0 0 [.ref x] (T, O, R) (xA (fun v T2 O2 R2 => v = qv bs 0 ∧ T2 = T ∧ O2 = O ∧ R2 = R)) := by
  obtain ⟨g1, ⟨xd, g2, dq⟩, ⟨g3, ot⟩, g4, g5, ⟨x0b, k0, g6⟩, g7⟩ := C
  refine xCtr.of (by decide +kernel) (Nat.le_of_ble_eq_true rfl) ?_
  intro Z B E hz hnm
  change xV Z (T, O, R) 0 [(0, .ref x)] [] 0 0
  cases bs with
  | nil =>
    refine g_aload_n B 0 dX10_first_0 rfl ?_
    refine x_get B P g1 (by decide) rfl F_X10_16_10 (by decide) g2 dX10_first_1 ?_
    obtain ⟨n1, u1, ty1⟩ := P.ty dq.1 (by decide) rfl
    refine g_callV (rest := []) B M_J11_peekFirst q1575 q1576 q1577 ty1 rfl (c_J11_peekFirst P dq) rfl rfl (Nat.le_of_ble_eq_true rfl) (Nat.le_of_ble_eq_true rfl) (Nat.le_of_ble_eq_true rfl) (Nat.le_refl _) (Nat.le_refl _) dX10_first_4 (xkA (fun v1 T1 O1 R1 le1 p1 => ?_))
    obtain ⟨rfl, eT1, eO1, eR1⟩ := p1
    obtain rfl := eT1.symm
    obtain rfl := eO1.symm
    obtain rfl := eR1.symm
    refine g_castN B dX10_first_7 ?_
    refine g_aret B E rfl (Or.inl ⟨_, rfl⟩) (Or.inl rfl) dX10_first_10 ?_
    exact ⟨_, rfl, rfl, rfl, rfl, rfl⟩
  | cons b bs2 =>
    have hb : xBA Y V b := xQs.mem _ _ g7 b List.mem_cons_self
    refine g_aload_n B 0 dX10_first_0 rfl ?_
    refine x_get B P g1 (by decide) rfl F_X10_16_10 (by decide) g2 dX10_first_1 ?_
    obtain ⟨n2, u2, ty2⟩ := P.ty dq.1 (by decide) rfl
    refine g_callV (rest := []) B M_J11_peekFirst q1575 q1576 q1577 ty2 rfl (c_J11_peekFirst P dq) rfl rfl (Nat.le_of_ble_eq_true rfl) (Nat.le_of_ble_eq_true rfl) (Nat.le_of_ble_eq_true rfl) (Nat.le_refl _) (Nat.le_refl _) dX10_first_4 (xkA (fun v2 T2 O2 R2 le2 p2 => ?_))
    obtain ⟨rfl, eT2, eO2, eR2⟩ := p2
    obtain rfl := eT2.symm
    obtain rfl := eO2.symm
    obtain rfl := eR2.symm
    obtain ⟨n3, u3, ty3⟩ := P.ty hb.1 (by decide) rfl
    refine g_castS (q := (RX11, TX11, 6)) B ty3 rfl q1582 dX10_first_7 ?_
    refine g_aret B E rfl (Or.inl ⟨_, rfl⟩) (Or.inr ⟨_, rfl⟩) dX10_first_10 ?_
    exact ⟨_, rfl, rfl, rfl, rfl, rfl⟩
theorem lOk_rem {Y : xY} {ob b n : Nat} {bs : List Nat} {sp : List (Nat × Nat)} (hL : (lCh ob (b :: bs) sp).Nodup) : lOk Y (lCh ob (b :: bs) sp) (lCh ob bs ((n, b) :: sp)) := by
  have e : (lCh ob bs ((n, b) :: sp)).Perm (lCh ob (b :: bs) sp) := List.perm_iff_count.mpr (fun a => by simp [lCh, List.count_cons, List.count_append]; omega)
  exact ⟨e.nodup_iff.mpr hL, fun c hc => Or.inl (e.mem_iff.mp hc)⟩
theorem c_X10_removeFirst {G : xG} {T : xT} {O R : xO} {Y : xY} {V : xVV} {I : xII} {J : xJJ} {A : xVV} {w0 : xW} {x0 xl bz old cr h x ob b ag rc : Nat} {op : List aRec} {q : Option (List aRec)} {qs : List (Option (List aRec))} {bs : List Nat} {sp : List (Nat × Nat)} (P : PX Y V I J A w0 T O R) (hsm : xSm Y V x0 xl bz old cr) (C : xCr Y V I A h x (q :: qs, op, ag) ob (b :: bs) rc) (dsp : xSp Y V xl sp) (dsb : xSB Y V sp) (hL : (lCh ob (b :: bs) sp).Nodup) (hlt : sp.length + 1 < 1000000) : xCtr G yX10_removeFirst cX10_removeFirst 1 none 4 87 1 3 [.ref x] (T, O, R) (xN (xPN w0 (fun Y2 V2 I2 J2 A2 => J = J2 ∧ I = I2 ∧ ∃ n, xCr Y2 V2 I2 A2 h x (qs, op, ag) ob bs rc ∧ xSp Y2 V2 xl ((n, b) :: sp) ∧ xSB Y2 V2 ((n, b) :: sp) ∧ lOk Y (lCh ob (b :: bs) sp) (lCh ob bs ((n, b) :: sp)) ∧ xFr (sCh Y h (lCh ob (b :: bs) sp)) Y V I J A Y2 V2 I2 J2 A2))) := by
  have h0 := hsm.1
  obtain ⟨g1, ⟨xd, g2, dq⟩, ⟨g3, ot⟩, g4, g5, ⟨x0b, k0, g6⟩, g7⟩ := C
  obtain rfl := P.fn h0 k0
  have hbA : xBA Y V b := g7.1.a
  refine xCtr.of (by decide +kernel) (Nat.le_of_ble_eq_true rfl) ?_
  intro Z B E hz hnm
  change xV Z (T, O, R) 0 [(0, .ref x)] [] 1 3
  refine g_aload_n B 0 dX10_removeFirst_0 rfl ?_
  refine x_get B P g1 (by decide) rfl F_X10_1_10 (by decide) g6 dX10_removeFirst_1 ?_
  refine x_get B P h0 (by decide) rfl F_X10_75_0 (by decide) hsm.2.1 dX10_removeFirst_4 ?_
  refine g_aload_n B 0 dX10_removeFirst_7 rfl ?_
  refine x_get B P g1 (by decide) rfl F_X10_16_10 (by decide) g2 dX10_removeFirst_8 ?_
  obtain ⟨n1, u1, ty1⟩ := P.ty dq.1 (by decide) rfl
  refine g_callV (rest := [_]) B M_J11_removeFirst q1587 q1588 q1589 ty1 rfl (c_J11_removeFirst P dq) rfl rfl (Nat.le_of_ble_eq_true rfl) (Nat.le_of_ble_eq_true rfl) (Nat.le_of_ble_eq_true rfl) (Nat.le_refl _) (Nat.le_refl _) dX10_removeFirst_11 (xkA (fun v1 T1 O1 R1 le1 p1 => ?_))
  obtain ⟨Y1, V1, I1, J1, A1, P1, rfl, rfl, rfl, rfl, d1, f1⟩ := p1
  obtain ⟨n2, u2, ty2⟩ := P1.ty hbA.1 (by decide) rfl
  refine g_castS (q := (RX11, TX11, 6)) B ty2 rfl q1582 dX10_removeFirst_14 ?_
  obtain ⟨n3, u3, ty3⟩ := P1.ty dsp.1 (by decide) rfl
  have sp1 := dsp.fr f1 (fun r o e => by unfold sDq at e; omega)
  refine g_callV (kc2 := 0) (ks2 := 0) (rest := []) B M_J3_addLast q1595 q1596 q1597 ty3 rfl (c_J3_addLast P1 sp1 (by omega)) rfl rfl (Nat.le_of_ble_eq_true rfl) (Nat.le_of_ble_eq_true rfl) (Nat.le_of_ble_eq_true rfl) (by decide) (by decide) dX10_removeFirst_17 (xkN (fun T3 O3 R3 le3 p3 => ?_))
  obtain ⟨Y3, V3, I3, J3, A3, P3, rfl, rfl, rfl, n3, hn3, sp3, f3⟩ := p3
  refine g_vret B E rfl dX10_removeFirst_20 ?_
  have hns : ∀ r o, r ≠ 33 → r ≠ 53 → ¬ sSp r o := fun r o e1 e2 e => by unfold sSp at e; omega
  have n1 : V3 10 h = V 10 h := ((f3.2 10 h x g1 (hns _ _ (by decide) (by decide))).1).trans ((f1.2 10 h x g1 (fun e => by unfold sDq at e; omega)).1)
  have hB : ∀ c, xBA Y V c → xBA Y3 V3 c := fun c hc => (hc.fr f1 (sDq_no (Or.inl rfl))).fr f3 (hns _ _ (by decide) (by decide))
  refine ⟨rfl, _, _, _, _, _, P3, rfl, rfl, n3, ⟨f3.1.at g1, ⟨xd, (congrFun n1 0).trans g2, d1.fr f3 (hns _ _ (by decide) (by decide)) (hns _ _ (by decide) (by decide))⟩, ⟨(congrFun n1 1).trans g3, (ot.fr f1 (fun r hr => sDq_no hr)).fr f3 (fun r hr => by have := rB_no hr; exact hns _ _ (by omega) (by omega))⟩, (congrFun n1 2).trans g4, (congrFun n1 3).trans g5, ⟨x0, f3.1.at h0, (congrFun n1 4).trans g6⟩, xQs.fr f3 bs qs (xQs.fr f1 bs qs g7.2 (fun c hc r hr => sDq_no hr)) (fun c hc r hr => by have := rB_no hr; exact hns _ _ (by omega) (by omega))⟩, sp3, fun p hp => ?_, lOk_rem hL, (f1.mono sDq_sCh).tr (f3.mono (fun r o e => Or.inr (Or.inl e)))⟩
  rcases List.mem_cons.mp hp with e | e
  · rw [e]; exact hB b hbA
  · exact hB p.2 (dsb p e)
