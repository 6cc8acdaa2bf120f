set_option maxRecDepth 100000
theorem c_X0_channel {G : xG} {T : xT} {O R : xO} {Y : xY} {V : xVV} {I : xII} {J : xJJ} {A : xVV} {w0 : xW} {a : aA} {tk x0 g0 fi ps : Nat} {o i j xh : Nat} (P : PX Y V I J A w0 T O R) (H : RepX a tk x0 g0 fi ps Y V I J A) (hn6 : a.n ≤ 6) (hp3 : ∀ o, o < a.n → a.p o ≤ 3) (h0b : yAt Y 0 0 x0) (ho : o + 1 < a.n) (hi : i < a.p o) (hj : j < a.p (o + 1)) (hxh : yAt Y 10 (mLn o i j) xh) : xCtr G yX0_channel cX0_channel 4 (some (Jvm.ClassFile.FieldType.object "PipelineSimulator$Channel")) 0 0 0 0 [.ref x0, .int (nI o), .int (nI i), .int (nI j)] (T, O, R) (xA (fun v T2 O2 R2 => v = .ref xh ∧ T2 = T ∧ O2 = O ∧ R2 = R)) := by
  have hp1 := hp3 o (by omega)
  have hp2 := hp3 (o + 1) ho
  refine xCtr.of (by decide +kernel) (Nat.le_of_ble_eq_true rfl) ?_
  intro Z B E hz hnm
  change xV Z (T, O, R) 0 [(0, .ref x0), (1, .int (nI o)), (2, .int (nI i)), (3, .int (nI j))] [] 0 0
  obtain ⟨h0, ⟨⟨pa0, pb0, pc0⟩, ⟨pa5, pb5, pc5⟩, ⟨pa6, pb6, pc6⟩, ⟨pa8, pb8, pc8⟩, ⟨pa9, pb9, pc9⟩, ⟨pa10, pb10, pc10⟩, ⟨pa11, pb11, pc11⟩, ⟨pa12, pb12, pc12⟩, ⟨pa13, pb13, pc13⟩, ⟨pa20, pb20, pc20⟩, ⟨pa21, pb21, pc21⟩, ⟨pa22, pb22, pc22⟩⟩, ⟨nq1, nq2, nq3, nq4⟩, nq7, nq14, nq15, nq16, nq17, nq18, nq19⟩ := H.Si
  obtain ⟨-, xj, b1, b2, b3⟩ := H.Ar
  obtain rfl : pa12 = xj := P.fn pc12 b1
  obtain ⟨xr, c1, c2, c3, c4⟩ := b3 o ho
  obtain ⟨xs, d1, d2, d3, d4⟩ := c4 i hi
  obtain ⟨xh2, e1, e2⟩ := d4 j hj
  refine g_aload_n B 0 dX0_channel_0 rfl ?_
  refine x_get B P h0 (by decide) rfl F_X0_138_0 (by decide) pb12 dX0_channel_1 ?_
  refine g_iload_n B 1 dX0_channel_4 rfl ?_
  refine x_ldA B P pc12 (by decide) rfl rfl rfl b2 (by omega) (by omega) c1 dX0_channel_5 ?_
  refine g_iload_n B 2 dX0_channel_6 rfl ?_
  refine x_ldA B P c2 (by decide) rfl rfl rfl c3 (by omega) (by omega) d1 dX0_channel_7 ?_
  refine g_iload_n B 3 dX0_channel_8 rfl ?_
  refine x_ldA B P d2 (by decide) rfl rfl rfl d3 (by omega) (by omega) e1 dX0_channel_9 ?_
  refine g_aret B E rfl (Or.inl ⟨_, rfl⟩) (Or.inr ⟨_, rfl⟩) dX0_channel_10 ?_
  exact ⟨_, rfl, congrArg Value.ref (P.fn e2 hxh), rfl, rfl, rfl⟩
theorem c_X9_target {G : xG} {T : xT} {O R : xO} {Y : xY} {V : xVV} {I : xII} {J : xJJ} {A : xVV} {w0 : xW} {a : aA} {tk x0 g0 fi ps : Nat} {Bd : Nat} {o i x : Nat} {r : aRec} {rest : List aRec} (P : PX Y V I J A w0 T O R) (H : RepX a tk x0 g0 fi ps Y V I J A) (W : WF Bd a) (hB : Bd < 2000000) (ho : o < a.n) (hi : i < a.p o) (hx : yAt Y 9 (3 * o + i) x) (hon : o + 1 < a.n) (hl : a.ls o i = r :: rest) : xCtr G yX9_target cX9_target 1 (some Jvm.ClassFile.FieldType.int) 4 84 0 0 [.ref x] (T, O, R) (xA (fun v T2 O2 R2 => v = .int (nI (a.goal o i r)) ∧ T2 = T ∧ O2 = O ∧ R2 = R)) := by
  refine xCtr.of (by decide +kernel) (Nat.le_of_ble_eq_true rfl) ?_
  intro Z B E hz hnm
  change xV Z (T, O, R) 0 [(0, .ref x)] [] 0 0
  obtain ⟨h0, ⟨⟨pa0, pb0, pc0⟩, ⟨pa5, pb5, pc5⟩, ⟨pa6, pb6, pc6⟩, ⟨pa8, pb8, pc8⟩, ⟨pa9, pb9, pc9⟩, ⟨pa10, pb10, pc10⟩, ⟨pa11, pb11, pc11⟩, ⟨pa12, pb12, pc12⟩, ⟨pa13, pb13, pc13⟩, ⟨pa20, pb20, pc20⟩, ⟨pa21, pb21, pc21⟩, ⟨pa22, pb22, pc22⟩⟩, ⟨nq1, nq2, nq3, nq4⟩, nq7, nq14, nq15, nq16, nq17, nq18, nq19⟩ := H.Si
  obtain ⟨xi, ki⟩ := H.In o ho i hi
  have ei : xi = x := P.fn ki.1 hx
  rw [ei] at ki
  have ⟨i0, ⟨i1, i2⟩, ⟨⟨y1, i3, i4⟩, i5⟩, ⟨⟨y2, i6, i7⟩, i8⟩, ⟨⟨y3, i9, i10⟩, i11⟩, ⟨fm, i12, i13, i14, i15⟩, ⟨bt, i16⟩, i17, ⟨yb, i18, i19⟩, i20, ⟨yv, i21, i22⟩, yz, i23, i24⟩ := ki
  have i25 : V 9 (3 * o + i) 12 = .ref x0 := i23.trans (congrArg Value.ref (P.fn i24 h0))
  obtain ⟨xon, kon⟩ := H.Op (o + 1) hon
  have ⟨k0n, k1n, k2n, k3n, k4n, k5n, ⟨xkn, k6n, k7n⟩, k8n, k9n, k10n, k11n⟩ := kon
  have k1n : yK Y 4 (o + 1) = a.kd (o + 1) := k1n
  have k2n : V 4 (o + 1) 0 = .int (nI (a.kd (o + 1))) := k2n
  have k3n : V 4 (o + 1) 1 = .int (a.pa (o + 1)) := k3n
  have k4n : V 4 (o + 1) 2 = .int (a.pb (o + 1)) := k4n
  have k5n : V 4 (o + 1) 3 = .int (nI (a.p (o + 1))) := k5n
  obtain ⟨xc, qc, kc, kc0, kc2, kc1⟩ := H.Ct o ho i hi
  obtain rfl : yv = xc := P.fn i22 kc.1
  obtain ⟨xc0, kd0, ke0⟩ := kc.2 0 (by decide)
  obtain ⟨xc1, kd1, ke1⟩ := kc.2 1 (by decide)
  obtain ⟨xc2, kd2, ke2⟩ := kc.2 2 (by decide)
  have hp := (W.p1 (o + 1) hon)
  have hr16 : r.1 < 16 := ((W.ls o i).2 r (by rw [hl]; exact List.mem_cons_self)).1
  have hcb := W.ct 0 o i
  have hlen : (a.ls o i).length = rest.length + 1 := by rw [hl]; rfl
  have hkey : I 1011 (3 * o + i) fm = nI r.1 := by have q := (i15 0 (by omega)).1; rw [hl] at q; exact q
  refine g_aload_n B 0 dX9_target_0 rfl ?_
  obtain ⟨n1, u1, ty1⟩ := P.ty hx (by decide) rfl
  refine g_callV (rest := []) B M_X9_next q1329 q1331 qs21 ty1 rfl (c_X9_next P H ho hi hx hon k0n) rfl rfl (Nat.le_of_ble_eq_true rfl) (Nat.le_of_ble_eq_true rfl) (Nat.le_of_ble_eq_true rfl) (Nat.le_refl _) (Nat.le_refl _) dX9_target_1 (xkA (fun v1 T1 O1 R1 le1 p1 => ?_))
  obtain ⟨rfl, eT1, eO1, eR1⟩ := p1
  obtain rfl := eT1.symm
  obtain rfl := eO1.symm
  obtain rfl := eR1.symm
  refine g_isKeyed B P k0n k1n (W.kd8 hon) q1335 (by decide) (Nat.le_of_ble_eq_true rfl) (Nat.le_of_ble_eq_true rfl) dX9_target_4 ?_
  refine g_top (show Value.int (bI (kKey (a.kd (o + 1)))) = .int (bI (a.ky (o + 1))) from rfl) ?_
  refine g_if_eqB (tgt := 32) B dX9_target_7 (by decide) (fun c2 => ?_) (fun c2 => ?_)
  · refine g_aload_n B 0 dX9_target_32 rfl ?_
    refine x_get B P hx (by decide) rfl F_X9_38_9 (by decide) i21 dX9_target_33 ?_
    refine x_get B P i22 (by decide) rfl F_X9_94_1 (by decide) kd0 dX9_target_36 ?_
    obtain ⟨n3, u3, ty3⟩ := P.ty ke0.1 (by decide) rfl
    refine g_castS (q := (RX2, TX2, 1)) B ty3 rfl q1353 dX9_target_39 ?_
    refine x_get B P ke0.1 (by decide) rfl F_X9_102_2 (by decide) (ke0.2.trans (congrArg Value.int kc0)) dX9_target_42 ?_
    refine g_aload_n B 0 dX9_target_45 rfl ?_
    obtain ⟨n4, u4, ty4⟩ := P.ty hx (by decide) rfl
    refine g_callV (rest := [_]) B M_X9_next q1329 q1331 qs21 ty4 rfl (c_X9_next P H ho hi hx hon k0n) rfl rfl (Nat.le_of_ble_eq_true rfl) (Nat.le_of_ble_eq_true rfl) (Nat.le_of_ble_eq_true rfl) (Nat.le_refl _) (Nat.le_refl _) dX9_target_46 (xkA (fun v4 T4 O4 R4 le4 p4 => ?_))
    obtain ⟨rfl, eT4, eO4, eR4⟩ := p4
    obtain rfl := eT4.symm
    obtain rfl := eO4.symm
    obtain rfl := eR4.symm
    refine x_get B P k0n (by decide) rfl (FO_X9_87 _) (by decide) k5n dX9_target_49 ?_
    refine g_iremN B (by omega) (by omega) (by omega) dX9_target_52 ?_
    refine g_iret B E rfl rfl dX9_target_53 ?_
    exact ⟨_, rfl, congrArg (fun z => Value.int (nI z)) (by unfold aA.goal; rw [c2]; rfl), rfl, rfl, rfl⟩
  · refine g_aload_n B 0 dX9_target_10 rfl ?_
    refine x_get B P hx (by decide) rfl F_X9_15_9 (by decide) i4 dX9_target_11 ?_
    refine g_aload_n B 0 dX9_target_14 rfl ?_
    refine x_get B P hx (by decide) rfl F_X9_67_9 (by decide) i12 dX9_target_15 ?_
    refine x_ldI B P i3 (by decide) rfl i5 (by omega) (by omega) hkey dX9_target_18 ?_
    refine g_aload_n B 0 dX9_target_19 rfl ?_
    obtain ⟨n5, u5, ty5⟩ := P.ty hx (by decide) rfl
    refine g_callV (rest := [_]) B M_X9_next q1329 q1331 qs21 ty5 rfl (c_X9_next P H ho hi hx hon k0n) rfl rfl (Nat.le_of_ble_eq_true rfl) (Nat.le_of_ble_eq_true rfl) (Nat.le_of_ble_eq_true rfl) (Nat.le_refl _) (Nat.le_refl _) dX9_target_20 (xkA (fun v5 T5 O5 R5 le5 p5 => ?_))
    obtain ⟨rfl, eT5, eO5, eR5⟩ := p5
    obtain rfl := eT5.symm
    obtain rfl := eO5.symm
    obtain rfl := eR5.symm
    refine x_get B P k0n (by decide) rfl (FO_X9_87 _) (by decide) k5n dX9_target_23 ?_
    refine g_callSN (rest := []) B M_X0_home q1350 q1351 (c_X0_home (key := r.1) (p := a.p (o + 1)) P hr16 hp.2) rfl rfl (Nat.le_of_ble_eq_true rfl) (Nat.le_of_ble_eq_true rfl) (Nat.le_of_ble_eq_true rfl) (Nat.le_refl _) (Nat.le_refl _) dX9_target_26 (xkA (fun v6 T6 O6 R6 le6 p6 => ?_))
    obtain ⟨rfl, eT6, eO6, eR6⟩ := p6
    obtain rfl := eT6.symm
    obtain rfl := eO6.symm
    obtain rfl := eR6.symm
    refine g_goto (tgt := 53) B dX9_target_29 (by decide) ?_
    refine g_iret B E rfl rfl dX9_target_53 ?_
    exact ⟨_, rfl, congrArg (fun z => Value.int (nI z)) (by unfold aA.goal; rw [c2]; rfl), rfl, rfl, rfl⟩
theorem c_X9_canSend {G : xG} {T : xT} {O R : xO} {Y : xY} {V : xVV} {I : xII} {J : xJJ} {A : xVV} {w0 : xW} {a : aA} {tk x0 g0 fi ps : Nat} {Bd : Nat} {o i x : Nat} {r : aRec} {rest : List aRec} (P : PX Y V I J A w0 T O R) (H : RepX a tk x0 g0 fi ps Y V I J A) (W : WF Bd a) (hB : Bd < 2000000) (ho : o < a.n) (hi : i < a.p o) (hx : yAt Y 9 (3 * o + i) x) (hon : o + 1 < a.n) (hl : a.ls o i = r :: rest) : xCtr G yX9_canSend cX9_canSend 1 (some Jvm.ClassFile.FieldType.boolean) 5 104 0 0 [.ref x] (T, O, R) (xA (fun v T2 O2 R2 => v = .int (bI (cFit (a.cf 0) (a.cf 2) (a.ch o i (a.goal o i r)))) ∧ T2 = T ∧ O2 = O ∧ R2 = R)) := by
  refine xCtr.of (by decide +kernel) (Nat.le_of_ble_eq_true rfl) ?_
  intro Z B E hz hnm
  change xV Z (T, O, R) 0 [(0, .ref x)] [] 0 0
  obtain ⟨h0, ⟨⟨pa0, pb0, pc0⟩, ⟨pa5, pb5, pc5⟩, ⟨pa6, pb6, pc6⟩, ⟨pa8, pb8, pc8⟩, ⟨pa9, pb9, pc9⟩, ⟨pa10, pb10, pc10⟩, ⟨pa11, pb11, pc11⟩, ⟨pa12, pb12, pc12⟩, ⟨pa13, pb13, pc13⟩, ⟨pa20, pb20, pc20⟩, ⟨pa21, pb21, pc21⟩, ⟨pa22, pb22, pc22⟩⟩, ⟨nq1, nq2, nq3, nq4⟩, nq7, nq14, nq15, nq16, nq17, nq18, nq19⟩ := H.Si
  obtain ⟨xi, ki⟩ := H.In o ho i hi
  have ei : xi = x := P.fn ki.1 hx
  rw [ei] at ki
  have ⟨i0, ⟨i1, i2⟩, ⟨⟨y1, i3, i4⟩, i5⟩, ⟨⟨y2, i6, i7⟩, i8⟩, ⟨⟨y3, i9, i10⟩, i11⟩, ⟨fm, i12, i13, i14, i15⟩, ⟨bt, i16⟩, i17, ⟨yb, i18, i19⟩, i20, ⟨yv, i21, i22⟩, yz, i23, i24⟩ := ki
  have i25 : V 9 (3 * o + i) 12 = .ref x0 := i23.trans (congrArg Value.ref (P.fn i24 h0))
  obtain ⟨bo, bq, sp, lc, xl, HC, dsp, dsb, hls, hfi⟩ := H.Ch
  have hpl : pa0 = xl := P.fn pc0 dsp.1
  have hsm : xSm Y V x0 xl (a.cf 0) (a.cf 1) (a.cf 2) := ⟨h0, pb0.trans (congrArg Value.ref hpl), nq1, nq2, nq3⟩
  have hg := W.goal (i := i) (r := r) hon
  obtain ⟨⟨xh, Cg⟩, nd, lch⟩ := HC o i (a.goal o i r) hon hi hg
  have hxh := Cg.1
  have hch := W.ch o i (a.goal o i r)
  have hcf := W.cf
  have hbl := xQs.len _ _ Cg.2.2.2.2.2.2
  refine g_aload_n B 0 dX9_canSend_0 rfl ?_
  refine x_get B P hx (by decide) rfl F_X9_3_9 (by decide) i25 dX9_canSend_1 ?_
  refine g_aload_n B 0 dX9_canSend_4 rfl ?_
  refine x_get B P hx (by decide) rfl F_X9_41_9 (by decide) i1 dX9_canSend_5 ?_
  refine g_aload_n B 0 dX9_canSend_8 rfl ?_
  refine x_get B P hx (by decide) rfl F_X9_45_9 (by decide) i2 dX9_canSend_9 ?_
  refine g_aload_n B 0 dX9_canSend_12 rfl ?_
  obtain ⟨n1, u1, ty1⟩ := P.ty hx (by decide) rfl
  refine g_callV (rest := [_, _, _]) B M_X9_target q1325 q1327 qs20 ty1 rfl (c_X9_target P H W hB ho hi hx hon hl) rfl rfl (Nat.le_of_ble_eq_true rfl) (Nat.le_of_ble_eq_true rfl) (Nat.le_of_ble_eq_true rfl) (Nat.le_refl _) (Nat.le_refl _) dX9_canSend_13 (xkA (fun v1 T1 O1 R1 le1 p1 => ?_))
  obtain ⟨rfl, eT1, eO1, eR1⟩ := p1
  obtain rfl := eT1.symm
  obtain rfl := eO1.symm
  obtain rfl := eR1.symm
  obtain ⟨n2, u2, ty2⟩ := P.ty h0 (by decide) rfl
  refine g_callVN (rest := []) B M_X0_channel q1354 q1356 qs22 ty2 rfl (c_X0_channel (o := o) (i := i) (j := (a.goal o i r)) P H W.n6 (fun o ho => (W.p1 o ho).2) h0 hon hi hg hxh) rfl rfl (Nat.le_of_ble_eq_true rfl) (Nat.le_of_ble_eq_true rfl) (Nat.le_of_ble_eq_true rfl) (Nat.le_refl _) (Nat.le_refl _) dX9_canSend_16 (xkA (fun v2 T2 O2 R2 le2 p2 => ?_))
  obtain ⟨rfl, eT2, eO2, eR2⟩ := p2
  obtain rfl := eT2.symm
  obtain rfl := eO2.symm
  obtain rfl := eR2.symm
  obtain ⟨n3, u3, ty3⟩ := P.ty Cg.1 (by decide) rfl
  refine g_callV (rest := []) B M_X10_canPut q1358 q1359 q1360 ty3 rfl (c_X10_canPut P hsm Cg dsp (by omega) (by have := hch.1; omega) (by omega) (by have := hch.2.1; omega)) rfl rfl (Nat.le_of_ble_eq_true rfl) (Nat.le_of_ble_eq_true rfl) (Nat.le_of_ble_eq_true rfl) (Nat.le_refl _) (Nat.le_refl _) dX9_canSend_19 (xkA (fun v3 T3 O3 R3 le3 p3 => ?_))
  obtain ⟨rfl, eT3, eO3, eR3⟩ := p3
  obtain rfl := eT3.symm
  obtain rfl := eO3.symm
  obtain rfl := eR3.symm
  refine g_iret B E rfl (bI_nar _) dX9_canSend_22 ?_
  exact ⟨_, rfl, rfl, rfl, rfl, rfl⟩
def barI (q : Option Nat) : Int32 := match q with
  | none => -1000000001
  | some j => nI j
theorem bar_no {a : aA} {o i p j : Nat} (h : ∀ k, k < j → cFitB (a.cf 2) (a.ch o i k) = true) (hp : a.p (o + 1) = p) : (j = p → a.bar o i = none) ∧ (j < p → cFitB (a.cf 2) (a.ch o i j) = false → a.bar o i = some j) := by
  subst hp
  unfold aA.bar
  refine ⟨fun e => ?_, fun hj hf => ?_⟩
  · rw [List.find?_eq_none]
    intro k hk
    rw [h k (by rw [e]; exact List.mem_range.mp hk)]
    simp
  · rw [List.find?_range_eq_some]
    exact ⟨by rw [hf]; rfl, List.mem_range.mpr hj, fun k hk => by rw [h k hk]; rfl⟩
theorem c_X9_barred {G : xG} {T : xT} {O R : xO} {Y : xY} {V : xVV} {I : xII} {J : xJJ} {A : xVV} {w0 : xW} {a : aA} {tk x0 g0 fi ps : Nat} {Bd : Nat} {o i x : Nat} (P : PX Y V I J A w0 T O R) (H : RepX a tk x0 g0 fi ps Y V I J A) (W : WF Bd a) (ho : o < a.n) (hi : i < a.p o) (hx : yAt Y 9 (3 * o + i) x) (hon : o + 1 < a.n) : xCtr G yX9_barred cX9_barred 2 (some Jvm.ClassFile.FieldType.int) 4 84 0 0 [.ref x] (T, O, R) (xA (fun v T2 O2 R2 => v = .int (barI (a.bar o i)) ∧ T2 = T ∧ O2 = O ∧ R2 = R)) := by
  refine xCtr.of (by decide +kernel) (Nat.le_of_ble_eq_true rfl) ?_
  intro Z B E hz hnm
  change xV Z (T, O, R) 0 [(0, .ref x)] [] 0 0
  obtain ⟨h0, ⟨⟨pa0, pb0, pc0⟩, ⟨pa5, pb5, pc5⟩, ⟨pa6, pb6, pc6⟩, ⟨pa8, pb8, pc8⟩, ⟨pa9, pb9, pc9⟩, ⟨pa10, pb10, pc10⟩, ⟨pa11, pb11, pc11⟩, ⟨pa12, pb12, pc12⟩, ⟨pa13, pb13, pc13⟩, ⟨pa20, pb20, pc20⟩, ⟨pa21, pb21, pc21⟩, ⟨pa22, pb22, pc22⟩⟩, ⟨nq1, nq2, nq3, nq4⟩, nq7, nq14, nq15, nq16, nq17, nq18, nq19⟩ := H.Si
  obtain ⟨xi, ki⟩ := H.In o ho i hi
  have ei : xi = x := P.fn ki.1 hx
  rw [ei] at ki
  have ⟨i0, ⟨i1, i2⟩, ⟨⟨y1, i3, i4⟩, i5⟩, ⟨⟨y2, i6, i7⟩, i8⟩, ⟨⟨y3, i9, i10⟩, i11⟩, ⟨fm, i12, i13, i14, i15⟩, ⟨bt, i16⟩, i17, ⟨yb, i18, i19⟩, i20, ⟨yv, i21, i22⟩, yz, i23, i24⟩ := ki
  have i25 : V 9 (3 * o + i) 12 = .ref x0 := i23.trans (congrArg Value.ref (P.fn i24 h0))
  obtain ⟨xon, kon⟩ := H.Op (o + 1) hon
  have ⟨k0n, k1n, k2n, k3n, k4n, k5n, ⟨xkn, k6n, k7n⟩, k8n, k9n, k10n, k11n⟩ := kon
  have k1n : yK Y 4 (o + 1) = a.kd (o + 1) := k1n
  have k2n : V 4 (o + 1) 0 = .int (nI (a.kd (o + 1))) := k2n
  have k3n : V 4 (o + 1) 1 = .int (a.pa (o + 1)) := k3n
  have k4n : V 4 (o + 1) 2 = .int (a.pb (o + 1)) := k4n
  have k5n : V 4 (o + 1) 3 = .int (nI (a.p (o + 1))) := k5n
  obtain ⟨bo, bq, sp, lc, xl, HC, dsp, dsb, hls, hfi⟩ := H.Ch
  have hpl : pa0 = xl := P.fn pc0 dsp.1
  have hsm : xSm Y V x0 xl (a.cf 0) (a.cf 1) (a.cf 2) := ⟨h0, pb0.trans (congrArg Value.ref hpl), nq1, nq2, nq3⟩
  have hp := (W.p1 (o + 1) hon)
  have hcf := W.cf
  refine g_iconst (v := nI 0) B dX9_barred_0 (by decide) ?_
  refine g_istore_n (lv2 := [(1, _), (0, _)]) B dX9_barred_1 (by decide) rfl ?_
  have L : ∀ (d : Nat) (k : Nat), d = a.p (o + 1) - k → (k ≤ a.p (o + 1)) → (∀ j, j < k → cFitB (a.cf 2) (a.ch o i j) = true) → xV Z (T, O, R) 2 [(1, .int (nI k)), (0, .ref x)] [] 0 0 := by
    intro d
    induction d using Nat.strongRecOn with
    | _ d ih =>
      intro k hd hkp hN
      refine g_iload_n B 0 dX9_barred_2 rfl ?_
      refine g_aload_n B 1 dX9_barred_3 rfl ?_
      obtain ⟨n101, u101, ty101⟩ := P.ty hx (by decide) rfl
      refine g_callV (rest := [_]) B M_X9_next q1329 q1331 qs21 ty101 rfl (c_X9_next P H ho hi hx hon k0n) rfl rfl (Nat.le_of_ble_eq_true rfl) (Nat.le_of_ble_eq_true rfl) (Nat.le_of_ble_eq_true rfl) (Nat.le_refl _) (Nat.le_refl _) dX9_barred_4 (xkA (fun v101 T101 O101 R101 le101 p101 => ?_))
      obtain ⟨rfl, eT101, eO101, eR101⟩ := p101
      obtain rfl := eT101.symm
      obtain rfl := eO101.symm
      obtain rfl := eR101.symm
      refine x_get B P k0n (by decide) rfl (FO_X9_87 _) (by decide) k5n dX9_barred_7 ?_
      refine g_icmp_geN (tgt := 43) B (by omega) (by omega) dX9_barred_10 (by decide) (fun c102 => ?_) (fun c102 => ?_)
      · refine g_ldc (v := (-1000000001)) B q1382 dX9_barred_43 ?_
        refine g_iret B E rfl rfl dX9_barred_45 ?_
        exact ⟨_, rfl, congrArg Value.int (by rw [(bar_no hN rfl).1 (by omega)]; rfl), rfl, rfl, rfl⟩
      · have hk2 : k < a.p (o + 1) := by omega
        obtain ⟨⟨xh, Cg⟩, nd, lch⟩ := HC o i k hon hi hk2
        have hxh := Cg.1
        have hch := W.ch o i k
        have hbl := xQs.len _ _ Cg.2.2.2.2.2.2
        refine g_aload_n B 1 dX9_barred_13 rfl ?_
        refine x_get B P hx (by decide) rfl F_X9_3_9 (by decide) i25 dX9_barred_14 ?_
        refine g_aload_n B 1 dX9_barred_17 rfl ?_
        refine x_get B P hx (by decide) rfl F_X9_41_9 (by decide) i1 dX9_barred_18 ?_
        refine g_aload_n B 1 dX9_barred_21 rfl ?_
        refine x_get B P hx (by decide) rfl F_X9_45_9 (by decide) i2 dX9_barred_22 ?_
        refine g_iload_n B 0 dX9_barred_25 rfl ?_
        obtain ⟨n103, u103, ty103⟩ := P.ty h0 (by decide) rfl
        refine g_callVN (rest := []) B M_X0_channel q1354 q1356 qs22 ty103 rfl (c_X0_channel (o := o) (i := i) (j := k) P H W.n6 (fun o ho => (W.p1 o ho).2) h0 hon hi hk2 hxh) rfl rfl (Nat.le_of_ble_eq_true rfl) (Nat.le_of_ble_eq_true rfl) (Nat.le_of_ble_eq_true rfl) (Nat.le_refl _) (Nat.le_refl _) dX9_barred_26 (xkA (fun v103 T103 O103 R103 le103 p103 => ?_))
        obtain ⟨rfl, eT103, eO103, eR103⟩ := p103
        obtain rfl := eT103.symm
        obtain rfl := eO103.symm
        obtain rfl := eR103.symm
        obtain ⟨n104, u104, ty104⟩ := P.ty Cg.1 (by decide) rfl
        refine g_callV (rest := []) B M_X10_canPutBarrier q1378 q1379 q1380 ty104 rfl (c_X10_canPutBarrier P hsm Cg dsp (by omega) (by have := hch.1; omega) (by omega) (by have := hch.2.1; omega)) rfl rfl (Nat.le_of_ble_eq_true rfl) (Nat.le_of_ble_eq_true rfl) (Nat.le_of_ble_eq_true rfl) (Nat.le_refl _) (Nat.le_refl _) dX9_barred_29 (xkA (fun v104 T104 O104 R104 le104 p104 => ?_))
        obtain ⟨rfl, eT104, eO104, eR104⟩ := p104
        obtain rfl := eT104.symm
        obtain rfl := eO104.symm
        obtain rfl := eR104.symm
        refine g_if_neB (tgt := 37) B dX9_barred_32 (by decide) (fun c105 => ?_) (fun c105 => ?_)
        · refine g_iinc (v := nI (k + 1)) (lv2 := [(1, _), (0, _)]) B 0 dX9_barred_37 rfl (nI_1 _) (by decide) rfl ?_
          refine g_goto (tgt := 2) B dX9_barred_40 (by decide) ?_
          exact ih (a.p (o + 1) - (k + 1)) (by omega) (k + 1) rfl (by omega) (fun j hj => by rcases Nat.lt_succ_iff_lt_or_eq.mp hj with e | e; exact hN j e; rw [e]; exact c105)
        · refine g_iload_n B 0 dX9_barred_35 rfl ?_
          refine g_iret B E rfl rfl dX9_barred_36 ?_
          exact ⟨_, rfl, congrArg Value.int (by rw [(bar_no hN rfl).2 (by omega) c105]; rfl), rfl, rfl, rfl⟩
  exact L _ 0 rfl (by omega) (fun j hj => absurd hj (Nat.not_lt_zero j))
