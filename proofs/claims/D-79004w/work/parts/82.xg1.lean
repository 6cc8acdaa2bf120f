set_option maxRecDepth 100000
theorem c_X4_isKeyed {G : xG} {T : xT} {O R : xO} {Y : xY} {V : xVV} {I : xII} {J : xJJ} {A : xVV} {w0 : xW} {x : Nat} (P : PX Y V I J A w0 T O R)  : xCtr G yX4_isKeyed cX4_isKeyed 1 (some Jvm.ClassFile.FieldType.boolean) 0 0 0 0 [.ref x] (T, O, R) (xA (fun v T2 O2 R2 => v = .int 0 ∧ T2 = T ∧ O2 = O ∧ R2 = R)) := by
  refine xCtr.of (by decide +kernel) (Nat.le_of_ble_eq_true rfl) ?_
  intro Z B E hz hnm
  change xV Z (T, O, R) 0 [(0, .ref x)] [] 0 0
  refine g_iconst (v := nI 0) B dX4_isKeyed_0 (by decide) ?_
  refine g_iret B E rfl rfl dX4_isKeyed_1 ?_
  exact ⟨_, rfl, rfl, rfl, rfl, rfl⟩
theorem c_X7_isKeyed {G : xG} {T : xT} {O R : xO} {Y : xY} {V : xVV} {I : xII} {J : xJJ} {A : xVV} {w0 : xW} {x : Nat} (P : PX Y V I J A w0 T O R)  : xCtr G yX7_isKeyed cX7_isKeyed 1 (some Jvm.ClassFile.FieldType.boolean) 0 0 0 0 [.ref x] (T, O, R) (xA (fun v T2 O2 R2 => v = .int 1 ∧ T2 = T ∧ O2 = O ∧ R2 = R)) := by
  refine xCtr.of (by decide +kernel) (Nat.le_of_ble_eq_true rfl) ?_
  intro Z B E hz hnm
  change xV Z (T, O, R) 0 [(0, .ref x)] [] 0 0
  refine g_iconst (v := nI 1) B dX7_isKeyed_0 (by decide) ?_
  refine g_iret B E rfl rfl dX7_isKeyed_1 ?_
  exact ⟨_, rfl, rfl, rfl, rfl, rfl⟩
theorem g_isKeyed {Z : xZ} {G : xG} {cc : ByteArray} {own : String} {nL fr lo : Nat} {ret : Option FieldType} {T : xT} {O R : xO} {pc : Nat} {lv : List (Nat × Value)} {st : List Value} {kc ks : Nat} {Y : xY} {V : xVV} {I : xII} {J : xJJ} {A : xVV} {w0 : xW} {o x idx kd : Nat} (B : xOk Z G cc own nL fr lo ret) (P : PX Y V I J A w0 T O R) (h : yAt Y 4 o x) (hk : yK Y 4 o = kd) (h8 : kd ≤ 8) (q1 : Cond.methodLink own idx yX4_isKeyed ∈ lw_all) (hst : (st.map fun v => v.category).sum ≤ 8) (hfr : 1 ≤ fr) (hlo : 20 ≤ lo) (d : decode cc pc = .ok (.invokevirtual idx, 3)) (kk : xV Z (T, O, R) (pc + 3) lv (.int (bI (kKey kd)) :: st) kc ks) : xV Z (T, O, R) pc lv (.ref x :: st) kc ks := by
  obtain ⟨n, u, ty⟩ := P.ty h (by decide) (show xrT (yK Y) 4 o = opR kd by rw [← hk]; rfl)
  rcases (show kd = 0 ∨ kd = 1 ∨ kd = 2 ∨ kd = 3 ∨ kd = 4 ∨ kd = 5 ∨ kd = 6 ∨ kd = 7 ∨ kd = 8 by omega) with rfl | rfl | rfl | rfl | rfl | rfl | rfl | rfl | rfl
  · refine g_callU (rest := st) B (C := "PipelineSimulator$Mapper") (owner := "PipelineSimulator$Operator") M_X4_isKeyed rfl q1 q1337 q1336 q1344 ty rfl (c_X4_isKeyed P) rfl rfl hst hfr hlo (Nat.le_refl _) (Nat.le_refl _) d (xkA (fun v T2 O2 R2 le p => ?_))
    obtain ⟨rfl, rfl, rfl, rfl⟩ := p
    exact kk
  · refine g_callU (rest := st) B (C := "PipelineSimulator$Filter") (owner := "PipelineSimulator$Operator") M_X4_isKeyed rfl q1 q1337 q1336 q1342 ty rfl (c_X4_isKeyed P) rfl rfl hst hfr hlo (Nat.le_refl _) (Nat.le_refl _) d (xkA (fun v T2 O2 R2 le p => ?_))
    obtain ⟨rfl, rfl, rfl, rfl⟩ := p
    exact kk
  · refine g_callU (rest := st) B (C := "PipelineSimulator$Rekeyer") (owner := "PipelineSimulator$Operator") M_X4_isKeyed rfl q1 q1337 q1336 q1345 ty rfl (c_X4_isKeyed P) rfl rfl hst hfr hlo (Nat.le_refl _) (Nat.le_refl _) d (xkA (fun v T2 O2 R2 le p => ?_))
    obtain ⟨rfl, rfl, rfl, rfl⟩ := p
    exact kk
  · refine g_callU (rest := st) B (C := "PipelineSimulator$Copier") (owner := "PipelineSimulator$Operator") M_X4_isKeyed rfl q1 q1337 q1336 q1341 ty rfl (c_X4_isKeyed P) rfl rfl hst hfr hlo (Nat.le_refl _) (Nat.le_refl _) d (xkA (fun v T2 O2 R2 le p => ?_))
    obtain ⟨rfl, rfl, rfl, rfl⟩ := p
    exact kk
  · refine g_callO (rest := st) B (C := "PipelineSimulator$Summer") (owner := "PipelineSimulator$Operator") M_X7_isKeyed ⟨by decide +kernel, by decide +kernel, by decide +kernel⟩ q1 q1337 q1336 q1349 q1339 q1348 ty rfl (c_X7_isKeyed P) rfl rfl hst hfr hlo (Nat.le_refl _) (Nat.le_refl _) d (xkA (fun v T2 O2 R2 le p => ?_))
    obtain ⟨rfl, rfl, rfl, rfl⟩ := p
    exact kk
  · refine g_callO (rest := st) B (C := "PipelineSimulator$Changes") (owner := "PipelineSimulator$Operator") M_X7_isKeyed ⟨by decide +kernel, by decide +kernel, by decide +kernel⟩ q1 q1337 q1336 q1349 q1339 q1338 ty rfl (c_X7_isKeyed P) rfl rfl hst hfr hlo (Nat.le_refl _) (Nat.le_refl _) d (xkA (fun v T2 O2 R2 le p => ?_))
    obtain ⟨rfl, rfl, rfl, rfl⟩ := p
    exact kk
  · refine g_callO (rest := st) B (C := "PipelineSimulator$Greatest") (owner := "PipelineSimulator$Operator") M_X7_isKeyed ⟨by decide +kernel, by decide +kernel, by decide +kernel⟩ q1 q1337 q1336 q1349 q1339 q1343 ty rfl (c_X7_isKeyed P) rfl rfl hst hfr hlo (Nat.le_refl _) (Nat.le_refl _) d (xkA (fun v T2 O2 R2 le p => ?_))
    obtain ⟨rfl, rfl, rfl, rfl⟩ := p
    exact kk
  · refine g_callU (rest := st) B (C := "PipelineSimulator$Source") (owner := "PipelineSimulator$Operator") M_X4_isKeyed rfl q1 q1337 q1336 q1347 ty rfl (c_X4_isKeyed P) rfl rfl hst hfr hlo (Nat.le_refl _) (Nat.le_refl _) d (xkA (fun v T2 O2 R2 le p => ?_))
    obtain ⟨rfl, rfl, rfl, rfl⟩ := p
    exact kk
  · refine g_callO (rest := st) B (C := "PipelineSimulator$Sink") (owner := "PipelineSimulator$Operator") M_X7_isKeyed ⟨by decide +kernel, by decide +kernel, by decide +kernel⟩ q1 q1337 q1336 q1349 q1339 q1346 ty rfl (c_X7_isKeyed P) rfl rfl hst hfr hlo (Nat.le_refl _) (Nat.le_refl _) d (xkA (fun v T2 O2 R2 le p => ?_))
    obtain ⟨rfl, rfl, rfl, rfl⟩ := p
    exact kk
theorem c_X9_self {G : xG} {T : xT} {O R : xO} {Y : xY} {V : xVV} {I : xII} {J : xJJ} {A : xVV} {w0 : xW} {a : aA} {tk x0 g0 fi ps : Nat} {o i x : Nat} {xo : Nat} (P : PX Y V I J A w0 T O R) (H : RepX a tk x0 g0 fi ps Y V I J A) (ho : o < a.n) (hi : i < a.p o) (hx : yAt Y 9 (3 * o + i) x)  (hxo : yAt Y 4 o xo) : xCtr G yX9_self cX9_self 1 (some (Jvm.ClassFile.FieldType.object "PipelineSimulator$Operator")) 3 64 0 0 [.ref x] (T, O, R) (xA (fun v T2 O2 R2 => v = .ref xo ∧ T2 = T ∧ O2 = O ∧ R2 = R)) := by
  refine xCtr.of (by decide +kernel) (Nat.le_of_ble_eq_true rfl) ?_
  intro Z B E hz hnm
  change xV Z (T, O, R) 0 [(0, .ref x)] [] 0 0
  obtain ⟨h0, ⟨⟨pa0, pb0, pc0⟩, ⟨pa5, pb5, pc5⟩, ⟨pa6, pb6, pc6⟩, ⟨pa8, pb8, pc8⟩, ⟨pa9, pb9, pc9⟩, ⟨pa10, pb10, pc10⟩, ⟨pa11, pb11, pc11⟩, ⟨pa12, pb12, pc12⟩, ⟨pa13, pb13, pc13⟩, ⟨pa20, pb20, pc20⟩, ⟨pa21, pb21, pc21⟩, ⟨pa22, pb22, pc22⟩⟩, ⟨nq1, nq2, nq3, nq4⟩, nq7, nq14, nq15, nq16, nq17, nq18, nq19⟩ := H.Si
  obtain ⟨xol, ll, Lol, lln, llo⟩ := H.Ol
  obtain rfl : pa8 = xol := P.fn pc8 Lol.1
  obtain ⟨xi, ki⟩ := H.In o ho i hi
  have ei : xi = x := P.fn ki.1 hx
  rw [ei] at ki
  have ⟨i0, ⟨i1, i2⟩, ⟨⟨y1, i3, i4⟩, i5⟩, ⟨⟨y2, i6, i7⟩, i8⟩, ⟨⟨y3, i9, i10⟩, i11⟩, ⟨fm, i12, i13, i14, i15⟩, ⟨bt, i16⟩, i17, ⟨yb, i18, i19⟩, i20, ⟨yv, i21, i22⟩, yz, i23, i24⟩ := ki
  have i25 : V 9 (3 * o + i) 12 = .ref x0 := i23.trans (congrArg Value.ref (P.fn i24 h0))
  refine g_aload_n B 0 dX9_self_0 rfl ?_
  refine x_get B P hx (by decide) rfl F_X9_3_9 (by decide) i25 dX9_self_1 ?_
  refine x_get B P h0 (by decide) rfl F_X9_48_0 (by decide) pb8 dX9_self_4 ?_
  refine g_aload_n B 0 dX9_self_7 rfl ?_
  refine x_get B P hx (by decide) rfl F_X9_41_9 (by decide) i1 dX9_self_8 ?_
  obtain ⟨n1, u1, ty1⟩ := P.ty pc8 (by decide) rfl
  refine g_callV (rest := []) B M_J4_get q1333 q507 q508 ty1 rfl (c_J4_get (r := 34) (rd := 5002) P (by decide) rfl Lol rfl (by rw [lln]; omega)) rfl rfl (Nat.le_of_ble_eq_true rfl) (Nat.le_of_ble_eq_true rfl) (Nat.le_of_ble_eq_true rfl) (Nat.le_refl _) (Nat.le_refl _) dX9_self_11 (xkA (fun v1 T1 O1 R1 le1 p1 => ?_))
  obtain ⟨rfl, eT1, eO1, eR1⟩ := p1
  obtain rfl := eT1.symm
  obtain rfl := eO1.symm
  obtain rfl := eR1.symm
  obtain ⟨n2, u2, ty2⟩ := P.ty (llo o (by omega)) (by decide) rfl
  refine g_cast B ty2 (opNa _) q1334 (opCast_X4 _) dX9_self_14 ?_
  refine g_aret B E rfl (Or.inl ⟨_, rfl⟩) (Or.inr ⟨_, rfl⟩) dX9_self_17 ?_
  exact ⟨_, rfl, congrArg Value.ref (P.fn (llo o (by omega)) hxo), rfl, rfl, rfl⟩
theorem c_X9_next {G : xG} {T : xT} {O R : xO} {Y : xY} {V : xVV} {I : xII} {J : xJJ} {A : xVV} {w0 : xW} {a : aA} {tk x0 g0 fi ps : Nat} {o i x : Nat} {xo : Nat} (P : PX Y V I J A w0 T O R) (H : RepX a tk x0 g0 fi ps Y V I J A) (ho : o < a.n) (hi : i < a.p o) (hx : yAt Y 9 (3 * o + i) x) (hon : o + 1 < a.n) (hxo : yAt Y 4 (o + 1) xo) : xCtr G yX9_next cX9_next 1 (some (Jvm.ClassFile.FieldType.object "PipelineSimulator$Operator")) 3 64 0 0 [.ref x] (T, O, R) (xA (fun v T2 O2 R2 => v = .ref xo ∧ T2 = T ∧ O2 = O ∧ R2 = R)) := by
  refine xCtr.of (by decide +kernel) (Nat.le_of_ble_eq_true rfl) ?_
  intro Z B E hz hnm
  change xV Z (T, O, R) 0 [(0, .ref x)] [] 0 0
  obtain ⟨h0, ⟨⟨pa0, pb0, pc0⟩, ⟨pa5, pb5, pc5⟩, ⟨pa6, pb6, pc6⟩, ⟨pa8, pb8, pc8⟩, ⟨pa9, pb9, pc9⟩, ⟨pa10, pb10, pc10⟩, ⟨pa11, pb11, pc11⟩, ⟨pa12, pb12, pc12⟩, ⟨pa13, pb13, pc13⟩, ⟨pa20, pb20, pc20⟩, ⟨pa21, pb21, pc21⟩, ⟨pa22, pb22, pc22⟩⟩, ⟨nq1, nq2, nq3, nq4⟩, nq7, nq14, nq15, nq16, nq17, nq18, nq19⟩ := H.Si
  obtain ⟨xol, ll, Lol, lln, llo⟩ := H.Ol
  obtain rfl : pa8 = xol := P.fn pc8 Lol.1
  obtain ⟨xi, ki⟩ := H.In o ho i hi
  have ei : xi = x := P.fn ki.1 hx
  rw [ei] at ki
  have ⟨i0, ⟨i1, i2⟩, ⟨⟨y1, i3, i4⟩, i5⟩, ⟨⟨y2, i6, i7⟩, i8⟩, ⟨⟨y3, i9, i10⟩, i11⟩, ⟨fm, i12, i13, i14, i15⟩, ⟨bt, i16⟩, i17, ⟨yb, i18, i19⟩, i20, ⟨yv, i21, i22⟩, yz, i23, i24⟩ := ki
  have i25 : V 9 (3 * o + i) 12 = .ref x0 := i23.trans (congrArg Value.ref (P.fn i24 h0))
  refine g_aload_n B 0 dX9_next_0 rfl ?_
  refine x_get B P hx (by decide) rfl F_X9_3_9 (by decide) i25 dX9_next_1 ?_
  refine x_get B P h0 (by decide) rfl F_X9_48_0 (by decide) pb8 dX9_next_4 ?_
  refine g_aload_n B 0 dX9_next_7 rfl ?_
  refine x_get B P hx (by decide) rfl F_X9_41_9 (by decide) i1 dX9_next_8 ?_
  refine g_iconst (v := nI 1) B dX9_next_11 (by decide) ?_
  refine g_iaddN B dX9_next_12 ?_
  obtain ⟨n1, u1, ty1⟩ := P.ty pc8 (by decide) rfl
  refine g_callV (rest := []) B M_J4_get q1333 q507 q508 ty1 rfl (c_J4_get (r := 34) (rd := 5002) P (by decide) rfl Lol rfl (by rw [lln]; omega)) rfl rfl (Nat.le_of_ble_eq_true rfl) (Nat.le_of_ble_eq_true rfl) (Nat.le_of_ble_eq_true rfl) (Nat.le_refl _) (Nat.le_refl _) dX9_next_13 (xkA (fun v1 T1 O1 R1 le1 p1 => ?_))
  obtain ⟨rfl, eT1, eO1, eR1⟩ := p1
  obtain rfl := eT1.symm
  obtain rfl := eO1.symm
  obtain rfl := eR1.symm
  obtain ⟨n2, u2, ty2⟩ := P.ty (llo (o + 1) (by omega)) (by decide) rfl
  refine g_cast B ty2 (opNa _) q1334 (opCast_X4 _) dX9_next_16 ?_
  refine g_aret B E rfl (Or.inl ⟨_, rfl⟩) (Or.inr ⟨_, rfl⟩) dX9_next_19 ?_
  exact ⟨_, rfl, congrArg Value.ref (P.fn (llo (o + 1) (by omega)) hxo), rfl, rfl, rfl⟩
theorem c_X9_inputs {G : xG} {T : xT} {O R : xO} {Y : xY} {V : xVV} {I : xII} {J : xJJ} {A : xVV} {w0 : xW} {a : aA} {tk x0 g0 fi ps : Nat} {o i x : Nat} (P : PX Y V I J A w0 T O R) (H : RepX a tk x0 g0 fi ps Y V I J A) (ho : o < a.n) (hi : i < a.p o) (hx : yAt Y 9 (3 * o + i) x) (h1 : 0 < o) : xCtr G yX9_inputs cX9_inputs 1 (some Jvm.ClassFile.FieldType.int) 3 64 0 0 [.ref x] (T, O, R) (xA (fun v T2 O2 R2 => v = .int (nI (a.p (o - 1))) ∧ T2 = T ∧ O2 = O ∧ R2 = R)) := by
  refine xCtr.of (by decide +kernel) (Nat.le_of_ble_eq_true rfl) ?_
  intro Z B E hz hnm
  change xV Z (T, O, R) 0 [(0, .ref x)] [] 0 0
  obtain ⟨h0, ⟨⟨pa0, pb0, pc0⟩, ⟨pa5, pb5, pc5⟩, ⟨pa6, pb6, pc6⟩, ⟨pa8, pb8, pc8⟩, ⟨pa9, pb9, pc9⟩, ⟨pa10, pb10, pc10⟩, ⟨pa11, pb11, pc11⟩, ⟨pa12, pb12, pc12⟩, ⟨pa13, pb13, pc13⟩, ⟨pa20, pb20, pc20⟩, ⟨pa21, pb21, pc21⟩, ⟨pa22, pb22, pc22⟩⟩, ⟨nq1, nq2, nq3, nq4⟩, nq7, nq14, nq15, nq16, nq17, nq18, nq19⟩ := H.Si
  obtain ⟨xol, ll, Lol, lln, llo⟩ := H.Ol
  obtain rfl : pa8 = xol := P.fn pc8 Lol.1
  obtain ⟨xi, ki⟩ := H.In o ho i hi
  have ei : xi = x := P.fn ki.1 hx
  rw [ei] at ki
  have ⟨i0, ⟨i1, i2⟩, ⟨⟨y1, i3, i4⟩, i5⟩, ⟨⟨y2, i6, i7⟩, i8⟩, ⟨⟨y3, i9, i10⟩, i11⟩, ⟨fm, i12, i13, i14, i15⟩, ⟨bt, i16⟩, i17, ⟨yb, i18, i19⟩, i20, ⟨yv, i21, i22⟩, yz, i23, i24⟩ := ki
  have i25 : V 9 (3 * o + i) 12 = .ref x0 := i23.trans (congrArg Value.ref (P.fn i24 h0))
  obtain ⟨xop, kop⟩ := H.Op (o - 1) (by omega)
  have ⟨k0p, k1p, k2p, k3p, k4p, k5p, ⟨xkp, k6p, k7p⟩, k8p, k9p, k10p, k11p⟩ := kop
  have k1p : yK Y 4 (o - 1) = a.kd (o - 1) := k1p
  have k2p : V 4 (o - 1) 0 = .int (nI (a.kd (o - 1))) := k2p
  have k3p : V 4 (o - 1) 1 = .int (a.pa (o - 1)) := k3p
  have k4p : V 4 (o - 1) 2 = .int (a.pb (o - 1)) := k4p
  have k5p : V 4 (o - 1) 3 = .int (nI (a.p (o - 1))) := k5p
  have hxp := llo (o - 1) (by omega)
  refine g_aload_n B 0 dX9_inputs_0 rfl ?_
  refine x_get B P hx (by decide) rfl F_X9_3_9 (by decide) i25 dX9_inputs_1 ?_
  refine x_get B P h0 (by decide) rfl F_X9_48_0 (by decide) pb8 dX9_inputs_4 ?_
  refine g_aload_n B 0 dX9_inputs_7 rfl ?_
  refine x_get B P hx (by decide) rfl F_X9_41_9 (by decide) i1 dX9_inputs_8 ?_
  refine g_iconst (v := nI 1) B dX9_inputs_11 (by decide) ?_
  refine g_isubN B (by omega) dX9_inputs_12 ?_
  obtain ⟨n1, u1, ty1⟩ := P.ty pc8 (by decide) rfl
  refine g_callV (rest := []) B M_J4_get q1333 q507 q508 ty1 rfl (c_J4_get (r := 34) (rd := 5002) P (by decide) rfl Lol rfl (by rw [lln]; omega)) rfl rfl (Nat.le_of_ble_eq_true rfl) (Nat.le_of_ble_eq_true rfl) (Nat.le_of_ble_eq_true rfl) (Nat.le_refl _) (Nat.le_refl _) dX9_inputs_13 (xkA (fun v1 T1 O1 R1 le1 p1 => ?_))
  obtain ⟨rfl, eT1, eO1, eR1⟩ := p1
  obtain rfl := eT1.symm
  obtain rfl := eO1.symm
  obtain rfl := eR1.symm
  obtain ⟨n2, u2, ty2⟩ := P.ty (llo (o - 1) (by omega)) (by decide) rfl
  refine g_cast B ty2 (opNa _) q1334 (opCast_X4 _) dX9_inputs_16 ?_
  refine x_get B P (llo (o - 1) (by omega)) (by decide) rfl (FO_X9_87 _) (by decide) k5p dX9_inputs_19 ?_
  refine g_iret B E rfl rfl dX9_inputs_22 ?_
  exact ⟨_, rfl, rfl, rfl, rfl, rfl⟩
theorem c_X9_isLast {G : xG} {T : xT} {O R : xO} {Y : xY} {V : xVV} {I : xII} {J : xJJ} {A : xVV} {w0 : xW} {a : aA} {tk x0 g0 fi ps : Nat} {o i x : Nat} (P : PX Y V I J A w0 T O R) (H : RepX a tk x0 g0 fi ps Y V I J A) (ho : o < a.n) (hi : i < a.p o) (hx : yAt Y 9 (3 * o + i) x) (hn6 : a.n ≤ 6) : xCtr G yX9_isLast cX9_isLast 1 (some Jvm.ClassFile.FieldType.boolean) 1 20 0 0 [.ref x] (T, O, R) (xA (fun v T2 O2 R2 => v = .int (bI (decide (o + 1 = a.n))) ∧ T2 = T ∧ O2 = O ∧ R2 = R)) := by
  refine xCtr.of (by decide +kernel) (Nat.le_of_ble_eq_true rfl) ?_
  intro Z B E hz hnm
  change xV Z (T, O, R) 0 [(0, .ref x)] [] 0 0
  obtain ⟨h0, ⟨⟨pa0, pb0, pc0⟩, ⟨pa5, pb5, pc5⟩, ⟨pa6, pb6, pc6⟩, ⟨pa8, pb8, pc8⟩, ⟨pa9, pb9, pc9⟩, ⟨pa10, pb10, pc10⟩, ⟨pa11, pb11, pc11⟩, ⟨pa12, pb12, pc12⟩, ⟨pa13, pb13, pc13⟩, ⟨pa20, pb20, pc20⟩, ⟨pa21, pb21, pc21⟩, ⟨pa22, pb22, pc22⟩⟩, ⟨nq1, nq2, nq3, nq4⟩, nq7, nq14, nq15, nq16, nq17, nq18, nq19⟩ := H.Si
  obtain ⟨xol, ll, Lol, lln, llo⟩ := H.Ol
  obtain rfl : pa8 = xol := P.fn pc8 Lol.1
  obtain ⟨xi, ki⟩ := H.In o ho i hi
  have ei : xi = x := P.fn ki.1 hx
  rw [ei] at ki
  have ⟨i0, ⟨i1, i2⟩, ⟨⟨y1, i3, i4⟩, i5⟩, ⟨⟨y2, i6, i7⟩, i8⟩, ⟨⟨y3, i9, i10⟩, i11⟩, ⟨fm, i12, i13, i14, i15⟩, ⟨bt, i16⟩, i17, ⟨yb, i18, i19⟩, i20, ⟨yv, i21, i22⟩, yz, i23, i24⟩ := ki
  have i25 : V 9 (3 * o + i) 12 = .ref x0 := i23.trans (congrArg Value.ref (P.fn i24 h0))
  refine g_aload_n B 0 dX9_isLast_0 rfl ?_
  refine x_get B P hx (by decide) rfl F_X9_41_9 (by decide) i1 dX9_isLast_1 ?_
  refine g_aload_n B 0 dX9_isLast_4 rfl ?_
  refine x_get B P hx (by decide) rfl F_X9_3_9 (by decide) i25 dX9_isLast_5 ?_
  refine x_get B P h0 (by decide) rfl F_X9_48_0 (by decide) pb8 dX9_isLast_8 ?_
  obtain ⟨n1, u1, ty1⟩ := P.ty pc8 (by decide) rfl
  refine g_callV (rest := [_]) B M_J4_size q1411 q503 q504 ty1 rfl (c_J4_size (r := 34) (rd := 5002) P (by decide) rfl Lol) rfl rfl (Nat.le_of_ble_eq_true rfl) (Nat.le_of_ble_eq_true rfl) (Nat.le_of_ble_eq_true rfl) (Nat.le_refl _) (Nat.le_refl _) dX9_isLast_11 (xkA (fun v1 T1 O1 R1 le1 p1 => ?_))
  obtain ⟨rfl, eT1, eO1, eR1⟩ := p1
  obtain rfl := eT1.symm
  obtain rfl := eO1.symm
  obtain rfl := eR1.symm
  refine g_iconst (v := nI 1) B dX9_isLast_14 (by decide) ?_
  refine g_isubN B (by first | omega | (rw [lln]; omega)) dX9_isLast_15 ?_
  refine g_icmp_neN (tgt := 23) B (by first | omega | (rw [lln]; omega)) (by first | omega | (rw [lln]; omega)) dX9_isLast_16 (by decide) (fun c2 => ?_) (fun c2 => ?_)
  · refine g_iconst (v := nI 0) B dX9_isLast_23 (by decide) ?_
    refine g_iret B E rfl rfl dX9_isLast_24 ?_
    exact ⟨_, rfl, congrArg Value.int (bI_f (by simp; rw [lln] at c2; omega)), rfl, rfl, rfl⟩
  · refine g_iconst (v := nI 1) B dX9_isLast_19 (by decide) ?_
    refine g_goto (tgt := 24) B dX9_isLast_20 (by decide) ?_
    refine g_iret B E rfl rfl dX9_isLast_24 ?_
    exact ⟨_, rfl, congrArg Value.int (bI_t (by simp; rw [lln] at c2; omega)), rfl, rfl, rfl⟩
theorem c_X9_waiting {G : xG} {T : xT} {O R : xO} {Y : xY} {V : xVV} {I : xII} {J : xJJ} {A : xVV} {w0 : xW} {a : aA} {tk x0 g0 fi ps : Nat} {o i x : Nat} (P : PX Y V I J A w0 T O R) (H : RepX a tk x0 g0 fi ps Y V I J A) (ho : o < a.n) (hi : i < a.p o) (hx : yAt Y 9 (3 * o + i) x) : xCtr G yX9_waiting cX9_waiting 1 (some Jvm.ClassFile.FieldType.int) 0 0 0 0 [.ref x] (T, O, R) (xA (fun v T2 O2 R2 => v = .int (nI (a.ls o i).length) ∧ T2 = T ∧ O2 = O ∧ R2 = R)) := by
  refine xCtr.of (by decide +kernel) (Nat.le_of_ble_eq_true rfl) ?_
  intro Z B E hz hnm
  change xV Z (T, O, R) 0 [(0, .ref x)] [] 0 0
  obtain ⟨h0, ⟨⟨pa0, pb0, pc0⟩, ⟨pa5, pb5, pc5⟩, ⟨pa6, pb6, pc6⟩, ⟨pa8, pb8, pc8⟩, ⟨pa9, pb9, pc9⟩, ⟨pa10, pb10, pc10⟩, ⟨pa11, pb11, pc11⟩, ⟨pa12, pb12, pc12⟩, ⟨pa13, pb13, pc13⟩, ⟨pa20, pb20, pc20⟩, ⟨pa21, pb21, pc21⟩, ⟨pa22, pb22, pc22⟩⟩, ⟨nq1, nq2, nq3, nq4⟩, nq7, nq14, nq15, nq16, nq17, nq18, nq19⟩ := H.Si
  obtain ⟨xi, ki⟩ := H.In o ho i hi
  have ei : xi = x := P.fn ki.1 hx
  rw [ei] at ki
  have ⟨i0, ⟨i1, i2⟩, ⟨⟨y1, i3, i4⟩, i5⟩, ⟨⟨y2, i6, i7⟩, i8⟩, ⟨⟨y3, i9, i10⟩, i11⟩, ⟨fm, i12, i13, i14, i15⟩, ⟨bt, i16⟩, i17, ⟨yb, i18, i19⟩, i20, ⟨yv, i21, i22⟩, yz, i23, i24⟩ := ki
  have i25 : V 9 (3 * o + i) 12 = .ref x0 := i23.trans (congrArg Value.ref (P.fn i24 h0))
  refine g_aload_n B 0 dX9_waiting_0 rfl ?_
  refine x_get B P hx (by decide) rfl F_X9_64_9 (by decide) i13 dX9_waiting_1 ?_
  refine g_aload_n B 0 dX9_waiting_4 rfl ?_
  refine x_get B P hx (by decide) rfl F_X9_67_9 (by decide) i12 dX9_waiting_5 ?_
  refine g_isubN B (by omega) dX9_waiting_8 ?_
  refine g_iret B E rfl rfl dX9_waiting_9 ?_
  exact ⟨_, rfl, congrArg (fun z => Value.int (nI z)) (by omega), rfl, rfl, rfl⟩
