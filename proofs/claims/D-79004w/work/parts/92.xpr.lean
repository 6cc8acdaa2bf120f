set_option maxRecDepth 100000
def yOP : MethodName := ⟨"PipelineSimulator$Operator", "process", "(IILPipelineSimulator$KeyStates;LPipelineSimulator$Output;)V"⟩
theorem g_process {Z : xZ} {G : xG} {cc : ByteArray} {own : String} {nL fr lo : Nat} {ret : Option FieldType} {T : xT} {O R : xO} {pc : Nat} {lv : List (Nat × Value)} {st : List Value} {kc ks : Nat} {Y : xY} {V : xVV} {I : xII} {J : xJJ} {A : xVV} {w0 : xW} {a : aA} {tk x0 g0 fi ps Bd o i x xo xs key bb idx : Nat} {v : Int32} (B : xOk Z G cc own nL fr lo ret) (P : PX Y V I J A w0 T O R) (H : RepX a tk x0 g0 fi ps Y V I J A) (W : WF Bd a) (ho : o < a.n) (hi : i < a.p o) (hx : yAt Y 9 (3 * o + i) x) (hxo : yAt Y 4 o xo) (hk : key < 16) (hls : a.ls o i = []) (hbt : V 9 (3 * o + i) 7 = .int (nI bb)) (hxs : V 1 o 0 = .ref xs) (q1 : Cond.methodLink own idx yOP ∈ lw_all) (hst : (st.map fun v => v.category).sum ≤ 8) (hfr : 6 ≤ fr) (hlo : 140 ≤ lo) (d : decode cc pc = .ok (.invokevirtual idx, 3)) (kk : ∀ (T2 : xT) (O2 R2 : xO), xPr Y A w0 (aA.emits o i bb (aProc (a.kd o) (a.pa o) (a.pb o) (a.st 0 o key) key v).1 (a.w_st (up3 a.st 0 o key (aProc (a.kd o) (a.pa o) (a.pb o) (a.st 0 o key) key v).2))) tk x0 g0 fi ps T2 O2 R2 → xV Z (T2, O2, R2) (pc + 3) lv st kc ks) : xV Z (T, O, R) pc lv (.ref x :: .ref xs :: .int v :: .int (nI key) :: .ref xo :: st) kc ks := by
  obtain ⟨xo1, ko⟩ := H.Op o ho
  obtain rfl : xo1 = xo := P.fn ko.1 hxo
  have hK : yK Y 4 o = a.kd o := ko.2.1
  obtain ⟨n, u, ty⟩ := P.ty hxo (by decide) (show xrT (yK Y) 4 o = opR (a.kd o) by rw [← hK]; rfl)
  have hlo2 : ∀ k, k ≤ 140 → k ≤ lo := fun k h => Nat.le_trans h hlo
  have hfr2 : ∀ k, k ≤ 6 → k ≤ fr := fun k h => Nat.le_trans h hfr
  have h8 : a.kd o ≤ 8 := W.kd8 ho
  rcases (show a.kd o = 0 ∨ a.kd o = 1 ∨ a.kd o = 2 ∨ a.kd o = 3 ∨ a.kd o = 4 ∨ a.kd o = 5 ∨ a.kd o = 6 ∨ a.kd o = 7 ∨ a.kd o = 8 by omega) with hk0 | hk1 | hk2 | hk3 | hk4 | hk5 | hk6 | hk7 | hk8
  · rw [hk0] at ty
    refine g_callA (rest := st) B (C := "PipelineSimulator$Mapper") (owner := "PipelineSimulator$Operator") M_X15_process ⟨by decide +kernel, by decide +kernel, by decide +kernel⟩ q1 q1421 q1420 q1507 q1553 ty rfl (c_X15_process_I P H W ho hi hx hxo hk0 hk hls hbt hxs) rfl rfl hst (hfr2 _ (Nat.le_of_ble_eq_true rfl)) (hlo2 _ (Nat.le_of_ble_eq_true rfl)) (Nat.le_refl _) (Nat.le_refl _) d (xkN (fun T2 O2 R2 le p => ?_))
    exact kk T2 O2 R2 p
  · rw [hk1] at ty
    refine g_callA (rest := st) B (C := "PipelineSimulator$Filter") (owner := "PipelineSimulator$Operator") M_X16_process ⟨by decide +kernel, by decide +kernel, by decide +kernel⟩ q1 q1421 q1420 q1496 q1551 ty rfl (c_X16_process_I P H W ho hi hx hxo hk1 hk hls hbt hxs) rfl rfl hst (hfr2 _ (Nat.le_of_ble_eq_true rfl)) (hlo2 _ (Nat.le_of_ble_eq_true rfl)) (Nat.le_refl _) (Nat.le_refl _) d (xkN (fun T2 O2 R2 le p => ?_))
    exact kk T2 O2 R2 p
  · rw [hk2] at ty
    refine g_callA (rest := st) B (C := "PipelineSimulator$Rekeyer") (owner := "PipelineSimulator$Operator") M_X17_process ⟨by decide +kernel, by decide +kernel, by decide +kernel⟩ q1 q1421 q1420 q1511 q1554 ty rfl (c_X17_process_I P H W ho hi hx hxo hk2 hk hls hbt hxs) rfl rfl hst (hfr2 _ (Nat.le_of_ble_eq_true rfl)) (hlo2 _ (Nat.le_of_ble_eq_true rfl)) (Nat.le_refl _) (Nat.le_refl _) d (xkN (fun T2 O2 R2 le p => ?_))
    exact kk T2 O2 R2 p
  · rw [hk3] at ty
    refine g_callA (rest := st) B (C := "PipelineSimulator$Copier") (owner := "PipelineSimulator$Operator") M_X18_process ⟨by decide +kernel, by decide +kernel, by decide +kernel⟩ q1 q1421 q1420 q1492 q1550 ty rfl (c_X18_process_I P H W ho hi hx hxo hk3 hk hls hbt hxs) rfl rfl hst (hfr2 _ (Nat.le_of_ble_eq_true rfl)) (hlo2 _ (Nat.le_of_ble_eq_true rfl)) (Nat.le_refl _) (Nat.le_refl _) d (xkN (fun T2 O2 R2 le p => ?_))
    exact kk T2 O2 R2 p
  · rw [hk4] at ty
    refine g_callA (rest := st) B (C := "PipelineSimulator$Summer") (owner := "PipelineSimulator$Operator") M_X19_process ⟨by decide +kernel, by decide +kernel, by decide +kernel⟩ q1 q1421 q1420 q1530 q1557 ty rfl (c_X19_process_I P H W ho hi hx hxo hk4 hk hls hbt hxs) rfl rfl hst (hfr2 _ (Nat.le_of_ble_eq_true rfl)) (hlo2 _ (Nat.le_of_ble_eq_true rfl)) (Nat.le_refl _) (Nat.le_refl _) d (xkN (fun T2 O2 R2 le p => ?_))
    exact kk T2 O2 R2 p
  · rw [hk5] at ty
    refine g_callA (rest := st) B (C := "PipelineSimulator$Changes") (owner := "PipelineSimulator$Operator") M_X20_process ⟨by decide +kernel, by decide +kernel, by decide +kernel⟩ q1 q1421 q1420 q1423 q1422 ty rfl (c_X20_process_I P H W ho hi hx hxo hk5 hk hls hbt hxs) rfl rfl hst (hfr2 _ (Nat.le_of_ble_eq_true rfl)) (hlo2 _ (Nat.le_of_ble_eq_true rfl)) (Nat.le_refl _) (Nat.le_refl _) d (xkN (fun T2 O2 R2 le p => ?_))
    exact kk T2 O2 R2 p
  · rw [hk6] at ty
    refine g_callA (rest := st) B (C := "PipelineSimulator$Greatest") (owner := "PipelineSimulator$Operator") M_X21_process ⟨by decide +kernel, by decide +kernel, by decide +kernel⟩ q1 q1421 q1420 q1500 q1552 ty rfl (c_X21_process_I P H W ho hi hx hxo hk6 hk hls hbt hxs) rfl rfl hst (hfr2 _ (Nat.le_of_ble_eq_true rfl)) (hlo2 _ (Nat.le_of_ble_eq_true rfl)) (Nat.le_refl _) (Nat.le_refl _) d (xkN (fun T2 O2 R2 le p => ?_))
    exact kk T2 O2 R2 p
  · rw [hk7] at ty
    refine g_callA (rest := st) B (C := "PipelineSimulator$Source") (owner := "PipelineSimulator$Operator") M_X5_process ⟨by decide +kernel, by decide +kernel, by decide +kernel⟩ q1 q1421 q1420 q1526 q1556 ty rfl (c_X5_process_I P H W ho hi hx hxo hk7 hk hls hbt hxs) rfl rfl hst (hfr2 _ (Nat.le_of_ble_eq_true rfl)) (hlo2 _ (Nat.le_of_ble_eq_true rfl)) (Nat.le_refl _) (Nat.le_refl _) d (xkN (fun T2 O2 R2 le p => ?_))
    exact kk T2 O2 R2 p
  · rw [hk8] at ty
    refine g_callA (rest := st) B (C := "PipelineSimulator$Sink") (owner := "PipelineSimulator$Operator") M_X8_process ⟨by decide +kernel, by decide +kernel, by decide +kernel⟩ q1 q1421 q1420 q1518 q1555 ty rfl (c_X8_process_I P H W ho hi hx hxo hk8 hk hls hbt hxs) rfl rfl hst (hfr2 _ (Nat.le_of_ble_eq_true rfl)) (hlo2 _ (Nat.le_of_ble_eq_true rfl)) (Nat.le_refl _) (Nat.le_refl _) d (xkN (fun T2 O2 R2 le p => ?_))
    exact kk T2 O2 R2 p
theorem aA.w_pt_self (a : aA) : a.w_pt a.pt = a := rfl
theorem c_X9_process {G : xG} {T : xT} {O R : xO} {Y : xY} {V : xVV} {I : xII} {J : xJJ} {A : xVV} {w0 : xW} {a : aA} {tk x0 g0 fi ps : Nat} {Bd : Nat} {o i x : Nat} {key born : Nat} {v : Int32} (P : PX Y V I J A w0 T O R) (H : RepX a tk x0 g0 fi ps Y V I J A) (W : WF Bd a) (ho : o < a.n) (hi : i < a.p o) (hx : yAt Y 9 (3 * o + i) x) (hk : key < 16) (hls : a.ls o i = []) (hborn : born ≤ tk) (htk : tk ≤ 5000) : xCtrL G yX9_process cX9_process 4 none 6 140 (4 * fi + ps) (18 * fi + ps) [.ref x, .int (nI key), .int v, .int (nI born)] (T, O, R) (xNL (xRL w0 Y (a.takeIn o i (key, v, born)) tk x0 g0)) := by
  refine xCtrL.of (by decide +kernel) (Nat.le_of_ble_eq_true rfl) ?_
  intro Z B E hz hnm
  change xV Z (T, O, R) 0 [(0, .ref x), (1, .int (nI key)), (2, .int v), (3, .int (nI born))] [] (4 * fi + ps) (18 * fi + ps)
  obtain ⟨h0, ⟨⟨pa0, pb0, pc0⟩, ⟨pa5, pb5, pc5⟩, ⟨pa6, pb6, pc6⟩, ⟨pa8, pb8, pc8⟩, ⟨pa9, pb9, pc9⟩, ⟨pa10, pb10, pc10⟩, ⟨pa11, pb11, pc11⟩, ⟨pa12, pb12, pc12⟩, ⟨pa13, pb13, pc13⟩, ⟨pa20, pb20, pc20⟩, ⟨pa21, pb21, pc21⟩, ⟨pa22, pb22, pc22⟩⟩, ⟨nq1, nq2, nq3, nq4⟩, nq7, nq14, nq15, nq16, nq17, nq18, nq19⟩ := H.Si
  obtain ⟨xi, ki⟩ := H.In o ho i hi
  have ei : xi = x := P.fn ki.1 hx
  rw [ei] at ki
  have ⟨i0, ⟨i1, i2⟩, ⟨⟨y1, i3, i4⟩, i5⟩, ⟨⟨y2, i6, i7⟩, i8⟩, ⟨⟨y3, i9, i10⟩, i11⟩, ⟨fm, i12, i13, i14, i15⟩, ⟨bt, i16⟩, i17, ⟨yb, i18, i19⟩, i20, ⟨yv, i21, i22⟩, yz, i23, i24⟩ := ki
  have i25 : V 9 (3 * o + i) 12 = .ref x0 := i23.trans (congrArg Value.ref (P.fn i24 h0))
  refine g_aload_n B 0 dX9_process_0 rfl ?_
  refine g_iload_n B 3 dX9_process_1 rfl ?_
  refine x_put (q := (RX9, TX9, 13)) B P hx (by decide) rfl F_X9_70_9 rfl rfl (tyX9_ok 7 (by decide)) rfl rfl dX9_process_2 (fun O1 V1 hs1 hk1 P1 => ?_)
  have fb : xFr (sI9 (3 * o + i)) Y V I J A Y V1 I J A := xFr.uV (r := 9) (o := (3 * o + i)) (by unfold sI9; omega) hs1 hk1
  have kn : xIs Y V1 I J o i x (a.ls o i) (a.sp o i) (a.pt o i) (a.hd o i) := ⟨i0, ⟨(rdK hs1 (by decide) i1), (rdK hs1 (by decide) i2)⟩, ⟨⟨y1, i3, (rdK hs1 (by decide) i4)⟩, i5⟩, ⟨⟨y2, i6, (rdK hs1 (by decide) i7)⟩, i8⟩, ⟨⟨y3, i9, (rdK hs1 (by decide) i10)⟩, i11⟩, ⟨fm, (rdK hs1 (by decide) i12), (rdK hs1 (by decide) i13), i14, i15⟩, ⟨_, (rdS hs1)⟩, (rdK hs1 (by decide) i17), ⟨yb, (rdK hs1 (by decide) i18), i19.fr fb (fun e => by unfold sI9 at e; omega) (fun e => by unfold sI9 at e; omega)⟩, (rdK hs1 (by decide) i20), ⟨yv, (rdK hs1 (by decide) i21), i22⟩, x0, (rdK hs1 (by decide) i25), h0⟩
  have hp3 : ∀ o, o < a.n → a.p o ≤ 3 := fun o ho => (W.p1 o ho).2
  have Hb : RepX a tk x0 g0 fi ps Y V1 I J A := H.w_pt (q := a.pt) fb (fun r o e => by unfold sI9 at e; unfold gIn; omega) (H.In.one (o := o) (i := i) fb (fun r c e _ => by unfold sI9 at e; exact e.1) hp3 (by have := hp3 o ho; omega) (fun x y hn => ⟨rfl, rfl, rfl, rfl⟩) ⟨x, kn⟩)
  have hbt : V1 9 (3 * o + i) 7 = .int (nI born) := rdS hs1
  obtain ⟨h0b, ⟨⟨pa0b, pb0b, pc0b⟩, ⟨pa5b, pb5b, pc5b⟩, ⟨pa6b, pb6b, pc6b⟩, ⟨pa8b, pb8b, pc8b⟩, ⟨pa9b, pb9b, pc9b⟩, ⟨pa10b, pb10b, pc10b⟩, ⟨pa11b, pb11b, pc11b⟩, ⟨pa12b, pb12b, pc12b⟩, ⟨pa13b, pb13b, pc13b⟩, ⟨pa20b, pb20b, pc20b⟩, ⟨pa21b, pb21b, pc21b⟩, ⟨pa22b, pb22b, pc22b⟩⟩, ⟨nq1b, nq2b, nq3b, nq4b⟩, nq7b, nq14b, nq15b, nq16b, nq17b, nq18b, nq19b⟩ := Hb.Si
  obtain ⟨xib, kib⟩ := Hb.In o ho i hi
  have eib : xib = x := P1.fn kib.1 hx
  rw [eib] at kib
  have ⟨i0b, ⟨i1b, i2b⟩, ⟨⟨y1b, i3b, i4b⟩, i5b⟩, ⟨⟨y2b, i6b, i7b⟩, i8b⟩, ⟨⟨y3b, i9b, i10b⟩, i11b⟩, ⟨fmb, i12b, i13b, i14b, i15b⟩, ⟨btb, i16b⟩, i17b, ⟨ybb, i18b, i19b⟩, i20b, ⟨yvb, i21b, i22b⟩, yzb, i23b, i24b⟩ := kib
  have i25b : V1 9 (3 * o + i) 12 = .ref x0 := i23b.trans (congrArg Value.ref (P1.fn i24b h0b))
  refine g_aload_n B 0 dX9_process_5 rfl ?_
  obtain ⟨n2, u2, ty2⟩ := P1.ty hx (by decide) rfl
  refine g_callV (kc2 := (4 * fi + ps)) (ks2 := (18 * fi + ps)) (rest := []) B M_X9_isLast q1407 q1409 qs30 ty2 rfl (c_X9_isLast P1 Hb ho hi hx W.n6) rfl rfl (Nat.le_of_ble_eq_true rfl) (Nat.le_of_ble_eq_true rfl) (Nat.le_of_ble_eq_true rfl) (Nat.le_refl _) (Nat.le_refl _) dX9_process_6 (xkA (fun v2 T2 O2 R2 le2 p2 => ?_))
  obtain ⟨rfl, eT2, eO2, eR2⟩ := p2
  obtain rfl := eT2.symm
  obtain rfl := eO2.symm
  obtain rfl := eR2.symm
  refine g_if_eqB (tgt := 31) B dX9_process_9 (by decide) (fun c3 => ?_) (fun c3 => ?_)
  · obtain ⟨xos, kos⟩ := Hb.Op o ho
    obtain ⟨xvk, xsk, kv1, kv2, kvS⟩ := Hb.ks0 ho
    have kos7 := kos.2.2.2.2.2.2.1
    obtain ⟨xv9, kv4, kv5⟩ := kos7
    obtain rfl : xv9 = xvk := P1.fn kv5 kv1
    refine g_aload_n B 0 dX9_process_31 rfl ?_
    obtain ⟨n4, u4, ty4⟩ := P1.ty hx (by decide) rfl
    refine g_callV (kc2 := (4 * fi + ps)) (ks2 := (18 * fi + ps)) (rest := []) B M_X9_self q1391 q1393 qs26 ty4 rfl (c_X9_self P1 Hb ho hi hx kos.1) rfl rfl (Nat.le_of_ble_eq_true rfl) (Nat.le_of_ble_eq_true rfl) (Nat.le_of_ble_eq_true rfl) (Nat.le_refl _) (Nat.le_refl _) dX9_process_32 (xkA (fun v4 T4 O4 R4 le4 p4 => ?_))
    obtain ⟨rfl, eT4, eO4, eR4⟩ := p4
    obtain rfl := eT4.symm
    obtain rfl := eO4.symm
    obtain rfl := eR4.symm
    refine g_dup B dX9_process_35 rfl ?_
    refine x_get B P1 kos.1 (by decide) rfl (FO_X9_211 _) (by decide) kos.2.2.2.2.2.2.2.1 dX9_process_36 ?_
    refine g_iconst (v := nI 1) B dX9_process_39 (by decide) ?_
    refine g_iadd B dX9_process_40 ?_
    obtain ⟨q5, hq5, hf5, ht5⟩ := opQ (yK Y 4 o) 5 (by decide)
    refine x_put B P1 kos.1 (by decide) rfl (FO_X9_211 _) hq5 hf5 ht5 rfl rfl dX9_process_41 (fun O5 V5 hs5 hk5 P5 => ?_)
    have Hi : RepX (a.inc 0 o) tk x0 g0 fi ps Y V5 I J A := Hb.incr (k := 0) (xo := xos) (by decide) kos hs5 hk5
    have hbi : V5 9 (3 * o + i) 7 = .int (nI born) := rdR hk5 (by decide) hbt
    have hvi : V5 1 o 0 = .ref xsk := rdR hk5 (by decide) kv2
    refine g_aload_n B 0 dX9_process_44 rfl ?_
    obtain ⟨n6, u6, ty6⟩ := P5.ty hx (by decide) rfl
    refine g_callV (kc2 := (4 * fi + ps)) (ks2 := (18 * fi + ps)) (rest := []) B M_X9_self q1391 q1393 qs26 ty6 rfl (c_X9_self P5 Hi ho hi hx kos.1) rfl rfl (Nat.le_of_ble_eq_true rfl) (Nat.le_of_ble_eq_true rfl) (Nat.le_of_ble_eq_true rfl) (Nat.le_refl _) (Nat.le_refl _) dX9_process_45 (xkA (fun v6 T6 O6 R6 le6 p6 => ?_))
    obtain ⟨rfl, eT6, eO6, eR6⟩ := p6
    obtain rfl := eT6.symm
    obtain rfl := eO6.symm
    obtain rfl := eR6.symm
    refine g_iload_n B 1 dX9_process_48 rfl ?_
    refine g_iload_n B 2 dX9_process_49 rfl ?_
    refine g_aload_n B 0 dX9_process_50 rfl ?_
    obtain ⟨n7, u7, ty7⟩ := P5.ty hx (by decide) rfl
    refine g_callV (kc2 := (4 * fi + ps)) (ks2 := (18 * fi + ps)) (rest := [_, _, _]) B M_X9_self q1391 q1393 qs26 ty7 rfl (c_X9_self P5 Hi ho hi hx kos.1) rfl rfl (Nat.le_of_ble_eq_true rfl) (Nat.le_of_ble_eq_true rfl) (Nat.le_of_ble_eq_true rfl) (Nat.le_refl _) (Nat.le_refl _) dX9_process_51 (xkA (fun v7 T7 O7 R7 le7 p7 => ?_))
    obtain ⟨rfl, eT7, eO7, eR7⟩ := p7
    obtain rfl := eT7.symm
    obtain rfl := eO7.symm
    obtain rfl := eR7.symm
    refine x_get B P5 kos.1 (by decide) rfl (FO_X9_214 _) (by decide) (rdK hs5 (by decide) kv4) dX9_process_54 ?_
    refine x_get B P5 kv1 (by decide) rfl F_X9_94_1 (by decide) (rdR hk5 (by decide) kv2) dX9_process_57 ?_
    obtain ⟨n8, u8, ty8⟩ := P5.ty kvS.1 (by decide) rfl
    refine g_castS (q := (RX6, TX6, 3)) B ty8 rfl q1418 dX9_process_60 ?_
    refine g_aload_n B 0 dX9_process_63 rfl ?_
    refine g_process (bb := born) B P5 Hi (W.inc 0 o) ho hi hx kos.1 hk hls hbi hvi q1419 (Nat.le_of_ble_eq_true rfl) (Nat.le_of_ble_eq_true rfl) (Nat.le_of_ble_eq_true rfl) dX9_process_64 (fun Tf Of Rf pf => ?_)
    obtain ⟨Vf, If, Jf, Pf, Hf⟩ := pf
    refine g_vretL B E rfl dX9_process_67 ?_
    exact ⟨rfl, _, _, _, _, _, fi, ps, Pf, yLe.rf, Hf, Nat.le_refl _, Nat.le_refl _⟩
  · refine g_aload_n B 0 dX9_process_12 rfl ?_
    refine x_get B P1 hx (by decide) rfl F_X9_3_9 (by decide) i25b dX9_process_13 ?_
    refine x_get B P1 h0b (by decide) rfl F_X9_202_0 (by decide) pb13b dX9_process_16 ?_
    refine g_aload_n B 0 dX9_process_19 rfl ?_
    refine x_get B P1 hx (by decide) rfl F_X9_3_9 (by decide) i25b dX9_process_20 ?_
    refine x_get B P1 h0b (by decide) rfl F_X9_163_0 (by decide) nq14b dX9_process_23 ?_
    refine g_iload_n B 3 dX9_process_26 rfl ?_
    refine g_isubN B (by omega) dX9_process_27 ?_
    obtain ⟨n9, u9, ty9⟩ := P1.ty pc13b (by decide) rfl
    refine g_callVL (kc2 := 4 * fi) (ks2 := 18 * fi) (rest := []) B M_X3_add q1412 q1413 q1414 ty9 rfl (c_X3_add P1 Hb pc13b (by omega)) rfl rfl (Nat.le_of_ble_eq_true rfl) (Nat.le_of_ble_eq_true rfl) (Nat.le_of_ble_eq_true rfl) (Nat.le_refl _) (Nat.le_refl _) dX9_process_28 (xkNL (fun T9 O9 R9 kl9 sl9 le9 p9 => ?_))
    obtain ⟨Y9, V9, I9, ps9, P9, H9, f9, k19, k29⟩ := p9
    refine xV.room (kc' := 4 * fi + ps9) (ks' := 18 * fi + ps9) (by omega) (by omega) ?_
    have hx9 := f9.1.at hx
    have hbt9 : V9 9 (3 * o + i) 7 = .int (nI born) := (congrFun (f9.2 9 _ x hx (fun e => by unfold sLa gLa at e; omega)).1 7).trans hbt
    refine g_pick [0, 1, 2, 3] rfl ?_
    obtain ⟨xos, kos⟩ := H9.Op o ho
    obtain ⟨xvk, xsk, kv1, kv2, kvS⟩ := H9.ks0 ho
    have kos7 := kos.2.2.2.2.2.2.1
    obtain ⟨xv9, kv4, kv5⟩ := kos7
    obtain rfl : xv9 = xvk := P9.fn kv5 kv1
    refine g_aload_n B 0 dX9_process_31 rfl ?_
    obtain ⟨n10, u10, ty10⟩ := P9.ty hx9 (by decide) rfl
    refine g_callV (kc2 := (4 * fi + ps9)) (ks2 := (18 * fi + ps9)) (rest := []) B M_X9_self q1391 q1393 qs26 ty10 rfl (c_X9_self P9 H9 ho hi hx9 kos.1) rfl rfl (Nat.le_of_ble_eq_true rfl) (Nat.le_of_ble_eq_true rfl) (Nat.le_of_ble_eq_true rfl) (Nat.le_refl _) (Nat.le_refl _) dX9_process_32 (xkA (fun v10 T10 O10 R10 le10 p10 => ?_))
    obtain ⟨rfl, eT10, eO10, eR10⟩ := p10
    obtain rfl := eT10.symm
    obtain rfl := eO10.symm
    obtain rfl := eR10.symm
    refine g_dup B dX9_process_35 rfl ?_
    refine x_get B P9 kos.1 (by decide) rfl (FO_X9_211 _) (by decide) kos.2.2.2.2.2.2.2.1 dX9_process_36 ?_
    refine g_iconst (v := nI 1) B dX9_process_39 (by decide) ?_
    refine g_iadd B dX9_process_40 ?_
    obtain ⟨q11, hq11, hf11, ht11⟩ := opQ (yK Y9 4 o) 5 (by decide)
    refine x_put B P9 kos.1 (by decide) rfl (FO_X9_211 _) hq11 hf11 ht11 rfl rfl dX9_process_41 (fun O11 V11 hs11 hk11 P11 => ?_)
    have Hi : RepX (a.inc 0 o) tk x0 g0 fi ps9 Y9 V11 I9 J A := H9.incr (k := 0) (xo := xos) (by decide) kos hs11 hk11
    have hbi : V11 9 (3 * o + i) 7 = .int (nI born) := rdR hk11 (by decide) hbt9
    have hvi : V11 1 o 0 = .ref xsk := rdR hk11 (by decide) kv2
    refine g_aload_n B 0 dX9_process_44 rfl ?_
    obtain ⟨n12, u12, ty12⟩ := P11.ty hx9 (by decide) rfl
    refine g_callV (kc2 := (4 * fi + ps9)) (ks2 := (18 * fi + ps9)) (rest := []) B M_X9_self q1391 q1393 qs26 ty12 rfl (c_X9_self P11 Hi ho hi hx9 kos.1) rfl rfl (Nat.le_of_ble_eq_true rfl) (Nat.le_of_ble_eq_true rfl) (Nat.le_of_ble_eq_true rfl) (Nat.le_refl _) (Nat.le_refl _) dX9_process_45 (xkA (fun v12 T12 O12 R12 le12 p12 => ?_))
    obtain ⟨rfl, eT12, eO12, eR12⟩ := p12
    obtain rfl := eT12.symm
    obtain rfl := eO12.symm
    obtain rfl := eR12.symm
    refine g_iload_n B 1 dX9_process_48 rfl ?_
    refine g_iload_n B 2 dX9_process_49 rfl ?_
    refine g_aload_n B 0 dX9_process_50 rfl ?_
    obtain ⟨n13, u13, ty13⟩ := P11.ty hx9 (by decide) rfl
    refine g_callV (kc2 := (4 * fi + ps9)) (ks2 := (18 * fi + ps9)) (rest := [_, _, _]) B M_X9_self q1391 q1393 qs26 ty13 rfl (c_X9_self P11 Hi ho hi hx9 kos.1) rfl rfl (Nat.le_of_ble_eq_true rfl) (Nat.le_of_ble_eq_true rfl) (Nat.le_of_ble_eq_true rfl) (Nat.le_refl _) (Nat.le_refl _) dX9_process_51 (xkA (fun v13 T13 O13 R13 le13 p13 => ?_))
    obtain ⟨rfl, eT13, eO13, eR13⟩ := p13
    obtain rfl := eT13.symm
    obtain rfl := eO13.symm
    obtain rfl := eR13.symm
    refine x_get B P11 kos.1 (by decide) rfl (FO_X9_214 _) (by decide) (rdK hs11 (by decide) kv4) dX9_process_54 ?_
    refine x_get B P11 kv1 (by decide) rfl F_X9_94_1 (by decide) (rdR hk11 (by decide) kv2) dX9_process_57 ?_
    obtain ⟨n14, u14, ty14⟩ := P11.ty kvS.1 (by decide) rfl
    refine g_castS (q := (RX6, TX6, 3)) B ty14 rfl q1418 dX9_process_60 ?_
    refine g_aload_n B 0 dX9_process_63 rfl ?_
    refine g_process (bb := born) B P11 Hi (W.inc 0 o) ho hi hx9 kos.1 hk hls hbi hvi q1419 (Nat.le_of_ble_eq_true rfl) (Nat.le_of_ble_eq_true rfl) (Nat.le_of_ble_eq_true rfl) dX9_process_64 (fun Tf Of Rf pf => ?_)
    obtain ⟨Vf, If, Jf, Pf, Hf⟩ := pf
    refine g_vretL B E rfl dX9_process_67 ?_
    exact ⟨rfl, _, _, _, _, _, fi, ps9, Pf, f9.1.1, Hf, Nat.le_refl _, Nat.le_refl _⟩
