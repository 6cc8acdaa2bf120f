set_option maxRecDepth 100000
/-- the present states of an operator -/
theorem RepX.ks0 {a : aA} {tk x0 g0 fi ps o : Nat} {Y : xY} {V : xVV} {I : xII} {J : xJJ} {A : xVV} (H : RepX a tk x0 g0 fi ps Y V I J A) (ho : o < a.n) : ∃ xv xs, yAt Y 1 o xv ∧ V 1 o 0 = .ref xs ∧ xKs Y V I J 6 35 4001 1021 1022 (3 * o) xs (a.st 0 o) := by
  obtain ⟨xv, q, ⟨k0, k1⟩, k2, -⟩ := H.Ks o ho
  obtain ⟨xs, g1, g2⟩ := k1 0 (by decide)
  exact ⟨xv, xs, k0, g1, g2.cg (fun key hk => ((k2 key hk).1).symm)⟩
theorem RepX.w_st_self {a : aA} {o key : Nat} {s : Option (Int32 × Int32)} (h : a.st 0 o key = s) : a.w_st (up3 a.st 0 o key s) = a := by
  have e : up3 a.st 0 o key s = a.st := by
    funext v x k
    unfold up3
    split
    · rename_i q; obtain ⟨rfl, rfl, rfl⟩ := q; exact h.symm
    · rfl
  rw [e]; rfl
/-- a present state of a key is set anew -/
theorem RepX.setK {a : aA} {tk x0 g0 fi ps o key xs : Nat} {s : Option (Int32 × Int32)} {Y : xY} {V V1 : xVV} {I I1 : xII} {J J1 : xJJ} {A : xVV} (H : RepX a tk x0 g0 fi ps Y V I J A) (ho : o < a.n) (f : xFr (sKs 35 4001 1021 1022 (3 * o)) Y V I J A Y V1 I1 J1 A) (k : xKs Y V1 I1 J1 6 35 4001 1021 1022 (3 * o) xs (up1 (a.st 0 o) key s)) (hx : ∀ x, V 1 o 0 = .ref x → x = xs) : RepX (a.w_st (up3 a.st 0 o key s)) tk x0 g0 fi ps Y V1 I1 J1 A := by
  refine H.w_st (q := up3 a.st 0 o key s) f (fun r c e => by unfold sKs at e; unfold gKs; omega) (H.Ks.one (o := o) f (fun c e => by unfold sKs at e; omega) (fun r c e _ => by unfold sKs at e; omega) (fun v x k hne => up3_n (fun q => hne q.2.1)) ?_)
  obtain ⟨xv, q, ⟨k0, k1⟩, k2, k3⟩ := H.Ks o ho
  have ev : V1 1 o = V 1 o := (f.2 1 o xv k0 (fun e => by unfold sKs at e; omega)).1
  refine ⟨xv, fun v => if v = 0 then up1 (a.st 0 o) key s else q v, ⟨k0, fun v hv => ?_⟩, fun j hj => ⟨?_, ?_⟩, fun j hj ha => ?_⟩
  · obtain ⟨xk, g1, g2⟩ := k1 v hv
    by_cases e : v = 0
    · subst e
      refine ⟨xk, by rw [ev]; exact g1, ?_⟩
      rw [hx xk g1]
      exact k
    · refine ⟨xk, by rw [ev]; exact g1, ?_⟩
      show xKs Y V1 I1 J1 6 35 4001 1021 1022 (3 * o + v) xk (if v = 0 then up1 (a.st 0 o) key s else q v)
      rw [if_neg e]
      exact g2.fr f (fun r _ q => by unfold sKs at q; omega)
  · show up1 (a.st 0 o) key s j = up3 a.st 0 o key s 0 o j
    unfold up1 up3
    by_cases e : j = key
    · rw [if_pos e, if_pos ⟨rfl, rfl, e⟩]
    · rw [if_neg e, if_neg (fun q => e q.2.2)]
  · show q 2 j = up3 a.st 0 o key s 2 o j
    rw [up3_n (fun q => absurd q.1 (by decide))]
    exact (k2 j hj).2
  · show q 1 j = up3 a.st 0 o key s 1 o j
    rw [up3_n (fun q => absurd q.1 (by decide))]
    exact k3 j hj ha
theorem ksRp : ksR 6 35 4001 1021 1022 := by unfold ksR; decide
/-- what process leaves: the same things, other fields -/
def xPr (Y : xY) (A : xVV) (w0 : xW) (b : aA) (tk x0 g0 fi ps : Nat) : xT → xO → xO → Prop := fun T2 O2 R2 => ∃ (V2 : xVV) (I2 : xII) (J2 : xJJ), PX Y V2 I2 J2 A w0 T2 O2 R2 ∧ RepX b tk x0 g0 fi ps Y V2 I2 J2 A
theorem c_X5_process_I {G : xG} {T : xT} {O R : xO} {Y : xY} {V : xVV} {I : xII} {J : xJJ} {A : xVV} {w0 : xW} {a : aA} {tk x0 g0 fi ps : Nat} {Bd : Nat} {o i x xo xs key bb : Nat} {v : Int32} (P : PX Y V I J A w0 T O R) (H : RepX a tk x0 g0 fi ps Y V I J A) (W : WF Bd a) (ho : o < a.n) (hi : i < a.p o) (hx : yAt Y 9 (3 * o + i) x) (hxo : yAt Y 4 o xo) (hkd : a.kd o = 7) (hk : key < 16) (hls : a.ls o i = []) (hbt : V 9 (3 * o + i) 7 = .int (nI bb)) (hxs : V 1 o 0 = .ref xs) : xCtr G yX5_process cX5_process 5 none 5 106 0 0 [.ref xo, .int (nI key), .int v, .ref xs, .ref x] (T, O, R) (xN (xPr Y A w0 (aA.emits o i bb (aProc (a.kd o) (a.pa o) (a.pb o) (a.st 0 o key) key v).1 (a.w_st (up3 a.st 0 o key (aProc (a.kd o) (a.pa o) (a.pb o) (a.st 0 o key) key v).2))) tk x0 g0 fi ps)) := by
  obtain ⟨xv, xs2, hv1, hv2, hS⟩ := H.ks0 ho
  have exs : xs2 = xs := by have q := hv2.symm.trans hxs; injection q with q
  rw [exs] at hS hv2
  have hs6 := hS.1
  refine xCtr.of (by decide +kernel) (Nat.le_of_ble_eq_true rfl) ?_
  intro Z B E hz hnm
  change xV Z (T, O, R) 0 [(0, .ref xo), (1, .int (nI key)), (2, .int v), (3, .ref xs), (4, .ref x)] [] 0 0
  obtain ⟨xo1, ko⟩ := H.Op o ho
  obtain rfl : xo1 = xo := P.fn ko.1 hxo
  have ⟨k0, k1, k2, k3, k4, k5, ⟨xk, k6, k7⟩, k8, k9, k10, k11⟩ := ko
  have k1 : yK Y 4 o = a.kd o := k1
  have k2 : V 4 o 0 = .int (nI (a.kd o)) := k2
  have k3 : V 4 o 1 = .int (a.pa o) := k3
  have k4 : V 4 o 2 = .int (a.pb o) := k4
  have k5 : V 4 o 3 = .int (nI (a.p o)) := k5
  refine g_aload B 4 dX5_process_0 rfl ?_
  refine g_iload_n B 1 dX5_process_2 rfl ?_
  refine g_iload_n B 2 dX5_process_3 rfl ?_
  obtain ⟨n1, u1, ty1⟩ := P.ty hx (by decide) rfl
  refine g_callF (rest := []) B (q := (RX9, TX9, 13)) M_X9_emit ⟨by decide +kernel, by decide +kernel, by decide +kernel⟩ q1529 q1476 q1474 q1472 q1471 q1477 q1475 q1473 ty1 rfl (c_X9_emit (key := key) (bb := bb) (v := v) P H (fun o ho => (W.p1 o ho).2) ho hi hx (by show (a.ls o i).length ≤ 2; rw [hls]; decide) hbt (Or.inl hls)) rfl rfl (Nat.le_of_ble_eq_true rfl) (Nat.le_of_ble_eq_true rfl) (Nat.le_of_ble_eq_true rfl) (Nat.le_refl _) (Nat.le_refl _) dX5_process_4 (xkN (fun T1 O1 R1 le1 p1 => ?_))
  obtain ⟨V1, I1, P1, H1, bt1, or1⟩ := p1
  refine g_vret B E rfl dX5_process_9 ?_
  refine ⟨rfl, ?_⟩
  rw [hkd, aProc_7]
  show xPr Y A w0 (aA.emits o i bb [(key, v)] (a.w_st (up3 a.st 0 o key (a.st 0 o key)))) tk x0 g0 fi ps _ _ _
  rw [RepX.w_st_self rfl]
  exact ⟨_, _, _, P1, H1⟩
theorem c_X15_process_I {G : xG} {T : xT} {O R : xO} {Y : xY} {V : xVV} {I : xII} {J : xJJ} {A : xVV} {w0 : xW} {a : aA} {tk x0 g0 fi ps : Nat} {Bd : Nat} {o i x xo xs key bb : Nat} {v : Int32} (P : PX Y V I J A w0 T O R) (H : RepX a tk x0 g0 fi ps Y V I J A) (W : WF Bd a) (ho : o < a.n) (hi : i < a.p o) (hx : yAt Y 9 (3 * o + i) x) (hxo : yAt Y 4 o xo) (hkd : a.kd o = 0) (hk : key < 16) (hls : a.ls o i = []) (hbt : V 9 (3 * o + i) 7 = .int (nI bb)) (hxs : V 1 o 0 = .ref xs) : xCtr G yX15_process cX15_process 5 none 5 106 0 0 [.ref xo, .int (nI key), .int v, .ref xs, .ref x] (T, O, R) (xN (xPr Y A w0 (aA.emits o i bb (aProc (a.kd o) (a.pa o) (a.pb o) (a.st 0 o key) key v).1 (a.w_st (up3 a.st 0 o key (aProc (a.kd o) (a.pa o) (a.pb o) (a.st 0 o key) key v).2))) tk x0 g0 fi ps)) := by
  obtain ⟨xv, xs2, hv1, hv2, hS⟩ := H.ks0 ho
  have exs : xs2 = xs := by have q := hv2.symm.trans hxs; injection q with q
  rw [exs] at hS hv2
  have hs6 := hS.1
  refine xCtr.of (by decide +kernel) (Nat.le_of_ble_eq_true rfl) ?_
  intro Z B E hz hnm
  change xV Z (T, O, R) 0 [(0, .ref xo), (1, .int (nI key)), (2, .int v), (3, .ref xs), (4, .ref x)] [] 0 0
  obtain ⟨xo1, ko⟩ := H.Op o ho
  obtain rfl : xo1 = xo := P.fn ko.1 hxo
  have ⟨k0, k1, k2, k3, k4, k5, ⟨xk, k6, k7⟩, k8, k9, k10, k11⟩ := ko
  have k1 : yK Y 4 o = a.kd o := k1
  have k2 : V 4 o 0 = .int (nI (a.kd o)) := k2
  have k3 : V 4 o 1 = .int (a.pa o) := k3
  have k4 : V 4 o 2 = .int (a.pb o) := k4
  have k5 : V 4 o 3 = .int (nI (a.p o)) := k5
  refine g_aload B 4 dX15_process_0 rfl ?_
  refine g_iload_n B 1 dX15_process_2 rfl ?_
  refine g_iload_n B 2 dX15_process_3 rfl ?_
  refine g_aload_n B 0 dX15_process_4 rfl ?_
  refine x_get B P hxo (by decide) rfl (FO_X15_9 _) (by decide) k3 dX15_process_5 ?_
  refine g_imul B dX15_process_8 ?_
  refine g_aload_n B 0 dX15_process_9 rfl ?_
  refine x_get B P hxo (by decide) rfl (FO_X15_15 _) (by decide) k4 dX15_process_10 ?_
  refine g_iadd B dX15_process_13 ?_
  obtain ⟨n1, u1, ty1⟩ := P.ty hx (by decide) rfl
  refine g_callF (rest := []) B (q := (RX9, TX9, 13)) M_X9_emit ⟨by decide +kernel, by decide +kernel, by decide +kernel⟩ q1510 q1476 q1474 q1472 q1471 q1477 q1475 q1473 ty1 rfl (c_X9_emit (key := key) (bb := bb) (v := ((v * (a.pa o)) + (a.pb o))) P H (fun o ho => (W.p1 o ho).2) ho hi hx (by show (a.ls o i).length ≤ 2; rw [hls]; decide) hbt (Or.inl hls)) rfl rfl (Nat.le_of_ble_eq_true rfl) (Nat.le_of_ble_eq_true rfl) (Nat.le_of_ble_eq_true rfl) (Nat.le_refl _) (Nat.le_refl _) dX15_process_14 (xkN (fun T1 O1 R1 le1 p1 => ?_))
  obtain ⟨V1, I1, P1, H1, bt1, or1⟩ := p1
  refine g_vret B E rfl dX15_process_19 ?_
  refine ⟨rfl, ?_⟩
  rw [hkd, aProc_0]
  show xPr Y A w0 (aA.emits o i bb [(key, v * a.pa o + a.pb o)] (a.w_st (up3 a.st 0 o key (a.st 0 o key)))) tk x0 g0 fi ps _ _ _
  rw [RepX.w_st_self rfl]
  exact ⟨_, _, _, P1, H1⟩
theorem c_X17_process_I {G : xG} {T : xT} {O R : xO} {Y : xY} {V : xVV} {I : xII} {J : xJJ} {A : xVV} {w0 : xW} {a : aA} {tk x0 g0 fi ps : Nat} {Bd : Nat} {o i x xo xs key bb : Nat} {v : Int32} (P : PX Y V I J A w0 T O R) (H : RepX a tk x0 g0 fi ps Y V I J A) (W : WF Bd a) (ho : o < a.n) (hi : i < a.p o) (hx : yAt Y 9 (3 * o + i) x) (hxo : yAt Y 4 o xo) (hkd : a.kd o = 2) (hk : key < 16) (hls : a.ls o i = []) (hbt : V 9 (3 * o + i) 7 = .int (nI bb)) (hxs : V 1 o 0 = .ref xs) : xCtr G yX17_process cX17_process 5 none 5 106 0 0 [.ref xo, .int (nI key), .int v, .ref xs, .ref x] (T, O, R) (xN (xPr Y A w0 (aA.emits o i bb (aProc (a.kd o) (a.pa o) (a.pb o) (a.st 0 o key) key v).1 (a.w_st (up3 a.st 0 o key (aProc (a.kd o) (a.pa o) (a.pb o) (a.st 0 o key) key v).2))) tk x0 g0 fi ps)) := by
  obtain ⟨xv, xs2, hv1, hv2, hS⟩ := H.ks0 ho
  have exs : xs2 = xs := by have q := hv2.symm.trans hxs; injection q with q
  rw [exs] at hS hv2
  have hs6 := hS.1
  refine xCtr.of (by decide +kernel) (Nat.le_of_ble_eq_true rfl) ?_
  intro Z B E hz hnm
  change xV Z (T, O, R) 0 [(0, .ref xo), (1, .int (nI key)), (2, .int v), (3, .ref xs), (4, .ref x)] [] 0 0
  obtain ⟨xo1, ko⟩ := H.Op o ho
  obtain rfl : xo1 = xo := P.fn ko.1 hxo
  have ⟨k0, k1, k2, k3, k4, k5, ⟨xk, k6, k7⟩, k8, k9, k10, k11⟩ := ko
  have k1 : yK Y 4 o = a.kd o := k1
  have k2 : V 4 o 0 = .int (nI (a.kd o)) := k2
  have k3 : V 4 o 1 = .int (a.pa o) := k3
  have k4 : V 4 o 2 = .int (a.pb o) := k4
  have k5 : V 4 o 3 = .int (nI (a.p o)) := k5
  refine g_aload B 4 dX17_process_0 rfl ?_
  refine g_iload_n B 1 dX17_process_2 rfl ?_
  refine g_aload_n B 0 dX17_process_3 rfl ?_
  refine x_get B P hxo (by decide) rfl (FO_X17_9 _) (by decide) k3 dX17_process_4 ?_
  refine g_imul B dX17_process_7 ?_
  refine g_aload_n B 0 dX17_process_8 rfl ?_
  refine x_get B P hxo (by decide) rfl (FO_X17_15 _) (by decide) k4 dX17_process_9 ?_
  refine g_iadd B dX17_process_12 ?_
  refine g_bipush (v := nI 16) B dX17_process_13 (by decide) ?_
  refine g_callS (rest := [_]) B M_J7_floorMod q1513 q1514 (c_J7_floorMod P) rfl rfl (Nat.le_of_ble_eq_true rfl) (Nat.le_of_ble_eq_true rfl) (Nat.le_of_ble_eq_true rfl) (Nat.le_refl _) (Nat.le_refl _) dX17_process_15 (xkA (fun v1 T1 O1 R1 le1 p1 => ?_))
  obtain ⟨rfl, eT1, eO1, eR1⟩ := p1
  obtain rfl := eT1.symm
  obtain rfl := eO1.symm
  obtain rfl := eR1.symm
  refine g_iload_n B 2 dX17_process_18 rfl ?_
  obtain ⟨n2, u2, ty2⟩ := P.ty hx (by decide) rfl
  refine g_callF (rest := []) B (q := (RX9, TX9, 13)) M_X9_emit ⟨by decide +kernel, by decide +kernel, by decide +kernel⟩ q1517 q1476 q1474 q1472 q1471 q1477 q1475 q1473 ty2 rfl (c_X9_emit (key := (aRk (((nI key) * (a.pa o)) + (a.pb o)))) (bb := bb) (v := v) P H (fun o ho => (W.p1 o ho).2) ho hi hx (by show (a.ls o i).length ≤ 2; rw [hls]; decide) hbt (Or.inl hls)) rfl rfl (Nat.le_of_ble_eq_true rfl) (Nat.le_of_ble_eq_true rfl) (Nat.le_of_ble_eq_true rfl) (Nat.le_refl _) (Nat.le_refl _) dX17_process_19 (xkN (fun T2 O2 R2 le2 p2 => ?_))
  obtain ⟨V2, I2, P2, H2, bt2, or2⟩ := p2
  refine g_vret B E rfl dX17_process_24 ?_
  refine ⟨rfl, ?_⟩
  rw [hkd, aProc_2]
  show xPr Y A w0 (aA.emits o i bb [(aRk (nI key * a.pa o + a.pb o), v)] (a.w_st (up3 a.st 0 o key (a.st 0 o key)))) tk x0 g0 fi ps _ _ _
  rw [RepX.w_st_self rfl]
  exact ⟨_, _, _, P2, H2⟩
theorem c_X16_process_I {G : xG} {T : xT} {O R : xO} {Y : xY} {V : xVV} {I : xII} {J : xJJ} {A : xVV} {w0 : xW} {a : aA} {tk x0 g0 fi ps : Nat} {Bd : Nat} {o i x xo xs key bb : Nat} {v : Int32} (P : PX Y V I J A w0 T O R) (H : RepX a tk x0 g0 fi ps Y V I J A) (W : WF Bd a) (ho : o < a.n) (hi : i < a.p o) (hx : yAt Y 9 (3 * o + i) x) (hxo : yAt Y 4 o xo) (hkd : a.kd o = 1) (hk : key < 16) (hls : a.ls o i = []) (hbt : V 9 (3 * o + i) 7 = .int (nI bb)) (hxs : V 1 o 0 = .ref xs) : xCtr G yX16_process cX16_process 5 none 5 106 0 0 [.ref xo, .int (nI key), .int v, .ref xs, .ref x] (T, O, R) (xN (xPr Y A w0 (aA.emits o i bb (aProc (a.kd o) (a.pa o) (a.pb o) (a.st 0 o key) key v).1 (a.w_st (up3 a.st 0 o key (aProc (a.kd o) (a.pa o) (a.pb o) (a.st 0 o key) key v).2))) tk x0 g0 fi ps)) := by
  obtain ⟨xv, xs2, hv1, hv2, hS⟩ := H.ks0 ho
  have exs : xs2 = xs := by have q := hv2.symm.trans hxs; injection q with q
  rw [exs] at hS hv2
  have hs6 := hS.1
  refine xCtr.of (by decide +kernel) (Nat.le_of_ble_eq_true rfl) ?_
  intro Z B E hz hnm
  change xV Z (T, O, R) 0 [(0, .ref xo), (1, .int (nI key)), (2, .int v), (3, .ref xs), (4, .ref x)] [] 0 0
  obtain ⟨xo1, ko⟩ := H.Op o ho
  obtain rfl : xo1 = xo := P.fn ko.1 hxo
  have ⟨k0, k1, k2, k3, k4, k5, ⟨xk, k6, k7⟩, k8, k9, k10, k11⟩ := ko
  have k1 : yK Y 4 o = a.kd o := k1
  have k2 : V 4 o 0 = .int (nI (a.kd o)) := k2
  have k3 : V 4 o 1 = .int (a.pa o) := k3
  have k4 : V 4 o 2 = .int (a.pb o) := k4
  have k5 : V 4 o 3 = .int (nI (a.p o)) := k5
  refine g_aload_n B 0 dX16_process_0 rfl ?_
  refine x_get B P hxo (by decide) rfl (FO_X16_9 _) (by decide) k3 dX16_process_1 ?_
  refine g_if_ne (tgt := 18) B dX16_process_4 (by decide) (fun c1 => ?_) (fun c1 => ?_)
  · refine g_aload_n B 0 dX16_process_18 rfl ?_
    refine x_get B P hxo (by decide) rfl (FO_X16_9 _) (by decide) k3 dX16_process_19 ?_
    refine g_iconst (v := nI 1) B dX16_process_22 (by decide) ?_
    refine g_icmp_ne (tgt := 37) B dX16_process_23 (by decide) (fun c2 => ?_) (fun c2 => ?_)
    · refine g_iload_n B 2 dX16_process_37 rfl ?_
      refine g_aload_n B 0 dX16_process_38 rfl ?_
      refine x_get B P hxo (by decide) rfl (FO_X16_15 _) (by decide) k4 dX16_process_39 ?_
      refine g_icmp_le (tgt := 54) B dX16_process_42 (by decide) (fun c3 => ?_) (fun c3 => ?_)
      · refine g_vret B E rfl dX16_process_54 ?_
        have hp : aProc (a.kd o) (a.pa o) (a.pb o) (a.st 0 o key) key v = ([], a.st 0 o key) := by rw [hkd, aProc_1, if_neg (fun e => by rw [if_neg c1, if_neg (show ¬ a.pa o = 1 from c2)] at e; exact absurd c3 (Int32.not_le.mpr e))]
        refine ⟨rfl, ?_⟩
        rw [hp]
        show xPr Y A w0 (aA.emits o i bb [] (a.w_st (up3 a.st 0 o key (a.st 0 o key)))) tk x0 g0 fi ps _ _ _
        rw [RepX.w_st_self rfl]
        exact ⟨_, _, _, P, H⟩
      · refine g_aload B 4 dX16_process_45 rfl ?_
        refine g_iload_n B 1 dX16_process_47 rfl ?_
        refine g_iload_n B 2 dX16_process_48 rfl ?_
        obtain ⟨n4, u4, ty4⟩ := P.ty hx (by decide) rfl
        refine g_callF (rest := []) B (q := (RX9, TX9, 13)) M_X9_emit ⟨by decide +kernel, by decide +kernel, by decide +kernel⟩ q1499 q1476 q1474 q1472 q1471 q1477 q1475 q1473 ty4 rfl (c_X9_emit (key := key) (bb := bb) (v := v) P H (fun o ho => (W.p1 o ho).2) ho hi hx (by show (a.ls o i).length ≤ 2; rw [hls]; decide) hbt (Or.inl hls)) rfl rfl (Nat.le_of_ble_eq_true rfl) (Nat.le_of_ble_eq_true rfl) (Nat.le_of_ble_eq_true rfl) (Nat.le_refl _) (Nat.le_refl _) dX16_process_49 (xkN (fun T4 O4 R4 le4 p4 => ?_))
        obtain ⟨V4, I4, P4, H4, bt4, or4⟩ := p4
        refine g_vret B E rfl dX16_process_54 ?_
        have hp : aProc (a.kd o) (a.pa o) (a.pb o) (a.st 0 o key) key v = ([(key, v)], a.st 0 o key) := by rw [hkd, aProc_1, if_pos (by rw [if_neg c1, if_neg (show ¬ a.pa o = 1 from c2)]; exact Int32.not_le.mp c3)]
        refine ⟨rfl, ?_⟩
        rw [hp]
        show xPr Y A w0 (aA.emits o i bb [(key, v)] (a.w_st (up3 a.st 0 o key (a.st 0 o key)))) tk x0 g0 fi ps _ _ _
        rw [RepX.w_st_self rfl]
        exact ⟨_, _, _, P4, H4⟩
    · refine g_iload_n B 2 dX16_process_26 rfl ?_
      refine g_aload_n B 0 dX16_process_27 rfl ?_
      refine x_get B P hxo (by decide) rfl (FO_X16_15 _) (by decide) k4 dX16_process_28 ?_
      refine g_icmp_ne (tgt := 54) B dX16_process_31 (by decide) (fun c5 => ?_) (fun c5 => ?_)
      · refine g_vret B E rfl dX16_process_54 ?_
        have hp : aProc (a.kd o) (a.pa o) (a.pb o) (a.st 0 o key) key v = ([], a.st 0 o key) := by rw [hkd, aProc_1, if_neg (fun e => by rw [if_neg c1, if_pos (show a.pa o = 1 from c2)] at e; exact c5 e)]
        refine ⟨rfl, ?_⟩
        rw [hp]
        show xPr Y A w0 (aA.emits o i bb [] (a.w_st (up3 a.st 0 o key (a.st 0 o key)))) tk x0 g0 fi ps _ _ _
        rw [RepX.w_st_self rfl]
        exact ⟨_, _, _, P, H⟩
      · refine g_goto (tgt := 45) B dX16_process_34 (by decide) ?_
        refine g_aload B 4 dX16_process_45 rfl ?_
        refine g_iload_n B 1 dX16_process_47 rfl ?_
        refine g_iload_n B 2 dX16_process_48 rfl ?_
        obtain ⟨n6, u6, ty6⟩ := P.ty hx (by decide) rfl
        refine g_callF (rest := []) B (q := (RX9, TX9, 13)) M_X9_emit ⟨by decide +kernel, by decide +kernel, by decide +kernel⟩ q1499 q1476 q1474 q1472 q1471 q1477 q1475 q1473 ty6 rfl (c_X9_emit (key := key) (bb := bb) (v := v) P H (fun o ho => (W.p1 o ho).2) ho hi hx (by show (a.ls o i).length ≤ 2; rw [hls]; decide) hbt (Or.inl hls)) rfl rfl (Nat.le_of_ble_eq_true rfl) (Nat.le_of_ble_eq_true rfl) (Nat.le_of_ble_eq_true rfl) (Nat.le_refl _) (Nat.le_refl _) dX16_process_49 (xkN (fun T6 O6 R6 le6 p6 => ?_))
        obtain ⟨V6, I6, P6, H6, bt6, or6⟩ := p6
        refine g_vret B E rfl dX16_process_54 ?_
        have hp : aProc (a.kd o) (a.pa o) (a.pb o) (a.st 0 o key) key v = ([(key, v)], a.st 0 o key) := by rw [hkd, aProc_1, if_pos (by rw [if_neg c1, if_pos (show a.pa o = 1 from c2)]; exact c5)]
        refine ⟨rfl, ?_⟩
        rw [hp]
        show xPr Y A w0 (aA.emits o i bb [(key, v)] (a.w_st (up3 a.st 0 o key (a.st 0 o key)))) tk x0 g0 fi ps _ _ _
        rw [RepX.w_st_self rfl]
        exact ⟨_, _, _, P6, H6⟩
  · refine g_iload_n B 2 dX16_process_7 rfl ?_
    refine g_aload_n B 0 dX16_process_8 rfl ?_
    refine x_get B P hxo (by decide) rfl (FO_X16_15 _) (by decide) k4 dX16_process_9 ?_
    refine g_icmp_ge (tgt := 54) B dX16_process_12 (by decide) (fun c7 => ?_) (fun c7 => ?_)
    · refine g_vret B E rfl dX16_process_54 ?_
      have hp : aProc (a.kd o) (a.pa o) (a.pb o) (a.st 0 o key) key v = ([], a.st 0 o key) := by rw [hkd, aProc_1, if_neg (fun e => by rw [if_pos c1] at e; exact absurd c7 (Int32.not_le.mpr e))]
      refine ⟨rfl, ?_⟩
      rw [hp]
      show xPr Y A w0 (aA.emits o i bb [] (a.w_st (up3 a.st 0 o key (a.st 0 o key)))) tk x0 g0 fi ps _ _ _
      rw [RepX.w_st_self rfl]
      exact ⟨_, _, _, P, H⟩
    · refine g_goto (tgt := 45) B dX16_process_15 (by decide) ?_
      refine g_aload B 4 dX16_process_45 rfl ?_
      refine g_iload_n B 1 dX16_process_47 rfl ?_
      refine g_iload_n B 2 dX16_process_48 rfl ?_
      obtain ⟨n8, u8, ty8⟩ := P.ty hx (by decide) rfl
      refine g_callF (rest := []) B (q := (RX9, TX9, 13)) M_X9_emit ⟨by decide +kernel, by decide +kernel, by decide +kernel⟩ q1499 q1476 q1474 q1472 q1471 q1477 q1475 q1473 ty8 rfl (c_X9_emit (key := key) (bb := bb) (v := v) P H (fun o ho => (W.p1 o ho).2) ho hi hx (by show (a.ls o i).length ≤ 2; rw [hls]; decide) hbt (Or.inl hls)) rfl rfl (Nat.le_of_ble_eq_true rfl) (Nat.le_of_ble_eq_true rfl) (Nat.le_of_ble_eq_true rfl) (Nat.le_refl _) (Nat.le_refl _) dX16_process_49 (xkN (fun T8 O8 R8 le8 p8 => ?_))
      obtain ⟨V8, I8, P8, H8, bt8, or8⟩ := p8
      refine g_vret B E rfl dX16_process_54 ?_
      have hp : aProc (a.kd o) (a.pa o) (a.pb o) (a.st 0 o key) key v = ([(key, v)], a.st 0 o key) := by rw [hkd, aProc_1, if_pos (by rw [if_pos c1]; exact Int32.not_le.mp c7)]
      refine ⟨rfl, ?_⟩
      rw [hp]
      show xPr Y A w0 (aA.emits o i bb [(key, v)] (a.w_st (up3 a.st 0 o key (a.st 0 o key)))) tk x0 g0 fi ps _ _ _
      rw [RepX.w_st_self rfl]
      exact ⟨_, _, _, P8, H8⟩
theorem c_X19_process_I {G : xG} {T : xT} {O R : xO} {Y : xY} {V : xVV} {I : xII} {J : xJJ} {A : xVV} {w0 : xW} {a : aA} {tk x0 g0 fi ps : Nat} {Bd : Nat} {o i x xo xs key bb : Nat} {v : Int32} (P : PX Y V I J A w0 T O R) (H : RepX a tk x0 g0 fi ps Y V I J A) (W : WF Bd a) (ho : o < a.n) (hi : i < a.p o) (hx : yAt Y 9 (3 * o + i) x) (hxo : yAt Y 4 o xo) (hkd : a.kd o = 4) (hk : key < 16) (hls : a.ls o i = []) (hbt : V 9 (3 * o + i) 7 = .int (nI bb)) (hxs : V 1 o 0 = .ref xs) : xCtr G yX19_process cX19_process 7 none 5 106 0 0 [.ref xo, .int (nI key), .int v, .ref xs, .ref x] (T, O, R) (xN (xPr Y A w0 (aA.emits o i bb (aProc (a.kd o) (a.pa o) (a.pb o) (a.st 0 o key) key v).1 (a.w_st (up3 a.st 0 o key (aProc (a.kd o) (a.pa o) (a.pb o) (a.st 0 o key) key v).2))) tk x0 g0 fi ps)) := by
  obtain ⟨xv, xs2, hv1, hv2, hS⟩ := H.ks0 ho
  have exs : xs2 = xs := by have q := hv2.symm.trans hxs; injection q with q
  rw [exs] at hS hv2
  have hs6 := hS.1
  refine xCtr.of (by decide +kernel) (Nat.le_of_ble_eq_true rfl) ?_
  intro Z B E hz hnm
  change xV Z (T, O, R) 0 [(0, .ref xo), (1, .int (nI key)), (2, .int v), (3, .ref xs), (4, .ref x)] [] 0 0
  obtain ⟨xo1, ko⟩ := H.Op o ho
  obtain rfl : xo1 = xo := P.fn ko.1 hxo
  have ⟨k0, k1, k2, k3, k4, k5, ⟨xk, k6, k7⟩, k8, k9, k10, k11⟩ := ko
  have k1 : yK Y 4 o = a.kd o := k1
  have k2 : V 4 o 0 = .int (nI (a.kd o)) := k2
  have k3 : V 4 o 1 = .int (a.pa o) := k3
  have k4 : V 4 o 2 = .int (a.pb o) := k4
  have k5 : V 4 o 3 = .int (nI (a.p o)) := k5
  refine g_aload_n B 3 dX19_process_0 rfl ?_
  refine g_iload_n B 1 dX19_process_1 rfl ?_
  obtain ⟨n1, u1, ty1⟩ := P.ty hs6 (by decide) rfl
  refine g_callV (rest := []) B M_X6_first q1532 q1440 q1441 ty1 rfl (c_X6_first P ksRp hS hk) rfl rfl (Nat.le_of_ble_eq_true rfl) (Nat.le_of_ble_eq_true rfl) (Nat.le_of_ble_eq_true rfl) (Nat.le_refl _) (Nat.le_refl _) dX19_process_2 (xkA (fun v1 T1 O1 R1 le1 p1 => ?_))
  obtain ⟨rfl, eT1, eO1, eR1⟩ := p1
  obtain rfl := eT1.symm
  obtain rfl := eO1.symm
  obtain rfl := eR1.symm
  refine g_iload_n B 2 dX19_process_5 rfl ?_
  refine g_iadd B dX19_process_6 ?_
  refine g_istore (lv2 := [(5, _), (0, _), (1, _), (2, _), (3, _), (4, _)]) B dX19_process_7 (by decide) rfl ?_
  refine g_aload_n B 4 dX19_process_9 rfl ?_
  refine g_iload_n B 2 dX19_process_10 rfl ?_
  obtain ⟨n2, u2, ty2⟩ := P.ty hs6 (by decide) rfl
  refine g_callV (rest := []) B M_X6_second q1533 q1522 q1523 ty2 rfl (c_X6_second P ksRp hS hk) rfl rfl (Nat.le_of_ble_eq_true rfl) (Nat.le_of_ble_eq_true rfl) (Nat.le_of_ble_eq_true rfl) (Nat.le_refl _) (Nat.le_refl _) dX19_process_11 (xkA (fun v2 T2 O2 R2 le2 p2 => ?_))
  obtain ⟨rfl, eT2, eO2, eR2⟩ := p2
  obtain rfl := eT2.symm
  obtain rfl := eO2.symm
  obtain rfl := eR2.symm
  refine g_iconst (v := nI 1) B dX19_process_14 (by decide) ?_
  refine g_iadd B dX19_process_15 ?_
  refine g_istore (lv2 := [(6, _), (5, _), (0, _), (1, _), (2, _), (3, _), (4, _)]) B dX19_process_16 (by decide) rfl ?_
  refine g_iload B 0 dX19_process_18 rfl ?_
  refine g_aload_n B 2 dX19_process_20 rfl ?_
  refine x_get B P hxo (by decide) rfl (FO_X19_18 _) (by decide) k3 dX19_process_21 ?_
  refine g_icmp_ge (tgt := 37) B dX19_process_24 (by decide) (fun c3 => ?_) (fun c3 => ?_)
  · refine g_aload_n B 5 dX19_process_37 rfl ?_
    refine g_iload_n B 3 dX19_process_38 rfl ?_
    obtain ⟨n4, u4, ty4⟩ := P.ty hs6 (by decide) rfl
    refine g_callV (rest := []) B M_X6_remove q1535 q1536 q1537 ty4 rfl (c_X6_remove P ksRp hS hk) rfl rfl (Nat.le_of_ble_eq_true rfl) (Nat.le_of_ble_eq_true rfl) (Nat.le_of_ble_eq_true rfl) (Nat.le_refl _) (Nat.le_refl _) dX19_process_39 (xkN (fun T4 O4 R4 le4 p4 => ?_))
    obtain ⟨Y4, V4, I4, J4, A4, P4, rfl, rfl, S4, f4⟩ := p4
    have H4 := H.setK ho f4 S4 (fun x hx => by have q := hx.symm.trans hv2; injection q)
    have bt4 : V4 9 (3 * o + i) 7 = .int (nI bb) := (congrFun (f4.2 9 _ x hx (fun e => by unfold sKs at e; omega)).1 7).trans hbt
    refine g_aload B 6 dX19_process_42 rfl ?_
    refine g_iload_n B 3 dX19_process_44 rfl ?_
    refine g_iload B 1 dX19_process_45 rfl ?_
    obtain ⟨n5, u5, ty5⟩ := P4.ty hx (by decide) rfl
    refine g_callF (rest := []) B (q := (RX9, TX9, 13)) M_X9_emit ⟨by decide +kernel, by decide +kernel, by decide +kernel⟩ q1549 q1476 q1474 q1472 q1471 q1477 q1475 q1473 ty5 rfl (c_X9_emit (key := key) (bb := bb) (v := (((a.st 0 o key).getD (0, 0)).1 + v)) P4 H4 (fun o ho => (W.p1 o ho).2) ho hi hx (by show (a.ls o i).length ≤ 2; rw [hls]; decide) bt4 (Or.inl hls)) rfl rfl (Nat.le_of_ble_eq_true rfl) (Nat.le_of_ble_eq_true rfl) (Nat.le_of_ble_eq_true rfl) (Nat.le_refl _) (Nat.le_refl _) dX19_process_47 (xkN (fun T5 O5 R5 le5 p5 => ?_))
    obtain ⟨V5, I5, P5, H5, bt5, or5⟩ := p5
    refine g_vret B E rfl dX19_process_52 ?_
    refine ⟨rfl, ?_⟩
    rw [hkd, aProc_4, if_neg (show ¬ ((a.st 0 o key).getD (0, 0)).2 + 1 < a.pa o from fun e => absurd c3 (Int32.not_le.mpr e))]
    exact ⟨_, _, _, P5, H5⟩
  · refine g_aload_n B 5 dX19_process_27 rfl ?_
    refine g_iload_n B 3 dX19_process_28 rfl ?_
    refine g_iload B 1 dX19_process_29 rfl ?_
    refine g_iload B 0 dX19_process_31 rfl ?_
    obtain ⟨n6, u6, ty6⟩ := P.ty hs6 (by decide) rfl
    refine g_callV (rest := []) B M_X6_set q1534 q1445 q1446 ty6 rfl (c_X6_set P ksRp hS hk) rfl rfl (Nat.le_of_ble_eq_true rfl) (Nat.le_of_ble_eq_true rfl) (Nat.le_of_ble_eq_true rfl) (Nat.le_refl _) (Nat.le_refl _) dX19_process_33 (xkN (fun T6 O6 R6 le6 p6 => ?_))
    obtain ⟨Y6, V6, I6, J6, A6, P6, rfl, rfl, S6, f6⟩ := p6
    have H6 := H.setK ho f6 S6 (fun x hx => by have q := hx.symm.trans hv2; injection q)
    have bt6 : V6 9 (3 * o + i) 7 = .int (nI bb) := (congrFun (f6.2 9 _ x hx (fun e => by unfold sKs at e; omega)).1 7).trans hbt
    refine g_vret B E rfl dX19_process_36 ?_
    refine ⟨rfl, ?_⟩
    rw [hkd, aProc_4, if_pos (show ((a.st 0 o key).getD (0, 0)).2 + 1 < a.pa o from Int32.not_le.mp c3)]
    exact ⟨_, _, _, P6, H6⟩
theorem c_X20_process_I {G : xG} {T : xT} {O R : xO} {Y : xY} {V : xVV} {I : xII} {J : xJJ} {A : xVV} {w0 : xW} {a : aA} {tk x0 g0 fi ps : Nat} {Bd : Nat} {o i x xo xs key bb : Nat} {v : Int32} (P : PX Y V I J A w0 T O R) (H : RepX a tk x0 g0 fi ps Y V I J A) (W : WF Bd a) (ho : o < a.n) (hi : i < a.p o) (hx : yAt Y 9 (3 * o + i) x) (hxo : yAt Y 4 o xo) (hkd : a.kd o = 5) (hk : key < 16) (hls : a.ls o i = []) (hbt : V 9 (3 * o + i) 7 = .int (nI bb)) (hxs : V 1 o 0 = .ref xs) : xCtr G yX20_process cX20_process 6 none 5 106 0 0 [.ref xo, .int (nI key), .int v, .ref xs, .ref x] (T, O, R) (xN (xPr Y A w0 (aA.emits o i bb (aProc (a.kd o) (a.pa o) (a.pb o) (a.st 0 o key) key v).1 (a.w_st (up3 a.st 0 o key (aProc (a.kd o) (a.pa o) (a.pb o) (a.st 0 o key) key v).2))) tk x0 g0 fi ps)) := by
  obtain ⟨xv, xs2, hv1, hv2, hS⟩ := H.ks0 ho
  have exs : xs2 = xs := by have q := hv2.symm.trans hxs; injection q with q
  rw [exs] at hS hv2
  have hs6 := hS.1
  refine xCtr.of (by decide +kernel) (Nat.le_of_ble_eq_true rfl) ?_
  intro Z B E hz hnm
  change xV Z (T, O, R) 0 [(0, .ref xo), (1, .int (nI key)), (2, .int v), (3, .ref xs), (4, .ref x)] [] 0 0
  obtain ⟨xo1, ko⟩ := H.Op o ho
  obtain rfl : xo1 = xo := P.fn ko.1 hxo
  have ⟨k0, k1, k2, k3, k4, k5, ⟨xk, k6, k7⟩, k8, k9, k10, k11⟩ := ko
  have k1 : yK Y 4 o = a.kd o := k1
  have k2 : V 4 o 0 = .int (nI (a.kd o)) := k2
  have k3 : V 4 o 1 = .int (a.pa o) := k3
  have k4 : V 4 o 2 = .int (a.pb o) := k4
  have k5 : V 4 o 3 = .int (nI (a.p o)) := k5
  refine g_aload_n B 3 dX20_process_0 rfl ?_
  refine g_iload_n B 1 dX20_process_1 rfl ?_
  obtain ⟨n1, u1, ty1⟩ := P.ty hs6 (by decide) rfl
  refine g_callV (rest := []) B M_X6_has q1425 q1426 q1427 ty1 rfl (c_X6_has P ksRp hS hk) rfl rfl (Nat.le_of_ble_eq_true rfl) (Nat.le_of_ble_eq_true rfl) (Nat.le_of_ble_eq_true rfl) (Nat.le_refl _) (Nat.le_refl _) dX20_process_2 (xkA (fun v1 T1 O1 R1 le1 p1 => ?_))
  obtain ⟨rfl, eT1, eO1, eR1⟩ := p1
  obtain rfl := eT1.symm
  obtain rfl := eO1.symm
  obtain rfl := eR1.symm
  refine g_if_eqB (tgt := 17) B dX20_process_5 (by decide) (fun c2 => ?_) (fun c2 => ?_)
  · refine g_iconst (v := nI 1) B dX20_process_17 (by decide) ?_
    refine g_goto (tgt := 22) B dX20_process_18 (by decide) ?_
    refine g_istore (lv2 := [(5, _), (0, _), (1, _), (2, _), (3, _), (4, _)]) B dX20_process_22 (by decide) rfl ?_
    refine g_aload_n B 4 dX20_process_24 rfl ?_
    refine g_iload_n B 2 dX20_process_25 rfl ?_
    refine g_iload_n B 3 dX20_process_26 rfl ?_
    refine g_iconst (v := nI 0) B dX20_process_27 (by decide) ?_
    obtain ⟨n3, u3, ty3⟩ := P.ty hs6 (by decide) rfl
    refine g_callV (rest := []) B M_X6_set q1444 q1445 q1446 ty3 rfl (c_X6_set P ksRp hS hk) rfl rfl (Nat.le_of_ble_eq_true rfl) (Nat.le_of_ble_eq_true rfl) (Nat.le_of_ble_eq_true rfl) (Nat.le_refl _) (Nat.le_refl _) dX20_process_28 (xkN (fun T3 O3 R3 le3 p3 => ?_))
    obtain ⟨Y3, V3, I3, J3, A3, P3, rfl, rfl, S3, f3⟩ := p3
    have H3 := H.setK ho f3 S3 (fun x hx => by have q := hx.symm.trans hv2; injection q)
    have bt3 : V3 9 (3 * o + i) 7 = .int (nI bb) := (congrFun (f3.2 9 _ x hx (fun e => by unfold sKs at e; omega)).1 7).trans hbt
    refine g_iload B 0 dX20_process_31 rfl ?_
    refine g_if_eqN (tgt := 45) B (by omega) dX20_process_33 (by decide) (fun e => absurd e (by decide)) (fun _ => ?_)
    refine g_aload B 5 dX20_process_36 rfl ?_
    refine g_iload_n B 2 dX20_process_38 rfl ?_
    refine g_iload_n B 3 dX20_process_39 rfl ?_
    obtain ⟨n5, u5, ty5⟩ := P3.ty hx (by decide) rfl
    refine g_callF (rest := []) B (q := (RX9, TX9, 13)) M_X9_emit ⟨by decide +kernel, by decide +kernel, by decide +kernel⟩ q1470 q1476 q1474 q1472 q1471 q1477 q1475 q1473 ty5 rfl (c_X9_emit (key := key) (bb := bb) (v := v) P3 H3 (fun o ho => (W.p1 o ho).2) ho hi hx (by show (a.ls o i).length ≤ 2; rw [hls]; decide) bt3 (Or.inl hls)) rfl rfl (Nat.le_of_ble_eq_true rfl) (Nat.le_of_ble_eq_true rfl) (Nat.le_of_ble_eq_true rfl) (Nat.le_refl _) (Nat.le_refl _) dX20_process_40 (xkN (fun T5 O5 R5 le5 p5 => ?_))
    obtain ⟨V5, I5, P5, H5, bt5, or5⟩ := p5
    refine g_vret B E rfl dX20_process_45 ?_
    refine ⟨rfl, ?_⟩
    rw [hkd, aProc_5, if_neg (fun e => by rw [c2] at e; exact absurd e.1 (by decide))]
    exact ⟨_, _, _, P5, H5⟩
  · refine g_aload_n B 3 dX20_process_8 rfl ?_
    refine g_iload_n B 1 dX20_process_9 rfl ?_
    obtain ⟨n6, u6, ty6⟩ := P.ty hs6 (by decide) rfl
    refine g_callV (rest := []) B M_X6_first q1439 q1440 q1441 ty6 rfl (c_X6_first P ksRp hS hk) rfl rfl (Nat.le_of_ble_eq_true rfl) (Nat.le_of_ble_eq_true rfl) (Nat.le_of_ble_eq_true rfl) (Nat.le_refl _) (Nat.le_refl _) dX20_process_10 (xkA (fun v6 T6 O6 R6 le6 p6 => ?_))
    obtain ⟨rfl, eT6, eO6, eR6⟩ := p6
    obtain rfl := eT6.symm
    obtain rfl := eO6.symm
    obtain rfl := eR6.symm
    refine g_iload_n B 2 dX20_process_13 rfl ?_
    refine g_icmp_eq (tgt := 21) B dX20_process_14 (by decide) (fun c7 => ?_) (fun c7 => ?_)
    · refine g_iconst (v := nI 0) B dX20_process_21 (by decide) ?_
      refine g_istore (lv2 := [(5, _), (0, _), (1, _), (2, _), (3, _), (4, _)]) B dX20_process_22 (by decide) rfl ?_
      refine g_aload_n B 4 dX20_process_24 rfl ?_
      refine g_iload_n B 2 dX20_process_25 rfl ?_
      refine g_iload_n B 3 dX20_process_26 rfl ?_
      refine g_iconst (v := nI 0) B dX20_process_27 (by decide) ?_
      obtain ⟨n8, u8, ty8⟩ := P.ty hs6 (by decide) rfl
      refine g_callV (rest := []) B M_X6_set q1444 q1445 q1446 ty8 rfl (c_X6_set P ksRp hS hk) rfl rfl (Nat.le_of_ble_eq_true rfl) (Nat.le_of_ble_eq_true rfl) (Nat.le_of_ble_eq_true rfl) (Nat.le_refl _) (Nat.le_refl _) dX20_process_28 (xkN (fun T8 O8 R8 le8 p8 => ?_))
      obtain ⟨Y8, V8, I8, J8, A8, P8, rfl, rfl, S8, f8⟩ := p8
      have H8 := H.setK ho f8 S8 (fun x hx => by have q := hx.symm.trans hv2; injection q)
      have bt8 : V8 9 (3 * o + i) 7 = .int (nI bb) := (congrFun (f8.2 9 _ x hx (fun e => by unfold sKs at e; omega)).1 7).trans hbt
      refine g_iload B 0 dX20_process_31 rfl ?_
      refine g_if_eqN (tgt := 45) B (by omega) dX20_process_33 (by decide) (fun _ => ?_) (fun e => absurd e (by decide))
      refine g_vret B E rfl dX20_process_45 ?_
      refine ⟨rfl, ?_⟩
      rw [hkd, aProc_5, if_pos ⟨c2, c7⟩]
      exact ⟨_, _, _, P8, H8⟩
    · refine g_iconst (v := nI 1) B dX20_process_17 (by decide) ?_
      refine g_goto (tgt := 22) B dX20_process_18 (by decide) ?_
      refine g_istore (lv2 := [(5, _), (0, _), (1, _), (2, _), (3, _), (4, _)]) B dX20_process_22 (by decide) rfl ?_
      refine g_aload_n B 4 dX20_process_24 rfl ?_
      refine g_iload_n B 2 dX20_process_25 rfl ?_
      refine g_iload_n B 3 dX20_process_26 rfl ?_
      refine g_iconst (v := nI 0) B dX20_process_27 (by decide) ?_
      obtain ⟨n10, u10, ty10⟩ := P.ty hs6 (by decide) rfl
      refine g_callV (rest := []) B M_X6_set q1444 q1445 q1446 ty10 rfl (c_X6_set P ksRp hS hk) rfl rfl (Nat.le_of_ble_eq_true rfl) (Nat.le_of_ble_eq_true rfl) (Nat.le_of_ble_eq_true rfl) (Nat.le_refl _) (Nat.le_refl _) dX20_process_28 (xkN (fun T10 O10 R10 le10 p10 => ?_))
      obtain ⟨Y10, V10, I10, J10, A10, P10, rfl, rfl, S10, f10⟩ := p10
      have H10 := H.setK ho f10 S10 (fun x hx => by have q := hx.symm.trans hv2; injection q)
      have bt10 : V10 9 (3 * o + i) 7 = .int (nI bb) := (congrFun (f10.2 9 _ x hx (fun e => by unfold sKs at e; omega)).1 7).trans hbt
      refine g_iload B 0 dX20_process_31 rfl ?_
      refine g_if_eqN (tgt := 45) B (by omega) dX20_process_33 (by decide) (fun e => absurd e (by decide)) (fun _ => ?_)
      refine g_aload B 5 dX20_process_36 rfl ?_
      refine g_iload_n B 2 dX20_process_38 rfl ?_
      refine g_iload_n B 3 dX20_process_39 rfl ?_
      obtain ⟨n12, u12, ty12⟩ := P10.ty hx (by decide) rfl
      refine g_callF (rest := []) B (q := (RX9, TX9, 13)) M_X9_emit ⟨by decide +kernel, by decide +kernel, by decide +kernel⟩ q1470 q1476 q1474 q1472 q1471 q1477 q1475 q1473 ty12 rfl (c_X9_emit (key := key) (bb := bb) (v := v) P10 H10 (fun o ho => (W.p1 o ho).2) ho hi hx (by show (a.ls o i).length ≤ 2; rw [hls]; decide) bt10 (Or.inl hls)) rfl rfl (Nat.le_of_ble_eq_true rfl) (Nat.le_of_ble_eq_true rfl) (Nat.le_of_ble_eq_true rfl) (Nat.le_refl _) (Nat.le_refl _) dX20_process_40 (xkN (fun T12 O12 R12 le12 p12 => ?_))
      obtain ⟨V12, I12, P12, H12, bt12, or12⟩ := p12
      refine g_vret B E rfl dX20_process_45 ?_
      refine ⟨rfl, ?_⟩
      rw [hkd, aProc_5, if_neg (fun e => c7 e.2)]
      exact ⟨_, _, _, P12, H12⟩
theorem c_X21_process_I {G : xG} {T : xT} {O R : xO} {Y : xY} {V : xVV} {I : xII} {J : xJJ} {A : xVV} {w0 : xW} {a : aA} {tk x0 g0 fi ps : Nat} {Bd : Nat} {o i x xo xs key bb : Nat} {v : Int32} (P : PX Y V I J A w0 T O R) (H : RepX a tk x0 g0 fi ps Y V I J A) (W : WF Bd a) (ho : o < a.n) (hi : i < a.p o) (hx : yAt Y 9 (3 * o + i) x) (hxo : yAt Y 4 o xo) (hkd : a.kd o = 6) (hk : key < 16) (hls : a.ls o i = []) (hbt : V 9 (3 * o + i) 7 = .int (nI bb)) (hxs : V 1 o 0 = .ref xs) : xCtr G yX21_process cX21_process 5 none 5 106 0 0 [.ref xo, .int (nI key), .int v, .ref xs, .ref x] (T, O, R) (xN (xPr Y A w0 (aA.emits o i bb (aProc (a.kd o) (a.pa o) (a.pb o) (a.st 0 o key) key v).1 (a.w_st (up3 a.st 0 o key (aProc (a.kd o) (a.pa o) (a.pb o) (a.st 0 o key) key v).2))) tk x0 g0 fi ps)) := by
  obtain ⟨xv, xs2, hv1, hv2, hS⟩ := H.ks0 ho
  have exs : xs2 = xs := by have q := hv2.symm.trans hxs; injection q with q
  rw [exs] at hS hv2
  have hs6 := hS.1
  refine xCtr.of (by decide +kernel) (Nat.le_of_ble_eq_true rfl) ?_
  intro Z B E hz hnm
  change xV Z (T, O, R) 0 [(0, .ref xo), (1, .int (nI key)), (2, .int v), (3, .ref xs), (4, .ref x)] [] 0 0
  obtain ⟨xo1, ko⟩ := H.Op o ho
  obtain rfl : xo1 = xo := P.fn ko.1 hxo
  have ⟨k0, k1, k2, k3, k4, k5, ⟨xk, k6, k7⟩, k8, k9, k10, k11⟩ := ko
  have k1 : yK Y 4 o = a.kd o := k1
  have k2 : V 4 o 0 = .int (nI (a.kd o)) := k2
  have k3 : V 4 o 1 = .int (a.pa o) := k3
  have k4 : V 4 o 2 = .int (a.pb o) := k4
  have k5 : V 4 o 3 = .int (nI (a.p o)) := k5
  refine g_aload_n B 3 dX21_process_0 rfl ?_
  refine g_iload_n B 1 dX21_process_1 rfl ?_
  obtain ⟨n1, u1, ty1⟩ := P.ty hs6 (by decide) rfl
  refine g_callV (rest := []) B M_X6_has q1502 q1426 q1427 ty1 rfl (c_X6_has P ksRp hS hk) rfl rfl (Nat.le_of_ble_eq_true rfl) (Nat.le_of_ble_eq_true rfl) (Nat.le_of_ble_eq_true rfl) (Nat.le_refl _) (Nat.le_refl _) dX21_process_2 (xkA (fun v1 T1 O1 R1 le1 p1 => ?_))
  obtain ⟨rfl, eT1, eO1, eR1⟩ := p1
  obtain rfl := eT1.symm
  obtain rfl := eO1.symm
  obtain rfl := eR1.symm
  refine g_if_eqB (tgt := 18) B dX21_process_5 (by decide) (fun c2 => ?_) (fun c2 => ?_)
  · refine g_aload_n B 3 dX21_process_18 rfl ?_
    refine g_iload_n B 1 dX21_process_19 rfl ?_
    refine g_iload_n B 2 dX21_process_20 rfl ?_
    refine g_iconst (v := nI 0) B dX21_process_21 (by decide) ?_
    obtain ⟨n3, u3, ty3⟩ := P.ty hs6 (by decide) rfl
    refine g_callV (rest := []) B M_X6_set q1504 q1445 q1446 ty3 rfl (c_X6_set P ksRp hS hk) rfl rfl (Nat.le_of_ble_eq_true rfl) (Nat.le_of_ble_eq_true rfl) (Nat.le_of_ble_eq_true rfl) (Nat.le_refl _) (Nat.le_refl _) dX21_process_22 (xkN (fun T3 O3 R3 le3 p3 => ?_))
    obtain ⟨Y3, V3, I3, J3, A3, P3, rfl, rfl, S3, f3⟩ := p3
    have H3 := H.setK ho f3 S3 (fun x hx => by have q := hx.symm.trans hv2; injection q)
    have bt3 : V3 9 (3 * o + i) 7 = .int (nI bb) := (congrFun (f3.2 9 _ x hx (fun e => by unfold sKs at e; omega)).1 7).trans hbt
    refine g_aload B 4 dX21_process_25 rfl ?_
    refine g_iload_n B 1 dX21_process_27 rfl ?_
    refine g_iload_n B 2 dX21_process_28 rfl ?_
    obtain ⟨n4, u4, ty4⟩ := P3.ty hx (by decide) rfl
    refine g_callF (rest := []) B (q := (RX9, TX9, 13)) M_X9_emit ⟨by decide +kernel, by decide +kernel, by decide +kernel⟩ q1506 q1476 q1474 q1472 q1471 q1477 q1475 q1473 ty4 rfl (c_X9_emit (key := key) (bb := bb) (v := v) P3 H3 (fun o ho => (W.p1 o ho).2) ho hi hx (by show (a.ls o i).length ≤ 2; rw [hls]; decide) bt3 (Or.inl hls)) rfl rfl (Nat.le_of_ble_eq_true rfl) (Nat.le_of_ble_eq_true rfl) (Nat.le_of_ble_eq_true rfl) (Nat.le_refl _) (Nat.le_refl _) dX21_process_29 (xkN (fun T4 O4 R4 le4 p4 => ?_))
    obtain ⟨V4, I4, P4, H4, bt4, or4⟩ := p4
    refine g_vret B E rfl dX21_process_34 ?_
    refine ⟨rfl, ?_⟩
    rw [hkd, aProc_6, if_neg (fun e => by rw [c2] at e; exact absurd e.1 (by decide))]
    exact ⟨_, _, _, P4, H4⟩
  · refine g_iload_n B 2 dX21_process_8 rfl ?_
    refine g_aload_n B 3 dX21_process_9 rfl ?_
    refine g_iload_n B 1 dX21_process_10 rfl ?_
    obtain ⟨n5, u5, ty5⟩ := P.ty hs6 (by decide) rfl
    refine g_callV (rest := [_]) B M_X6_first q1503 q1440 q1441 ty5 rfl (c_X6_first P ksRp hS hk) rfl rfl (Nat.le_of_ble_eq_true rfl) (Nat.le_of_ble_eq_true rfl) (Nat.le_of_ble_eq_true rfl) (Nat.le_refl _) (Nat.le_refl _) dX21_process_11 (xkA (fun v5 T5 O5 R5 le5 p5 => ?_))
    obtain ⟨rfl, eT5, eO5, eR5⟩ := p5
    obtain rfl := eT5.symm
    obtain rfl := eO5.symm
    obtain rfl := eR5.symm
    refine g_icmp_gt (tgt := 18) B dX21_process_14 (by decide) (fun c6 => ?_) (fun c6 => ?_)
    · refine g_aload_n B 3 dX21_process_18 rfl ?_
      refine g_iload_n B 1 dX21_process_19 rfl ?_
      refine g_iload_n B 2 dX21_process_20 rfl ?_
      refine g_iconst (v := nI 0) B dX21_process_21 (by decide) ?_
      obtain ⟨n7, u7, ty7⟩ := P.ty hs6 (by decide) rfl
      refine g_callV (rest := []) B M_X6_set q1504 q1445 q1446 ty7 rfl (c_X6_set P ksRp hS hk) rfl rfl (Nat.le_of_ble_eq_true rfl) (Nat.le_of_ble_eq_true rfl) (Nat.le_of_ble_eq_true rfl) (Nat.le_refl _) (Nat.le_refl _) dX21_process_22 (xkN (fun T7 O7 R7 le7 p7 => ?_))
      obtain ⟨Y7, V7, I7, J7, A7, P7, rfl, rfl, S7, f7⟩ := p7
      have H7 := H.setK ho f7 S7 (fun x hx => by have q := hx.symm.trans hv2; injection q)
      have bt7 : V7 9 (3 * o + i) 7 = .int (nI bb) := (congrFun (f7.2 9 _ x hx (fun e => by unfold sKs at e; omega)).1 7).trans hbt
      refine g_aload B 4 dX21_process_25 rfl ?_
      refine g_iload_n B 1 dX21_process_27 rfl ?_
      refine g_iload_n B 2 dX21_process_28 rfl ?_
      obtain ⟨n8, u8, ty8⟩ := P7.ty hx (by decide) rfl
      refine g_callF (rest := []) B (q := (RX9, TX9, 13)) M_X9_emit ⟨by decide +kernel, by decide +kernel, by decide +kernel⟩ q1506 q1476 q1474 q1472 q1471 q1477 q1475 q1473 ty8 rfl (c_X9_emit (key := key) (bb := bb) (v := v) P7 H7 (fun o ho => (W.p1 o ho).2) ho hi hx (by show (a.ls o i).length ≤ 2; rw [hls]; decide) bt7 (Or.inl hls)) rfl rfl (Nat.le_of_ble_eq_true rfl) (Nat.le_of_ble_eq_true rfl) (Nat.le_of_ble_eq_true rfl) (Nat.le_refl _) (Nat.le_refl _) dX21_process_29 (xkN (fun T8 O8 R8 le8 p8 => ?_))
      obtain ⟨V8, I8, P8, H8, bt8, or8⟩ := p8
      refine g_vret B E rfl dX21_process_34 ?_
      refine ⟨rfl, ?_⟩
      rw [hkd, aProc_6, if_neg (fun e => absurd e.2 (Int32.not_le.mpr c6))]
      exact ⟨_, _, _, P8, H8⟩
    · refine g_vret B E rfl dX21_process_17 ?_
      refine ⟨rfl, ?_⟩
      rw [hkd, aProc_6, if_pos ⟨c2, Int32.not_lt.mp c6⟩]
      show xPr Y A w0 (a.w_st (up3 a.st 0 o key (a.st 0 o key))) tk x0 g0 fi ps _ _ _
      rw [RepX.w_st_self rfl]
      exact ⟨_, _, _, P, H⟩
theorem c_X8_process_I {G : xG} {T : xT} {O R : xO} {Y : xY} {V : xVV} {I : xII} {J : xJJ} {A : xVV} {w0 : xW} {a : aA} {tk x0 g0 fi ps : Nat} {Bd : Nat} {o i x xo xs key bb : Nat} {v : Int32} (P : PX Y V I J A w0 T O R) (H : RepX a tk x0 g0 fi ps Y V I J A) (W : WF Bd a) (ho : o < a.n) (hi : i < a.p o) (hx : yAt Y 9 (3 * o + i) x) (hxo : yAt Y 4 o xo) (hkd : a.kd o = 8) (hk : key < 16) (hls : a.ls o i = []) (hbt : V 9 (3 * o + i) 7 = .int (nI bb)) (hxs : V 1 o 0 = .ref xs) : xCtr G yX8_process cX8_process 5 none 4 89 0 0 [.ref xo, .int (nI key), .int v, .ref xs, .ref x] (T, O, R) (xN (xPr Y A w0 (aA.emits o i bb (aProc (a.kd o) (a.pa o) (a.pb o) (a.st 0 o key) key v).1 (a.w_st (up3 a.st 0 o key (aProc (a.kd o) (a.pa o) (a.pb o) (a.st 0 o key) key v).2))) tk x0 g0 fi ps)) := by
  obtain ⟨xv, xs2, hv1, hv2, hS⟩ := H.ks0 ho
  have exs : xs2 = xs := by have q := hv2.symm.trans hxs; injection q with q
  rw [exs] at hS hv2
  have hs6 := hS.1
  refine xCtr.of (by decide +kernel) (Nat.le_of_ble_eq_true rfl) ?_
  intro Z B E hz hnm
  change xV Z (T, O, R) 0 [(0, .ref xo), (1, .int (nI key)), (2, .int v), (3, .ref xs), (4, .ref x)] [] 0 0
  obtain ⟨xo1, ko⟩ := H.Op o ho
  obtain rfl : xo1 = xo := P.fn ko.1 hxo
  have ⟨k0, k1, k2, k3, k4, k5, ⟨xk, k6, k7⟩, k8, k9, k10, k11⟩ := ko
  have k1 : yK Y 4 o = a.kd o := k1
  have k2 : V 4 o 0 = .int (nI (a.kd o)) := k2
  have k3 : V 4 o 1 = .int (a.pa o) := k3
  have k4 : V 4 o 2 = .int (a.pb o) := k4
  have k5 : V 4 o 3 = .int (nI (a.p o)) := k5
  refine g_aload_n B 3 dX8_process_0 rfl ?_
  refine g_iload_n B 1 dX8_process_1 rfl ?_
  refine g_aload_n B 3 dX8_process_2 rfl ?_
  refine g_iload_n B 1 dX8_process_3 rfl ?_
  obtain ⟨n1, u1, ty1⟩ := P.ty hs6 (by decide) rfl
  refine g_callV (rest := [_, _]) B M_X6_first q1520 q1440 q1441 ty1 rfl (c_X6_first P ksRp hS hk) rfl rfl (Nat.le_of_ble_eq_true rfl) (Nat.le_of_ble_eq_true rfl) (Nat.le_of_ble_eq_true rfl) (Nat.le_refl _) (Nat.le_refl _) dX8_process_4 (xkA (fun v1 T1 O1 R1 le1 p1 => ?_))
  obtain ⟨rfl, eT1, eO1, eR1⟩ := p1
  obtain rfl := eT1.symm
  obtain rfl := eO1.symm
  obtain rfl := eR1.symm
  refine g_iload_n B 2 dX8_process_7 rfl ?_
  refine g_iadd B dX8_process_8 ?_
  refine g_aload_n B 3 dX8_process_9 rfl ?_
  refine g_iload_n B 1 dX8_process_10 rfl ?_
  obtain ⟨n2, u2, ty2⟩ := P.ty hs6 (by decide) rfl
  refine g_callV (rest := [_, _, _]) B M_X6_second q1521 q1522 q1523 ty2 rfl (c_X6_second P ksRp hS hk) rfl rfl (Nat.le_of_ble_eq_true rfl) (Nat.le_of_ble_eq_true rfl) (Nat.le_of_ble_eq_true rfl) (Nat.le_refl _) (Nat.le_refl _) dX8_process_11 (xkA (fun v2 T2 O2 R2 le2 p2 => ?_))
  obtain ⟨rfl, eT2, eO2, eR2⟩ := p2
  obtain rfl := eT2.symm
  obtain rfl := eO2.symm
  obtain rfl := eR2.symm
  refine g_iconst (v := nI 1) B dX8_process_14 (by decide) ?_
  refine g_iadd B dX8_process_15 ?_
  obtain ⟨n3, u3, ty3⟩ := P.ty hs6 (by decide) rfl
  refine g_callV (rest := []) B M_X6_set q1525 q1445 q1446 ty3 rfl (c_X6_set P ksRp hS hk) rfl rfl (Nat.le_of_ble_eq_true rfl) (Nat.le_of_ble_eq_true rfl) (Nat.le_of_ble_eq_true rfl) (Nat.le_refl _) (Nat.le_refl _) dX8_process_16 (xkN (fun T3 O3 R3 le3 p3 => ?_))
  obtain ⟨Y3, V3, I3, J3, A3, P3, rfl, rfl, S3, f3⟩ := p3
  have H3 := H.setK ho f3 S3 (fun x hx => by have q := hx.symm.trans hv2; injection q)
  have bt3 : V3 9 (3 * o + i) 7 = .int (nI bb) := (congrFun (f3.2 9 _ x hx (fun e => by unfold sKs at e; omega)).1 7).trans hbt
  refine g_vret B E rfl dX8_process_19 ?_
  refine ⟨rfl, ?_⟩
  rw [hkd, aProc_8]
  exact ⟨_, _, _, P3, H3⟩
theorem aA.emits_ls (o i b : Nat) (l : List (Nat × Int32)) (a : aA) : ((aA.emits o i b l a).ls o i).length = (a.ls o i).length + l.length := by
  induction l generalizing a with
  | nil => rfl
  | cons y l ih =>
    show ((aA.emits o i b l (a.emit o i (y.1, y.2, b))).ls o i).length = _
    rw [ih, show (a.emit o i (y.1, y.2, b)).ls o i = a.ls o i ++ [(y.1, y.2, b)] from up2_s, List.length_append, List.length_cons, List.length_cons]
    show _ + 1 + _ = _
    omega
theorem c_X18_process_I {G : xG} {T : xT} {O R : xO} {Y : xY} {V : xVV} {I : xII} {J : xJJ} {A : xVV} {w0 : xW} {a : aA} {tk x0 g0 fi ps : Nat} {Bd : Nat} {o i x xo xs key bb : Nat} {v : Int32} (P : PX Y V I J A w0 T O R) (H : RepX a tk x0 g0 fi ps Y V I J A) (W : WF Bd a) (ho : o < a.n) (hi : i < a.p o) (hx : yAt Y 9 (3 * o + i) x) (hxo : yAt Y 4 o xo) (hkd : a.kd o = 3) (hk : key < 16) (hls : a.ls o i = []) (hbt : V 9 (3 * o + i) 7 = .int (nI bb)) (hxs : V 1 o 0 = .ref xs) : xCtr G yX18_process cX18_process 6 none 5 106 0 0 [.ref xo, .int (nI key), .int v, .ref xs, .ref x] (T, O, R) (xN (xPr Y A w0 (aA.emits o i bb (aProc (a.kd o) (a.pa o) (a.pb o) (a.st 0 o key) key v).1 (a.w_st (up3 a.st 0 o key (aProc (a.kd o) (a.pa o) (a.pb o) (a.st 0 o key) key v).2))) tk x0 g0 fi ps)) := by
  obtain ⟨xv, xs2, hv1, hv2, hS⟩ := H.ks0 ho
  have exs : xs2 = xs := by have q := hv2.symm.trans hxs; injection q with q
  rw [exs] at hS hv2
  have hs6 := hS.1
  refine xCtr.of (by decide +kernel) (Nat.le_of_ble_eq_true rfl) ?_
  intro Z B E hz hnm
  change xV Z (T, O, R) 0 [(0, .ref xo), (1, .int (nI key)), (2, .int v), (3, .ref xs), (4, .ref x)] [] 0 0
  obtain ⟨m, hm3, hpa⟩ := W.k3 o ho hkd
  have hR : (aProc (a.kd o) (a.pa o) (a.pb o) (a.st 0 o key) key v) = ((List.range m).map (fun j => (key, v + nI j)), a.st 0 o key) := by rw [hkd, aProc_3, hpa, nI_clamp (by omega)]
  refine g_iconst (v := nI 0) B dX18_process_0 (by decide) ?_
  refine g_istore (lv2 := [(5, _), (0, _), (1, _), (2, _), (3, _), (4, _)]) B dX18_process_1 (by decide) rfl ?_
  have L : ∀ (d : Nat) (k : Nat) (b : aA) (V1 : xVV) (I1 : xII) (T1 : xT) (O1 R1 : xO), d = m - k → PX Y V1 I1 J A w0 T1 O1 R1 → (k ≤ m) → (b = aA.emits o i bb ((List.range k).map (fun j => (key, v + nI j))) a) → ((b.ls o i).length = k) → (RepX b tk x0 g0 fi ps Y V1 I1 J A) → (V1 9 (3 * o + i) 7 = .int (nI bb)) → (k = 0 ∨ V1 9 (3 * o + i) 5 = .int (nI 0)) → xV Z (T1, O1, R1) 3 [(5, .int (nI k)), (0, .ref xo), (1, .int (nI key)), (2, .int v), (3, .ref xs), (4, .ref x)] [] 0 0 := by
    intro d
    induction d using Nat.strongRecOn with
    | _ d ih =>
      intro k b V1 I1 T1 O1 R1 hd P1 hkm hb hln H1 bt1 or1
      have st1 : sSt b a := by rw [hb]; exact sSt.emits _ _ _ _ _
      have bn : b.n = a.n := st1.n
      have bpp : b.p = a.p := funext st1.p
      have bcf : b.cf = a.cf := st1.2.1
      have ho1 : o < b.n := by rw [bn]; exact ho
      obtain ⟨xo1, ko1⟩ := H1.Op o ho1
      have exo : xo1 = xo := P1.fn ko1.1 hxo
      have k31 : V1 4 o 1 = .int (nI m) := by have q := ko1.2.2.2.1; rw [q]; exact congrArg Value.int ((st1.pa o).trans hpa)
      refine g_iload B 0 dX18_process_3 rfl ?_
      refine g_aload_n B 1 dX18_process_5 rfl ?_
      refine x_get B P1 hxo (by decide) rfl (FO_X18_9 _) (by decide) k31 dX18_process_6 ?_
      refine g_icmp_geN (tgt := 30) B (by omega) (by omega) dX18_process_9 (by decide) (fun c101 => ?_) (fun c101 => ?_)
      · refine g_vret B E rfl dX18_process_30 ?_
        have em : k = m := by omega
        refine ⟨rfl, ?_⟩
        rw [hR]
        show xPr Y A w0 (aA.emits o i bb ((List.range m).map (fun j => (key, v + nI j))) (a.w_st (up3 a.st 0 o key (a.st 0 o key)))) tk x0 g0 fi ps _ _ _
        rw [RepX.w_st_self rfl]
        rw [em] at hb
        rw [hb] at H1
        exact ⟨_, _, _, P1, H1⟩
      · refine g_aload B 5 dX18_process_12 rfl ?_
        refine g_iload_n B 2 dX18_process_14 rfl ?_
        refine g_iload_n B 3 dX18_process_15 rfl ?_
        refine g_iload B 0 dX18_process_16 rfl ?_
        refine g_iadd B dX18_process_18 ?_
        obtain ⟨n102, u102, ty102⟩ := P1.ty hx (by decide) rfl
        refine g_callF (rest := []) B (q := (RX9, TX9, 13)) M_X9_emit ⟨by decide +kernel, by decide +kernel, by decide +kernel⟩ q1495 q1476 q1474 q1472 q1471 q1477 q1475 q1473 ty102 rfl (c_X9_emit (key := key) (bb := bb) (v := (v + (nI k))) P1 H1 (by rw [bn, bpp]; exact fun o ho => (W.p1 o ho).2) ho1 (by rw [bpp]; exact hi) hx (by rw [hln]; omega) bt1 (by rcases or1 with q | q; exact Or.inl (List.eq_nil_of_length_eq_zero (by rw [hln, q])); exact Or.inr q)) rfl rfl (Nat.le_of_ble_eq_true rfl) (Nat.le_of_ble_eq_true rfl) (Nat.le_of_ble_eq_true rfl) (Nat.le_refl _) (Nat.le_refl _) dX18_process_19 (xkN (fun T102 O102 R102 le102 p102 => ?_))
        obtain ⟨V102, I102, P102, H102, bt102, or102⟩ := p102
        refine g_iinc (v := nI (k + 1)) (lv2 := [(5, _), (0, _), (1, _), (2, _), (3, _), (4, _)]) B 0 dX18_process_24 rfl (nI_1 _) (by decide) rfl ?_
        refine g_goto (tgt := 3) B dX18_process_27 (by decide) ?_
        exact ih ((m - (k + 1))) ((by omega)) (k + 1) (b.emit o i (key, v + nI k, bb)) _ _ _ _ _ rfl P102 (by omega) (by rw [List.range_succ, List.map_append, List.map_cons, List.map_nil, aA.emits_app, ← hb]) (by rw [show (b.emit o i (key, v + nI k, bb)).ls o i = b.ls o i ++ [(key, v + nI k, bb)] from up2_s, List.length_append, hln]; rfl) H102 bt102 (Or.inr or102)
  exact L _ 0 a _ _ _ _ _ rfl P (Nat.zero_le _) rfl (by rw [hls]; rfl) H hbt (Or.inl rfl)
