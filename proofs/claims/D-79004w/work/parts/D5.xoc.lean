set_option maxRecDepth 100000
theorem opQF (k j : Nat) (hj : j = 0 ∨ j = 1 ∨ j = 2 ∨ j = 4) : ∃ q, xC (opR k) = some q ∧ j < q.2.2 ∧ q.2.1 j = TX15 j := by
  unfold opR
  split
  · rcases hj with rfl | rfl | rfl | rfl <;> exact ⟨(RX15, TX15, 9), rfl, by decide, rfl⟩
  · rcases hj with rfl | rfl | rfl | rfl <;> exact ⟨(RX16, TX16, 9), rfl, by decide, rfl⟩
  · rcases hj with rfl | rfl | rfl | rfl <;> exact ⟨(RX17, TX17, 9), rfl, by decide, rfl⟩
  · rcases hj with rfl | rfl | rfl | rfl <;> exact ⟨(RX18, TX18, 9), rfl, by decide, rfl⟩
  · rcases hj with rfl | rfl | rfl | rfl <;> exact ⟨(RX19, TX19, 9), rfl, by decide, rfl⟩
  · rcases hj with rfl | rfl | rfl | rfl <;> exact ⟨(RX20, TX20, 9), rfl, by decide, rfl⟩
  · rcases hj with rfl | rfl | rfl | rfl <;> exact ⟨(RX21, TX21, 9), rfl, by decide, rfl⟩
  · rcases hj with rfl | rfl | rfl | rfl <;> exact ⟨(RX5, TX5, 9), rfl, by decide, rfl⟩
  · rcases hj with rfl | rfl | rfl | rfl <;> exact ⟨(RX8, TX8, 9), rfl, by decide, rfl⟩
theorem ksNp : ksN 6 35 4001 1021 1022 := ⟨ksRp, by unfold okA; decide, by unfold okA; decide, by unfold okA; decide, by unfold idR; decide, by unfold idR; decide, by unfold idR; decide, by unfold idR; decide, by unfold idR; decide⟩
/-- a new operator -/
def xOn (Y : xY) (V : xVV) (I : xII) (J : xJJ) (o xo : Nat) (op : Nat × Int32 × Int32 × Nat) : Prop := xOp Y V o xo op (fun _ => nI 0) ∧ ∃ xk, V 4 o 4 = .ref xk ∧ xVk Y V I J 1 6 35 4001 1021 1022 o xk (fun _ _ => none)
def sON (o : Nat) : Nat → Nat → Prop := fun r c => (r = 4 ∧ c = o) ∨ sVN 1 6 35 4001 1021 1022 o r c
def zOp (Y : xY) (V : xVV) (o xo kd : Nat) : Prop := yAt Y 4 o xo ∧ yK Y 4 o = kd ∧ V 4 o 5 = .int (nI 0) ∧ V 4 o 6 = .int (nI 0) ∧ V 4 o 7 = .int (nI 0) ∧ V 4 o 8 = .int (nI 0)
def oNo (Y : xY) (o : Nat) : Prop := yNo Y 1 o ∧ ∀ v, v < 3 → kNo Y 6 35 4001 1021 1022 (3 * o + v)
def xOnP (w0 : xW) (Y : xY) (V : xVV) (I : xII) (J : xJJ) (A : xVV) (o xo : Nat) (op : Nat × Int32 × Int32 × Nat) : xT → xO → xO → Prop := xPN w0 (fun Y2 V2 I2 J2 A2 => A2 = A ∧ xOn Y2 V2 I2 J2 o xo op ∧ xFr (sON o) Y V I J A Y2 V2 I2 J2 A2)
theorem c_X4_init {G : xG} {T : xT} {O R : xO} {Y : xY} {V : xVV} {I : xII} {J : xJJ} {A : xVV} {w0 : xW} {o xo : Nat} {kd p : Nat} {pa pb : Int32} (P : PX Y V I J A w0 T O R) (z : zOp Y V o xo kd) (no : oNo Y o) : xCtr G yX4_init cX4_init 5 none 5 101 16 120 [.ref xo, .int (nI kd), .int pa, .int pb, .int (nI p)] (T, O, R) (xN (xOnP w0 Y V I J A o xo (kd, pa, pb, p))) := by
  refine xCtr.of (by decide +kernel) (Nat.le_of_ble_eq_true rfl) ?_
  intro Z B E hz hnm
  change xV Z (T, O, R) 0 [(0, .ref xo), (1, .int (nI kd)), (2, .int pa), (3, .int pb), (4, .int (nI p))] [] 16 120
  refine g_aload_n B 0 dX4_init_0 rfl ?_
  refine g_objInit B q288 q161 q162 (by decide) (by decide) dX4_init_1 ?_
  refine g_aload_n B 0 dX4_init_4 rfl ?_
  refine g_callSN (kc2 := 0) (ks2 := 0) (rest := [_]) B M_X0_keyStates q289 q290 (c_X0_keyStates (rv := 1) (o := o) P (by decide) rfl (by unfold idR; decide) ksNp no.1 no.2) rfl rfl (Nat.le_of_ble_eq_true rfl) (Nat.le_of_ble_eq_true rfl) (Nat.le_of_ble_eq_true rfl) (by decide) (by decide) dX4_init_5 (xkA (fun v1 T1 O1 R1 le1 p1 => ?_))
  obtain ⟨Y1, V1, I1, J1, A1, P1, rfl, x1, rfl, k1, f1⟩ := p1
  obtain ⟨q2, hq2, hj2, he2⟩ := opQF (yK Y1 4 o) 4 (by decide)
  refine x_putF (k := 4) (ty := tyX15 4) B P1 hnm (f1.1.at z.1) (by decide) rfl hq2 hj2 (by rw [he2]; exact q359) (by rw [he2]; rfl) (by rw [he2]; rfl) (by rw [he2]; exact tyX15_ok 4 (by decide)) rfl rfl dX4_init_8 (fun O2 V2 hs2 hk2 P2 => ?_)
  refine g_aload_n B 0 dX4_init_11 rfl ?_
  refine g_iload_n B 1 dX4_init_12 rfl ?_
  obtain ⟨q3, hq3, hj3, he3⟩ := opQF (yK Y1 4 o) 0 (by decide)
  refine x_putF (k := 0) (ty := tyX15 0) B P2 hnm (f1.1.at z.1) (by decide) rfl hq3 hj3 (by rw [he3]; exact q332) (by rw [he3]; rfl) (by rw [he3]; rfl) (by rw [he3]; exact tyX15_ok 0 (by decide)) rfl rfl dX4_init_13 (fun O3 V3 hs3 hk3 P3 => ?_)
  refine g_aload_n B 0 dX4_init_16 rfl ?_
  refine g_iload_n B 2 dX4_init_17 rfl ?_
  obtain ⟨q4, hq4, hj4, he4⟩ := opQF (yK Y1 4 o) 1 (by decide)
  refine x_putF (k := 1) (ty := tyX15 1) B P3 hnm (f1.1.at z.1) (by decide) rfl hq4 hj4 (by rw [he4]; exact q334) (by rw [he4]; rfl) (by rw [he4]; rfl) (by rw [he4]; exact tyX15_ok 1 (by decide)) rfl rfl dX4_init_18 (fun O4 V4 hs4 hk4 P4 => ?_)
  refine g_aload_n B 0 dX4_init_21 rfl ?_
  refine g_iload_n B 3 dX4_init_22 rfl ?_
  obtain ⟨q5, hq5, hj5, he5⟩ := opQF (yK Y1 4 o) 2 (by decide)
  refine x_putF (k := 2) (ty := tyX15 2) B P4 hnm (f1.1.at z.1) (by decide) rfl hq5 hj5 (by rw [he5]; exact q346) (by rw [he5]; rfl) (by rw [he5]; rfl) (by rw [he5]; exact tyX15_ok 2 (by decide)) rfl rfl dX4_init_23 (fun O5 V5 hs5 hk5 P5 => ?_)
  refine g_aload_n B 0 dX4_init_26 rfl ?_
  refine g_iload B 4 dX4_init_27 rfl ?_
  obtain ⟨q6, hq6, hf6, ht6⟩ := opQ (yK Y1 4 o) 3 (by decide)
  refine x_put B P5 (f1.1.at z.1) (by decide) rfl (FO_X4_29 _) hq6 hf6 ht6 rfl rfl dX4_init_29 (fun O6 V6 hs6 hk6 P6 => ?_)
  refine g_vret B E rfl dX4_init_32 ?_
  have SS := k1.fr (A := A) (A1 := A) ((((((xFr.uV (S := (fun r c => r = 4 ∧ c = o)) (r := 4) (o := o) ⟨rfl, rfl⟩ hs2 hk2).tr (xFr.uV (S := (fun r c => r = 4 ∧ c = o)) (r := 4) (o := o) ⟨rfl, rfl⟩ hs3 hk3)).tr (xFr.uV (S := (fun r c => r = 4 ∧ c = o)) (r := 4) (o := o) ⟨rfl, rfl⟩ hs4 hk4)).tr (xFr.uV (S := (fun r c => r = 4 ∧ c = o)) (r := 4) (o := o) ⟨rfl, rfl⟩ hs5 hk5)).tr (xFr.uV (S := (fun r c => r = 4 ∧ c = o)) (r := 4) (o := o) ⟨rfl, rfl⟩ hs6 hk6))) (by intro e; exact absurd e.1 (by decide)) (fun r v hv hr e => by have := e.1; omega)
  have fz : xFr (sON o) Y V I J A Y1 V6 I1 J1 A := ((((((f1.mono (S2 := (sON o)) (fun r c e => Or.inr e)).tr (xFr.uV (S := (sON o)) (r := 4) (o := o) (Or.inl ⟨rfl, rfl⟩) hs2 hk2)).tr (xFr.uV (S := (sON o)) (r := 4) (o := o) (Or.inl ⟨rfl, rfl⟩) hs3 hk3)).tr (xFr.uV (S := (sON o)) (r := 4) (o := o) (Or.inl ⟨rfl, rfl⟩) hs4 hk4)).tr (xFr.uV (S := (sON o)) (r := 4) (o := o) (Or.inl ⟨rfl, rfl⟩) hs5 hk5)).tr (xFr.uV (S := (sON o)) (r := 4) (o := o) (Or.inl ⟨rfl, rfl⟩) hs6 hk6))
  exact ⟨rfl, _, _, _, _, _, P6, rfl, ⟨⟨(f1.1.at z.1), f1.1.k z.1 z.2.1, (rdK hs6 (by decide) (rdK hs5 (by decide) (rdK hs4 (by decide) (rdS hs3)))), (rdK hs6 (by decide) (rdK hs5 (by decide) (rdS hs4))), (rdK hs6 (by decide) (rdS hs5)), (rdS hs6), ⟨_, (rdK hs6 (by decide) (rdK hs5 (by decide) (rdK hs4 (by decide) (rdK hs3 (by decide) (rdS hs2))))), SS.1⟩, (rdK hs6 (by decide) (rdK hs5 (by decide) (rdK hs4 (by decide) (rdK hs3 (by decide) (rdK hs2 (by decide) ((congrFun (f1.2 _ _ _ z.1 (fun e => by unfold sVN at e; omega)).1 5).trans z.2.2.1)))))), (rdK hs6 (by decide) (rdK hs5 (by decide) (rdK hs4 (by decide) (rdK hs3 (by decide) (rdK hs2 (by decide) ((congrFun (f1.2 _ _ _ z.1 (fun e => by unfold sVN at e; omega)).1 6).trans z.2.2.2.1)))))), (rdK hs6 (by decide) (rdK hs5 (by decide) (rdK hs4 (by decide) (rdK hs3 (by decide) (rdK hs2 (by decide) ((congrFun (f1.2 _ _ _ z.1 (fun e => by unfold sVN at e; omega)).1 7).trans z.2.2.2.2.1)))))), (rdK hs6 (by decide) (rdK hs5 (by decide) (rdK hs4 (by decide) (rdK hs3 (by decide) (rdK hs2 (by decide) ((congrFun (f1.2 _ _ _ z.1 (fun e => by unfold sVN at e; omega)).1 8).trans z.2.2.2.2.2))))))⟩, _, (rdK hs6 (by decide) (rdK hs5 (by decide) (rdK hs4 (by decide) (rdK hs3 (by decide) (rdS hs2))))), SS⟩, fz⟩
theorem c_X7_init {G : xG} {T : xT} {O R : xO} {Y : xY} {V : xVV} {I : xII} {J : xJJ} {A : xVV} {w0 : xW} {o xo : Nat} {kd p : Nat} {pa : Int32} (P : PX Y V I J A w0 T O R) (z : zOp Y V o xo kd) (no : oNo Y o) : xCtr G yX7_init cX7_init 4 none 6 125 16 120 [.ref xo, .int (nI kd), .int pa, .int (nI p)] (T, O, R) (xN (xOnP w0 Y V I J A o xo (kd, pa, nI 0, p))) := by
  refine xCtr.of (by decide +kernel) (Nat.le_of_ble_eq_true rfl) ?_
  intro Z B E hz hnm
  change xV Z (T, O, R) 0 [(0, .ref xo), (1, .int (nI kd)), (2, .int pa), (3, .int (nI p))] [] 16 120
  refine g_aload_n B 0 dX7_init_0 rfl ?_
  refine g_iload_n B 1 dX7_init_1 rfl ?_
  refine g_iload_n B 2 dX7_init_2 rfl ?_
  refine g_iconst (v := nI 0) B dX7_init_3 (by decide) ?_
  refine g_iload_n B 3 dX7_init_4 rfl ?_
  refine g_callI (kc2 := 0) (ks2 := 0) (rest := []) B M_X4_init rfl q483 q286 (c_X4_init (kd := kd) (pa := pa) (pb := nI 0) (p := p) P z no) rfl rfl (Nat.le_of_ble_eq_true rfl) (Nat.le_of_ble_eq_true rfl) (Nat.le_of_ble_eq_true rfl) (by decide) (by decide) dX7_init_5 (xkN (fun T1 O1 R1 le1 p1 => ?_))
  obtain ⟨Y1, r1⟩ := p1
  refine g_vret B E rfl dX7_init_8 ?_
  exact ⟨rfl, _, r1⟩
theorem c_X15_init {G : xG} {T : xT} {O R : xO} {Y : xY} {V : xVV} {I : xII} {J : xJJ} {A : xVV} {w0 : xW} {o xo : Nat} {p : Nat} {pa pb : Int32} (P : PX Y V I J A w0 T O R) (z : zOp Y V o xo 0) (no : oNo Y o) : xCtr G yX15_init cX15_init 4 none 6 125 16 120 [.ref xo, .int pa, .int pb, .int (nI p)] (T, O, R) (xN (xOnP w0 Y V I J A o xo (0, pa, pb, p))) := by
  refine xCtr.of (by decide +kernel) (Nat.le_of_ble_eq_true rfl) ?_
  intro Z B E hz hnm
  change xV Z (T, O, R) 0 [(0, .ref xo), (1, .int pa), (2, .int pb), (3, .int (nI p))] [] 16 120
  refine g_aload_n B 0 dX15_init_0 rfl ?_
  refine g_iconst (v := nI 0) B dX15_init_1 (by decide) ?_
  refine g_iload_n B 1 dX15_init_2 rfl ?_
  refine g_iload_n B 2 dX15_init_3 rfl ?_
  refine g_iload_n B 3 dX15_init_4 rfl ?_
  refine g_callI (kc2 := 0) (ks2 := 0) (rest := []) B M_X4_init rfl q2213 q286 (c_X4_init (kd := 0) (pa := pa) (pb := pb) (p := p) P z no) rfl rfl (Nat.le_of_ble_eq_true rfl) (Nat.le_of_ble_eq_true rfl) (Nat.le_of_ble_eq_true rfl) (by decide) (by decide) dX15_init_5 (xkN (fun T1 O1 R1 le1 p1 => ?_))
  obtain ⟨Y1, r1⟩ := p1
  refine g_vret B E rfl dX15_init_8 ?_
  exact ⟨rfl, _, r1⟩
theorem c_X16_init {G : xG} {T : xT} {O R : xO} {Y : xY} {V : xVV} {I : xII} {J : xJJ} {A : xVV} {w0 : xW} {o xo : Nat} {p : Nat} {pa pb : Int32} (P : PX Y V I J A w0 T O R) (z : zOp Y V o xo 1) (no : oNo Y o) : xCtr G yX16_init cX16_init 4 none 6 125 16 120 [.ref xo, .int pa, .int pb, .int (nI p)] (T, O, R) (xN (xOnP w0 Y V I J A o xo (1, pa, pb, p))) := by
  refine xCtr.of (by decide +kernel) (Nat.le_of_ble_eq_true rfl) ?_
  intro Z B E hz hnm
  change xV Z (T, O, R) 0 [(0, .ref xo), (1, .int pa), (2, .int pb), (3, .int (nI p))] [] 16 120
  refine g_aload_n B 0 dX16_init_0 rfl ?_
  refine g_iconst (v := nI 1) B dX16_init_1 (by decide) ?_
  refine g_iload_n B 1 dX16_init_2 rfl ?_
  refine g_iload_n B 2 dX16_init_3 rfl ?_
  refine g_iload_n B 3 dX16_init_4 rfl ?_
  refine g_callI (kc2 := 0) (ks2 := 0) (rest := []) B M_X4_init rfl q2229 q286 (c_X4_init (kd := 1) (pa := pa) (pb := pb) (p := p) P z no) rfl rfl (Nat.le_of_ble_eq_true rfl) (Nat.le_of_ble_eq_true rfl) (Nat.le_of_ble_eq_true rfl) (by decide) (by decide) dX16_init_5 (xkN (fun T1 O1 R1 le1 p1 => ?_))
  obtain ⟨Y1, r1⟩ := p1
  refine g_vret B E rfl dX16_init_8 ?_
  exact ⟨rfl, _, r1⟩
theorem c_X17_init {G : xG} {T : xT} {O R : xO} {Y : xY} {V : xVV} {I : xII} {J : xJJ} {A : xVV} {w0 : xW} {o xo : Nat} {p : Nat} {pa pb : Int32} (P : PX Y V I J A w0 T O R) (z : zOp Y V o xo 2) (no : oNo Y o) : xCtr G yX17_init cX17_init 4 none 6 125 16 120 [.ref xo, .int pa, .int pb, .int (nI p)] (T, O, R) (xN (xOnP w0 Y V I J A o xo (2, pa, pb, p))) := by
  refine xCtr.of (by decide +kernel) (Nat.le_of_ble_eq_true rfl) ?_
  intro Z B E hz hnm
  change xV Z (T, O, R) 0 [(0, .ref xo), (1, .int pa), (2, .int pb), (3, .int (nI p))] [] 16 120
  refine g_aload_n B 0 dX17_init_0 rfl ?_
  refine g_iconst (v := nI 2) B dX17_init_1 (by decide) ?_
  refine g_iload_n B 1 dX17_init_2 rfl ?_
  refine g_iload_n B 2 dX17_init_3 rfl ?_
  refine g_iload_n B 3 dX17_init_4 rfl ?_
  refine g_callI (kc2 := 0) (ks2 := 0) (rest := []) B M_X4_init rfl q2245 q286 (c_X4_init (kd := 2) (pa := pa) (pb := pb) (p := p) P z no) rfl rfl (Nat.le_of_ble_eq_true rfl) (Nat.le_of_ble_eq_true rfl) (Nat.le_of_ble_eq_true rfl) (by decide) (by decide) dX17_init_5 (xkN (fun T1 O1 R1 le1 p1 => ?_))
  obtain ⟨Y1, r1⟩ := p1
  refine g_vret B E rfl dX17_init_8 ?_
  exact ⟨rfl, _, r1⟩
theorem c_X18_init {G : xG} {T : xT} {O R : xO} {Y : xY} {V : xVV} {I : xII} {J : xJJ} {A : xVV} {w0 : xW} {o xo : Nat} {p : Nat} {pa : Int32} (P : PX Y V I J A w0 T O R) (z : zOp Y V o xo 3) (no : oNo Y o) : xCtr G yX18_init cX18_init 3 none 6 125 16 120 [.ref xo, .int pa, .int (nI p)] (T, O, R) (xN (xOnP w0 Y V I J A o xo (3, pa, nI 0, p))) := by
  refine xCtr.of (by decide +kernel) (Nat.le_of_ble_eq_true rfl) ?_
  intro Z B E hz hnm
  change xV Z (T, O, R) 0 [(0, .ref xo), (1, .int pa), (2, .int (nI p))] [] 16 120
  refine g_aload_n B 0 dX18_init_0 rfl ?_
  refine g_iconst (v := nI 3) B dX18_init_1 (by decide) ?_
  refine g_iload_n B 1 dX18_init_2 rfl ?_
  refine g_iconst (v := nI 0) B dX18_init_3 (by decide) ?_
  refine g_iload_n B 2 dX18_init_4 rfl ?_
  refine g_callI (kc2 := 0) (ks2 := 0) (rest := []) B M_X4_init rfl q2261 q286 (c_X4_init (kd := 3) (pa := pa) (pb := nI 0) (p := p) P z no) rfl rfl (Nat.le_of_ble_eq_true rfl) (Nat.le_of_ble_eq_true rfl) (Nat.le_of_ble_eq_true rfl) (by decide) (by decide) dX18_init_5 (xkN (fun T1 O1 R1 le1 p1 => ?_))
  obtain ⟨Y1, r1⟩ := p1
  refine g_vret B E rfl dX18_init_8 ?_
  exact ⟨rfl, _, r1⟩
theorem c_X19_init {G : xG} {T : xT} {O R : xO} {Y : xY} {V : xVV} {I : xII} {J : xJJ} {A : xVV} {w0 : xW} {o xo : Nat} {p : Nat} {pa : Int32} (P : PX Y V I J A w0 T O R) (z : zOp Y V o xo 4) (no : oNo Y o) : xCtr G yX19_init cX19_init 3 none 7 148 16 120 [.ref xo, .int pa, .int (nI p)] (T, O, R) (xN (xOnP w0 Y V I J A o xo (4, pa, nI 0, p))) := by
  refine xCtr.of (by decide +kernel) (Nat.le_of_ble_eq_true rfl) ?_
  intro Z B E hz hnm
  change xV Z (T, O, R) 0 [(0, .ref xo), (1, .int pa), (2, .int (nI p))] [] 16 120
  refine g_aload_n B 0 dX19_init_0 rfl ?_
  refine g_iconst (v := nI 4) B dX19_init_1 (by decide) ?_
  refine g_iload_n B 1 dX19_init_2 rfl ?_
  refine g_iload_n B 2 dX19_init_3 rfl ?_
  refine g_callI (kc2 := 0) (ks2 := 0) (rest := []) B M_X7_init rfl q2277 q481 (c_X7_init (kd := 4) (pa := pa) (p := p) P z no) rfl rfl (Nat.le_of_ble_eq_true rfl) (Nat.le_of_ble_eq_true rfl) (Nat.le_of_ble_eq_true rfl) (by decide) (by decide) dX19_init_4 (xkN (fun T1 O1 R1 le1 p1 => ?_))
  obtain ⟨Y1, r1⟩ := p1
  refine g_vret B E rfl dX19_init_7 ?_
  exact ⟨rfl, _, r1⟩
theorem c_X20_init {G : xG} {T : xT} {O R : xO} {Y : xY} {V : xVV} {I : xII} {J : xJJ} {A : xVV} {w0 : xW} {o xo : Nat} {p : Nat} (P : PX Y V I J A w0 T O R) (z : zOp Y V o xo 5) (no : oNo Y o) : xCtr G yX20_init cX20_init 2 none 7 148 16 120 [.ref xo, .int (nI p)] (T, O, R) (xN (xOnP w0 Y V I J A o xo (5, nI 0, nI 0, p))) := by
  refine xCtr.of (by decide +kernel) (Nat.le_of_ble_eq_true rfl) ?_
  intro Z B E hz hnm
  change xV Z (T, O, R) 0 [(0, .ref xo), (1, .int (nI p))] [] 16 120
  refine g_aload_n B 0 dX20_init_0 rfl ?_
  refine g_iconst (v := nI 5) B dX20_init_1 (by decide) ?_
  refine g_iconst (v := nI 0) B dX20_init_2 (by decide) ?_
  refine g_iload_n B 1 dX20_init_3 rfl ?_
  refine g_callI (kc2 := 0) (ks2 := 0) (rest := []) B M_X7_init rfl q2293 q481 (c_X7_init (kd := 5) (pa := nI 0) (p := p) P z no) rfl rfl (Nat.le_of_ble_eq_true rfl) (Nat.le_of_ble_eq_true rfl) (Nat.le_of_ble_eq_true rfl) (by decide) (by decide) dX20_init_4 (xkN (fun T1 O1 R1 le1 p1 => ?_))
  obtain ⟨Y1, r1⟩ := p1
  refine g_vret B E rfl dX20_init_7 ?_
  exact ⟨rfl, _, r1⟩
theorem c_X21_init {G : xG} {T : xT} {O R : xO} {Y : xY} {V : xVV} {I : xII} {J : xJJ} {A : xVV} {w0 : xW} {o xo : Nat} {p : Nat} (P : PX Y V I J A w0 T O R) (z : zOp Y V o xo 6) (no : oNo Y o) : xCtr G yX21_init cX21_init 2 none 7 148 16 120 [.ref xo, .int (nI p)] (T, O, R) (xN (xOnP w0 Y V I J A o xo (6, nI 0, nI 0, p))) := by
  refine xCtr.of (by decide +kernel) (Nat.le_of_ble_eq_true rfl) ?_
  intro Z B E hz hnm
  change xV Z (T, O, R) 0 [(0, .ref xo), (1, .int (nI p))] [] 16 120
  refine g_aload_n B 0 dX21_init_0 rfl ?_
  refine g_bipush (v := nI 6) B dX21_init_1 (by decide) ?_
  refine g_iconst (v := nI 0) B dX21_init_3 (by decide) ?_
  refine g_iload_n B 1 dX21_init_4 rfl ?_
  refine g_callI (kc2 := 0) (ks2 := 0) (rest := []) B M_X7_init rfl q2309 q481 (c_X7_init (kd := 6) (pa := nI 0) (p := p) P z no) rfl rfl (Nat.le_of_ble_eq_true rfl) (Nat.le_of_ble_eq_true rfl) (Nat.le_of_ble_eq_true rfl) (by decide) (by decide) dX21_init_5 (xkN (fun T1 O1 R1 le1 p1 => ?_))
  obtain ⟨Y1, r1⟩ := p1
  refine g_vret B E rfl dX21_init_8 ?_
  exact ⟨rfl, _, r1⟩
theorem c_X5_init {G : xG} {T : xT} {O R : xO} {Y : xY} {V : xVV} {I : xII} {J : xJJ} {A : xVV} {w0 : xW} {o xo : Nat}  (P : PX Y V I J A w0 T O R) (z : zOp Y V o xo 7) (no : oNo Y o) : xCtr G yX5_init cX5_init 1 none 6 125 16 120 [.ref xo] (T, O, R) (xN (xOnP w0 Y V I J A o xo (7, nI 0, nI 0, 1))) := by
  refine xCtr.of (by decide +kernel) (Nat.le_of_ble_eq_true rfl) ?_
  intro Z B E hz hnm
  change xV Z (T, O, R) 0 [(0, .ref xo)] [] 16 120
  refine g_aload_n B 0 dX5_init_0 rfl ?_
  refine g_bipush (v := nI 7) B dX5_init_1 (by decide) ?_
  refine g_iconst (v := nI 0) B dX5_init_3 (by decide) ?_
  refine g_iconst (v := nI 0) B dX5_init_4 (by decide) ?_
  refine g_iconst (v := nI 1) B dX5_init_5 (by decide) ?_
  refine g_callI (kc2 := 0) (ks2 := 0) (rest := []) B M_X4_init rfl q285 q286 (c_X4_init (kd := 7) (pa := nI 0) (pb := nI 0) (p := 1) P z no) rfl rfl (Nat.le_of_ble_eq_true rfl) (Nat.le_of_ble_eq_true rfl) (Nat.le_of_ble_eq_true rfl) (by decide) (by decide) dX5_init_6 (xkN (fun T1 O1 R1 le1 p1 => ?_))
  obtain ⟨Y1, r1⟩ := p1
  refine g_vret B E rfl dX5_init_9 ?_
  exact ⟨rfl, _, r1⟩
theorem c_X8_init {G : xG} {T : xT} {O R : xO} {Y : xY} {V : xVV} {I : xII} {J : xJJ} {A : xVV} {w0 : xW} {o xo : Nat} {p : Nat} (P : PX Y V I J A w0 T O R) (z : zOp Y V o xo 8) (no : oNo Y o) : xCtr G yX8_init cX8_init 2 none 7 148 16 120 [.ref xo, .int (nI p)] (T, O, R) (xN (xOnP w0 Y V I J A o xo (8, nI 0, nI 0, p))) := by
  refine xCtr.of (by decide +kernel) (Nat.le_of_ble_eq_true rfl) ?_
  intro Z B E hz hnm
  change xV Z (T, O, R) 0 [(0, .ref xo), (1, .int (nI p))] [] 16 120
  refine g_aload_n B 0 dX8_init_0 rfl ?_
  refine g_bipush (v := nI 8) B dX8_init_1 (by decide) ?_
  refine g_iconst (v := nI 0) B dX8_init_3 (by decide) ?_
  refine g_iload_n B 1 dX8_init_4 rfl ?_
  refine g_callI (kc2 := 0) (ks2 := 0) (rest := []) B M_X7_init rfl q480 q481 (c_X7_init (kd := 8) (pa := nI 0) (p := p) P z no) rfl rfl (Nat.le_of_ble_eq_true rfl) (Nat.le_of_ble_eq_true rfl) (Nat.le_of_ble_eq_true rfl) (by decide) (by decide) dX8_init_5 (xkN (fun T1 O1 R1 le1 p1 => ?_))
  obtain ⟨Y1, r1⟩ := p1
  refine g_vret B E rfl dX8_init_8 ?_
  exact ⟨rfl, _, r1⟩
