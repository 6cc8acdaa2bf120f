set_option maxRecDepth 100000
def tB (b : Bool) (n : Nat) : Nat := if b = true then n else 0
/-- the stopped channels below k, as bits -/
def sB (s : Nat → Bool) (k : Nat) : Nat := (if 0 < k then tB (s 0) 1 else 0) + (if 1 < k then tB (s 1) 2 else 0) + (if 2 < k then tB (s 2) 4 else 0)
theorem sB_3 (s : Nat → Bool) : sB s 3 = aBits s := rfl
theorem tB_or : ∀ b0 b1 : Bool, (nI 0 ||| (nI 1 <<< (nI 0 &&& 31)) = nI 1 ∧ nI (tB b0 1) ||| (nI 1 <<< (nI 1 &&& 31)) = nI (tB b0 1 + 2) ∧ nI (tB b0 1 + tB b1 2) ||| (nI 1 <<< (nI 2 &&& 31)) = nI (tB b0 1 + tB b1 2 + 4)) ∧ (nI (tB b0 1) ||| nI 0 = nI (tB b0 1) ∧ nI (tB b0 1 + tB b1 2) ||| nI 0 = nI (tB b0 1 + tB b1 2)) := by decide
theorem sB_or {s : Nat → Bool} {k : Nat} (hk : k < 3) (h : s k = true) : nI (sB s k) ||| (nI 1 <<< (nI k &&& 31)) = nI (sB s (k + 1)) := by
  obtain ⟨⟨h1, h2, h3⟩, -⟩ := tB_or (s 0) (s 1)
  rcases (show k = 0 ∨ k = 1 ∨ k = 2 by omega) with rfl | rfl | rfl
  · rw [show sB s (0 + 1) = 1 by show tB (s 0) 1 + 0 + 0 = 1; rw [h]; rfl]; exact h1
  · rw [show sB s (1 + 1) = tB (s 0) 1 + 2 by show tB (s 0) 1 + tB (s 1) 2 + 0 = _; rw [h]; rfl]; exact h2
  · rw [show sB s (2 + 1) = tB (s 0) 1 + tB (s 1) 2 + 4 by show tB (s 0) 1 + tB (s 1) 2 + tB (s 2) 4 = _; rw [h]; rfl]; exact h3
theorem sB_no {s : Nat → Bool} {k : Nat} (hk : k < 3) (h : s k = false) : nI (sB s k) ||| nI 0 = nI (sB s (k + 1)) := by
  obtain ⟨-, h1, h2⟩ := tB_or (s 0) (s 1)
  rcases (show k = 0 ∨ k = 1 ∨ k = 2 by omega) with rfl | rfl | rfl
  · rw [show sB s (0 + 1) = 0 by show tB (s 0) 1 + 0 + 0 = 0; rw [h]; rfl, show sB s 0 = 0 from rfl]; decide
  · rw [show sB s (1 + 1) = tB (s 0) 1 by show tB (s 0) 1 + tB (s 1) 2 + 0 = _; rw [h]; rfl]; exact h1
  · rw [show sB s (2 + 1) = tB (s 0) 1 + tB (s 1) 2 by show tB (s 0) 1 + tB (s 1) 2 + tB (s 2) 4 = _; rw [h]; rfl]; exact h2
theorem aBits_tb (s : Nat → Bool) {k : Nat} (hk : k < 3) : (aBits s).testBit k = s k := by
  unfold aBits
  rcases (show k = 0 ∨ k = 1 ∨ k = 2 by omega) with rfl | rfl | rfl <;> cases s 0 <;> cases s 1 <;> cases s 2 <;> decide
theorem aHome_8 {key p : Nat} (hp : p ≤ 3) : aHome key p ≤ 8 := by
  unfold aHome
  have h : key % 8 * p ≤ 8 * 3 := Nat.mul_le_mul (by omega) hp
  omega
theorem c_X9_stopped {G : xG} {T : xT} {O R : xO} {Y : xY} {V : xVV} {I : xII} {J : xJJ} {A : xVV} {w0 : xW} {a : aA} {tk x0 g0 fi ps : Nat} {o i x : Nat} (P : PX Y V I J A w0 T O R) (H : RepX a tk x0 g0 fi ps Y V I J A) (ho : o < a.n) (hi : i < a.p o) (hx : yAt Y 9 (3 * o + i) x) : xCtr G yX9_stopped cX9_stopped 3 (some Jvm.ClassFile.FieldType.int) 2 42 0 0 [.ref x] (T, O, R) (xA (fun v T2 O2 R2 => v = .int (nI (aBits (a.sp o i))) ∧ T2 = T ∧ O2 = O ∧ R2 = R)) := by
  refine xCtr.of (by decide +kernel) (Nat.le_of_ble_eq_true rfl) ?_
  intro Z B E hz hnm
  change xV Z (T, O, R) 0 [(0, .ref x)] [] 0 0
  obtain ⟨h0, ⟨⟨pa0, pb0, pc0⟩, ⟨pa5, pb5, pc5⟩, ⟨pa6, pb6, pc6⟩, ⟨pa8, pb8, pc8⟩, ⟨pa9, pb9, pc9⟩, ⟨pa10, pb10, pc10⟩, ⟨pa11, pb11, pc11⟩, ⟨pa12, pb12, pc12⟩, ⟨pa13, pb13, pc13⟩, ⟨pa20, pb20, pc20⟩, ⟨pa21, pb21, pc21⟩, ⟨pa22, pb22, pc22⟩⟩, ⟨nq1, nq2, nq3, nq4⟩, nq7, nq14, nq15, nq16, nq17, nq18, nq19⟩ := H.Si
  obtain ⟨xi, ki⟩ := H.In o ho i hi
  have ei : xi = x := P.fn ki.1 hx
  rw [ei] at ki
  have ⟨i0, ⟨i1, i2⟩, ⟨⟨y1, i3, i4⟩, i5⟩, ⟨⟨y2, i6, i7⟩, i8⟩, ⟨⟨y3, i9, i10⟩, i11⟩, ⟨fm, i12, i13, i14, i15⟩, ⟨bt, i16⟩, i17, ⟨yb, i18, i19⟩, i20, ⟨yv, i21, i22⟩, yz, i23, i24⟩ := ki
  have i25 : V 9 (3 * o + i) 12 = .ref x0 := i23.trans (congrArg Value.ref (P.fn i24 h0))
  refine g_iconst (v := nI 0) B dX9_stopped_0 (by decide) ?_
  refine g_istore_n (lv2 := [(1, _), (0, _)]) B dX9_stopped_1 (by decide) rfl ?_
  refine g_iconst (v := nI 0) B dX9_stopped_2 (by decide) ?_
  refine g_istore_n (lv2 := [(2, _), (1, _), (0, _)]) B dX9_stopped_3 (by decide) rfl ?_
  have L : ∀ (d : Nat) (k : Nat), d = 3 - k → (k ≤ 3) → xV Z (T, O, R) 4 [(2, .int (nI k)), (1, .int (nI (sB (a.sp o i) k))), (0, .ref x)] [] 0 0 := by
    intro d
    induction d using Nat.strongRecOn with
    | _ d ih =>
      intro k hd hk3
      refine g_iload_n B 0 dX9_stopped_4 rfl ?_
      refine g_iconst (v := nI 3) B dX9_stopped_5 (by decide) ?_
      refine g_icmp_geN (tgt := 36) B (by omega) (by omega) dX9_stopped_6 (by decide) (fun c101 => ?_) (fun c101 => ?_)
      · refine g_iload_n B 1 dX9_stopped_36 rfl ?_
        have ek : k = 3 := by omega
        subst ek
        refine g_iret B E rfl rfl dX9_stopped_37 ?_
        exact ⟨_, rfl, rfl, rfl, rfl, rfl⟩
      · refine g_iload_n B 1 dX9_stopped_9 rfl ?_
        refine g_aload_n B 2 dX9_stopped_10 rfl ?_
        refine x_get B P hx (by decide) rfl F_X9_30_9 (by decide) i18 dX9_stopped_11 ?_
        refine g_iload_n B 0 dX9_stopped_14 rfl ?_
        obtain ⟨n102, u102, ty102⟩ := P.ty i19.1 (by decide) rfl
        refine g_callV (rest := [_]) B M_J5_get q1570 q1430 q1431 ty102 rfl (c_J5_get (k := k) P (by decide) (by decide) (by decide) i19 (by omega)) rfl rfl (Nat.le_of_ble_eq_true rfl) (Nat.le_of_ble_eq_true rfl) (Nat.le_of_ble_eq_true rfl) (Nat.le_refl _) (Nat.le_refl _) dX9_stopped_15 (xkA (fun v102 T102 O102 R102 le102 p102 => ?_))
        obtain ⟨rfl, eT102, eO102, eR102⟩ := p102
        obtain rfl := eT102.symm
        obtain rfl := eO102.symm
        obtain rfl := eR102.symm
        refine g_if_eqB (tgt := 27) B dX9_stopped_18 (by decide) (fun c103 => ?_) (fun c103 => ?_)
        · refine g_iconst (v := nI 0) B dX9_stopped_27 (by decide) ?_
          have hb : a.sp o i k = false := by rw [← aBits_tb (a.sp o i) (by omega)]; exact c103
          refine g_ior B dX9_stopped_28 ?_
          refine g_top (congrArg Value.int (sB_no (by omega) hb)) ?_
          refine g_istore_n (lv2 := [(1, _), (2, _), (0, _)]) B dX9_stopped_29 (by decide) rfl ?_
          refine g_iinc (v := nI (k + 1)) (lv2 := [(2, _), (1, _), (0, _)]) B 1 dX9_stopped_30 rfl (nI_1 _) (by decide) rfl ?_
          refine g_goto (tgt := 4) B dX9_stopped_33 (by decide) ?_
          exact ih (3 - (k + 1)) (by omega) (k + 1) rfl (by omega)
        · refine g_iconst (v := nI 1) B dX9_stopped_21 (by decide) ?_
          refine g_iload_n B 0 dX9_stopped_22 rfl ?_
          refine g_ishl B dX9_stopped_23 ?_
          refine g_goto (tgt := 28) B dX9_stopped_24 (by decide) ?_
          have hb : a.sp o i k = true := by rw [← aBits_tb (a.sp o i) (by omega)]; exact c103
          refine g_ior B dX9_stopped_28 ?_
          refine g_top (congrArg Value.int (sB_or (by omega) hb)) ?_
          refine g_istore_n (lv2 := [(1, _), (2, _), (0, _)]) B dX9_stopped_29 (by decide) rfl ?_
          refine g_iinc (v := nI (k + 1)) (lv2 := [(2, _), (1, _), (0, _)]) B 1 dX9_stopped_30 rfl (nI_1 _) (by decide) rfl ?_
          refine g_goto (tgt := 4) B dX9_stopped_33 (by decide) ?_
          exact ih (3 - (k + 1)) (by omega) (k + 1) rfl (by omega)
  exact L _ 0 rfl (by omega)
theorem c_X9_keys {G : xG} {T : xT} {O R : xO} {Y : xY} {V : xVV} {I : xII} {J : xJJ} {A : xVV} {w0 : xW} {a : aA} {tk x0 g0 fi ps : Nat} {Bd : Nat} {o i x : Nat} (P : PX Y V I J A w0 T O R) (H : RepX a tk x0 g0 fi ps Y V I J A) (W : WF Bd a) (ho : o < a.n) (hi : i < a.p o) (hx : yAt Y 9 (3 * o + i) x) : xCtr G yX9_keys cX9_keys 3 (some Jvm.ClassFile.FieldType.int) 4 84 0 0 [.ref x] (T, O, R) (xA (fun v T2 O2 R2 => v = .int (nI (a.keysF o i)) ∧ T2 = T ∧ O2 = O ∧ R2 = R)) := by
  refine xCtr.of (by decide +kernel) (Nat.le_of_ble_eq_true rfl) ?_
  intro Z B E hz hnm
  change xV Z (T, O, R) 0 [(0, .ref x)] [] 0 0
  have hpo := W.p1 o ho
  obtain ⟨h0, ⟨⟨pa0, pb0, pc0⟩, ⟨pa5, pb5, pc5⟩, ⟨pa6, pb6, pc6⟩, ⟨pa8, pb8, pc8⟩, ⟨pa9, pb9, pc9⟩, ⟨pa10, pb10, pc10⟩, ⟨pa11, pb11, pc11⟩, ⟨pa12, pb12, pc12⟩, ⟨pa13, pb13, pc13⟩, ⟨pa20, pb20, pc20⟩, ⟨pa21, pb21, pc21⟩, ⟨pa22, pb22, pc22⟩⟩, ⟨nq1, nq2, nq3, nq4⟩, nq7, nq14, nq15, nq16, nq17, nq18, nq19⟩ := H.Si
  obtain ⟨xi, ki⟩ := H.In o ho i hi
  have ei : xi = x := P.fn ki.1 hx
  rw [ei] at ki
  have ⟨i0, ⟨i1, i2⟩, ⟨⟨y1, i3, i4⟩, i5⟩, ⟨⟨y2, i6, i7⟩, i8⟩, ⟨⟨y3, i9, i10⟩, i11⟩, ⟨fm, i12, i13, i14, i15⟩, ⟨bt, i16⟩, i17, ⟨yb, i18, i19⟩, i20, ⟨yv, i21, i22⟩, yz, i23, i24⟩ := ki
  have i25 : V 9 (3 * o + i) 12 = .ref x0 := i23.trans (congrArg Value.ref (P.fn i24 h0))
  obtain ⟨xo, ko⟩ := H.Op o ho
  have ⟨k0, k1, k2, k3, k4, k5, ⟨xk, k6, k7⟩, k8, k9, k10, k11⟩ := ko
  have k1 : yK Y 4 o = a.kd o := k1
  have k2 : V 4 o 0 = .int (nI (a.kd o)) := k2
  have k3 : V 4 o 1 = .int (a.pa o) := k3
  have k4 : V 4 o 2 = .int (a.pb o) := k4
  have k5 : V 4 o 3 = .int (nI (a.p o)) := k5
  obtain ⟨xvk, qk, kk1, kk2, kk3⟩ := H.Ks o ho
  obtain rfl : xk = xvk := P.fn k7 kk1.1
  obtain ⟨xs0, kq1, kq2⟩ := kk1.2 0 (by decide)
  refine g_iconst (v := nI 0) B dX9_keys_0 (by decide) ?_
  refine g_istore_n (lv2 := [(1, _), (0, _)]) B dX9_keys_1 (by decide) rfl ?_
  refine g_iconst (v := nI 0) B dX9_keys_2 (by decide) ?_
  refine g_istore_n (lv2 := [(2, _), (1, _), (0, _)]) B dX9_keys_3 (by decide) rfl ?_
  have L : ∀ (d : Nat) (k : Nat), d = 16 - k → (k ≤ 16) → xV Z (T, O, R) 4 [(2, .int (nI k)), (1, .int (nI (sumN (fun key => if (a.st 0 o key).isSome = true ∧ aHome key (a.p o) = i then 1 else 0) k))), (0, .ref x)] [] 0 0 := by
    intro d
    induction d using Nat.strongRecOn with
    | _ d ih =>
      intro k hd hk16
      refine g_iload_n B 0 dX9_keys_4 rfl ?_
      refine g_bipush (v := nI 16) B dX9_keys_5 (by decide) ?_
      refine g_icmp_geN (tgt := 62) B (by omega) (by omega) dX9_keys_7 (by decide) (fun c101 => ?_) (fun c101 => ?_)
      · refine g_iload_n B 1 dX9_keys_62 rfl ?_
        have ek : k = 16 := by omega
        subst ek
        refine g_iret B E rfl rfl dX9_keys_63 ?_
        exact ⟨_, rfl, rfl, rfl, rfl, rfl⟩
      · refine g_iload_n B 1 dX9_keys_10 rfl ?_
        refine g_aload_n B 2 dX9_keys_11 rfl ?_
        obtain ⟨n102, u102, ty102⟩ := P.ty hx (by decide) rfl
        refine g_callV (rest := [_]) B M_X9_self q1391 q1393 qs26 ty102 rfl (c_X9_self P H ho hi hx k0) rfl rfl (Nat.le_of_ble_eq_true rfl) (Nat.le_of_ble_eq_true rfl) (Nat.le_of_ble_eq_true rfl) (Nat.le_refl _) (Nat.le_refl _) dX9_keys_12 (xkA (fun v102 T102 O102 R102 le102 p102 => ?_))
        obtain ⟨rfl, eT102, eO102, eR102⟩ := p102
        obtain rfl := eT102.symm
        obtain rfl := eO102.symm
        obtain rfl := eR102.symm
        refine x_get B P k0 (by decide) rfl (FO_X9_214 _) (by decide) k6 dX9_keys_15 ?_
        refine x_get B P k7 (by decide) rfl F_X9_94_1 (by decide) kq1 dX9_keys_18 ?_
        obtain ⟨n103, u103, ty103⟩ := P.ty kq2.1 (by decide) rfl
        refine g_castS (q := (RX6, TX6, 3)) B ty103 rfl q1418 dX9_keys_21 ?_
        refine g_iload_n B 0 dX9_keys_24 rfl ?_
        obtain ⟨n104, u104, ty104⟩ := P.ty kq2.1 (by decide) rfl
        refine g_callV (rest := [_]) B M_X6_has q1895 q1426 q1427 ty104 rfl (c_X6_has (key := k) P (by unfold ksR; decide) kq2 (by omega)) rfl rfl (Nat.le_of_ble_eq_true rfl) (Nat.le_of_ble_eq_true rfl) (Nat.le_of_ble_eq_true rfl) (Nat.le_refl _) (Nat.le_refl _) dX9_keys_25 (xkA (fun v104 T104 O104 R104 le104 p104 => ?_))
        obtain ⟨rfl, eT104, eO104, eR104⟩ := p104
        obtain rfl := eT104.symm
        obtain rfl := eO104.symm
        obtain rfl := eR104.symm
        refine g_if_eqB (tgt := 53) B dX9_keys_28 (by decide) (fun c105 => ?_) (fun c105 => ?_)
        · refine g_iconst (v := nI 0) B dX9_keys_53 (by decide) ?_
          refine g_iaddN B dX9_keys_54 ?_
          have hq0 : qk 0 k = a.st 0 o k := (kk2 k (by omega)).1
          refine g_top (show Value.int (nI ((sumN (fun key => if (a.st 0 o key).isSome = true ∧ aHome key (a.p o) = i then 1 else 0) k) + 0)) = .int (nI (sumN (fun key => if (a.st 0 o key).isSome = true ∧ aHome key (a.p o) = i then 1 else 0) (k + 1))) from congrArg (fun z => Value.int (nI z)) (by show _ = sumN (fun key => if (a.st 0 o key).isSome = true ∧ aHome key (a.p o) = i then 1 else 0) k + (if (a.st 0 o k).isSome = true ∧ aHome k (a.p o) = i then 1 else 0); rw [if_neg (fun q => by have q1 := q.1; rw [← hq0, c105] at q1; cases q1)])) ?_
          refine g_istore_n (lv2 := [(1, _), (2, _), (0, _)]) B dX9_keys_55 (by decide) rfl ?_
          refine g_iinc (v := nI (k + 1)) (lv2 := [(2, _), (1, _), (0, _)]) B 1 dX9_keys_56 rfl (nI_1 _) (by decide) rfl ?_
          refine g_goto (tgt := 4) B dX9_keys_59 (by decide) ?_
          exact ih (16 - (k + 1)) (by omega) (k + 1) rfl (by omega)
        · have hah := aHome_8 (key := k) hpo.2
          refine g_iload_n B 0 dX9_keys_31 rfl ?_
          refine g_aload_n B 2 dX9_keys_32 rfl ?_
          obtain ⟨n106, u106, ty106⟩ := P.ty hx (by decide) rfl
          refine g_callV (rest := [_, _]) B M_X9_self q1391 q1393 qs26 ty106 rfl (c_X9_self P H ho hi hx k0) rfl rfl (Nat.le_of_ble_eq_true rfl) (Nat.le_of_ble_eq_true rfl) (Nat.le_of_ble_eq_true rfl) (Nat.le_refl _) (Nat.le_refl _) dX9_keys_33 (xkA (fun v106 T106 O106 R106 le106 p106 => ?_))
          obtain ⟨rfl, eT106, eO106, eR106⟩ := p106
          obtain rfl := eT106.symm
          obtain rfl := eO106.symm
          obtain rfl := eR106.symm
          refine x_get B P k0 (by decide) rfl (FO_X9_87 _) (by decide) k5 dX9_keys_36 ?_
          refine g_callSN (rest := [_]) B M_X0_home q1350 q1351 (c_X0_home (key := k) (p := a.p o) P (by omega) hpo.2) rfl rfl (Nat.le_of_ble_eq_true rfl) (Nat.le_of_ble_eq_true rfl) (Nat.le_of_ble_eq_true rfl) (Nat.le_refl _) (Nat.le_refl _) dX9_keys_39 (xkA (fun v107 T107 O107 R107 le107 p107 => ?_))
          obtain ⟨rfl, eT107, eO107, eR107⟩ := p107
          obtain rfl := eT107.symm
          obtain rfl := eO107.symm
          obtain rfl := eR107.symm
          refine g_aload_n B 2 dX9_keys_42 rfl ?_
          refine x_get B P hx (by decide) rfl F_X9_45_9 (by decide) i2 dX9_keys_43 ?_
          refine g_icmp_neN (tgt := 53) B (by omega) (by omega) dX9_keys_46 (by decide) (fun c108 => ?_) (fun c108 => ?_)
          · refine g_iconst (v := nI 0) B dX9_keys_53 (by decide) ?_
            refine g_iaddN B dX9_keys_54 ?_
            have hq0 : qk 0 k = a.st 0 o k := (kk2 k (by omega)).1
            refine g_top (show Value.int (nI ((sumN (fun key => if (a.st 0 o key).isSome = true ∧ aHome key (a.p o) = i then 1 else 0) k) + 0)) = .int (nI (sumN (fun key => if (a.st 0 o key).isSome = true ∧ aHome key (a.p o) = i then 1 else 0) (k + 1))) from congrArg (fun z => Value.int (nI z)) (by show _ = sumN (fun key => if (a.st 0 o key).isSome = true ∧ aHome key (a.p o) = i then 1 else 0) k + (if (a.st 0 o k).isSome = true ∧ aHome k (a.p o) = i then 1 else 0); rw [if_neg (fun q => c108 q.2)])) ?_
            refine g_istore_n (lv2 := [(1, _), (2, _), (0, _)]) B dX9_keys_55 (by decide) rfl ?_
            refine g_iinc (v := nI (k + 1)) (lv2 := [(2, _), (1, _), (0, _)]) B 1 dX9_keys_56 rfl (nI_1 _) (by decide) rfl ?_
            refine g_goto (tgt := 4) B dX9_keys_59 (by decide) ?_
            exact ih (16 - (k + 1)) (by omega) (k + 1) rfl (by omega)
          · refine g_iconst (v := nI 1) B dX9_keys_49 (by decide) ?_
            refine g_goto (tgt := 54) B dX9_keys_50 (by decide) ?_
            refine g_iaddN B dX9_keys_54 ?_
            have hq0 : qk 0 k = a.st 0 o k := (kk2 k (by omega)).1
            refine g_top (show Value.int (nI ((sumN (fun key => if (a.st 0 o key).isSome = true ∧ aHome key (a.p o) = i then 1 else 0) k) + 1)) = .int (nI (sumN (fun key => if (a.st 0 o key).isSome = true ∧ aHome key (a.p o) = i then 1 else 0) (k + 1))) from congrArg (fun z => Value.int (nI z)) (by show _ = sumN (fun key => if (a.st 0 o key).isSome = true ∧ aHome key (a.p o) = i then 1 else 0) k + (if (a.st 0 o k).isSome = true ∧ aHome k (a.p o) = i then 1 else 0); rw [if_pos ⟨by rw [← hq0]; exact c105, c108⟩])) ?_
            refine g_istore_n (lv2 := [(1, _), (2, _), (0, _)]) B dX9_keys_55 (by decide) rfl ?_
            refine g_iinc (v := nI (k + 1)) (lv2 := [(2, _), (1, _), (0, _)]) B 1 dX9_keys_56 rfl (nI_1 _) (by decide) rfl ?_
            refine g_goto (tgt := 4) B dX9_keys_59 (by decide) ?_
            exact ih (16 - (k + 1)) (by omega) (k + 1) rfl (by omega)
  exact L _ 0 rfl (by omega)
theorem c_X0_instance {G : xG} {T : xT} {O R : xO} {Y : xY} {V : xVV} {I : xII} {J : xJJ} {A : xVV} {w0 : xW} {a : aA} {tk x0 g0 fi ps : Nat} {Bd : Nat} {o i w : Int32} (P : PX Y V I J A w0 T O R) (H : RepX a tk x0 g0 fi ps Y V I J A) (W : WF Bd a) (h0q : yAt Y 0 0 x0) : xCtr G yX0_instance cX0_instance 5 (some Jvm.ClassFile.FieldType.int) 5 106 0 0 [.ref x0, .int o, .int i, .int w] (T, O, R) (xA (fun v T2 O2 R2 => v = .int (a.instF o i w) ∧ T2 = T ∧ O2 = O ∧ R2 = R)) := by
  refine xCtr.of (by decide +kernel) (Nat.le_of_ble_eq_true rfl) ?_
  intro Z B E hz hnm
  change xV Z (T, O, R) 0 [(0, .ref x0), (1, .int o), (2, .int i), (3, .int w)] [] 0 0
  have hn2 := W.n2
  have hn6 := W.n6
  obtain ⟨h0, ⟨⟨pa0, pb0, pc0⟩, ⟨pa5, pb5, pc5⟩, ⟨pa6, pb6, pc6⟩, ⟨pa8, pb8, pc8⟩, ⟨pa9, pb9, pc9⟩, ⟨pa10, pb10, pc10⟩, ⟨pa11, pb11, pc11⟩, ⟨pa12, pb12, pc12⟩, ⟨pa13, pb13, pc13⟩, ⟨pa20, pb20, pc20⟩, ⟨pa21, pb21, pc21⟩, ⟨pa22, pb22, pc22⟩⟩, ⟨nq1, nq2, nq3, nq4⟩, nq7, nq14, nq15, nq16, nq17, nq18, nq19⟩ := H.Si
  obtain ⟨⟨xi, e1, e2, e3⟩, -⟩ := H.Ar
  obtain rfl : pa11 = xi := P.fn pc11 e1
  refine g_aload_n B 0 dX0_instance_0 rfl ?_
  refine g_iload_n B 1 dX0_instance_1 rfl ?_
  refine g_iload_n B 2 dX0_instance_2 rfl ?_
  obtain ⟨n1, u1, ty1⟩ := P.ty h0q (by decide) rfl
  refine g_callV (rest := []) B M_X0_isInstance q1883 q1885 qs46 ty1 rfl (c_X0_isInstance (o := o) (i := i) P H W h0q) rfl rfl (Nat.le_of_ble_eq_true rfl) (Nat.le_of_ble_eq_true rfl) (Nat.le_of_ble_eq_true rfl) (Nat.le_refl _) (Nat.le_refl _) dX0_instance_3 (xkA (fun v1 T1 O1 R1 le1 p1 => ?_))
  obtain ⟨rfl, eT1, eO1, eR1⟩ := p1
  obtain rfl := eT1.symm
  obtain rfl := eO1.symm
  obtain rfl := eR1.symm
  refine g_if_neB (tgt := 13) B dX0_instance_6 (by decide) (fun c2 => ?_) (fun c2 => ?_)
  · have hst := c2
    rw [Bool.and_eq_true] at hst
    obtain ⟨hbo, hbi0⟩ := hst
    obtain ⟨no, h_no, e_no⟩ := inB_nI (by omega) hbo
    have hc_no : o.toNatClampNeg = no := by rw [e_no]; exact nI_clamp (by omega)
    subst e_no
    have hno : no < a.n := by omega
    have hpo := W.p1 no hno
    have hbi := hbi0
    rw [hc_no] at hbi
    obtain ⟨ni, h_ni, e_ni⟩ := inB_nI (by omega) hbi
    have hc_ni : i.toNatClampNeg = ni := by rw [e_ni]; exact nI_clamp (by omega)
    subst e_ni
    have hni : ni < a.p no := by omega
    obtain ⟨xr, c1, c2, c3, c4⟩ := e3 no hno
    obtain ⟨xw, d1, d2⟩ := c4 ni hni
    obtain ⟨xi, ki⟩ := H.In no hno ni hni
    have ei : xi = xw := P.fn ki.1 d2
    rw [ei] at ki
    have ⟨i0, ⟨i1, i2⟩, ⟨⟨y1, i3, i4⟩, i5⟩, ⟨⟨y2, i6, i7⟩, i8⟩, ⟨⟨y3, i9, i10⟩, i11⟩, ⟨fm, i12, i13, i14, i15⟩, ⟨bt, i16⟩, i17, ⟨yb, i18, i19⟩, i20, ⟨yv, i21, i22⟩, yz, i23, i24⟩ := ki
    have i25 : V 9 (3 * no + ni) 12 = .ref x0 := i23.trans (congrArg Value.ref (P.fn i24 h0))
    obtain ⟨xc, qc, kc, kc0, kc2, kc1⟩ := H.Ct no hno ni hni
    obtain rfl : yv = xc := P.fn i22 kc.1
    obtain ⟨xc0, kd0, ke0⟩ := kc.2 0 (by decide)
    obtain ⟨xc1, kd1, ke1⟩ := kc.2 1 (by decide)
    obtain ⟨xc2, kd2, ke2⟩ := kc.2 2 (by decide)
    refine g_aload_n B 0 dX0_instance_13 rfl ?_
    refine x_get B P h0q (by decide) rfl F_X0_132_0 (by decide) pb11 dX0_instance_14 ?_
    refine g_iload_n B 1 dX0_instance_17 rfl ?_
    refine x_ldA B P pc11 (by decide) rfl rfl rfl e2 (by omega) (by omega) c1 dX0_instance_18 ?_
    refine g_iload_n B 2 dX0_instance_19 rfl ?_
    refine x_ldA B P c2 (by decide) rfl rfl rfl c3 (by omega) (by omega) d1 dX0_instance_20 ?_
    refine g_astore (lv2 := [(4, _), (0, _), (1, _), (2, _), (3, _)]) B dX0_instance_21 (by decide) rfl ?_
    by_cases hbw : inB w (nI 0) (nI 5) = true
    · obtain ⟨nw, h_nw, e_nw⟩ := inB_nI (by omega) hbw
      have hc_nw : w.toNatClampNeg = nw := by rw [e_nw]; exact nI_clamp (by omega)
      subst e_nw
      rcases (show nw = 0 ∨ nw = 1 ∨ nw = 2 ∨ nw = 3 ∨ nw = 4 ∨ nw = 5 by omega) with rfl | rfl | rfl | rfl | rfl | rfl
      · refine g_iload_n B 4 dX0_instance_23 rfl ?_
        refine g_tableIn (tgt := 64) B dX0_instance_24 (by decide) (by decide) rfl (by decide) ?_
        refine g_aload B 0 dX0_instance_64 rfl ?_
        obtain ⟨n3, u3, ty3⟩ := P.ty d2 (by decide) rfl
        refine g_callV (rest := []) B M_X9_waiting q1271 q1272 q1273 ty3 rfl (c_X9_waiting P H hno hni d2) rfl rfl (Nat.le_of_ble_eq_true rfl) (Nat.le_of_ble_eq_true rfl) (Nat.le_of_ble_eq_true rfl) (Nat.le_refl _) (Nat.le_refl _) dX0_instance_66 (xkA (fun v3 T3 O3 R3 le3 p3 => ?_))
        obtain ⟨rfl, eT3, eO3, eR3⟩ := p3
        obtain rfl := eT3.symm
        obtain rfl := eO3.symm
        obtain rfl := eR3.symm
        refine g_iret B E rfl rfl dX0_instance_69 ?_
        exact ⟨_, rfl, by rw [aA.instF, if_pos ⟨hbo, hbi0⟩, if_pos hbw, hc_nw, hc_no, hc_ni]; rfl, rfl, rfl, rfl⟩
      · refine g_iload_n B 4 dX0_instance_23 rfl ?_
        refine g_tableIn (tgt := 70) B dX0_instance_24 (by decide) (by decide) rfl (by decide) ?_
        refine g_aload B 0 dX0_instance_70 rfl ?_
        refine x_get B P d2 (by decide) rfl F_X0_294_9 (by decide) i17 dX0_instance_72 ?_
        refine g_if_eqB (tgt := 82) B dX0_instance_75 (by decide) (fun c4 => ?_) (fun c4 => ?_)
        · refine g_iconst (v := nI 0) B dX0_instance_82 (by decide) ?_
          refine g_iret B E rfl rfl dX0_instance_83 ?_
          exact ⟨_, rfl, by rw [aA.instF, if_pos ⟨hbo, hbi0⟩, if_pos hbw, hc_nw, hc_no, hc_ni]; exact congrArg Value.int (bI_f c4), rfl, rfl, rfl⟩
        · refine g_iconst (v := nI 1) B dX0_instance_78 (by decide) ?_
          refine g_goto (tgt := 83) B dX0_instance_79 (by decide) ?_
          refine g_iret B E rfl rfl dX0_instance_83 ?_
          exact ⟨_, rfl, by rw [aA.instF, if_pos ⟨hbo, hbi0⟩, if_pos hbw, hc_nw, hc_no, hc_ni]; exact congrArg Value.int (bI_t c4), rfl, rfl, rfl⟩
      · refine g_iload_n B 4 dX0_instance_23 rfl ?_
        refine g_tableIn (tgt := 84) B dX0_instance_24 (by decide) (by decide) rfl (by decide) ?_
        refine g_aload B 0 dX0_instance_84 rfl ?_
        obtain ⟨n5, u5, ty5⟩ := P.ty d2 (by decide) rfl
        refine g_callV (rest := []) B M_X9_stopped q1887 q1888 q1889 ty5 rfl (c_X9_stopped P H hno hni d2) rfl rfl (Nat.le_of_ble_eq_true rfl) (Nat.le_of_ble_eq_true rfl) (Nat.le_of_ble_eq_true rfl) (Nat.le_refl _) (Nat.le_refl _) dX0_instance_86 (xkA (fun v5 T5 O5 R5 le5 p5 => ?_))
        obtain ⟨rfl, eT5, eO5, eR5⟩ := p5
        obtain rfl := eT5.symm
        obtain rfl := eO5.symm
        obtain rfl := eR5.symm
        refine g_iret B E rfl rfl dX0_instance_89 ?_
        exact ⟨_, rfl, by rw [aA.instF, if_pos ⟨hbo, hbi0⟩, if_pos hbw, hc_nw, hc_no, hc_ni]; rfl, rfl, rfl, rfl⟩
      · refine g_iload_n B 4 dX0_instance_23 rfl ?_
        refine g_tableIn (tgt := 90) B dX0_instance_24 (by decide) (by decide) rfl (by decide) ?_
        refine g_aload B 0 dX0_instance_90 rfl ?_
        refine x_get B P d2 (by decide) rfl F_X0_366_9 (by decide) i20 dX0_instance_92 ?_
        refine g_iret B E rfl rfl dX0_instance_95 ?_
        exact ⟨_, rfl, by rw [aA.instF, if_pos ⟨hbo, hbi0⟩, if_pos hbw, hc_nw, hc_no, hc_ni]; rfl, rfl, rfl, rfl⟩
      · refine g_iload_n B 4 dX0_instance_23 rfl ?_
        refine g_tableIn (tgt := 96) B dX0_instance_24 (by decide) (by decide) rfl (by decide) ?_
        refine g_aload B 0 dX0_instance_96 rfl ?_
        refine x_get B P d2 (by decide) rfl F_X0_193_9 (by decide) i21 dX0_instance_98 ?_
        refine x_get B P i22 (by decide) rfl F_X0_260_1 (by decide) kd0 dX0_instance_101 ?_
        obtain ⟨n6, u6, ty6⟩ := P.ty ke0.1 (by decide) rfl
        refine g_castS (q := (RX2, TX2, 1)) B ty6 rfl q223 dX0_instance_104 ?_
        refine x_get B P ke0.1 (by decide) rfl F_X0_264_2 (by decide) (ke0.2.trans (congrArg Value.int kc0)) dX0_instance_107 ?_
        refine g_iret B E rfl rfl dX0_instance_110 ?_
        exact ⟨_, rfl, by rw [aA.instF, if_pos ⟨hbo, hbi0⟩, if_pos hbw, hc_nw, hc_no, hc_ni]; rfl, rfl, rfl, rfl⟩
      · refine g_iload_n B 4 dX0_instance_23 rfl ?_
        refine g_tableIn (tgt := 111) B dX0_instance_24 (by decide) (by decide) rfl (by decide) ?_
        refine g_aload B 0 dX0_instance_111 rfl ?_
        obtain ⟨n7, u7, ty7⟩ := P.ty d2 (by decide) rfl
        refine g_callV (rest := []) B M_X9_keys q1891 q1892 q1893 ty7 rfl (c_X9_keys P H W hno hni d2) rfl rfl (Nat.le_of_ble_eq_true rfl) (Nat.le_of_ble_eq_true rfl) (Nat.le_of_ble_eq_true rfl) (Nat.le_refl _) (Nat.le_refl _) dX0_instance_113 (xkA (fun v7 T7 O7 R7 le7 p7 => ?_))
        obtain ⟨rfl, eT7, eO7, eR7⟩ := p7
        obtain rfl := eT7.symm
        obtain rfl := eO7.symm
        obtain rfl := eR7.symm
        refine g_iret B E rfl rfl dX0_instance_116 ?_
        exact ⟨_, rfl, by rw [aA.instF, if_pos ⟨hbo, hbi0⟩, if_pos hbw, hc_nw, hc_no, hc_ni]; rfl, rfl, rfl, rfl⟩
    · have hbwf : inB w (nI 0) (nI 5) = false := by simpa using hbw
      refine g_iload_n B 4 dX0_instance_23 rfl ?_
      refine g_tableOut (tgt := 117) B dX0_instance_24 (inB_out (by decide) hbwf) (by decide) ?_
      refine g_ldc (v := (-1000000002)) B q811 dX0_instance_117 ?_
      refine g_iret B E rfl rfl dX0_instance_119 ?_
      exact ⟨_, rfl, by rw [aA.instF, if_pos ⟨hbo, hbi0⟩, hbwf]; rfl, rfl, rfl, rfl⟩
  · refine g_ldcw (v := (-1000000001)) B q1853 dX0_instance_9 ?_
    refine g_iret B E rfl rfl dX0_instance_12 ?_
    exact ⟨_, rfl, by rw [aA.instF, if_neg (fun q => by have q2 := c2; rw [q.1, q.2] at q2; cases q2)], rfl, rfl, rfl⟩
theorem c_X0_channel_2 {G : xG} {T : xT} {O R : xO} {Y : xY} {V : xVV} {I : xII} {J : xJJ} {A : xVV} {w0 : xW} {a : aA} {tk x0 g0 fi ps : Nat} {Bd : Nat} {o i j w : Int32} (P : PX Y V I J A w0 T O R) (H : RepX a tk x0 g0 fi ps Y V I J A) (W : WF Bd a) (h0q : yAt Y 0 0 x0) : xCtr G yX0_channel_2 cX0_channel_2 6 (some Jvm.ClassFile.FieldType.int) 4 86 0 0 [.ref x0, .int o, .int i, .int j, .int w] (T, O, R) (xA (fun v T2 O2 R2 => v = .int (a.chanF o i j w) ∧ T2 = T ∧ O2 = O ∧ R2 = R)) := by
  refine xCtr.of (by decide +kernel) (Nat.le_of_ble_eq_true rfl) ?_
  intro Z B E hz hnm
  change xV Z (T, O, R) 0 [(0, .ref x0), (1, .int o), (2, .int i), (3, .int j), (4, .int w)] [] 0 0
  have hn2 := W.n2
  have hn6 := W.n6
  have hcf := W.cf
  obtain ⟨h0, ⟨⟨pa0, pb0, pc0⟩, ⟨pa5, pb5, pc5⟩, ⟨pa6, pb6, pc6⟩, ⟨pa8, pb8, pc8⟩, ⟨pa9, pb9, pc9⟩, ⟨pa10, pb10, pc10⟩, ⟨pa11, pb11, pc11⟩, ⟨pa12, pb12, pc12⟩, ⟨pa13, pb13, pc13⟩, ⟨pa20, pb20, pc20⟩, ⟨pa21, pb21, pc21⟩, ⟨pa22, pb22, pc22⟩⟩, ⟨nq1, nq2, nq3, nq4⟩, nq7, nq14, nq15, nq16, nq17, nq18, nq19⟩ := H.Si
  obtain ⟨bo, bq, sp, lc, xl, HC, dsp, dsb, hls, hfi⟩ := H.Ch
  have hpl : pa0 = xl := P.fn pc0 dsp.1
  have hsm : xSm Y V x0 xl (a.cf 0) (a.cf 1) (a.cf 2) := ⟨h0, pb0.trans (congrArg Value.ref hpl), nq1, nq2, nq3⟩
  refine g_aload_n B 0 dX0_channel_2_0 rfl ?_
  refine g_iload_n B 1 dX0_channel_2_1 rfl ?_
  refine g_iload_n B 2 dX0_channel_2_2 rfl ?_
  obtain ⟨n1, u1, ty1⟩ := P.ty h0q (by decide) rfl
  refine g_callV (rest := []) B M_X0_isInstance q1883 q1885 qs46 ty1 rfl (c_X0_isInstance (o := o) (i := i) P H W h0q) rfl rfl (Nat.le_of_ble_eq_true rfl) (Nat.le_of_ble_eq_true rfl) (Nat.le_of_ble_eq_true rfl) (Nat.le_refl _) (Nat.le_refl _) dX0_channel_2_3 (xkA (fun v1 T1 O1 R1 le1 p1 => ?_))
  obtain ⟨rfl, eT1, eO1, eR1⟩ := p1
  obtain rfl := eT1.symm
  obtain rfl := eO1.symm
  obtain rfl := eR1.symm
  refine g_if_eqB (tgt := 20) B dX0_channel_2_6 (by decide) (fun c2 => ?_) (fun c2 => ?_)
  · refine g_ldcw (v := (-1000000001)) B q1853 dX0_channel_2_20 ?_
    refine g_iret B E rfl rfl dX0_channel_2_23 ?_
    have hF : a.chanF o i j w = -1000000001 := by rw [aA.chanF, if_neg (fun q => by obtain ⟨no, h1, e1⟩ := inB_nI (by omega) q.1; have q2 := c2; rw [q.2.1, e1, inB_of (by omega) (by omega)] at q2; cases q2)]
    exact ⟨_, rfl, by rw [hF], rfl, rfl, rfl⟩
  · have hst := c2
    rw [Bool.and_eq_true] at hst
    obtain ⟨hbo, hbi0⟩ := hst
    obtain ⟨no, h_no, e_no⟩ := inB_nI (by omega) hbo
    have hc_no : o.toNatClampNeg = no := by rw [e_no]; exact nI_clamp (by omega)
    subst e_no
    have hno : no < a.n := by omega
    have hpo := W.p1 no hno
    have hbi := hbi0
    rw [hc_no] at hbi
    obtain ⟨ni, h_ni, e_ni⟩ := inB_nI (by omega) hbi
    have hc_ni : i.toNatClampNeg = ni := by rw [e_ni]; exact nI_clamp (by omega)
    subst e_ni
    have hni : ni < a.p no := by omega
    refine g_aload_n B 0 dX0_channel_2_9 rfl ?_
    refine g_iload_n B 1 dX0_channel_2_10 rfl ?_
    refine g_iconst (v := nI 1) B dX0_channel_2_11 (by decide) ?_
    refine g_iaddN B dX0_channel_2_12 ?_
    refine g_iload_n B 3 dX0_channel_2_13 rfl ?_
    obtain ⟨n3, u3, ty3⟩ := P.ty h0q (by decide) rfl
    refine g_callV (rest := []) B M_X0_isInstance q1883 q1885 qs46 ty3 rfl (c_X0_isInstance (o := (nI (no + 1))) (i := j) P H W h0q) rfl rfl (Nat.le_of_ble_eq_true rfl) (Nat.le_of_ble_eq_true rfl) (Nat.le_of_ble_eq_true rfl) (Nat.le_refl _) (Nat.le_refl _) dX0_channel_2_14 (xkA (fun v3 T3 O3 R3 le3 p3 => ?_))
    obtain ⟨rfl, eT3, eO3, eR3⟩ := p3
    obtain rfl := eT3.symm
    obtain rfl := eO3.symm
    obtain rfl := eR3.symm
    refine g_if_neB (tgt := 24) B dX0_channel_2_17 (by decide) (fun c4 => ?_) (fun c4 => ?_)
    · have hst2 := c4
      rw [Bool.and_eq_true] at hst2
      obtain ⟨hbo2, hbj0⟩ := hst2
      obtain ⟨n1, hn1, en1⟩ := inB_nI (by omega) hbo2
      have en1 : no + 1 = n1 := nI_inj' (by omega) (by omega) en1
      have hno1 : no + 1 < a.n := by omega
      have hpo1 := W.p1 (no + 1) hno1
      have hc1 : (nI (no + 1)).toNatClampNeg = no + 1 := nI_clamp (by omega)
      rw [hc1] at hbj0
      have hbj := hbj0
      obtain ⟨nj, h_nj, e_nj⟩ := inB_nI (by omega) hbj
      have hc_nj : j.toNatClampNeg = nj := by rw [e_nj]; exact nI_clamp (by omega)
      subst e_nj
      have hnj : nj < a.p (no + 1) := by omega
      have hbo3 : inB (nI no) (nI 0) (nI (a.n - 2)) = true := inB_of (by omega) (by omega)
      obtain ⟨⟨xh, Cg⟩, nd, lch⟩ := HC no ni nj hno1 hni hnj
      have hbl := xQs.len _ _ Cg.2.2.2.2.2.2
      have hchk := W.ch no ni nj
      obtain ⟨g1, ⟨xd, g2, dq⟩, ⟨g3, ot⟩, g4, g5, -, -⟩ := Cg
      refine g_aload_n B 0 dX0_channel_2_24 rfl ?_
      refine g_iload_n B 1 dX0_channel_2_25 rfl ?_
      refine g_iload_n B 2 dX0_channel_2_26 rfl ?_
      refine g_iload_n B 3 dX0_channel_2_27 rfl ?_
      obtain ⟨n5, u5, ty5⟩ := P.ty h0q (by decide) rfl
      refine g_callV (rest := []) B M_X0_channel q1900 q1356 qs22 ty5 rfl (c_X0_channel (o := no) (i := ni) (j := nj) P H W.n6 (fun o ho => (W.p1 o ho).2) h0q hno1 hni hnj g1) rfl rfl (Nat.le_of_ble_eq_true rfl) (Nat.le_of_ble_eq_true rfl) (Nat.le_of_ble_eq_true rfl) (Nat.le_refl _) (Nat.le_refl _) dX0_channel_2_28 (xkA (fun v5 T5 O5 R5 le5 p5 => ?_))
      obtain ⟨rfl, eT5, eO5, eR5⟩ := p5
      obtain rfl := eT5.symm
      obtain rfl := eO5.symm
      obtain rfl := eR5.symm
      refine g_astore (lv2 := [(5, _), (0, _), (1, _), (2, _), (3, _), (4, _)]) B dX0_channel_2_31 (by decide) rfl ?_
      by_cases hbw : inB w (nI 0) (nI 4) = true
      · obtain ⟨nw, h_nw, e_nw⟩ := inB_nI (by omega) hbw
        have hc_nw : w.toNatClampNeg = nw := by rw [e_nw]; exact nI_clamp (by omega)
        subst e_nw
        rcases (show nw = 0 ∨ nw = 1 ∨ nw = 2 ∨ nw = 3 ∨ nw = 4 by omega) with rfl | rfl | rfl | rfl | rfl
        · refine g_iload B 5 dX0_channel_2_33 rfl ?_
          refine g_tableIn (tgt := 68) B dX0_channel_2_35 (by decide) (by decide) rfl (by decide) ?_
          refine g_aload B 0 dX0_channel_2_68 rfl ?_
          refine x_get B P g1 (by decide) rfl F_X0_376_10 (by decide) g2 dX0_channel_2_70 ?_
          obtain ⟨n6, u6, ty6⟩ := P.ty dq.1 (by decide) rfl
          refine g_callV (rest := []) B M_J11_size q1901 q613 q2928 ty6 rfl (c_J11_size P dq) rfl rfl (Nat.le_of_ble_eq_true rfl) (Nat.le_of_ble_eq_true rfl) (Nat.le_of_ble_eq_true rfl) (Nat.le_refl _) (Nat.le_refl _) dX0_channel_2_73 (xkA (fun v6 T6 O6 R6 le6 p6 => ?_))
          obtain ⟨rfl, eT6, eO6, eR6⟩ := p6
          obtain rfl := eT6.symm
          obtain rfl := eO6.symm
          obtain rfl := eR6.symm
          refine g_iret B E rfl rfl dX0_channel_2_76 ?_
          exact ⟨_, rfl, by rw [aA.chanF, if_pos ⟨hbo3, hbi0, by rw [hc_no]; exact hbj0⟩, if_pos hbw, hc_nw, hc_no, hc_ni, hc_nj, hbl]; rfl, rfl, rfl, rfl⟩
        · refine g_iload B 5 dX0_channel_2_33 rfl ?_
          refine g_tableIn (tgt := 77) B dX0_channel_2_35 (by decide) (by decide) rfl (by decide) ?_
          refine g_aload B 0 dX0_channel_2_77 rfl ?_
          refine x_get B P g1 (by decide) rfl F_X0_383_10 (by decide) g3 dX0_channel_2_79 ?_
          obtain ⟨n7, u7, ty7⟩ := P.ty ot.1.1 (by decide) rfl
          refine g_callV (rest := []) B M_X11_size q1902 q1284 q1285 ty7 rfl (c_X11_size P ot) rfl rfl (Nat.le_of_ble_eq_true rfl) (Nat.le_of_ble_eq_true rfl) (Nat.le_of_ble_eq_true rfl) (Nat.le_refl _) (Nat.le_refl _) dX0_channel_2_82 (xkA (fun v7 T7 O7 R7 le7 p7 => ?_))
          obtain ⟨rfl, eT7, eO7, eR7⟩ := p7
          obtain rfl := eT7.symm
          obtain rfl := eO7.symm
          obtain rfl := eR7.symm
          refine g_iret B E rfl rfl dX0_channel_2_85 ?_
          exact ⟨_, rfl, by rw [aA.chanF, if_pos ⟨hbo3, hbi0, by rw [hc_no]; exact hbj0⟩, if_pos hbw, hc_nw, hc_no, hc_ni, hc_nj]; rfl, rfl, rfl, rfl⟩
        · refine g_iload B 5 dX0_channel_2_33 rfl ?_
          refine g_tableIn (tgt := 86) B dX0_channel_2_35 (by decide) (by decide) rfl (by decide) ?_
          refine g_aload B 0 dX0_channel_2_86 rfl ?_
          refine x_get B P g1 (by decide) rfl F_X0_254_10 (by decide) g5 dX0_channel_2_88 ?_
          refine g_iret B E rfl rfl dX0_channel_2_91 ?_
          exact ⟨_, rfl, by rw [aA.chanF, if_pos ⟨hbo3, hbi0, by rw [hc_no]; exact hbj0⟩, if_pos hbw, hc_nw, hc_no, hc_ni, hc_nj]; rfl, rfl, rfl, rfl⟩
        · refine g_iload B 5 dX0_channel_2_33 rfl ?_
          refine g_tableIn (tgt := 92) B dX0_channel_2_35 (by decide) (by decide) rfl (by decide) ?_
          refine g_aload B 0 dX0_channel_2_92 rfl ?_
          refine x_get B P g1 (by decide) rfl F_X0_388_10 (by decide) g4 dX0_channel_2_94 ?_
          refine g_iret B E rfl rfl dX0_channel_2_97 ?_
          exact ⟨_, rfl, by rw [aA.chanF, if_pos ⟨hbo3, hbi0, by rw [hc_no]; exact hbj0⟩, if_pos hbw, hc_nw, hc_no, hc_ni, hc_nj]; rfl, rfl, rfl, rfl⟩
        · refine g_iload B 5 dX0_channel_2_33 rfl ?_
          refine g_tableIn (tgt := 98) B dX0_channel_2_35 (by decide) (by decide) rfl (by decide) ?_
          refine g_aload_n B 1 dX0_channel_2_98 rfl ?_
          refine x_get B P h0q (by decide) rfl F_X0_99_0 (by decide) nq3 dX0_channel_2_99 ?_
          refine g_aload B 0 dX0_channel_2_102 rfl ?_
          refine x_get B P g1 (by decide) rfl F_X0_376_10 (by decide) g2 dX0_channel_2_104 ?_
          obtain ⟨n8, u8, ty8⟩ := P.ty dq.1 (by decide) rfl
          refine g_callV (rest := [_]) B M_J11_size q1901 q613 q2928 ty8 rfl (c_J11_size P dq) rfl rfl (Nat.le_of_ble_eq_true rfl) (Nat.le_of_ble_eq_true rfl) (Nat.le_of_ble_eq_true rfl) (Nat.le_refl _) (Nat.le_refl _) dX0_channel_2_107 (xkA (fun v8 T8 O8 R8 le8 p8 => ?_))
          obtain ⟨rfl, eT8, eO8, eR8⟩ := p8
          obtain rfl := eT8.symm
          obtain rfl := eO8.symm
          obtain rfl := eR8.symm
          refine g_isubN B (by first | omega | (have := hchk.1; omega)) dX0_channel_2_110 ?_
          refine g_iret B E rfl rfl dX0_channel_2_111 ?_
          exact ⟨_, rfl, by rw [aA.chanF, if_pos ⟨hbo3, hbi0, by rw [hc_no]; exact hbj0⟩, if_pos hbw, hc_nw, hc_no, hc_ni, hc_nj, hbl]; rfl, rfl, rfl, rfl⟩
      · have hbwf : inB w (nI 0) (nI 4) = false := by simpa using hbw
        refine g_iload B 5 dX0_channel_2_33 rfl ?_
        refine g_tableOut (tgt := 112) B dX0_channel_2_35 (inB_out (by decide) hbwf) (by decide) ?_
        refine g_ldc (v := (-1000000002)) B q811 dX0_channel_2_112 ?_
        refine g_iret B E rfl rfl dX0_channel_2_114 ?_
        exact ⟨_, rfl, by rw [aA.chanF, if_pos ⟨hbo3, hbi0, by rw [hc_no]; exact hbj0⟩, hbwf]; rfl, rfl, rfl, rfl⟩
    · refine g_ldcw (v := (-1000000001)) B q1853 dX0_channel_2_20 ?_
      refine g_iret B E rfl rfl dX0_channel_2_23 ?_
      have hF : a.chanF (nI no) (nI ni) j w = -1000000001 := by rw [aA.chanF, if_neg (fun q => by obtain ⟨n2, h1, e1⟩ := inB_nI (by omega) q.1; have e1 := nI_inj' (by omega) (by omega) e1; have q2 := c4; have q3 := q.2.2; rw [hc_no] at q3; rw [nI_clamp (show no + 1 < 2 ^ 31 by omega), q3, inB_of (by omega) (by omega)] at q2; cases q2)]
      exact ⟨_, rfl, by rw [hF], rfl, rfl, rfl⟩
theorem c_X0_count {G : xG} {T : xT} {O R : xO} {Y : xY} {V : xVV} {I : xII} {J : xJJ} {A : xVV} {w0 : xW} {a : aA} {tk x0 g0 fi ps : Nat} {Bd : Nat} {w : Int32} (P : PX Y V I J A w0 T O R) (H : RepX a tk x0 g0 fi ps Y V I J A) (W : WF Bd a) (htk : tk = a.tk) (h0q : yAt Y 0 0 x0) : xCtr G yX0_count cX0_count 2 (some Jvm.ClassFile.FieldType.int) 5 106 0 0 [.ref x0, .int w] (T, O, R) (xA (fun v T2 O2 R2 => v = .int (a.cntF w) ∧ T2 = T ∧ O2 = O ∧ R2 = R)) := by
  refine xCtr.of (by decide +kernel) (Nat.le_of_ble_eq_true rfl) ?_
  intro Z B E hz hnm
  change xV Z (T, O, R) 0 [(0, .ref x0), (1, .int w)] [] 0 0
  have hn2 := W.n2
  have hn6 := W.n6
  obtain ⟨h0, ⟨⟨pa0, pb0, pc0⟩, ⟨pa5, pb5, pc5⟩, ⟨pa6, pb6, pc6⟩, ⟨pa8, pb8, pc8⟩, ⟨pa9, pb9, pc9⟩, ⟨pa10, pb10, pc10⟩, ⟨pa11, pb11, pc11⟩, ⟨pa12, pb12, pc12⟩, ⟨pa13, pb13, pc13⟩, ⟨pa20, pb20, pc20⟩, ⟨pa21, pb21, pc21⟩, ⟨pa22, pb22, pc22⟩⟩, ⟨nq1, nq2, nq3, nq4⟩, nq7, nq14, nq15, nq16, nq17, nq18, nq19⟩ := H.Si
  obtain ⟨xol, ll, Lol, lln, llo⟩ := H.Ol
  obtain rfl : pa8 = xol := P.fn pc8 Lol.1
  have hll : ll.length = a.n := lln
  obtain ⟨xof, qo, ko, ko0, ko2, ko1⟩ := H.Of
  obtain rfl : pa9 = xof := P.fn pc9 ko.1
  obtain ⟨xoc, kr1, kr2⟩ := ko.2 0 (by decide)
  by_cases hbw : inB w (nI 0) (nI 9) = true
  · obtain ⟨nw, h_nw, e_nw⟩ := inB_nI (by omega) hbw
    have hc_nw : w.toNatClampNeg = nw := by rw [e_nw]; exact nI_clamp (by omega)
    subst e_nw
    rcases (show nw = 0 ∨ nw = 1 ∨ nw = 2 ∨ nw = 3 ∨ nw = 4 ∨ nw = 5 ∨ nw = 6 ∨ nw = 7 ∨ nw = 8 ∨ nw = 9 by omega) with rfl | rfl | rfl | rfl | rfl | rfl | rfl | rfl | rfl | rfl
    · refine g_iload_n B 1 dX0_count_0 rfl ?_
      refine g_tableIn (tgt := 56) B dX0_count_1 (by decide) (by decide) rfl (by decide) ?_
      refine g_aload_n B 0 dX0_count_56 rfl ?_
      refine x_get B P h0q (by decide) rfl F_X0_115_0 (by decide) pb8 dX0_count_57 ?_
      obtain ⟨n1, u1, ty1⟩ := P.ty pc8 (by decide) rfl
      refine g_callV (rest := []) B M_J4_size q502 q503 q504 ty1 rfl (c_J4_size (r := 34) (rd := 5002) P (by decide) rfl Lol) rfl rfl (Nat.le_of_ble_eq_true rfl) (Nat.le_of_ble_eq_true rfl) (Nat.le_of_ble_eq_true rfl) (Nat.le_refl _) (Nat.le_refl _) dX0_count_60 (xkA (fun v1 T1 O1 R1 le1 p1 => ?_))
      obtain ⟨rfl, eT1, eO1, eR1⟩ := p1
      obtain rfl := eT1.symm
      obtain rfl := eO1.symm
      obtain rfl := eR1.symm
      refine g_iret B E rfl rfl dX0_count_63 ?_
      exact ⟨_, rfl, by rw [aA.cntF, if_pos hbw, hc_nw, show ll.length = a.n - 2 + 2 by omega]; rfl, rfl, rfl, rfl⟩
    · refine g_iload_n B 1 dX0_count_0 rfl ?_
      refine g_tableIn (tgt := 64) B dX0_count_1 (by decide) (by decide) rfl (by decide) ?_
      refine g_aload_n B 0 dX0_count_64 rfl ?_
      refine x_get B P h0q (by decide) rfl F_X0_247_0 (by decide) nq7 dX0_count_65 ?_
      refine g_iret B E rfl rfl dX0_count_68 ?_
      exact ⟨_, rfl, by rw [aA.cntF, if_pos hbw, hc_nw]; rfl, rfl, rfl, rfl⟩
    · refine g_iload_n B 1 dX0_count_0 rfl ?_
      refine g_tableIn (tgt := 69) B dX0_count_1 (by decide) (by decide) rfl (by decide) ?_
      refine g_aload_n B 0 dX0_count_69 rfl ?_
      refine x_get B P h0q (by decide) rfl F_X0_123_0 (by decide) pb9 dX0_count_70 ?_
      refine x_get B P pc9 (by decide) rfl F_X0_260_1 (by decide) kr1 dX0_count_73 ?_
      obtain ⟨n2, u2, ty2⟩ := P.ty kr2.1 (by decide) rfl
      refine g_castS (q := (RX2, TX2, 1)) B ty2 rfl q223 dX0_count_76 ?_
      refine x_get B P kr2.1 (by decide) rfl F_X0_264_2 (by decide) (kr2.2.trans (congrArg Value.int ko0)) dX0_count_79 ?_
      refine g_iret B E rfl rfl dX0_count_82 ?_
      exact ⟨_, rfl, by rw [aA.cntF, if_pos hbw, hc_nw]; rfl, rfl, rfl, rfl⟩
    · refine g_iload_n B 1 dX0_count_0 rfl ?_
      refine g_tableIn (tgt := 83) B dX0_count_1 (by decide) (by decide) rfl (by decide) ?_
      refine g_aload_n B 0 dX0_count_83 rfl ?_
      refine x_get B P h0q (by decide) rfl F_X0_207_0 (by decide) nq14 dX0_count_84 ?_
      refine g_iret B E rfl rfl dX0_count_87 ?_
      exact ⟨_, rfl, by rw [aA.cntF, if_pos hbw, hc_nw, htk]; rfl, rfl, rfl, rfl⟩
    · refine g_iload_n B 1 dX0_count_0 rfl ?_
      refine g_tableIn (tgt := 88) B dX0_count_1 (by decide) (by decide) rfl (by decide) ?_
      refine g_aload_n B 0 dX0_count_88 rfl ?_
      refine x_get B P h0q (by decide) rfl F_X0_210_0 (by decide) nq15 dX0_count_89 ?_
      refine g_iret B E rfl rfl dX0_count_92 ?_
      exact ⟨_, rfl, by rw [aA.cntF, if_pos hbw, hc_nw]; rfl, rfl, rfl, rfl⟩
    · refine g_iload_n B 1 dX0_count_0 rfl ?_
      refine g_tableIn (tgt := 93) B dX0_count_1 (by decide) (by decide) rfl (by decide) ?_
      refine g_aload_n B 0 dX0_count_93 rfl ?_
      refine x_get B P h0q (by decide) rfl F_X0_213_0 (by decide) nq16 dX0_count_94 ?_
      refine g_iret B E rfl rfl dX0_count_97 ?_
      exact ⟨_, rfl, by rw [aA.cntF, if_pos hbw, hc_nw]; rfl, rfl, rfl, rfl⟩
    · refine g_iload_n B 1 dX0_count_0 rfl ?_
      refine g_tableIn (tgt := 98) B dX0_count_1 (by decide) (by decide) rfl (by decide) ?_
      refine g_aload_n B 0 dX0_count_98 rfl ?_
      refine x_get B P h0q (by decide) rfl F_X0_219_0 (by decide) nq18 dX0_count_99 ?_
      refine g_iret B E rfl rfl dX0_count_102 ?_
      exact ⟨_, rfl, by rw [aA.cntF, if_pos hbw, hc_nw]; rfl, rfl, rfl, rfl⟩
    · refine g_iload_n B 1 dX0_count_0 rfl ?_
      refine g_tableIn (tgt := 103) B dX0_count_1 (by decide) (by decide) rfl (by decide) ?_
      refine g_aload_n B 0 dX0_count_103 rfl ?_
      obtain ⟨n3, u3, ty3⟩ := P.ty h0q (by decide) rfl
      refine g_callV (rest := []) B M_X0_recordsInChannels q1263 q1265 qs12 ty3 rfl (c_X0_recordsInChannels P H W h0q) rfl rfl (Nat.le_of_ble_eq_true rfl) (Nat.le_of_ble_eq_true rfl) (Nat.le_of_ble_eq_true rfl) (Nat.le_refl _) (Nat.le_refl _) dX0_count_104 (xkA (fun v3 T3 O3 R3 le3 p3 => ?_))
      obtain ⟨rfl, eT3, eO3, eR3⟩ := p3
      obtain rfl := eT3.symm
      obtain rfl := eO3.symm
      obtain rfl := eR3.symm
      refine g_iret B E rfl rfl dX0_count_107 ?_
      exact ⟨_, rfl, by rw [aA.cntF, if_pos hbw, hc_nw]; rfl, rfl, rfl, rfl⟩
    · refine g_iload_n B 1 dX0_count_0 rfl ?_
      refine g_tableIn (tgt := 108) B dX0_count_1 (by decide) (by decide) rfl (by decide) ?_
      refine g_aload_n B 0 dX0_count_108 rfl ?_
      obtain ⟨n4, u4, ty4⟩ := P.ty h0q (by decide) rfl
      refine g_callV (rest := []) B M_X0_recordsInLists q1267 q1269 qs13 ty4 rfl (c_X0_recordsInLists P H W h0q) rfl rfl (Nat.le_of_ble_eq_true rfl) (Nat.le_of_ble_eq_true rfl) (Nat.le_of_ble_eq_true rfl) (Nat.le_refl _) (Nat.le_refl _) dX0_count_109 (xkA (fun v4 T4 O4 R4 le4 p4 => ?_))
      obtain ⟨rfl, eT4, eO4, eR4⟩ := p4
      obtain rfl := eT4.symm
      obtain rfl := eO4.symm
      obtain rfl := eR4.symm
      refine g_iret B E rfl rfl dX0_count_112 ?_
      exact ⟨_, rfl, by rw [aA.cntF, if_pos hbw, hc_nw]; rfl, rfl, rfl, rfl⟩
    · refine g_iload_n B 1 dX0_count_0 rfl ?_
      refine g_tableIn (tgt := 113) B dX0_count_1 (by decide) (by decide) rfl (by decide) ?_
      refine g_aload_n B 0 dX0_count_113 rfl ?_
      obtain ⟨n5, u5, ty5⟩ := P.ty h0q (by decide) rfl
      refine g_callV (rest := []) B M_X0_effects q1866 q1868 qs44 ty5 rfl (c_X0_effects P H W h0q) rfl rfl (Nat.le_of_ble_eq_true rfl) (Nat.le_of_ble_eq_true rfl) (Nat.le_of_ble_eq_true rfl) (Nat.le_refl _) (Nat.le_refl _) dX0_count_114 (xkA (fun v5 T5 O5 R5 le5 p5 => ?_))
      obtain ⟨rfl, eT5, eO5, eR5⟩ := p5
      obtain rfl := eT5.symm
      obtain rfl := eO5.symm
      obtain rfl := eR5.symm
      refine g_iret B E rfl rfl dX0_count_117 ?_
      exact ⟨_, rfl, by rw [aA.cntF, if_pos hbw, hc_nw]; rfl, rfl, rfl, rfl⟩
  · have hbwf : inB w (nI 0) (nI 9) = false := by simpa using hbw
    refine g_iload_n B 1 dX0_count_0 rfl ?_
    refine g_tableOut (tgt := 118) B dX0_count_1 (inB_out (by decide) hbwf) (by decide) ?_
    refine g_ldc (v := (-1000000002)) B q811 dX0_count_118 ?_
    refine g_iret B E rfl rfl dX0_count_120 ?_
    exact ⟨_, rfl, by rw [aA.cntF, hbwf]; rfl, rfl, rfl, rfl⟩
theorem c_X0_configure {G : xG} {T : xT} {O R : xO} {Y : xY} {V : xVV} {I : xII} {J : xJJ} {A : xVV} {w0 : xW} {a : aA} {tk x0 g0 fi ps : Nat} {Bd : Nat} {s g c r : Int32} (P : PX Y V I J A w0 T O R) (H : RepX a tk x0 g0 fi ps Y V I J A) (W : WF Bd a) (h0q : yAt Y 0 0 x0) : xCtr G yX0_configure cX0_configure 6 (some Jvm.ClassFile.FieldType.int) 1 25 0 0 [.ref x0, .int s, .int g, .int c, .int r] (T, O, R) (xA (fun v T2 O2 R2 => v = .int (a.confF s g c r).1 ∧ xR w0 Y (a.confF s g c r).2 tk x0 g0 fi ps T2 O2 R2)) := by
  refine xCtr.of (by decide +kernel) (Nat.le_of_ble_eq_true rfl) ?_
  intro Z B E hz hnm
  change xV Z (T, O, R) 0 [(0, .ref x0), (1, .int s), (2, .int g), (3, .int c), (4, .int r)] [] 0 0
  have hcf := W.cf
  have hn4 := W.nms.2.2.2.2
  obtain ⟨h0, ⟨⟨pa0, pb0, pc0⟩, ⟨pa5, pb5, pc5⟩, ⟨pa6, pb6, pc6⟩, ⟨pa8, pb8, pc8⟩, ⟨pa9, pb9, pc9⟩, ⟨pa10, pb10, pc10⟩, ⟨pa11, pb11, pc11⟩, ⟨pa12, pb12, pc12⟩, ⟨pa13, pb13, pc13⟩, ⟨pa20, pb20, pc20⟩, ⟨pa21, pb21, pc21⟩, ⟨pa22, pb22, pc22⟩⟩, ⟨nq1, nq2, nq3, nq4⟩, nq7, nq14, nq15, nq16, nq17, nq18, nq19⟩ := H.Si
  refine g_iload_n B 1 dX0_configure_0 rfl ?_
  refine g_i2l B dX0_configure_1 rfl ?_
  refine g_lconst (v := 1) B dX0_configure_2 (by decide) ?_
  refine g_ldc2 (v := 4) B q804 dX0_configure_3 ?_
  refine g_callS (rest := []) B M_X0_isBetween q805 q806 (c_X0_isBetween (x := s) (l := nI 1) (u := nI 4) P rfl rfl rfl) rfl rfl (Nat.le_of_ble_eq_true rfl) (Nat.le_of_ble_eq_true rfl) (Nat.le_of_ble_eq_true rfl) (Nat.le_refl _) (Nat.le_refl _) dX0_configure_6 (xkA (fun v1 T1 O1 R1 le1 p1 => ?_))
  obtain ⟨rfl, eT1, eO1, eR1⟩ := p1
  obtain rfl := eT1.symm
  obtain rfl := eO1.symm
  obtain rfl := eR1.symm
  refine g_if_eqB (tgt := 51) B dX0_configure_9 (by decide) (fun c2 => ?_) (fun c2 => ?_)
  · refine g_ldc (v := (-1000000002)) B q811 dX0_configure_51 ?_
    refine g_iret B E rfl rfl dX0_configure_53 ?_
    have hF : a.confF s g c r = (-1000000002, a) := by rw [aA.confF, if_neg (fun q => by have q2 := q.1; rw [c2] at q2; cases q2)]
    exact ⟨_, rfl, by rw [hF], _, _, _, _, _, P, yLe.rf, by rw [hF]; exact H⟩
  · refine g_iload_n B 2 dX0_configure_12 rfl ?_
    refine g_i2l B dX0_configure_13 rfl ?_
    refine g_lconst (v := 1) B dX0_configure_14 (by decide) ?_
    refine g_ldc2 (v := 9) B q808 dX0_configure_15 ?_
    refine g_callS (rest := []) B M_X0_isBetween q805 q806 (c_X0_isBetween (x := g) (l := nI 1) (u := nI 9) P rfl rfl rfl) rfl rfl (Nat.le_of_ble_eq_true rfl) (Nat.le_of_ble_eq_true rfl) (Nat.le_of_ble_eq_true rfl) (Nat.le_refl _) (Nat.le_refl _) dX0_configure_18 (xkA (fun v3 T3 O3 R3 le3 p3 => ?_))
    obtain ⟨rfl, eT3, eO3, eR3⟩ := p3
    obtain rfl := eT3.symm
    obtain rfl := eO3.symm
    obtain rfl := eR3.symm
    refine g_if_eqB (tgt := 51) B dX0_configure_21 (by decide) (fun c4 => ?_) (fun c4 => ?_)
    · refine g_ldc (v := (-1000000002)) B q811 dX0_configure_51 ?_
      refine g_iret B E rfl rfl dX0_configure_53 ?_
      have hF : a.confF s g c r = (-1000000002, a) := by rw [aA.confF, if_neg (fun q => by have q2 := q.2.1; rw [c4] at q2; cases q2)]
      exact ⟨_, rfl, by rw [hF], _, _, _, _, _, P, yLe.rf, by rw [hF]; exact H⟩
    · refine g_iload_n B 3 dX0_configure_24 rfl ?_
      refine g_i2l B dX0_configure_25 rfl ?_
      refine g_ldc2 (v := 2) B q809 dX0_configure_26 ?_
      refine g_ldc2 (v := 4) B q804 dX0_configure_29 ?_
      refine g_callS (rest := []) B M_X0_isBetween q805 q806 (c_X0_isBetween (x := c) (l := nI 2) (u := nI 4) P rfl rfl rfl) rfl rfl (Nat.le_of_ble_eq_true rfl) (Nat.le_of_ble_eq_true rfl) (Nat.le_of_ble_eq_true rfl) (Nat.le_refl _) (Nat.le_refl _) dX0_configure_32 (xkA (fun v5 T5 O5 R5 le5 p5 => ?_))
      obtain ⟨rfl, eT5, eO5, eR5⟩ := p5
      obtain rfl := eT5.symm
      obtain rfl := eO5.symm
      obtain rfl := eR5.symm
      refine g_if_eqB (tgt := 51) B dX0_configure_35 (by decide) (fun c6 => ?_) (fun c6 => ?_)
      · refine g_ldc (v := (-1000000002)) B q811 dX0_configure_51 ?_
        refine g_iret B E rfl rfl dX0_configure_53 ?_
        have hF : a.confF s g c r = (-1000000002, a) := by rw [aA.confF, if_neg (fun q => by have q2 := q.2.2.1; rw [c6] at q2; cases q2)]
        exact ⟨_, rfl, by rw [hF], _, _, _, _, _, P, yLe.rf, by rw [hF]; exact H⟩
      · refine g_iload B 4 dX0_configure_38 rfl ?_
        refine g_i2l B dX0_configure_40 rfl ?_
        refine g_lconst (v := 1) B dX0_configure_41 (by decide) ?_
        refine g_ldc2 (v := 5) B q810 dX0_configure_42 ?_
        refine g_callS (rest := []) B M_X0_isBetween q805 q806 (c_X0_isBetween (x := r) (l := nI 1) (u := nI 5) P rfl rfl rfl) rfl rfl (Nat.le_of_ble_eq_true rfl) (Nat.le_of_ble_eq_true rfl) (Nat.le_of_ble_eq_true rfl) (Nat.le_refl _) (Nat.le_refl _) dX0_configure_45 (xkA (fun v7 T7 O7 R7 le7 p7 => ?_))
        obtain ⟨rfl, eT7, eO7, eR7⟩ := p7
        obtain rfl := eT7.symm
        obtain rfl := eO7.symm
        obtain rfl := eR7.symm
        refine g_if_neB (tgt := 54) B dX0_configure_48 (by decide) (fun c8 => ?_) (fun c8 => ?_)
        · have hb_ns := c2
          obtain ⟨ns, hs1, hs2, e_ns⟩ := inB1_nI (by decide) hb_ns
          have hc_ns : s.toNatClampNeg = ns := by rw [e_ns]; exact nI_clamp (by omega)
          subst e_ns
          have hb_ng := c4
          obtain ⟨ng, hg1, hg2, e_ng⟩ := inB1_nI (by decide) hb_ng
          have hc_ng : g.toNatClampNeg = ng := by rw [e_ng]; exact nI_clamp (by omega)
          subst e_ng
          have hb_nc := c6
          obtain ⟨nc, hc1, hc2, e_nc⟩ := inB2_nI (by decide) hb_nc
          have hc_nc : c.toNatClampNeg = nc := by rw [e_nc]; exact nI_clamp (by omega)
          subst e_nc
          have hb_nr := c8
          obtain ⟨nr, hr1, hr2, e_nr⟩ := inB1_nI (by decide) hb_nr
          have hc_nr : r.toNatClampNeg = nr := by rw [e_nr]; exact nI_clamp (by omega)
          subst e_nr
          refine g_aload_n B 0 dX0_configure_54 rfl ?_
          refine x_get B P h0q (by decide) rfl F_X0_222_0 (by decide) nq19 dX0_configure_55 ?_
          refine g_if_eqN (tgt := 64) B (by omega) dX0_configure_58 (by decide) (fun c9 => ?_) (fun c9 => ?_)
          · refine g_aload_n B 0 dX0_configure_64 rfl ?_
            refine x_get B P h0q (by decide) rfl F_X0_92_0 (by decide) nq1 dX0_configure_65 ?_
            refine g_bipush (v := nI 10) B dX0_configure_68 (by decide) ?_
            refine g_imulN B dX0_configure_70 ?_
            refine g_aload_n B 0 dX0_configure_71 rfl ?_
            refine x_get B P h0q (by decide) rfl F_X0_96_0 (by decide) nq2 dX0_configure_72 ?_
            refine g_iaddN B dX0_configure_75 ?_
            refine g_bipush (v := nI 10) B dX0_configure_76 (by decide) ?_
            refine g_imulN B dX0_configure_78 ?_
            refine g_aload_n B 0 dX0_configure_79 rfl ?_
            refine x_get B P h0q (by decide) rfl F_X0_99_0 (by decide) nq3 dX0_configure_80 ?_
            refine g_iaddN B dX0_configure_83 ?_
            refine g_bipush (v := nI 10) B dX0_configure_84 (by decide) ?_
            refine g_imulN B dX0_configure_86 ?_
            refine g_aload_n B 0 dX0_configure_87 rfl ?_
            refine x_get B P h0q (by decide) rfl F_X0_102_0 (by decide) nq4 dX0_configure_88 ?_
            refine g_iaddN B dX0_configure_91 ?_
            refine g_istore (lv2 := [(5, _), (0, _), (1, _), (2, _), (3, _), (4, _)]) B dX0_configure_92 (by decide) rfl ?_
            refine g_aload_n B 1 dX0_configure_94 rfl ?_
            refine g_iload_n B 2 dX0_configure_95 rfl ?_
            refine x_put (q := (RX0, TX0, 23)) B P h0q (by decide) rfl F_X0_92_0 rfl rfl (tyX0_ok 1 (by decide)) rfl rfl dX0_configure_96 (fun O10 V10 hs10 hk10 P10 => ?_)
            refine g_aload_n B 1 dX0_configure_99 rfl ?_
            refine g_iload_n B 3 dX0_configure_100 rfl ?_
            refine x_put (q := (RX0, TX0, 23)) B P10 h0q (by decide) rfl F_X0_96_0 rfl rfl (tyX0_ok 2 (by decide)) rfl rfl dX0_configure_101 (fun O11 V11 hs11 hk11 P11 => ?_)
            refine g_aload_n B 1 dX0_configure_104 rfl ?_
            refine g_iload_n B 4 dX0_configure_105 rfl ?_
            refine x_put (q := (RX0, TX0, 23)) B P11 h0q (by decide) rfl F_X0_99_0 rfl rfl (tyX0_ok 3 (by decide)) rfl rfl dX0_configure_106 (fun O12 V12 hs12 hk12 P12 => ?_)
            refine g_aload_n B 1 dX0_configure_109 rfl ?_
            refine g_iload B 5 dX0_configure_110 rfl ?_
            refine x_put (q := (RX0, TX0, 23)) B P12 h0q (by decide) rfl F_X0_102_0 rfl rfl (tyX0_ok 4 (by decide)) rfl rfl dX0_configure_112 (fun O13 V13 hs13 hk13 P13 => ?_)
            refine g_iload B 0 dX0_configure_115 rfl ?_
            refine g_iret B E rfl rfl dX0_configure_117 ?_
            have hF : a.confF (nI ns) (nI ng) (nI nc) (nI nr) = (nI (((a.cf 0 * 10 + a.cf 1) * 10 + a.cf 2) * 10 + a.cf 3), a.w_cf (up1 (up1 (up1 (up1 a.cf 0 ns) 1 ng) 2 nc) 3 nr)) := by rw [aA.confF, if_pos ⟨hb_ns, hb_ng, hb_nc, hb_nr⟩, if_pos c9, hc_ns, hc_ng, hc_nc, hc_nr]; exact Prod.ext (congrArg nI (by show 1000 * a.cf 0 + 100 * a.cf 1 + 10 * a.cf 2 + a.cf 3 = _; omega)) rfl
            have fz : xFr (s1 0 0) Y V I J A Y V13 I J A := ((((xFr.uV (S := s1 0 0) (r := 0) (o := 0) ⟨rfl, rfl⟩ hs10 hk10).tr (xFr.uV (S := s1 0 0) (r := 0) (o := 0) ⟨rfl, rfl⟩ hs11 hk11)).tr (xFr.uV (S := s1 0 0) (r := 0) (o := 0) ⟨rfl, rfl⟩ hs12 hk12)).tr (xFr.uV (S := s1 0 0) (r := 0) (o := 0) ⟨rfl, rfl⟩ hs13 hk13))
            have hX : XSi Y V13 x0 (up1 (up1 (up1 (up1 a.cf 0 ns) 1 ng) 2 nc) 3 nr) a.nm a.fl tk a.inp.length := ⟨h0, ⟨⟨pa0, (rdK hs13 (by decide) (rdK hs12 (by decide) (rdK hs11 (by decide) (rdK hs10 (by decide) pb0)))), pc0⟩, ⟨pa5, (rdK hs13 (by decide) (rdK hs12 (by decide) (rdK hs11 (by decide) (rdK hs10 (by decide) pb5)))), pc5⟩, ⟨pa6, (rdK hs13 (by decide) (rdK hs12 (by decide) (rdK hs11 (by decide) (rdK hs10 (by decide) pb6)))), pc6⟩, ⟨pa8, (rdK hs13 (by decide) (rdK hs12 (by decide) (rdK hs11 (by decide) (rdK hs10 (by decide) pb8)))), pc8⟩, ⟨pa9, (rdK hs13 (by decide) (rdK hs12 (by decide) (rdK hs11 (by decide) (rdK hs10 (by decide) pb9)))), pc9⟩, ⟨pa10, (rdK hs13 (by decide) (rdK hs12 (by decide) (rdK hs11 (by decide) (rdK hs10 (by decide) pb10)))), pc10⟩, ⟨pa11, (rdK hs13 (by decide) (rdK hs12 (by decide) (rdK hs11 (by decide) (rdK hs10 (by decide) pb11)))), pc11⟩, ⟨pa12, (rdK hs13 (by decide) (rdK hs12 (by decide) (rdK hs11 (by decide) (rdK hs10 (by decide) pb12)))), pc12⟩, ⟨pa13, (rdK hs13 (by decide) (rdK hs12 (by decide) (rdK hs11 (by decide) (rdK hs10 (by decide) pb13)))), pc13⟩, ⟨pa20, (rdK hs13 (by decide) (rdK hs12 (by decide) (rdK hs11 (by decide) (rdK hs10 (by decide) pb20)))), pc20⟩, ⟨pa21, (rdK hs13 (by decide) (rdK hs12 (by decide) (rdK hs11 (by decide) (rdK hs10 (by decide) pb21)))), pc21⟩, ⟨pa22, (rdK hs13 (by decide) (rdK hs12 (by decide) (rdK hs11 (by decide) (rdK hs10 (by decide) pb22)))), pc22⟩⟩, ⟨(rdK hs13 (by decide) (rdK hs12 (by decide) (rdK hs11 (by decide) (rdS hs10)))), (rdK hs13 (by decide) (rdK hs12 (by decide) (rdS hs11))), (rdK hs13 (by decide) (rdS hs12)), (rdS hs13)⟩, (rdK hs13 (by decide) (rdK hs12 (by decide) (rdK hs11 (by decide) (rdK hs10 (by decide) nq7)))), (rdK hs13 (by decide) (rdK hs12 (by decide) (rdK hs11 (by decide) (rdK hs10 (by decide) nq14)))), (rdK hs13 (by decide) (rdK hs12 (by decide) (rdK hs11 (by decide) (rdK hs10 (by decide) nq15)))), (rdK hs13 (by decide) (rdK hs12 (by decide) (rdK hs11 (by decide) (rdK hs10 (by decide) nq16)))), (fun hr17 => (rdK hs13 (by decide) (rdK hs12 (by decide) (rdK hs11 (by decide) (rdK hs10 (by decide) (nq17 hr17)))))), (rdK hs13 (by decide) (rdK hs12 (by decide) (rdK hs11 (by decide) (rdK hs10 (by decide) nq18)))), (rdK hs13 (by decide) (rdK hs12 (by decide) (rdK hs11 (by decide) (rdK hs10 (by decide) nq19))))⟩
            have Hn := H.w_cf fz (fun r o e => e.1) hX
            exact ⟨_, rfl, by rw [hF], _, _, _, _, _, P13, yLe.rf, by rw [hF]; exact Hn⟩
          · refine g_ldc (v := (-1000000004)) B q812 dX0_configure_61 ?_
            refine g_iret B E rfl rfl dX0_configure_63 ?_
            have hF : a.confF (nI ns) (nI ng) (nI nc) (nI nr) = (-1000000004, a) := by rw [aA.confF, if_pos ⟨hb_ns, hb_ng, hb_nc, hb_nr⟩, if_neg c9]
            exact ⟨_, rfl, by rw [hF], _, _, _, _, _, P, yLe.rf, by rw [hF]; exact H⟩
        · refine g_ldc (v := (-1000000002)) B q811 dX0_configure_51 ?_
          refine g_iret B E rfl rfl dX0_configure_53 ?_
          have hF : a.confF s g c r = (-1000000002, a) := by rw [aA.confF, if_neg (fun q => by have q2 := q.2.2.2; rw [c8] at q2; cases q2)]
          exact ⟨_, rfl, by rw [hF], _, _, _, _, _, P, yLe.rf, by rw [hF]; exact H⟩
def sPu : Nat → Nat → Prop := fun r _ => r = 0 ∨ r = 1031 ∨ r = 1032
theorem c_X0_push {G : xG} {T : xT} {O R : xO} {Y : xY} {V : xVV} {I : xII} {J : xJJ} {A : xVV} {w0 : xW} {a : aA} {tk x0 g0 fi ps : Nat} {Bd : Nat} {k u : Int32} (P : PX Y V I J A w0 T O R) (H : RepX a tk x0 g0 fi ps Y V I J A) (W : WF Bd a) (h0q : yAt Y 0 0 x0) : xCtr G yX0_push cX0_push 3 (some Jvm.ClassFile.FieldType.int) 1 25 0 0 [.ref x0, .int k, .int u] (T, O, R) (xA (fun v T2 O2 R2 => v = .int (a.pushF k u).1 ∧ xR w0 Y (a.pushF k u).2 tk x0 g0 fi ps T2 O2 R2)) := by
  refine xCtr.of (by decide +kernel) (Nat.le_of_ble_eq_true rfl) ?_
  intro Z B E hz hnm
  change xV Z (T, O, R) 0 [(0, .ref x0), (1, .int k), (2, .int u)] [] 0 0
  have hi60 := W.inp
  obtain ⟨h0, ⟨⟨pa0, pb0, pc0⟩, ⟨pa5, pb5, pc5⟩, ⟨pa6, pb6, pc6⟩, ⟨pa8, pb8, pc8⟩, ⟨pa9, pb9, pc9⟩, ⟨pa10, pb10, pc10⟩, ⟨pa11, pb11, pc11⟩, ⟨pa12, pb12, pc12⟩, ⟨pa13, pb13, pc13⟩, ⟨pa20, pb20, pc20⟩, ⟨pa21, pb21, pc21⟩, ⟨pa22, pb22, pc22⟩⟩, ⟨nq1, nq2, nq3, nq4⟩, nq7, nq14, nq15, nq16, nq17, nq18, nq19⟩ := H.Si
  obtain ⟨⟨xi1, ip1⟩, ⟨xi2, ip2⟩, ip3, ip4, ip5⟩ := H.Ip
  obtain rfl : pa5 = xi1 := P.fn pc5 ip1
  obtain rfl : pa6 = xi2 := P.fn pc6 ip2
  refine g_iload_n B 1 dX0_push_0 rfl ?_
  refine g_i2l B dX0_push_1 rfl ?_
  refine g_lconst (v := 0) B dX0_push_2 (by decide) ?_
  refine g_ldc2 (v := 15) B q817 dX0_push_3 ?_
  refine g_callS (rest := []) B M_X0_isBetween q805 q806 (c_X0_isBetween (x := k) (l := nI 0) (u := nI 15) P rfl rfl rfl) rfl rfl (Nat.le_of_ble_eq_true rfl) (Nat.le_of_ble_eq_true rfl) (Nat.le_of_ble_eq_true rfl) (Nat.le_refl _) (Nat.le_refl _) dX0_push_6 (xkA (fun v1 T1 O1 R1 le1 p1 => ?_))
  obtain ⟨rfl, eT1, eO1, eR1⟩ := p1
  obtain rfl := eT1.symm
  obtain rfl := eO1.symm
  obtain rfl := eR1.symm
  refine g_if_eqB (tgt := 26) B dX0_push_9 (by decide) (fun c2 => ?_) (fun c2 => ?_)
  · refine g_ldc (v := (-1000000002)) B q811 dX0_push_26 ?_
    refine g_iret B E rfl rfl dX0_push_28 ?_
    have hF : a.pushF k u = (-1000000002, a) := by rw [aA.pushF, if_neg (fun q => by have q2 := q.1; rw [c2] at q2; cases q2)]
    exact ⟨_, rfl, by rw [hF], _, _, _, _, _, P, yLe.rf, by rw [hF]; exact H⟩
  · refine g_iload_n B 2 dX0_push_12 rfl ?_
    refine g_i2l B dX0_push_13 rfl ?_
    refine g_ldc2 (v := (-99)) B q818 dX0_push_14 ?_
    refine g_ldc2 (v := 99) B q819 dX0_push_17 ?_
    refine g_callS (rest := []) B M_X0_isBetween q805 q806 (c_X0_isBetween (x := u) (l := (-99)) (u := nI 99) P rfl rfl rfl) rfl rfl (Nat.le_of_ble_eq_true rfl) (Nat.le_of_ble_eq_true rfl) (Nat.le_of_ble_eq_true rfl) (Nat.le_refl _) (Nat.le_refl _) dX0_push_20 (xkA (fun v3 T3 O3 R3 le3 p3 => ?_))
    obtain ⟨rfl, eT3, eO3, eR3⟩ := p3
    obtain rfl := eT3.symm
    obtain rfl := eO3.symm
    obtain rfl := eR3.symm
    refine g_if_neB (tgt := 29) B dX0_push_23 (by decide) (fun c4 => ?_) (fun c4 => ?_)
    · have hb_k := c2
      have hb_u := c4
      obtain ⟨nk, h_nk, e_nk⟩ := inB_nI (by omega) hb_k
      have hc_nk : k.toNatClampNeg = nk := by rw [e_nk]; exact nI_clamp (by omega)
      subst e_nk
      refine g_aload_n B 0 dX0_push_29 rfl ?_
      refine x_get B P h0q (by decide) rfl F_X0_247_0 (by decide) nq7 dX0_push_30 ?_
      refine g_bipush (v := nI 60) B dX0_push_33 (by decide) ?_
      refine g_icmp_neN (tgt := 41) B (by omega) (by omega) dX0_push_35 (by decide) (fun c5 => ?_) (fun c5 => ?_)
      · refine g_aload_n B 0 dX0_push_41 rfl ?_
        refine x_get B P h0q (by decide) rfl F_X0_105_0 (by decide) pb5 dX0_push_42 ?_
        refine g_aload_n B 0 dX0_push_45 rfl ?_
        refine x_get B P h0q (by decide) rfl F_X0_247_0 (by decide) nq7 dX0_push_46 ?_
        refine g_iload_n B 1 dX0_push_49 rfl ?_
        refine x_stI B P pc5 (by decide) rfl ip3 (by omega) (by omega) dX0_push_50 (fun R6 I6 hs6 hk6 P6 => ?_)
        refine g_aload_n B 0 dX0_push_51 rfl ?_
        refine x_get B P6 h0q (by decide) rfl F_X0_109_0 (by decide) pb6 dX0_push_52 ?_
        refine g_aload_n B 0 dX0_push_55 rfl ?_
        refine x_get B P6 h0q (by decide) rfl F_X0_247_0 (by decide) nq7 dX0_push_56 ?_
        refine g_iload_n B 2 dX0_push_59 rfl ?_
        refine x_stI B P6 pc6 (by decide) rfl ip4 (by omega) (by omega) dX0_push_60 (fun R7 I7 hs7 hk7 P7 => ?_)
        refine g_aload_n B 0 dX0_push_61 rfl ?_
        refine g_dup B dX0_push_62 rfl ?_
        refine x_get B P7 h0q (by decide) rfl F_X0_247_0 (by decide) nq7 dX0_push_63 ?_
        refine g_iconst (v := nI 1) B dX0_push_66 (by decide) ?_
        refine g_iaddN B dX0_push_67 ?_
        refine x_put (q := (RX0, TX0, 23)) B P7 h0q (by decide) rfl F_X0_247_0 rfl rfl (tyX0_ok 7 (by decide)) rfl rfl dX0_push_68 (fun O8 V8 hs8 hk8 P8 => ?_)
        refine g_aload_n B 0 dX0_push_71 rfl ?_
        refine x_get B P8 h0q (by decide) rfl F_X0_247_0 (by decide) (rdS hs8) dX0_push_72 ?_
        refine g_iret B E rfl rfl dX0_push_75 ?_
        have hF : a.pushF (nI nk) u = (nI (a.inp.length + 1), a.w_inp (a.inp ++ [(nk, u)])) := by rw [aA.pushF, if_pos ⟨hb_k, hb_u⟩, if_neg (by omega), hc_nk]
        have fz : xFr sPu Y V I J A Y V8 I7 J A := (((xFr.uI (S := sPu) (r := 1031) (o := 0) (by unfold sPu; omega) hs6 hk6).tr (xFr.uI (S := sPu) (r := 1032) (o := 0) (by unfold sPu; omega) hs7 hk7)).tr (xFr.uV (S := sPu) (r := 0) (o := 0) (by unfold sPu; omega) hs8 hk8))
        have hX : XSi Y V8 x0 a.cf a.nm a.fl tk (a.inp ++ [(nk, u)]).length := by rw [List.length_append]; exact ⟨h0, ⟨⟨pa0, (rdK hs8 (by decide) pb0), pc0⟩, ⟨pa5, (rdK hs8 (by decide) pb5), pc5⟩, ⟨pa6, (rdK hs8 (by decide) pb6), pc6⟩, ⟨pa8, (rdK hs8 (by decide) pb8), pc8⟩, ⟨pa9, (rdK hs8 (by decide) pb9), pc9⟩, ⟨pa10, (rdK hs8 (by decide) pb10), pc10⟩, ⟨pa11, (rdK hs8 (by decide) pb11), pc11⟩, ⟨pa12, (rdK hs8 (by decide) pb12), pc12⟩, ⟨pa13, (rdK hs8 (by decide) pb13), pc13⟩, ⟨pa20, (rdK hs8 (by decide) pb20), pc20⟩, ⟨pa21, (rdK hs8 (by decide) pb21), pc21⟩, ⟨pa22, (rdK hs8 (by decide) pb22), pc22⟩⟩, ⟨(rdK hs8 (by decide) nq1), (rdK hs8 (by decide) nq2), (rdK hs8 (by decide) nq3), (rdK hs8 (by decide) nq4)⟩, (rdS hs8), (rdK hs8 (by decide) nq14), (rdK hs8 (by decide) nq15), (rdK hs8 (by decide) nq16), (fun hr17 => (rdK hs8 (by decide) (nq17 hr17))), (rdK hs8 (by decide) nq18), (rdK hs8 (by decide) nq19)⟩
        have hIp : XIp Y I7 (a.inp ++ [(nk, u)]) := by
          refine ⟨⟨_, ip1⟩, ⟨_, ip2⟩, ip3, ip4, fun j hj => ?_⟩
          rw [List.length_append] at hj
          by_cases e : j = a.inp.length
          · subst e; rw [show (a.inp ++ [(nk, u)]).getD a.inp.length (0, 0) = (nk, u) by simp [List.getD_eq_getElem?_getD]]; exact ⟨rdR hk7 (by decide) (rdS hs6), rdS hs7⟩
          · have hj2 : j < a.inp.length := by have : j < a.inp.length + 1 := hj; omega
            rw [show (a.inp ++ [(nk, u)]).getD j (0, 0) = a.inp.getD j (0, 0) by simp [List.getD_eq_getElem?_getD, List.getElem?_append_left hj2]]; exact ⟨rdR hk7 (by decide) (rdK hs6 e (ip5 j hj2).1), rdK hs7 e (rdR hk6 (by decide) (ip5 j hj2).2)⟩
        have Hn : RepX (a.w_inp (a.inp ++ [(nk, u)])) tk x0 g0 fi ps Y V8 I7 J A := ⟨hX, H.Ol.fr fz (fun r o e q => by unfold sPu at e; unfold gOl at q; omega), H.Op.fr fz (fun r o e q => by unfold sPu at e; unfold gOp at q; omega), H.Ks.fr fz (fun r o e q => by unfold sPu at e; unfold gKs at q; omega), H.In.fr fz (fun r o e q => by unfold sPu at e; unfold gIn at q; omega), H.Ct.fr fz (fun r o e q => by unfold sPu at e; unfold gCt at q; omega), H.Of.fr fz (fun r o e q => by unfold sPu at e; unfold gOf at q; omega), H.Ch.fr fz (fun r o e q => by unfold sPu at e; unfold gCh at q; omega), H.Ar.fr fz (fun r o e q => by unfold sPu at e; unfold gAr at q; omega), H.Ve.fr fz (fun r o e q => by unfold sPu at e; unfold gVe at q; omega), hIp, H.Tx.fr fz (fun r o e q => by unfold sPu at e; unfold gTx at q; omega), H.Wr.fr fz (fun r o e q => by unfold sPu at e; unfold gWr at q; omega), H.Ex.fr fz (fun r o e q => by unfold sPu at e; unfold gEx at q; omega), H.La.fr fz (fun r o e q => by unfold sPu at e; unfold gLa at q; omega)⟩
        exact ⟨_, rfl, by rw [hF], _, _, _, _, _, P8, yLe.rf, by rw [hF]; exact Hn⟩
      · refine g_ldc (v := (-1000000003)) B q820 dX0_push_38 ?_
        refine g_iret B E rfl rfl dX0_push_40 ?_
        have hF : a.pushF (nI nk) u = (-1000000003, a) := by rw [aA.pushF, if_pos ⟨hb_k, hb_u⟩, if_pos (by omega)]
        exact ⟨_, rfl, by rw [hF], _, _, _, _, _, P, yLe.rf, by rw [hF]; exact H⟩
    · refine g_ldc (v := (-1000000002)) B q811 dX0_push_26 ?_
      refine g_iret B E rfl rfl dX0_push_28 ?_
      have hF : a.pushF k u = (-1000000002, a) := by rw [aA.pushF, if_neg (fun q => by have q2 := q.2; rw [c4] at q2; cases q2)]
      exact ⟨_, rfl, by rw [hF], _, _, _, _, _, P, yLe.rf, by rw [hF]; exact H⟩
