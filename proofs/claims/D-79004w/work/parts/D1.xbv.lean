set_option maxRecDepth 100000
theorem alR_v : alR 134 5003 := ⟨by decide, by decide, by decide, by unfold idR; decide, by unfold okA; decide⟩
theorem c_X0_build {G : xG} {T : xT} {O R : xO} {Y : xY} {V : xVV} {I : xII} {J : xJJ} {A : xVV} {w0 : xW} {x0 pl pv po p7 p10 g0 n xl bz old cr : Nat} {p : Nat → Nat} {ll lv : List Nat} {sp : List (Nat × Nat)} (P : PX Y V I J A w0 T O R) (hBo : xBo Y V A x0 pl pv po p7 p10 g0 n p ll) (Lv : xAl Y V A 134 5003 pv g0 lv) (hg : g0 = G.2.2.2.2 0) (hsm : xSm Y V x0 xl bz old cr) (hSp : bSp Y V xl sp (fun _ => 54)) (hs324 : sp.length ≤ 324) (hN1 : bN1 Y 0 0) (hN : bN2 Y 0 0 0) (hn2 : 2 ≤ n) (hn6 : n ≤ 6) (hp3 : ∀ o, p o ≤ 3) : xCtr G yX0_build cX0_build 4 none 7 191 546 6339 [.ref x0] (T, O, R) (xN (xPN w0 (fun Y2 V2 I2 J2 A2 => xFr sBd Y V I J A Y2 V2 I2 J2 A2 ∧ XIn Y2 V2 I2 J2 n p (fun _ _ => []) (fun _ _ _ => false) (fun _ _ => 0) (fun _ _ => false) ∧ (∀ o, o < n → ∀ i, i < p o → ∃ x, xVc Y2 V2 101 2 (3 * o + i) x (fun _ => 0)) ∧ (∃ fi, XCh Y2 V2 I2 A2 n p (fun _ _ _ => ([], [], 0)) fi) ∧ XAr Y2 A2 n p ∧ XVe Y2 V2 A2 g0 n p))) := by
  refine xCtr.of (by decide +kernel) (Nat.le_of_ble_eq_true rfl) ?_
  intro Z B E hz hnm
  change xV Z (T, O, R) 0 [(0, .ref x0)] [] 546 6339
  subst hg
  have ⟨h0, hB8, hB9, hB10, ⟨h7, hB11⟩, hB12⟩ := hBo
  have ⟨b0z, ⟨b8z, b9z, b10z, b11z, b12z⟩, boz, bvz, ⟨b7z, b7nz⟩, ⟨btz, btnz⟩, blz, blnz, b4z⟩ := hBo
  refine g_aload_n B 0 dX0_build_0 rfl ?_
  refine x_get B P b0z (by decide) rfl F_X0_127_0 (by decide) b10z dX0_build_1 ?_
  obtain ⟨n1, u1, ty1⟩ := P.ty bvz (by decide) rfl
  refine g_callV (rest := []) B M_J4_clear q498 q499 q500 ty1 rfl (c_J4_clear (r := 134) (rd := 5003) P alR_v Lv rfl) rfl rfl (Nat.le_of_ble_eq_true rfl) (Nat.le_of_ble_eq_true rfl) (Nat.le_of_ble_eq_true rfl) (Nat.le_refl _) (Nat.le_refl _) dX0_build_4 (xkN (fun T1 O1 R1 le1 p1 => ?_))
  obtain ⟨Y1, V1, I1, J1, A1, P1, ⟨eI1, eJ1⟩, L1, f1⟩ := p1
  obtain rfl := eI1.symm
  obtain rfl := eJ1.symm
  have Boc := hBo.fr f1 (fun r o e => by unfold sAl at e; omega)
  have ⟨b0c, ⟨b8c, b9c, b10c, b11c, b12c⟩, boc, bvc, ⟨b7c, b7nc⟩, ⟨btc, btnc⟩, blc, blnc, b4c⟩ := Boc
  refine g_aload_n B 0 dX0_build_7 rfl ?_
  refine x_get B P1 b0c (by decide) rfl F_X0_127_0 (by decide) b10c dX0_build_8 ?_
  refine g_aload_n B 0 dX0_build_11 rfl ?_
  refine x_get B P1 b0c (by decide) rfl F_X0_123_0 (by decide) b9c dX0_build_12 ?_
  obtain ⟨n2, u2, ty2⟩ := P1.ty bvc (by decide) rfl
  have VE0 : bVe Y1 V1 A1 pv (G.2.2.2.2 0) [] := ⟨[], L1, rfl, fun j hj => absurd hj (Nat.not_lt_zero j)⟩
  obtain ⟨l3, l13, l23, l33⟩ := VE0
  refine g_callV (kc2 := 545) (ks2 := 6189) (rest := []) B M_J4_add q393 q394 q395 ty2 rfl (c_J4_add (r := 134) (rd := 5003) (b := po) P1 alR_v l13 rfl (by rw [l23]; exact Nat.zero_le _) (fun j hj => vObj (fun q hq => by cases hq) (by rw [← l23]; exact hj) (l33 j hj)) ⟨201, 0, boc, by decide, (by show xAsg (xrT _ 201 _) 5; exact asg_X1_5)⟩) rfl rfl (Nat.le_of_ble_eq_true rfl) (Nat.le_of_ble_eq_true rfl) (Nat.le_of_ble_eq_true rfl) (by decide) (by decide) dX0_build_15 (xkA (fun v2 T2 O2 R2 le2 p2 => ?_))
  obtain ⟨Y2, V2, I2, J2, A2, P2, rfl, ⟨eI2, eJ2⟩, L2, f2⟩ := p2
  obtain rfl := eI2.symm
  obtain rfl := eJ2.symm
  have VEi : bVe Y2 V2 A2 pv (G.2.2.2.2 0) (vl 0 p) := bVe.of (q := (201, 0)) l23 l33 f2.1.1 (f2.1.at boc) L2
  have Fi : xFr sB1 Y V I J A Y2 V2 I J A2 := (f1.mono (fun r o e => by unfold sAl at e; unfold sB1; omega)).tr (f2.mono (fun r o e => by unfold sAl at e; unfold sB1; omega))
  refine g_pop B dX0_build_18 rfl ?_
  refine g_iconst (v := nI 0) B dX0_build_19 (by decide) ?_
  refine g_istore_n (lv2 := [(1, _), (0, _)]) B dX0_build_20 (by decide) rfl ?_
  refine xV.room (kc' := (35 * (6 - 0) + 335)) (ks' := (699 * (6 - 0) + 1995)) (by omega) (by omega) ?_
  have N1i : bN1 Y2 (3 * 0) 0 := (hN1.gr f1.1 (Nat.le_refl _) (Nat.le_refl _) (fun r c e => by unfold sAl at e; unfold gIn; omega)).gr f2.1 (Nat.le_refl _) (Nat.le_refl _) (fun r c e => by unfold sAl at e; unfold gIn; omega)
  have Ld : ∀ (dd : Nat) (o : Nat) (Y1d : xY) (V1d : xVV) (I1d : xII) (J1d : xJJ) (A1d : xVV) (T1d : xT) (O1d R1d : xO), dd = n - o → PX Y1d V1d I1d J1d A1d w0 T1d O1d R1d → (o ≤ n) → (xFr sB1 Y V I J A Y1d V1d I1d J1d A1d) → (bIs Y1d V1d I1d J1d p o 0) → (bA6 Y1d A1d p o 0) → (bAr Y1d A1d p o) → (bVe Y1d V1d A1d pv (G.2.2.2.2 0) (vl o p)) → (bN1 Y1d (3 * o) o) → xV Z (T1d, O1d, R1d) 21 [(1, .int (nI o)), (0, .ref x0)] [] (35 * (6 - o) + 335) (699 * (6 - o) + 1995) := by
    intro dd
    induction dd using Nat.strongRecOn with
    | _ dd ihd =>
      intro o Y1d V1d I1d J1d A1d T1d O1d R1d hdd P1d hon Fd ISd A6d ARd VEd N1d
      have Bod := hBo.fr Fd (fun r o e => by unfold sB1 gIn at e; omega)
      have ⟨b0d, ⟨b8d, b9d, b10d, b11d, b12d⟩, bod, bvd, ⟨b7d, b7nd⟩, ⟨btd, btnd⟩, bld, blnd, b4d⟩ := Bod
      have hp3o := hp3 o
      refine g_iload_n B 0 dX0_build_21 rfl ?_
      refine g_aload_n B 1 dX0_build_22 rfl ?_
      refine x_get B P1d b0d (by decide) rfl F_X0_115_0 (by decide) b8d dX0_build_23 ?_
      obtain ⟨n101, u101, ty101⟩ := P1d.ty bld.1 (by decide) rfl
      refine g_callV (kc2 := (35 * (6 - o) + 335)) (ks2 := (699 * (6 - o) + 1995)) (rest := [_]) B M_J4_size q502 q503 q504 ty101 rfl (c_J4_size (r := 34) (rd := 5002) P1d (by decide) rfl bld) rfl rfl (Nat.le_of_ble_eq_true rfl) (Nat.le_of_ble_eq_true rfl) (Nat.le_of_ble_eq_true rfl) (Nat.le_refl _) (Nat.le_refl _) dX0_build_26 (xkA (fun v101 T101 O101 R101 le101 p101 => ?_))
      obtain ⟨rfl, eT101, eO101, eR101⟩ := p101
      obtain rfl := eT101.symm
      obtain rfl := eO101.symm
      obtain rfl := eR101.symm
      refine g_icmp_geN (tgt := 139) B (by omega) (by omega) dX0_build_29 (by decide) (fun c102 => ?_) (fun c102 => ?_)
      · refine xV.room (kc' := 335) (ks' := 1995) (by omega) (by omega) ?_
        have eo : o = n := by omega
        subst eo
        have hNd := hN.gr Fd.1 (Nat.le_refl _) (Nat.le_refl _) (Nat.le_refl _) (fun r c e => by unfold sB1 gIn at e; omega)
        refine g_pick [1] rfl ?_
        refine build_c B P1d Bod ARd (hsm.fr Fd (fun e => by unfold sB1 gIn at e; omega)) (hSp.fr Fd (fun r o e => by unfold sB1 gIn at e; omega)) hs324 hNd hn2 hn6 hp3 (fun Y2 V2 I2 A2 T2 O2 R2 P2 f2 c2 c3 => ?_)
        refine g_vret B E rfl dX0_build_254 ?_
        have IS3 := ISd.fr f2 (fun o' i' hd => ⟨fun r hr e => by unfold gIn at hr; unfold sB2 gCh at e; omega, fun v hv e => by unfold sB2 gCh at e; omega⟩)
        have A63 := A6d.fr f2 (fun o' i' hd e => by unfold sB2 gCh at e; omega)
        have AR3 := ARd.fr b7d f2 (fun e => by unfold sB2 gCh at e; omega)
        have VE3 := VEd.fr f2 (fun r o e => by unfold sB2 gCh at e; omega)
        refine ⟨rfl, _, _, _, _, _, P2, (Fd.mono (fun r c e => by unfold sB1 gIn at e; unfold sBd gIn; omega)).tr (f2.mono (fun r c e => by unfold sB2 gCh at e; unfold sBd gIn gCh; omega)), fun o' ho i' hi => (IS3 o' i' ⟨hi, Or.inl ho⟩).1, fun o' ho i' hi => (IS3 o' i' ⟨hi, Or.inl ho⟩).2, c2, ⟨⟨p7, f2.1.at b7d, f2.1.n b7d b7nd, fun o' ho => ?_⟩, c3⟩, ?_⟩
        · obtain ⟨xr, q1, q2, q3⟩ := AR3 o' ho; exact ⟨xr, q1, q2, q3, fun i' hi => (A63 o' i' ⟨hi, Or.inl ho⟩).2⟩
        · obtain ⟨l, q1, q2, q3⟩ := VE3; exact ⟨_, l, q1, q2, q3⟩
      · have hon : o < n := by omega
        obtain ⟨xst, o4, o5⟩ := (b4d o (by omega)).2.2
        refine g_aload_n B 1 dX0_build_32 rfl ?_
        refine x_get B P1d b0d (by decide) rfl F_X0_132_0 (by decide) b11d dX0_build_33 ?_
        refine g_iload_n B 0 dX0_build_36 rfl ?_
        refine g_aload_n B 1 dX0_build_37 rfl ?_
        refine x_get B P1d b0d (by decide) rfl F_X0_115_0 (by decide) b8d dX0_build_38 ?_
        refine g_iload_n B 0 dX0_build_41 rfl ?_
        obtain ⟨n103, u103, ty103⟩ := P1d.ty bld.1 (by decide) rfl
        refine g_callV (kc2 := (35 * (6 - o) + 335)) (ks2 := (699 * (6 - o) + 1995)) (rest := [_, _]) B M_J4_get q506 q507 q508 ty103 rfl (c_J4_get (r := 34) (rd := 5002) P1d (by decide) rfl bld rfl (by rw [blnd]; omega)) rfl rfl (Nat.le_of_ble_eq_true rfl) (Nat.le_of_ble_eq_true rfl) (Nat.le_of_ble_eq_true rfl) (Nat.le_refl _) (Nat.le_refl _) dX0_build_42 (xkA (fun v103 T103 O103 R103 le103 p103 => ?_))
        obtain ⟨rfl, eT103, eO103, eR103⟩ := p103
        obtain rfl := eT103.symm
        obtain rfl := eO103.symm
        obtain rfl := eR103.symm
        obtain ⟨n104, u104, ty104⟩ := P1d.ty (b4d o (by omega)).1 (by decide) rfl
        refine g_cast B ty104 (opNa _) q520 (opCast_X4 _) dX0_build_45 ?_
        refine x_get B P1d (b4d o (by omega)).1 (by decide) rfl (FO_X0_183 _) (by decide) (b4d o (by omega)).2.1 dX0_build_48 ?_
        refine xV.room (kc' := 35 * (6 - (o + 1)) + 335 + 11 * 3 + 1 + 1) (ks' := 699 * (6 - (o + 1)) + 1995 + 182 * 3 + 150 + p o) (by omega) (by omega) ?_
        refine x_newq (N := (p o)) (kc := 35 * (6 - (o + 1)) + 335 + 11 * 3 + 1) (ks := 699 * (6 - (o + 1)) + 1995 + 182 * 3 + 150) B P1d 6001 (fun _ => o) (by unfold okA; decide) (by decide) rfl q521 q256 rfl (by omega) (fun _ _ x => N1d.2.2 o x (Nat.le_refl _)) (fun hi => by unfold idR at hi; omega) dX0_build_51 (fun q105 Y105 A105 T105 R105 hq105 le105 gr105 hf105 at105 hN105 hs105 hk105 P105 => ?_)
        obtain ⟨t106, u106, ty106, tk106⟩ := P105.tya at105 (by decide)
        refine x_stE B P105 (le105.at b7d) (by decide) ty106 (xAsE.arr (by omega) tk106 rfl rfl rfl rfl rfl) rfl (le105.n b7d b7nd) (by omega) (by omega) dX0_build_54 (fun R106 A106 hs106 hk106 P106 => ?_)
        have fq : xFr (fun r c => r = 6001 ∧ c = o) Y1d V1d I1d J1d A1d Y105 V1d I1d J1d A105 := xFr.nA (r := 6001) (o := o) ⟨rfl, rfl⟩ le105 gr105 hs105 hk105
        have fs : xFr (fun r c => r = 7001 ∧ c = 0) Y105 V1d I1d J1d A105 Y105 V1d I1d J1d A106 := xFr.uA (r := 7001) (o := 0) ⟨rfl, rfl⟩ hs106 hk106
        have Bog := (Bod.fr fq (fun r o e => by omega)).fr fs (fun r o e => by omega)
        have ⟨b0g, ⟨b8g, b9g, b10g, b11g, b12g⟩, bog, bvg, ⟨b7g, b7ng⟩, ⟨btg, btng⟩, blg, blng, b4g⟩ := Bog
        refine g_aload_n B 1 dX0_build_55 rfl ?_
        refine x_get B P106 b0g (by decide) rfl F_X0_127_0 (by decide) b10g dX0_build_56 ?_
        obtain ⟨xst, o4, o5⟩ := (b4g o (by omega)).2.2
        refine g_aload_n B 1 dX0_build_59 rfl ?_
        refine x_get B P106 b0g (by decide) rfl F_X0_115_0 (by decide) b8g dX0_build_60 ?_
        refine g_iload_n B 0 dX0_build_63 rfl ?_
        obtain ⟨n107, u107, ty107⟩ := P106.ty blg.1 (by decide) rfl
        refine g_callV (kc2 := 35 * (6 - (o + 1)) + 335 + 11 * 3 + 1) (ks2 := 699 * (6 - (o + 1)) + 1995 + 182 * 3 + 150) (rest := [_]) B M_J4_get q506 q507 q508 ty107 rfl (c_J4_get (r := 34) (rd := 5002) P106 (by decide) rfl blg rfl (by rw [blng]; omega)) rfl rfl (Nat.le_of_ble_eq_true rfl) (Nat.le_of_ble_eq_true rfl) (Nat.le_of_ble_eq_true rfl) (Nat.le_refl _) (Nat.le_refl _) dX0_build_64 (xkA (fun v107 T107 O107 R107 le107 p107 => ?_))
        obtain ⟨rfl, eT107, eO107, eR107⟩ := p107
        obtain rfl := eT107.symm
        obtain rfl := eO107.symm
        obtain rfl := eR107.symm
        obtain ⟨n108, u108, ty108⟩ := P106.ty (b4g o (by omega)).1 (by decide) rfl
        refine g_cast B ty108 (opNa _) q520 (opCast_X4 _) dX0_build_67 ?_
        refine x_get B P106 (b4g o (by omega)).1 (by decide) rfl (FO_X0_187 _) (by decide) o4 dX0_build_70 ?_
        obtain ⟨n109, u109, ty109⟩ := P106.ty bvg (by decide) rfl
        have VEq := (VEd.fr fq (fun r o e => by omega)).fr fs (fun r o e => by omega)
        obtain ⟨l110, l1110, l2110, l3110⟩ := VEq
        refine g_callV (rest := []) B M_J4_add q393 q394 q395 ty109 rfl (c_J4_add (r := 134) (rd := 5003) (b := xst) P106 alR_v l1110 rfl (by rw [l2110]; have := vl_len hp3 o; omega) (fun j hj => vObj (vl_ok p o) (by rw [← l2110]; exact hj) (l3110 j hj)) ⟨1, o, o5, by decide, (by show xAsg (xrT _ 1 _) 5; exact asg_X1_5)⟩) rfl rfl (Nat.le_of_ble_eq_true rfl) (Nat.le_of_ble_eq_true rfl) (Nat.le_of_ble_eq_true rfl) (Nat.le_refl _) (Nat.le_refl _) dX0_build_73 (xkA (fun v109 T109 O109 R109 le109 p109 => ?_))
        obtain ⟨Y109, V109, I109, J109, A109, P109, rfl, ⟨eI109, eJ109⟩, L109, f109⟩ := p109
        obtain rfl := eI109.symm
        obtain rfl := eJ109.symm
        have VE1 : bVe Y109 V109 A109 pv (G.2.2.2.2 0) (vlI p o 0) := by rw [vlI_0]; exact bVe.of (q := (1, o)) l2110 l3110 f109.1.1 (f109.1.at o5) L109
        have IS1 := ((ISd.fr fq (fun o' i' hd => ⟨fun r hr e => by unfold gIn at hr; omega, fun v hv e => by omega⟩)).fr fs (fun o' i' hd => ⟨fun r hr e => by unfold gIn at hr; omega, fun v hv e => by omega⟩)).fr f109 (fun o' i' hd => ⟨fun r hr e => by unfold sAl at e; unfold gIn at hr; omega, fun v hv e => by unfold sAl at e; omega⟩)
        have A61 := ((A6d.fr fq (fun o' i' hd e => by have h2 := hd.2; omega)).fr fs (fun o' i' hd e => by omega)).fr f109 (fun o' i' hd e => by unfold sAl at e; omega)
        have AR1 := ((ARd.fr b7d fq (fun e => by omega)).st hs106 at105 hN105).fr (fs.1.at (fq.1.at b7d)) f109 (fun e => by unfold sAl at e; omega)
        have N11 := ((N1d.gr (m' := o + 1) fq.1 (Nat.le_refl _) (Nat.le_succ _) (fun r c e => by unfold gIn; omega)).gr fs.1 (Nat.le_refl _) (Nat.le_refl _) (fun r c e => by unfold gIn; omega)).gr f109.1 (Nat.le_refl _) (Nat.le_refl _) (fun r c e => by unfold sAl at e; unfold gIn; omega)
        have F1_ : xFr sB1 Y V I J A Y109 V109 I1d J1d A109 := Fd.tr ((fq.mono (fun r c e => by unfold sB1; omega)).tr ((fs.mono (fun r c e => by unfold sB1; omega)).tr (f109.mono (fun r c e => by unfold sAl at e; unfold sB1; omega))))
        refine g_pop B dX0_build_76 rfl ?_
        refine g_iconst (v := nI 0) B dX0_build_77 (by decide) ?_
        refine g_istore_n (lv2 := [(2, _), (1, _), (0, _)]) B dX0_build_78 (by decide) rfl ?_
        refine xV.room (kc' := (11 * (3 - 0) + (35 * (6 - (o + 1)) + 335))) (ks' := (182 * (3 - 0) + (699 * (6 - (o + 1)) + 1995))) (by omega) (by omega) ?_
        have Le : ∀ (de : Nat) (i : Nat) (Y1e : xY) (V1e : xVV) (I1e : xII) (J1e : xJJ) (A1e : xVV) (T1e : xT) (O1e R1e : xO), de = p o - i → PX Y1e V1e I1e J1e A1e w0 T1e O1e R1e → (i ≤ p o) → (xFr sB1 Y V I J A Y1e V1e I1e J1e A1e) → (bIs Y1e V1e I1e J1e p o i) → (bA6 Y1e A1e p o i) → (bAr Y1e A1e p (o + 1)) → (bVe Y1e V1e A1e pv (G.2.2.2.2 0) (vlI p o i)) → (bN1 Y1e (3 * o + i) (o + 1)) → xV Z (T1e, O1e, R1e) 79 [(2, .int (nI i)), (1, .int (nI o)), (0, .ref x0)] [] (11 * (3 - i) + (35 * (6 - (o + 1)) + 335)) (182 * (3 - i) + (699 * (6 - (o + 1)) + 1995)) := by
          intro de
          induction de using Nat.strongRecOn with
          | _ de ihe =>
            intro i Y1e V1e I1e J1e A1e T1e O1e R1e hde P1e hil Fe ISe A6e ARe VEe N1e
            have Boe := hBo.fr Fe (fun r o e => by unfold sB1 gIn at e; omega)
            have ⟨b0e, ⟨b8e, b9e, b10e, b11e, b12e⟩, boe, bve, ⟨b7e, b7ne⟩, ⟨bte, btne⟩, ble, blne, b4e⟩ := Boe
            obtain ⟨x6e, w1e, w2e, w3e⟩ := ARe o (Nat.lt_succ_self o)
            refine g_iload_n B 0 dX0_build_79 rfl ?_
            refine g_aload_n B 2 dX0_build_80 rfl ?_
            refine x_get B P1e b0e (by decide) rfl F_X0_132_0 (by decide) b11e dX0_build_81 ?_
            refine g_iload_n B 1 dX0_build_84 rfl ?_
            refine x_ldA B P1e b7e (by decide) rfl rfl rfl b7ne (by omega) (by omega) w1e dX0_build_85 ?_
            refine x_alen B P1e w2e (by decide) rfl w3e dX0_build_86 ?_
            refine g_icmp_geN (tgt := 133) B (by omega) (by omega) dX0_build_87 (by decide) (fun c101 => ?_) (fun c101 => ?_)
            · refine g_iinc (v := nI (o + 1)) (lv2 := [(1, _), (2, _), (0, _)]) B 1 dX0_build_133 rfl (nI_1 _) (by decide) rfl ?_
              refine g_goto (tgt := 21) B dX0_build_136 (by decide) ?_
              refine xV.room (kc' := (35 * (6 - (o + 1)) + 335)) (ks' := (699 * (6 - (o + 1)) + 1995)) (by omega) (by omega) ?_
              have ei : i = p o := by omega
              rw [ei, vlI_n] at VEe
              refine g_pick [0, 2] rfl ?_
              exact ihd (n - (o + 1)) (by omega) (o + 1) _ _ _ _ _ _ _ _ rfl P1e (by omega) Fe (ISe.next (by omega)) (A6e.next (by omega)) ARe VEe (N1e.le (by omega) (Nat.le_refl _))
            · refine g_aload_n B 2 dX0_build_90 rfl ?_
              refine x_get B P1e b0e (by decide) rfl F_X0_132_0 (by decide) b11e dX0_build_91 ?_
              refine g_iload_n B 1 dX0_build_94 rfl ?_
              refine x_ldA B P1e b7e (by decide) rfl rfl rfl b7ne (by omega) (by omega) w1e dX0_build_95 ?_
              refine g_iload_n B 0 dX0_build_96 rfl ?_
              have hi : i < p o := by omega
              refine xV.room (kc' := (11 * (3 - (i + 1)) + (35 * (6 - (o + 1)) + 335)) + 10 + 1) (ks' := (182 * (3 - (i + 1)) + (699 * (6 - (o + 1)) + 1995)) + 169 + 13) (by omega) (by omega) ?_
              refine x_new (kc := (11 * (3 - (i + 1)) + (35 * (6 - (o + 1)) + 335)) + 10) (ks := (182 * (3 - (i + 1)) + (699 * (6 - (o + 1)) + 1995)) + 169) (t := 9) B P1e 9 0 (fun _ => 3 * o + i) (by decide) rfl (by unfold okT; decide) tyX9 rfl (fun k hk => tyX9_ok k hk) q521 q522 q119 (fun _ _ x => N1e.1 9 _ x (Or.inl (Or.inl rfl)) (Nat.le_refl _)) (fun h => absurd h (by unfold idR; decide)) dX0_build_97 (fun q102 Y102 V102 T102 O102 hq102 le102 gr102 hf102 at102 hK102 hs102 hk102 P102 => ?_)
              refine g_dup B dX0_build_100 rfl ?_
              refine g_aload_n B 2 dX0_build_101 rfl ?_
              refine g_iload_n B 1 dX0_build_102 rfl ?_
              refine g_iload_n B 0 dX0_build_103 rfl ?_
              have fN : xFr (fun r c => ((gIn r ∨ r = 101) ∧ c = 3 * o + i) ∨ (r = 2 ∧ c / 3 = 3 * o + i)) Y1e V1e I1e J1e A1e Y102 V102 I1e J1e A1e := xFr.nV (r := 9) (o := 3 * o + i) (Or.inl ⟨Or.inl (Or.inl rfl), rfl⟩) le102 gr102 hs102 hk102
              refine g_callI (kc2 := (11 * (3 - (i + 1)) + (35 * (6 - (o + 1)) + 335)) + 1) (ks2 := (182 * (3 - (i + 1)) + (699 * (6 - (o + 1)) + 1995)) + 150) (rest := [_, _, _]) B M_X9_init rfl q523 q524 (c_X9_init (o := o) (i := i) P102 at102 (le102.at b0e) (rdN hs102 rfl) (rdN hs102 rfl) (rdN hs102 rfl) (rdN hs102 rfl) (rdN hs102 rfl) (yGr.no gr102 (fun x => N1e.1 1011 _ x (Or.inl (by unfold gIn; decide)) (Nat.le_refl _)) (fun e => absurd e.1 (by decide))) (yGr.no gr102 (fun x => N1e.1 1012 _ x (Or.inl (by unfold gIn; decide)) (Nat.le_refl _)) (fun e => absurd e.1 (by decide))) (yGr.no gr102 (fun x => N1e.1 1013 _ x (Or.inl (by unfold gIn; decide)) (Nat.le_refl _)) (fun e => absurd e.1 (by decide))) (yGr.no gr102 (fun x => N1e.1 135 _ x (Or.inl (by unfold gIn; decide)) (Nat.le_refl _)) (fun e => absurd e.1 (by decide))) (yGr.no gr102 (fun x => N1e.1 4002 _ x (Or.inl (by unfold gIn; decide)) (Nat.le_refl _)) (fun e => absurd e.1 (by decide))) (yGr.no gr102 (fun x => N1e.1 101 _ x (Or.inr rfl) (Nat.le_refl _)) (fun e => absurd e.1 (by decide))) (fun v hv => yGr.no gr102 (fun x => N1e.2.1 _ x (by omega)) (fun e => absurd e.1 (by decide)))) rfl rfl (Nat.le_of_ble_eq_true rfl) (Nat.le_of_ble_eq_true rfl) (Nat.le_of_ble_eq_true rfl) (Nat.le_refl _) (Nat.le_refl _) dX0_build_104 (xkN (fun T103 O103 R103 le103 p103 => ?_))
              obtain ⟨Y103, V103, I103, J103, A103, P103, eA103, is103, ⟨xc103, vc103⟩, f103⟩ := p103
              obtain rfl := eA103.symm
              have fA := fN.tr f103
              have is2 := is103
              have ⟨j0, j1, j2, j3, j4, j5, j6, j7, j8, j9, ⟨xv2, j10, j11⟩, j12⟩ := is2
              have Bof := Boe.fr fA (fun r o e => by unfold gIn at e; omega)
              have ⟨b0f, ⟨b8f, b9f, b10f, b11f, b12f⟩, bof, bvf, ⟨b7f, b7nf⟩, ⟨btf, btnf⟩, blf, blnf, b4f⟩ := Bof
              obtain ⟨n104, u104, ty104⟩ := P103.ty (f103.1.at at102) (by decide) rfl
              refine x_stE B P103 (f103.1.at (le102.at w2e)) (by decide) ty104 ⟨_, _, rfl, rfl, rfl, rfl⟩ rfl (f103.1.n (le102.at w2e) (le102.n w2e w3e)) (by omega) (by omega) dX0_build_107 (fun R104 A104 hs104 hk104 P104 => ?_)
              refine g_aload_n B 2 dX0_build_108 rfl ?_
              refine x_get B P104 (f103.1.at (le102.at b0e)) (by decide) rfl F_X0_127_0 (by decide) b10f dX0_build_109 ?_
              refine g_aload_n B 2 dX0_build_112 rfl ?_
              refine x_get B P104 (f103.1.at (le102.at b0e)) (by decide) rfl F_X0_132_0 (by decide) b11f dX0_build_113 ?_
              refine g_iload_n B 1 dX0_build_116 rfl ?_
              refine x_ldA B P104 b7f (by decide) rfl rfl rfl (f103.1.n (le102.at b7e) (le102.n b7e b7ne)) (by omega) (by omega) (rdR hk104 (by decide) w1e) dX0_build_117 ?_
              refine g_iload_n B 0 dX0_build_118 rfl ?_
              refine x_ldA B P104 (f103.1.at (le102.at w2e)) (by decide) rfl rfl rfl (f103.1.n (le102.at w2e) (le102.n w2e w3e)) (by omega) (by omega) (rdS hs104) dX0_build_119 ?_
              refine x_get B P104 (f103.1.at at102) (by decide) rfl F_X0_193_9 (by decide) j10 dX0_build_120 ?_
              obtain ⟨n105, u105, ty105⟩ := P104.ty bvf (by decide) rfl
              have fS : xFr (fun r c => r = 6001 ∧ c = o) Y103 V103 I103 J103 A1e Y103 V103 I103 J103 A104 := xFr.uA (r := 6001) (o := o) ⟨rfl, rfl⟩ hs104 hk104
              have VEf := (VEe.fr fA (fun r o e => by unfold gIn at e; omega)).fr fS (fun r o e => by omega)
              obtain ⟨l106, l1106, l2106, l3106⟩ := VEf
              refine g_callV (rest := []) B M_J4_add q393 q394 q395 ty105 rfl (c_J4_add (r := 134) (rd := 5003) (b := xv2) P104 alR_v l1106 rfl (by rw [l2106]; have := vlI_len hp3 o i; omega) (fun j hj => vObj (vlI_ok p o i) (by rw [← l2106]; exact hj) (l3106 j hj)) ⟨101, (3 * o + i), j11, by decide, (by show xAsg (xrT _ 101 _) 5; exact asg_X1_5)⟩) rfl rfl (Nat.le_of_ble_eq_true rfl) (Nat.le_of_ble_eq_true rfl) (Nat.le_of_ble_eq_true rfl) (Nat.le_refl _) (Nat.le_refl _) dX0_build_123 (xkA (fun v105 T105 O105 R105 le105 p105 => ?_))
              obtain ⟨Y105, V105, I105, J105, A105, P105, rfl, ⟨eI105, eJ105⟩, L105, f105⟩ := p105
              obtain rfl := eI105.symm
              obtain rfl := eJ105.symm
              have VE2 : bVe Y105 V105 A105 pv (G.2.2.2.2 0) (vlI p o (i + 1)) := by rw [vlI_s]; exact bVe.of (q := (101, 3 * o + i)) l2106 l3106 f105.1.1 (f105.1.at j11) L105
              have fB := (fS.mono (S2 := fun r c => (r = 6001 ∧ c = o) ∨ r = 134 ∨ r = 5003) (fun r c e => Or.inl e)).tr (f105.mono (fun r c e => by unfold sAl at e; omega))
              have hlt : ∀ o' i', bDn p o i o' i' → 3 * o' + i' < 3 * o + i ∧ o' ≤ o := fun o' i' hd => by have h1 := hd.1; have h2 := hd.2; have h3 := hp3 o'; omega
              have IS2 := ((ISe.fr fA (fun o' i' hd => by have hlt2 := hlt o' i' hd; exact ⟨fun r hr e => by unfold gIn at e hr; omega, fun v hv e => by unfold gIn at e; omega⟩)).fr fB (fun o' i' hd => ⟨fun r hr e => by unfold gIn at hr; omega, fun v hv e => by omega⟩)).step (is103.fr fB (fun r hr e => by unfold gIn at hr; omega)) (vc103.fr fB (fun e => by omega) (fun v hv e => by omega))
              have A62 := ((A6e.fr fA (fun o' i' hd e => by unfold gIn at e; omega)).st hs104 (f103.1.at (le102.at w2e)) (f103.1.at at102)).fr f105 (fun o' i' hd e => by unfold sAl at e; omega)
              have AR2 := (ARe.fr b7e fA (fun e => by unfold gIn at e; omega)).fr (fA.1.at b7e) fB (fun e => by omega)
              have N12 := (N1e.gr (k' := 3 * o + (i + 1)) fA.1 (by omega) (Nat.le_refl _) (fun r c e => by unfold gIn at e ⊢; omega)).gr fB.1 (Nat.le_refl _) (Nat.le_refl _) (fun r c e => by unfold gIn; omega)
              have F2 : xFr sB1 Y V I J A Y105 V105 I103 J103 A105 := Fe.tr ((fA.mono (fun r c e => by unfold gIn at e; unfold sB1 gIn; omega)).tr (fB.mono (fun r c e => by unfold sB1; omega)))
              refine g_pop B dX0_build_126 rfl ?_
              refine g_iinc (v := nI (i + 1)) (lv2 := [(2, _), (1, _), (0, _)]) B 0 dX0_build_127 rfl (nI_1 _) (by decide) rfl ?_
              refine g_goto (tgt := 79) B dX0_build_130 (by decide) ?_
              exact ihe (p o - (i + 1)) (by omega) (i + 1) _ _ _ _ _ _ _ _ rfl P105 (by omega) F2 IS2 A62 AR2 VE2 N12
        exact Le _ 0 _ _ _ _ _ _ _ _ rfl P109 (Nat.zero_le _) F1_ IS1 A61 AR1 VE1 N11
  exact Ld _ 0 _ _ _ _ _ _ _ _ rfl P2 (Nat.zero_le _) Fi (fun o' i' hd => absurd hd.2 (by omega)) (fun o' i' hd => absurd hd.2 (by omega)) (fun o' h => absurd h (Nat.not_lt_zero o')) VEi N1i
