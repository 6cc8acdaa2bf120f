set_option maxRecDepth 100000
theorem c_X0_rebuild {G : xG} {T : xT} {O R : xO} {Y : xY} {V : xVV} {I : xII} {J : xJJ} {A : xVV} {w0 : xW} {x0 pl pv po p7 p10 g0 n xl bz old cr ox : Nat} {p : Nat → Nat} {ll lv : List Nat} {sp : List (Nat × Nat)} {d0 d2 : Nat → Nat → Nat} (P : PX Y V I J A w0 T O R) (hBo : xBo Y V A x0 pl pv po p7 p10 g0 n p ll) (Lv : xAl Y V A 134 5003 pv g0 lv) (hg : g0 = G.2.2.2.2 0) (hsm : xSm Y V x0 xl bz old cr) (hSp : bSp Y V xl sp (fun _ => 54)) (hs324 : sp.length ≤ 324) (hN1 : bN1 Y 0 0) (hN : bN2 Y 0 0 0) (n7002 : yNo Y 7002 0) (hn2 : 2 ≤ n) (hn6 : n ≤ 6) (hp3 : ∀ o, p o ≤ 3) (hox : ox < n) (hOld : bOld Y V A n p ox d0 d2 (A 7001 0)) : xCtr G yX0_rebuild cX0_rebuild 5 none 8 214 547 6345 [.ref x0, .int (nI ox)] (T, O, R) (xN (xPN w0 (fun Y2 V2 I2 J2 A2 => xFr (fun r _ => r = 7002 ∨ sBd r 0) Y V I J A Y2 V2 I2 J2 A2 ∧ XIn Y2 V2 I2 J2 n p (fun _ _ => []) (fun _ _ _ => false) (fun _ _ => 0) (fun _ _ => false) ∧ bCQ Y2 V2 n p ox 100 d0 d2 ∧ (∃ fi, XCh Y2 V2 I2 A2 n p (fun _ _ _ => ([], [], 0)) fi) ∧ XAr Y2 A2 n p ∧ XVe Y2 V2 A2 g0 n p))) := by
  refine xCtr.of (by decide +kernel) (Nat.le_of_ble_eq_true rfl) ?_
  intro Z B E hz hnm
  have hSt := by have h := B.st.2.2.2; rw [B.g] at h; exact h
  change xV Z (T, O, R) 0 [(0, .ref x0), (1, .int (nI ox))] [] 547 6345
  subst hg
  have ⟨h0, hB8, hB9, hB10, ⟨h7, hB11⟩, hB12⟩ := hBo
  have ⟨b0z, ⟨b8z, b9z, b10z, b11z, b12z⟩, boz, bvz, ⟨b7z, b7nz⟩, ⟨btz, btnz⟩, blz, blnz, b4z⟩ := hBo
  refine g_aload_n B 0 dX0_rebuild_0 rfl ?_
  refine x_get B P b0z (by decide) rfl F_X0_115_0 (by decide) b8z dX0_rebuild_1 ?_
  obtain ⟨n1, u1, ty1⟩ := P.ty blz.1 (by decide) rfl
  refine g_callV (rest := []) B M_J4_size q502 q503 q504 ty1 rfl (c_J4_size (r := 34) (rd := 5002) P (by decide) rfl blz) rfl rfl (Nat.le_of_ble_eq_true rfl) (Nat.le_of_ble_eq_true rfl) (Nat.le_of_ble_eq_true rfl) (Nat.le_refl _) (Nat.le_refl _) dX0_rebuild_4 (xkA (fun v1 T1 O1 R1 le1 p1 => ?_))
  obtain ⟨rfl, eT1, eO1, eR1⟩ := p1
  obtain rfl := eT1.symm
  obtain rfl := eO1.symm
  obtain rfl := eR1.symm
  have hln : ll.length = n := blnz
  refine xV.room (kc' := 546 + 1) (ks' := 6339 + ll.length) (by omega) (by omega) ?_
  refine x_newqA (N := ll.length) (kc := 546) (ks := 6339) B P 7002 (fun _ => 0) (by unfold okA; decide) (by decide) rfl rfl q254 q255 rfl (by omega) (fun _ _ => n7002) (fun hi => by unfold idR at hi; omega) dX0_rebuild_7 (fun q2 Y2 A2 T2 R2 hq2 le2 gr2 hf2 at2 hN2 hs2 hk2 P2 => ?_)
  refine g_astore_n (lv2 := [(2, _), (0, _), (1, _)]) B dX0_rebuild_10 (by decide) rfl ?_
  refine g_iconst (v := nI 0) B dX0_rebuild_11 (by decide) ?_
  refine g_istore_n (lv2 := [(3, _), (2, _), (0, _), (1, _)]) B dX0_rebuild_12 (by decide) rfl ?_
  have fq : xFr (fun r c => r = 7002) Y V I J A Y2 V I J A2 := xFr.nA (r := 7002) (o := 0) rfl le2 gr2 hs2 hk2
  have Bq := hBo.fr fq (fun r o e => by omega)
  have OLq := hOld.fr fq (fun r o e => by omega)
  have e7q : A2 7001 0 = A 7001 0 := (fq.2 7001 0 p7 h7 (fun e => by omega)).2.2.2
  have Lr : ∀ (dr : Nat) (k : Nat) (A1r : xVV) (T1r : xT) (O1r R1r : xO), dr = ll.length - k → PX Y2 V I J A1r w0 T1r O1r R1r → (k ≤ ll.length) → (xFr (fun r c => r = 7002) Y2 V I J A2 Y2 V I J A1r) → (∀ j, j < k → A1r 7002 0 j = A 7001 0 j) → xV Z (T1r, O1r, R1r) 13 [(3, .int (nI k)), (2, .ref q2), (1, .int (nI ox)), (0, .ref x0)] [] 546 6339 := by
    intro dr
    induction dr using Nat.strongRecOn with
    | _ dr ihr =>
      intro k A1r T1r O1r R1r hdr P1r hkl F1 C1
      have B1 := Bq.fr F1 (fun r o e => by omega)
      have ⟨b0r, ⟨b8r, b9r, b10r, b11r, b12r⟩, bor, bvr, ⟨b7r, b7nr⟩, ⟨btr, btnr⟩, blr, blnr, b4r⟩ := B1
      have at7 := at2
      have e7 : A1r 7001 0 = A 7001 0 := (F1.2 7001 0 p7 (le2.at h7) (fun e => by omega)).2.2.2.trans e7q
      refine g_iload_n B 0 dX0_rebuild_13 rfl ?_
      refine g_aload_n B 1 dX0_rebuild_14 rfl ?_
      refine x_alen B P1r at7 (by decide) rfl hN2 dX0_rebuild_15 ?_
      refine g_icmp_geN (tgt := 34) B (by omega) (by omega) dX0_rebuild_16 (by decide) (fun c101 => ?_) (fun c101 => ?_)
      · refine g_aload_n B 3 dX0_rebuild_34 rfl ?_
        obtain ⟨n102, u102, ty102⟩ := P1r.ty b0r (by decide) rfl
        have ek : k = n := by omega
        have fT := fq.tr F1
        have hNq := hN.gr fT.1 (Nat.le_refl _) (Nat.le_refl _) (Nat.le_refl _) (fun r c e => by omega)
        have hN1q := hN1.gr fT.1 (Nat.le_refl _) (Nat.le_refl _) (fun r c e => by unfold gIn; omega)
        have sm1 := hsm.fr fT (fun e => by omega)
        have sp1 := hSp.fr fT (fun r o e => by omega)
        have Lv1 := Lv.fr fT (fun e => by omega) (fun o e => by omega)
        refine g_callV (kc2 := 0) (ks2 := 0) (rest := []) B M_X0_build q494 q496 qs4 ty102 rfl (c_X0_build P1r B1 Lv1 rfl sm1 sp1 hs324 hN1q hNq hn2 hn6 hp3) rfl rfl (Nat.le_of_ble_eq_true rfl) (Nat.le_of_ble_eq_true rfl) (Nat.le_of_ble_eq_true rfl) (by decide) (by decide) dX0_rebuild_35 (xkN (fun T102 O102 R102 le102 p102 => ?_))
        obtain ⟨Y102, V102, I102, J102, A102, P102, f102, in102, ct102, ch102, ar102, ve102⟩ := p102
        have fB : xFr (fun r _ => r = 7002 ∨ sBd r 0) Y V I J A Y102 V102 I102 J102 A102 := (fT.mono (fun r c e => Or.inl e)).tr (f102.mono (fun r c e => Or.inr e))
        have OLb := hOld.fr fB (fun r o e => by unfold sBd gIn gCh at e; omega)
        have at7b := f102.1.at at7
        have hC7 : ∀ j, j < n → A102 7002 0 j = A 7001 0 j := fun j hj => (congrFun (f102.2 7002 0 _ at7 (fun e => by unfold sBd gIn gCh at e; omega)).2.2.2 j).trans (C1 j (by omega))
        have hn7b : yN Y102 7002 0 = ll.length := f102.1.n at7 hN2
        have BB := (hBo.fr fT (fun r o e => by omega)).fr f102 (fun r o e => by unfold sBd gIn gCh at e; omega)
        have ⟨b0b, ⟨b8b, b9b, b10b, b11b, b12b⟩, bob, bvb, ⟨b7b, b7nb⟩, ⟨btb, btnb⟩, blb, blnb, b4b⟩ := BB
        refine g_iconst (v := nI 0) B dX0_rebuild_38 (by decide) ?_
        refine g_istore_n (lv2 := [(3, _), (2, _), (1, _), (0, _)]) B dX0_rebuild_39 (by decide) rfl ?_
        have C0 : bCQ Y102 V102 n p ox (3 * 0 + 0) d0 d2 := fun k hk i hi => by
          obtain ⟨x, h⟩ := ct102 k hk i hi
          exact ⟨x, _, h, fun c => absurd c.2 (Nat.not_lt_zero _), fun _ => ⟨rfl, rfl⟩⟩
        have Lu : ∀ (du : Nat) (k : Nat) (V1u : xVV) (T1u : xT) (O1u R1u : xO), du = ll.length - k → PX Y102 V1u I102 J102 A102 w0 T1u O1u R1u → (k ≤ ll.length) → (xFr (fun r _ => r = 2) Y102 V102 I102 J102 A102 Y102 V1u I102 J102 A102) → (bCQ Y102 V1u n p ox (3 * k + 0) d0 d2) → xV Z (T1u, O1u, R1u) 40 [(3, .int (nI k)), (2, .ref q2), (1, .int (nI ox)), (0, .ref x0)] [] 0 0 := by
          intro du
          induction du using Nat.strongRecOn with
          | _ du ihu =>
            intro k V1u T1u O1u R1u hdu P1u hkl Fu CU
            have BBu := BB.fr Fu (fun r o e => by omega)
            have ⟨b0u, ⟨b8u, b9u, b10u, b11u, b12u⟩, bou, bvu, ⟨b7u, b7nu⟩, ⟨btu, btnu⟩, blu, blnu, b4u⟩ := BBu
            refine g_iload_n B 0 dX0_rebuild_40 rfl ?_
            refine g_aload_n B 3 dX0_rebuild_41 rfl ?_
            refine x_get B P1u b0u (by decide) rfl F_X0_115_0 (by decide) b8u dX0_rebuild_42 ?_
            obtain ⟨n101, u101, ty101⟩ := P1u.ty blu.1 (by decide) rfl
            refine g_callV (rest := [_]) B M_J4_size q502 q503 q504 ty101 rfl (c_J4_size (r := 34) (rd := 5002) P1u (by decide) rfl blu) rfl rfl (Nat.le_of_ble_eq_true rfl) (Nat.le_of_ble_eq_true rfl) (Nat.le_of_ble_eq_true rfl) (Nat.le_refl _) (Nat.le_refl _) dX0_rebuild_45 (xkA (fun v101 T101 O101 R101 le101 p101 => ?_))
            obtain ⟨rfl, eT101, eO101, eR101⟩ := p101
            obtain rfl := eT101.symm
            obtain rfl := eO101.symm
            obtain rfl := eR101.symm
            refine g_icmp_geN (tgt := 155) B (by omega) (by omega) dX0_rebuild_48 (by decide) (fun c102 => ?_) (fun c102 => ?_)
            · refine g_vret B E rfl dX0_rebuild_155 ?_
              have ekn : k = n := by omega
              exact ⟨rfl, _, _, _, _, _, P1u, fB.tr (Fu.mono (fun r c e => Or.inr (by unfold sBd; omega))), in102.fr Fu (fun r o e q => by unfold gIn at q; omega), CU.le (K2 := 100) (fun k2 i2 hk2 hi2 _ => by have := hp3 k2; omega), ⟨_, (ch102).choose_spec.fr Fu (fun r o e q => by unfold gCh at q; omega)⟩, ar102.fr Fu (fun r o e q => by unfold gAr at q; omega), ve102.fr Fu (fun r o e q => by unfold gVe at q; omega)⟩
            · have hkn : k < n := by omega
              refine g_iconst (v := nI 0) B dX0_rebuild_51 (by decide) ?_
              refine g_istore (lv2 := [(4, _), (3, _), (2, _), (1, _), (0, _)]) B dX0_rebuild_52 (by decide) rfl ?_
              have Lt : ∀ (dt : Nat) (i : Nat) (V1t : xVV) (T1t : xT) (O1t R1t : xO), dt = p k - i → PX Y102 V1t I102 J102 A102 w0 T1t O1t R1t → (i ≤ p k) → (xFr (fun r _ => r = 2) Y102 V102 I102 J102 A102 Y102 V1t I102 J102 A102) → (bCQ Y102 V1t n p ox (3 * k + i) d0 d2) → xV Z (T1t, O1t, R1t) 54 [(4, .int (nI i)), (3, .int (nI k)), (2, .ref q2), (1, .int (nI ox)), (0, .ref x0)] [] 0 0 := by
                intro dt
                induction dt using Nat.strongRecOn with
                | _ dt iht =>
                  intro i V1t T1t O1t R1t hdt P1t hil Ft CQ
                  have BBt := BB.fr Ft (fun r o e => by omega)
                  have ⟨b0t, ⟨b8t, b9t, b10t, b11t, b12t⟩, bot, bvt, ⟨b7t, b7nt⟩, ⟨btt, btnt⟩, blt, blnt, b4t⟩ := BBt
                  have hp3k := hp3 k
                  have arNt := (ar102).1
                  obtain ⟨x7t, m1t, m2t, m3t⟩ := arNt
                  obtain ⟨x6t, w1t, w2t, w3t, w4t⟩ := m3t k (by omega)
                  refine g_iload B 0 dX0_rebuild_54 rfl ?_
                  refine g_aload_n B 4 dX0_rebuild_56 rfl ?_
                  refine x_get B P1t b0t (by decide) rfl F_X0_132_0 (by decide) b11t dX0_rebuild_57 ?_
                  refine g_iload_n B 1 dX0_rebuild_60 rfl ?_
                  refine x_ldA B P1t b7t (by decide) rfl rfl rfl b7nt (by omega) (by omega) w1t dX0_rebuild_61 ?_
                  refine x_alen B P1t w2t (by decide) rfl w3t dX0_rebuild_62 ?_
                  refine g_icmp_geN (tgt := 149) B (by omega) (by omega) dX0_rebuild_63 (by decide) (fun c101 => ?_) (fun c101 => ?_)
                  · refine g_iinc (v := nI (k + 1)) (lv2 := [(3, _), (4, _), (2, _), (1, _), (0, _)]) B 1 dX0_rebuild_149 rfl (nI_1 _) (by decide) rfl ?_
                    refine g_goto (tgt := 40) B dX0_rebuild_152 (by decide) ?_
                    have CU2 := CQ.le (K2 := 3 * (k + 1) + 0) (fun k2 i2 hk2 hi2 hne2 => by have q1 := hp3 k2; have q2 := hp3 k; by_cases e : k2 = k; subst e; omega; omega)
                    refine g_pick [0, 2, 3, 4] rfl ?_
                    exact ihu (ll.length - (k + 1)) (by omega) (k + 1) _ _ _ _ rfl P1t (by omega) Ft CU2
                  · refine g_iload_n B 1 dX0_rebuild_66 rfl ?_
                    refine g_iload_n B 3 dX0_rebuild_67 rfl ?_
                    refine g_icmp_eqN (tgt := 149) B (by omega) (by omega) dX0_rebuild_68 (by decide) (fun c102 => ?_) (fun c102 => ?_)
                    · refine g_iinc (v := nI (k + 1)) (lv2 := [(3, _), (4, _), (2, _), (1, _), (0, _)]) B 1 dX0_rebuild_149 rfl (nI_1 _) (by decide) rfl ?_
                      refine g_goto (tgt := 40) B dX0_rebuild_152 (by decide) ?_
                      have CU2 := CQ.le (K2 := 3 * (k + 1) + 0) (fun k2 i2 hk2 hi2 hne2 => by have q1 := hp3 k2; have q2 := hp3 k; by_cases e : k2 = k; subst e; omega; omega)
                      refine g_pick [0, 2, 3, 4] rfl ?_
                      exact ihu (ll.length - (k + 1)) (by omega) (k + 1) _ _ _ _ rfl P1t (by omega) Ft CU2
                    · have hne : k ≠ ox := by omega
                      have hik : i < p k := by omega
                      obtain ⟨xrk, o1, o2, o3⟩ := OLb k hkn
                      obtain ⟨o4, o5⟩ := o3 hne
                      obtain ⟨xi, xv, qo, g1, g2, g3, g4, g5, g6⟩ := o5 i hik
                      obtain ⟨oc0, or0, on0⟩ := g4.2 0 (by decide)
                      obtain ⟨oc2, or2, on2⟩ := g4.2 2 (by decide)
                      obtain ⟨xw, n1, n2⟩ := w4t i hik
                      obtain ⟨xn, qn, c1, c2, c3⟩ := CQ k hkn i hik
                      obtain ⟨nc0, nr0, nn0⟩ := c1.2 0 (by decide)
                      obtain ⟨nc2, nr2, nn2⟩ := c1.2 2 (by decide)
                      have ov := congrFun (Ft.2 409 _ xi g2 (fun e => by omega)).1 11
                      have ow := (Ft.2 501 _ xv g4.1 (fun e => by omega)).1
                      have ox0 := (Ft.2 402 _ oc0 on0.1 (fun e => by omega)).1
                      have ox2 := (Ft.2 402 _ oc2 on2.1 (fun e => by omega)).1
                      obtain ⟨xn9, e9, -, -, -, -, -, -, -, -, -, ⟨xv9, i21, i22⟩, -⟩ := in102 k hkn i hik
                      have exn : xv9 = xn := P1t.fn i22 c1.1
                      have nv := congrFun (Ft.2 9 _ _ e9 (fun e => by omega)).1 11
                      refine g_aload_n B 2 dX0_rebuild_71 rfl ?_
                      refine g_iload_n B 1 dX0_rebuild_72 rfl ?_
                      refine x_ldA B P1t at7b (by decide) rfl rfl rfl hn7b (by omega) (by omega) ((hC7 k hkn).trans o1) dX0_rebuild_73 ?_
                      refine g_iload B 0 dX0_rebuild_74 rfl ?_
                      refine x_ldA B P1t o2 (by decide) rfl rfl rfl o4 (by omega) (by omega) g1 dX0_rebuild_76 ?_
                      refine x_get B P1t g2 (by decide) rfl F_X0_193_9 (by decide) (ov.trans g3) dX0_rebuild_77 ?_
                      refine x_get B P1t g4.1 (by decide) rfl F_X0_260_1 (by decide) ((congrFun ow 0).trans or0) dX0_rebuild_80 ?_
                      obtain ⟨n103, u103, ty103⟩ := P1t.ty on0.1 (by decide) rfl
                      refine g_castS (q := (RX2, TX2, 1)) B ty103 rfl q223 dX0_rebuild_83 ?_
                      refine g_aload_n B 4 dX0_rebuild_86 rfl ?_
                      refine x_get B P1t b0t (by decide) rfl F_X0_132_0 (by decide) b11t dX0_rebuild_87 ?_
                      refine g_iload_n B 1 dX0_rebuild_90 rfl ?_
                      refine x_ldA B P1t b7t (by decide) rfl rfl rfl b7nt (by omega) (by omega) w1t dX0_rebuild_91 ?_
                      refine g_iload B 0 dX0_rebuild_92 rfl ?_
                      refine x_ldA B P1t w2t (by decide) rfl rfl rfl w3t (by omega) (by omega) n1 dX0_rebuild_94 ?_
                      refine x_get B P1t n2 (by decide) rfl F_X0_193_9 (by decide) ((nv.trans i21).trans (congrArg Value.ref exn)) dX0_rebuild_95 ?_
                      refine x_get B P1t c1.1 (by decide) rfl F_X0_260_1 (by decide) nr0 dX0_rebuild_98 ?_
                      obtain ⟨n104, u104, ty104⟩ := P1t.ty nn0.1 (by decide) rfl
                      refine g_castS (q := (RX2, TX2, 1)) B ty104 rfl q223 dX0_rebuild_101 ?_
                      obtain ⟨n105, u105, ty105⟩ := P1t.ty on0.1 (by decide) rfl
                      refine g_callV (rest := []) B M_X2_copyTo q1824 q1648 q1649 ty105 rfl (c_X2_copyToQ P1t ⟨on0.1, (congrFun ox0 0).trans on0.2⟩ nn0) rfl rfl (Nat.le_of_ble_eq_true rfl) (Nat.le_of_ble_eq_true rfl) (Nat.le_of_ble_eq_true rfl) (Nat.le_refl _) (Nat.le_refl _) dX0_rebuild_104 (xkN (fun T105 O105 R105 le105 p105 => ?_))
                      obtain ⟨Y105, V105, I105, J105, A105, P105, eY105, eI105, eJ105, eA105, d105, f105⟩ := p105
                      obtain rfl := eY105.symm
                      obtain rfl := eI105.symm
                      obtain rfl := eJ105.symm
                      obtain rfl := eA105.symm
                      refine g_aload_n B 2 dX0_rebuild_107 rfl ?_
                      refine g_iload_n B 1 dX0_rebuild_108 rfl ?_
                      refine x_ldA B P105 at7b (by decide) rfl rfl rfl hn7b (by omega) (by omega) ((congrFun (f105.2 _ _ _ at7b (fun e => by unfold s1 at e; omega)).2.2.2 k).trans ((hC7 k hkn).trans o1)) dX0_rebuild_109 ?_
                      refine g_iload B 0 dX0_rebuild_110 rfl ?_
                      refine x_ldA B P105 o2 (by decide) rfl rfl rfl o4 (by omega) (by omega) ((congrFun (f105.2 _ _ _ o2 (fun e => by unfold s1 at e; omega)).2.2.2 i).trans g1) dX0_rebuild_112 ?_
                      refine x_get B P105 g2 (by decide) rfl F_X0_193_9 (by decide) ((congrFun (f105.2 _ _ _ g2 (fun e => by unfold s1 at e; omega)).1 11).trans (ov.trans g3)) dX0_rebuild_113 ?_
                      refine x_get B P105 g4.1 (by decide) rfl F_X0_325_1 (by decide) ((congrFun (f105.2 _ _ _ g4.1 (fun e => by unfold s1 at e; omega)).1 2).trans ((congrFun ow 2).trans or2)) dX0_rebuild_116 ?_
                      obtain ⟨n106, u106, ty106⟩ := P105.ty on2.1 (by decide) rfl
                      refine g_castS (q := (RX2, TX2, 1)) B ty106 rfl q223 dX0_rebuild_119 ?_
                      refine g_aload_n B 4 dX0_rebuild_122 rfl ?_
                      refine x_get B P105 b0t (by decide) rfl F_X0_132_0 (by decide) ((congrFun (f105.2 _ _ _ b0t (fun e => by unfold s1 at e; omega)).1 11).trans b11t) dX0_rebuild_123 ?_
                      refine g_iload_n B 1 dX0_rebuild_126 rfl ?_
                      refine x_ldA B P105 b7t (by decide) rfl rfl rfl b7nt (by omega) (by omega) ((congrFun (f105.2 _ _ _ b7t (fun e => by unfold s1 at e; omega)).2.2.2 k).trans w1t) dX0_rebuild_127 ?_
                      refine g_iload B 0 dX0_rebuild_128 rfl ?_
                      refine x_ldA B P105 w2t (by decide) rfl rfl rfl w3t (by omega) (by omega) ((congrFun (f105.2 _ _ _ w2t (fun e => by unfold s1 at e; omega)).2.2.2 i).trans n1) dX0_rebuild_130 ?_
                      refine x_get B P105 n2 (by decide) rfl F_X0_193_9 (by decide) ((congrFun (f105.2 _ _ _ n2 (fun e => by unfold s1 at e; omega)).1 11).trans ((nv.trans i21).trans (congrArg Value.ref exn))) dX0_rebuild_131 ?_
                      refine x_get B P105 c1.1 (by decide) rfl F_X0_325_1 (by decide) ((congrFun (f105.2 _ _ _ c1.1 (fun e => by unfold s1 at e; omega)).1 2).trans nr2) dX0_rebuild_134 ?_
                      obtain ⟨n107, u107, ty107⟩ := P105.ty nn2.1 (by decide) rfl
                      refine g_castS (q := (RX2, TX2, 1)) B ty107 rfl q223 dX0_rebuild_137 ?_
                      obtain ⟨n108, u108, ty108⟩ := P105.ty on2.1 (by decide) rfl
                      refine g_callV (rest := []) B M_X2_copyTo q1824 q1648 q1649 ty108 rfl (c_X2_copyToQ P105 ((show xCn _ _ 402 _ oc2 _ from ⟨on2.1, (congrFun ox2 0).trans on2.2⟩).fr f105 (fun e => by unfold s1 at e; omega)) (nn2.fr f105 (fun e => by unfold s1 at e; omega))) rfl rfl (Nat.le_of_ble_eq_true rfl) (Nat.le_of_ble_eq_true rfl) (Nat.le_of_ble_eq_true rfl) (Nat.le_refl _) (Nat.le_refl _) dX0_rebuild_140 (xkN (fun T108 O108 R108 le108 p108 => ?_))
                      obtain ⟨Y108, V108, I108, J108, A108, P108, eY108, eI108, eJ108, eA108, d108, f108⟩ := p108
                      obtain rfl := eY108.symm
                      obtain rfl := eI108.symm
                      obtain rfl := eJ108.symm
                      obtain rfl := eA108.symm
                      refine g_iinc (v := nI (i + 1)) (lv2 := [(4, _), (3, _), (2, _), (1, _), (0, _)]) B 0 dX0_rebuild_143 rfl (nI_1 _) (by decide) rfl ?_
                      refine g_goto (tgt := 54) B dX0_rebuild_146 (by decide) ?_
                      have f02 : xFr (fun r c => r = 2 ∧ c / 3 = 3 * k + i) Y102 V1t I102 J102 A102 Y102 V108 I102 J102 A102 := (f105.mono (fun r c e => by unfold s1 at e; omega)).tr (f108.mono (fun r c e => by unfold s1 at e; omega))
                      obtain ⟨nc1, nr1, nn1⟩ := c1.2 1 (by decide)
                      have e101 := (f02.2 101 _ xn c1.1 (fun e => by omega)).1
                      have dd : xVc Y102 V108 101 2 (3 * k + i) xn (up1 (up1 qn 0 (qo 0)) 2 (qo 2)) := ⟨c1.1, fun v hv => by
                        rcases (show v = 0 ∨ v = 1 ∨ v = 2 by omega) with rfl | rfl | rfl
                        · exact ⟨nc0, (congrFun e101 0).trans nr0, d105.fr f108 (fun e => by unfold s1 at e; omega)⟩
                        · exact ⟨nc1, (congrFun e101 1).trans nr1, (nn1.fr f105 (fun e => by unfold s1 at e; omega)).fr f108 (fun e => by unfold s1 at e; omega)⟩
                        · exact ⟨nc2, (congrFun e101 2).trans nr2, d108⟩⟩
                      have CQ2 := CQ.step (fun o _ => hp3 o) hkn hik hne f02 dd (by show (up1 (up1 qn 0 (qo 0)) 2 (qo 2)) 0 = _; rw [up1_n (by decide), up1_s]; exact g5) (by rw [up1_s]; exact g6)
                      exact iht (p k - (i + 1)) (by omega) (i + 1) _ _ _ _ rfl P108 (by omega) (Ft.tr (f02.mono (fun r c e => e.1))) CQ2
              exact Lt _ 0 _ _ _ _ rfl P1u (Nat.zero_le _) Fu CU
        exact Lu _ 0 _ _ _ _ rfl P102 (Nat.zero_le _) xFr.rf C0
      · have hkn : k < n := by omega
        obtain ⟨xrk, o1, o2, o3⟩ := OLq k hkn
        refine g_aload_n B 1 dX0_rebuild_19 rfl ?_
        refine g_iload_n B 0 dX0_rebuild_20 rfl ?_
        refine g_aload_n B 3 dX0_rebuild_21 rfl ?_
        refine x_get B P1r b0r (by decide) rfl F_X0_132_0 (by decide) b11r dX0_rebuild_22 ?_
        refine g_iload_n B 0 dX0_rebuild_25 rfl ?_
        refine x_ldA B P1r b7r (by decide) rfl rfl rfl b7nr (by omega) (by omega) ((congrFun e7 k).trans o1) dX0_rebuild_26 ?_
        obtain ⟨t103, u103, ty103, tk103⟩ := P1r.tya o2 (by decide)
        refine x_stE B P1r at7 (by decide) ty103 (xAsE.arr (by omega) tk103 rfl rfl rfl rfl rfl) rfl hN2 (by omega) (by omega) dX0_rebuild_27 (fun R103 A103 hs103 hk103 P103 => ?_)
        refine g_iinc (v := nI (k + 1)) (lv2 := [(3, _), (2, _), (1, _), (0, _)]) B 0 dX0_rebuild_28 rfl (nI_1 _) (by decide) rfl ?_
        refine g_goto (tgt := 13) B dX0_rebuild_31 (by decide) ?_
        have C2 : ∀ j, j < k + 1 → A103 7002 0 j = A 7001 0 j := fun j hj => by
          rw [hs103, va_ups]
          by_cases e : j = k
          · rw [e, va_ups]; exact o1.symm
          · rw [va_upe e]; exact C1 j (by omega)
        exact ihr (ll.length - (k + 1)) (by omega) (k + 1) _ _ _ _ rfl P103 (by omega) (F1.tr (xFr.uA (r := 7002) (o := 0) rfl hs103 hk103)) C2
  refine g_pick [0, 1, 3, 2] rfl ?_
  exact Lr _ 0 _ _ _ _ rfl P2 (Nat.zero_le _) xFr.rf (fun j hj => absurd hj (Nat.not_lt_zero j))
