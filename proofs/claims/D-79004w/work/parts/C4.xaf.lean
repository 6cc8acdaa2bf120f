set_option maxRecDepth 100000
theorem c_J4_add {G : xG} {T : xT} {O R : xO} {Y : xY} {V : xVV} {I : xII} {J : xJJ} {A : xVV} {w0 : xW} {r rd x g0 : Nat} {l : List Nat} {b : Nat} (P : PX Y V I J A w0 T O R) (hR : alR r rd) (L : xAl Y V A r rd x g0 l) (hg : g0 = G.2.2.2.2 0) (h99 : l.length ≤ 99) (hel : ∀ j, j < l.length → xObj Y (l.getD j 0)) (hb : xObj Y b) : xCtr G yJ4_add cJ4_add 2 (some Jvm.ClassFile.FieldType.boolean) 6 170 1 150 [.ref x, .ref b] (T, O, R) (xA (xP w0 (fun v Y2 V2 I2 J2 A2 => v = .int (nI 1) ∧ (I2 = I ∧ J2 = J) ∧ xAl Y2 V2 A2 r rd x g0 (l ++ [b]) ∧ xFr (sAl r rd) Y V I J A Y2 V2 I2 J2 A2))) := by
  have hR2 := hR.2.2.1
  have hR3 := hR.1
  refine xCtr.of (by decide +kernel) (Nat.le_of_ble_eq_true rfl) ?_
  intro Z B E hz hnm
  change xV Z (T, O, R) 0 [(0, .ref x), (1, .ref b)] [] 1 150
  subst hg
  obtain ⟨g1, ⟨m, g2⟩, g3, g4, g5⟩ := L
  rcases g5 with ⟨hl0, k1⟩ | ⟨id, xd, k1, k2, hc1_, hc2_, hc3_, k6⟩
  · refine g_aload_n B 0 dJ4_add_0 rfl ?_
    refine g_dup B dJ4_add_1 rfl ?_
    refine x_get B P g1 hR.1 (xrTv hR.2.1 (by decide)) F_J4_63_34 (by decide) g2 dJ4_add_2 ?_
    refine g_iconst (v := nI 1) B dJ4_add_5 (by decide) ?_
    refine g_iadd B dJ4_add_6 ?_
    refine x_put (q := (RJ4, TJ4, 3)) B P g1 hR.1 (xrTv hR.2.1 (by decide)) F_J4_63_34 rfl rfl (tyJ4_ok 0 (by decide)) rfl rfl dJ4_add_7 (fun O1 V1 hs1 hk1 P1 => ?_)
    refine g_aload_n B 0 dJ4_add_10 rfl ?_
    refine g_aload_n B 1 dJ4_add_11 rfl ?_
    refine g_aload_n B 0 dJ4_add_12 rfl ?_
    refine x_get B P1 g1 hR.1 (xrTv hR.2.1 (by decide)) F_J4_9_34 (by decide) (rdK hs1 (by decide) k1) dJ4_add_13 ?_
    refine g_aload_n B 0 dJ4_add_16 rfl ?_
    refine x_get B P1 g1 hR.1 (xrTv hR.2.1 (by decide)) F_J4_48_34 (by decide) (rdK hs1 (by decide) g3) dJ4_add_17 ?_
    obtain ⟨n2, u2, ty2⟩ := P1.ty g1 hR.1 (xrTv hR.2.1 (by decide))
    refine g_callV (kc2 := 0) (ks2 := 0) (rest := []) B M_J4_add_2 q397 q399 qs1 ty2 rfl (c_J4_add_2S (b := b) P1 hR g1 (rdK hs1 (by decide) g3) (rdK hs1 (by decide) k1) hl0 ⟨_, (rdS hs1)⟩ hb) rfl rfl (Nat.le_of_ble_eq_true rfl) (Nat.le_of_ble_eq_true rfl) (Nat.le_of_ble_eq_true rfl) (by decide) (by decide) dJ4_add_20 (xkN (fun T2 O2 R2 le2 p2 => ?_))
    obtain ⟨Y2, V2, I2, J2, A2, P2, ⟨eI2, eJ2⟩, L2, f2⟩ := p2
    refine g_iconst (v := nI 1) B dJ4_add_23 (by decide) ?_
    refine g_iret B E rfl rfl dJ4_add_24 ?_
    exact ⟨_, rfl, _, _, _, _, _, P2, rfl, ⟨eI2, eJ2⟩, L2, (xFr.uV (r := r) (o := 0) (Or.inl ⟨rfl, rfl⟩) hs1 hk1).tr f2⟩
  · obtain ⟨cp, hcp⟩ : ∃ cp, yN Y rd id = cp := ⟨_, rfl⟩
    have hc1 := hc1_
    have hc2 := hc2_
    have hc3 := hc3_
    rw [hcp] at hc1 hc2 hc3
    refine g_aload_n B 0 dJ4_add_0 rfl ?_
    refine g_dup B dJ4_add_1 rfl ?_
    refine x_get B P g1 hR.1 (xrTv hR.2.1 (by decide)) F_J4_63_34 (by decide) g2 dJ4_add_2 ?_
    refine g_iconst (v := nI 1) B dJ4_add_5 (by decide) ?_
    refine g_iadd B dJ4_add_6 ?_
    refine x_put (q := (RJ4, TJ4, 3)) B P g1 hR.1 (xrTv hR.2.1 (by decide)) F_J4_63_34 rfl rfl (tyJ4_ok 0 (by decide)) rfl rfl dJ4_add_7 (fun O3 V3 hs3 hk3 P3 => ?_)
    refine g_aload_n B 0 dJ4_add_10 rfl ?_
    refine g_aload_n B 1 dJ4_add_11 rfl ?_
    refine g_aload_n B 0 dJ4_add_12 rfl ?_
    refine x_get B P3 g1 hR.1 (xrTv hR.2.1 (by decide)) F_J4_9_34 (by decide) (rdK hs3 (by decide) k1) dJ4_add_13 ?_
    refine g_aload_n B 0 dJ4_add_16 rfl ?_
    refine x_get B P3 g1 hR.1 (xrTv hR.2.1 (by decide)) F_J4_48_34 (by decide) (rdK hs3 (by decide) g3) dJ4_add_17 ?_
    obtain ⟨n4, u4, ty4⟩ := P3.ty g1 hR.1 (xrTv hR.2.1 (by decide))
    refine g_callV (kc2 := 0) (ks2 := 0) (rest := []) B M_J4_add_2 q397 q399 qs1 ty4 rfl (c_J4_add_2D (b := b) (g0 := G.2.2.2.2 0) P3 hR g1 (rdK hs3 (by decide) g3) (rdK hs3 (by decide) k1) k2 hc1_ hc2_ hc3_ h99 k6 hel ⟨_, (rdS hs3)⟩ hb) rfl rfl (Nat.le_of_ble_eq_true rfl) (Nat.le_of_ble_eq_true rfl) (Nat.le_of_ble_eq_true rfl) (by decide) (by decide) dJ4_add_20 (xkN (fun T4 O4 R4 le4 p4 => ?_))
    obtain ⟨Y4, V4, I4, J4, A4, P4, ⟨eI4, eJ4⟩, L4, f4⟩ := p4
    refine g_iconst (v := nI 1) B dJ4_add_23 (by decide) ?_
    refine g_iret B E rfl rfl dJ4_add_24 ?_
    exact ⟨_, rfl, _, _, _, _, _, P4, rfl, ⟨eI4, eJ4⟩, L4, (xFr.uV (r := r) (o := 0) (Or.inl ⟨rfl, rfl⟩) hs3 hk3).tr f4⟩
theorem c_J4_clear {G : xG} {T : xT} {O R : xO} {Y : xY} {V : xVV} {I : xII} {J : xJJ} {A : xVV} {w0 : xW} {r rd x g0 : Nat} {l : List Nat} (P : PX Y V I J A w0 T O R) (hR : alR r rd) (L : xAl Y V A r rd x g0 l) (hg : g0 = G.2.2.2.2 0) : xCtr G yJ4_clear cJ4_clear 4 none 0 0 0 0 [.ref x] (T, O, R) (xN (xPN w0 (fun Y2 V2 I2 J2 A2 => (I2 = I ∧ J2 = J) ∧ xAl Y2 V2 A2 r rd x g0 [] ∧ xFr (sAl r rd) Y V I J A Y2 V2 I2 J2 A2))) := by
  have hR2 := hR.2.2.1
  have hR3 := hR.1
  refine xCtr.of (by decide +kernel) (Nat.le_of_ble_eq_true rfl) ?_
  intro Z B E hz hnm
  change xV Z (T, O, R) 0 [(0, .ref x)] [] 0 0
  subst hg
  obtain ⟨g1, ⟨m, g2⟩, g3, g4, g5⟩ := L
  rcases g5 with ⟨hl0, k1⟩ | ⟨id, xd, k1, k2, hc1_, hc2_, hc3_, k6⟩
  · refine g_aload_n B 0 dJ4_clear_0 rfl ?_
    refine g_dup B dJ4_clear_1 rfl ?_
    refine x_get B P g1 hR.1 (xrTv hR.2.1 (by decide)) F_J4_63_34 (by decide) g2 dJ4_clear_2 ?_
    refine g_iconst (v := nI 1) B dJ4_clear_5 (by decide) ?_
    refine g_iadd B dJ4_clear_6 ?_
    refine x_put (q := (RJ4, TJ4, 3)) B P g1 hR.1 (xrTv hR.2.1 (by decide)) F_J4_63_34 rfl rfl (tyJ4_ok 0 (by decide)) rfl rfl dJ4_clear_7 (fun O1 V1 hs1 hk1 P1 => ?_)
    refine g_aload_n B 0 dJ4_clear_10 rfl ?_
    refine x_get B P1 g1 hR.1 (xrTv hR.2.1 (by decide)) F_J4_9_34 (by decide) (rdK hs1 (by decide) k1) dJ4_clear_11 ?_
    refine g_astore_n (lv2 := [(1, _), (0, _)]) B dJ4_clear_14 (by decide) rfl ?_
    refine g_aload_n B 1 dJ4_clear_15 rfl ?_
    refine x_get B P1 g1 hR.1 (xrTv hR.2.1 (by decide)) F_J4_48_34 (by decide) (rdK hs1 (by decide) g3) dJ4_clear_16 ?_
    refine g_istore_n (lv2 := [(2, _), (1, _), (0, _)]) B dJ4_clear_19 (by decide) rfl ?_
    refine g_aload_n B 2 dJ4_clear_20 rfl ?_
    refine g_iconst (v := nI 0) B dJ4_clear_21 (by decide) ?_
    refine g_dup_x1 B dJ4_clear_22 rfl rfl ?_
    refine x_put (q := (RJ4, TJ4, 3)) B P1 g1 hR.1 (xrTv hR.2.1 (by decide)) F_J4_48_34 rfl rfl (tyJ4_ok 2 (by decide)) rfl rfl dJ4_clear_23 (fun O2 V2 hs2 hk2 P2 => ?_)
    refine g_istore_n (lv2 := [(3, _), (2, _), (1, _), (0, _)]) B dJ4_clear_26 (by decide) rfl ?_
    have hl1 : l.length = 0 := by rw [hl0]; rfl
    have hjj := hl1
    refine g_iload_n B 0 dJ4_clear_27 rfl ?_
    refine g_iload_n B 1 dJ4_clear_28 rfl ?_
    refine g_icmp_geN (tgt := 42) B (by omega) (by omega) dJ4_clear_29 (by decide) (fun _ => ?_) (fun e => absurd e (by omega))
    refine g_vret B E rfl dJ4_clear_42 ?_
    exact ⟨rfl, _, _, _, _, _, P2, ⟨rfl, rfl⟩, ⟨g1, ⟨_, (rdK hs2 (by decide) (rdS hs1))⟩, (rdS hs2), by decide, Or.inl ⟨rfl, (rdK hs2 (by decide) (rdK hs1 (by decide) k1))⟩⟩, ((xFr.uV (r := r) (o := 0) (Or.inl ⟨rfl, rfl⟩) hs1 hk1).tr (xFr.uV (r := r) (o := 0) (Or.inl ⟨rfl, rfl⟩) hs2 hk2))⟩
  · obtain ⟨cp, hcp⟩ : ∃ cp, yN Y rd id = cp := ⟨_, rfl⟩
    have hc1 := hc1_
    have hc2 := hc2_
    have hc3 := hc3_
    rw [hcp] at hc1 hc2 hc3
    refine g_aload_n B 0 dJ4_clear_0 rfl ?_
    refine g_dup B dJ4_clear_1 rfl ?_
    refine x_get B P g1 hR.1 (xrTv hR.2.1 (by decide)) F_J4_63_34 (by decide) g2 dJ4_clear_2 ?_
    refine g_iconst (v := nI 1) B dJ4_clear_5 (by decide) ?_
    refine g_iadd B dJ4_clear_6 ?_
    refine x_put (q := (RJ4, TJ4, 3)) B P g1 hR.1 (xrTv hR.2.1 (by decide)) F_J4_63_34 rfl rfl (tyJ4_ok 0 (by decide)) rfl rfl dJ4_clear_7 (fun O3 V3 hs3 hk3 P3 => ?_)
    refine g_aload_n B 0 dJ4_clear_10 rfl ?_
    refine x_get B P3 g1 hR.1 (xrTv hR.2.1 (by decide)) F_J4_9_34 (by decide) (rdK hs3 (by decide) k1) dJ4_clear_11 ?_
    refine g_astore_n (lv2 := [(1, _), (0, _)]) B dJ4_clear_14 (by decide) rfl ?_
    refine g_aload_n B 1 dJ4_clear_15 rfl ?_
    refine x_get B P3 g1 hR.1 (xrTv hR.2.1 (by decide)) F_J4_48_34 (by decide) (rdK hs3 (by decide) g3) dJ4_clear_16 ?_
    refine g_istore_n (lv2 := [(2, _), (1, _), (0, _)]) B dJ4_clear_19 (by decide) rfl ?_
    refine g_aload_n B 2 dJ4_clear_20 rfl ?_
    refine g_iconst (v := nI 0) B dJ4_clear_21 (by decide) ?_
    refine g_dup_x1 B dJ4_clear_22 rfl rfl ?_
    refine x_put (q := (RJ4, TJ4, 3)) B P3 g1 hR.1 (xrTv hR.2.1 (by decide)) F_J4_48_34 rfl rfl (tyJ4_ok 2 (by decide)) rfl rfl dJ4_clear_23 (fun O4 V4 hs4 hk4 P4 => ?_)
    refine g_istore_n (lv2 := [(3, _), (2, _), (1, _), (0, _)]) B dJ4_clear_26 (by decide) rfl ?_
    have L : ∀ (d : Nat) (k : Nat) (A1 : xVV) (T1 : xT) (O1 R1 : xO), d = l.length - k → PX Y V4 I J A1 w0 T1 O1 R1 → (k ≤ l.length) → (xFr (fun r2 _ => r2 = rd) Y V4 I J A Y V4 I J A1) → xV Z (T1, O1, R1) 27 [(3, .int (nI k)), (2, .int (nI l.length)), (1, .ref xd), (0, .ref x)] [] 0 0 := by
      intro d
      induction d using Nat.strongRecOn with
      | _ d ih =>
        intro k A1 T1 O1 R1 hd P1 hk f1
        refine g_iload_n B 0 dJ4_clear_27 rfl ?_
        refine g_iload_n B 1 dJ4_clear_28 rfl ?_
        refine g_icmp_geN (tgt := 42) B (by omega) (by omega) dJ4_clear_29 (by decide) (fun c101 => ?_) (fun c101 => ?_)
        · refine g_vret B E rfl dJ4_clear_42 ?_
          exact ⟨rfl, _, _, _, _, _, P1, ⟨rfl, rfl⟩, ⟨g1, ⟨_, (rdK hs4 (by decide) (rdS hs3))⟩, (rdS hs4), by decide, Or.inr ⟨id, xd, (rdK hs4 (by decide) (rdK hs3 (by decide) k1)), k2, by rw [hcp]; exact Nat.zero_le _, hc2_, hc3_, fun j hj => absurd hj (Nat.not_lt_zero j)⟩⟩, ((xFr.uV (r := r) (o := 0) (Or.inl ⟨rfl, rfl⟩) hs3 hk3).tr (xFr.uV (r := r) (o := 0) (Or.inl ⟨rfl, rfl⟩) hs4 hk4)).tr (f1.mono (fun r2 o2 e => Or.inr e))⟩
        · refine g_aload_n B 2 dJ4_clear_32 rfl ?_
          refine g_iload_n B 0 dJ4_clear_33 rfl ?_
          refine g_null B dJ4_clear_34 ?_
          refine x_stAN (C := "java/lang/Object") B P1 k2 (by omega) (by rw [hR.2.2.1]; rfl) rfl hcp (by omega) (by omega) dJ4_clear_35 (fun R102 A102 ha102 hk102 P102 => ?_)
          refine g_iinc (v := nI (k + 1)) (lv2 := [(3, _), (2, _), (1, _), (0, _)]) B 0 dJ4_clear_36 rfl (nI_1 _) (by decide) rfl ?_
          refine g_goto (tgt := 27) B dJ4_clear_39 (by decide) ?_
          exact ih (l.length - (k + 1)) (by omega) (k + 1) _ _ _ _ rfl P102 (by omega) (f1.tr (xFr.uA (r := rd) (o := id) rfl ha102 hk102))
    exact L _ 0 _ _ _ _ rfl P4 (by omega) xFr.rf
