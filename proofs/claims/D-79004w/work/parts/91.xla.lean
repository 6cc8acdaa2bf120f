set_option maxRecDepth 100000
section XCOPY
variable {Z : xZ} {G : xG} {cc : ByteArray} {own : String} {nL fr lo : Nat} {ret : Option FieldType} {T : xT} {O R : xO} {pc : Nat} {lv : List (Nat × Value)} {st : List Value} {kc ks : Nat} {Y : xY} {V : xVV} {I : xII} {J : xJJ} {A : xVV} {w0 : xW}
theorem x_copy (B : xOk Z G cc own nL fr lo ret) (P : PX Y V I J A w0 T O R) {r o x r1 o1 x1 idx sp' dp' n' : Nat} {ty : FieldType} {sp dp n : Int32} (h : yAt Y r o x) (h1 : yAt Y r1 o1 x1) (hr : r / 1000 = 1 ∨ r / 1000 = 2 ∨ r / 1000 = 3) (hr1 : r1 / 1000 = 1 ∨ r1 / 1000 = 2 ∨ r1 / 1000 = 3) (ht : xTy (r / 1000) = some ty) (ht1 : xTy (r1 / 1000) = some ty) (hprim : refKind ty = false) (e1 : sp = nI sp') (e2 : dp = nI dp') (e3 : n = nI n') (h4 : sp' + n' ≤ yN Y r o) (h5 : dp' + n' ≤ yN Y r1 o1) (hn0 : yN Y r o < 2 ^ 31) (hn1 : yN Y r1 o1 < 2 ^ 31) (hfit : ∀ i, i < n' → fits ty (.int (I r o (sp' + i))) = true) (q1 : Cond.methodLink own idx arraycopyName ∈ lw_all) (q2 : Cond.native arraycopyName ∈ lw_all) (q3 : Cond.static arraycopyName ∈ lw_all) (q4 : Cond.initialized "java/lang/System" ∈ lw_all) (hfr : 1 ≤ fr) (hlo : (st.map fun v => v.category).sum + (nativeFrameWords "java/lang/System" "arraycopy" 5 + 11) ≤ lo) (d : decode cc pc = .ok (.invokestatic idx, 3)) (kk : ∀ (R1 : xO) (I1 : xII), I1 r1 = va_up (I r1) o1 (va_cpy (I r o) (I r1 o1) sp' dp' n') → (∀ i, i ≠ r1 → I1 i = I i) → PX Y V I1 J A w0 T O R1 → xV Z (T, O, R1) (pc + 3) lv st kc ks) : xV Z (T, O, R) pc lv (.int n :: .int dp :: .ref x1 :: .int sp :: .ref x :: st) kc ks := by
  obtain ⟨t, u, g1, g2⟩ := P.tya h (by omega)
  obtain ⟨t1, u1, g3, g4⟩ := P.tya h1 (by omega)
  refine g_copy B g1 g3 (by rw [g2]; exact ht) (by rw [g4]; exact ht1) hprim (P.arI h hr) (P.arI h1 hr1) e1 e2 e3 h4 h5 hn0 hn1 hfit q1 q2 q3 q4 hfr hlo d ?_
  exact kk _ _ va_ups (fun i hi => va_upe hi) (P.astI h1 hr1 _)
end XCOPY
def sLa : Nat → Nat → Prop := fun r _ => gLa r
/-- what add leaves -/
def xLaP (w0 : xW) (a : aA) (tk x0 g0 fi : Nat) (Y : xY) (V : xVV) (I : xII) (J : xJJ) (A : xVV) : xT → xO → xO → Nat → Nat → Prop := fun T2 O2 R2 kl sl => ∃ (Y2 : xY) (V2 : xVV) (I2 : xII) (ps2 : Nat), PX Y2 V2 I2 J A w0 T2 O2 R2 ∧ RepX a tk x0 g0 fi ps2 Y2 V2 I2 J A ∧ xFr sLa Y V I J A Y2 V2 I2 J A ∧ ps2 ≤ kl ∧ ps2 ≤ sl
theorem c_X3_add {G : xG} {T : xT} {O R : xO} {Y : xY} {V : xVV} {I : xII} {J : xJJ} {A : xVV} {w0 : xW} {a : aA} {tk x0 g0 fi ps : Nat} {lat xl : Nat} (P : PX Y V I J A w0 T O R) (H : RepX a tk x0 g0 fi ps Y V I J A) (hxl : yAt Y 3 0 xl) (hlat : lat ≤ 5000) : xCtrL G yX3_add cX3_add 3 none 1 60 ps ps [.ref xl, .int (nI lat)] (T, O, R) (xNL (xLaP w0 a tk x0 g0 fi Y V I J A)) := by
  refine xCtrL.of (by decide +kernel) (Nat.le_of_ble_eq_true rfl) ?_
  intro Z B E hz hnm
  change xV Z (T, O, R) 0 [(0, .ref xl), (1, .int (nI lat))] [] ps ps
  obtain ⟨xl1, id, xc, l0, l1, l2, ⟨u1, l3⟩, ⟨u2, l4⟩, ⟨u3, l5⟩, l6, l7⟩ := H.La
  obtain rfl : xl1 = xl := P.fn l0 hxl
  obtain ⟨nc, hnc⟩ : ∃ nc, yN Y 1041 id = nc := ⟨_, rfl⟩
  rw [hnc] at l6 l7
  refine g_iload_n B 1 dX3_add_0 rfl ?_
  refine g_aload_n B 0 dX3_add_1 rfl ?_
  refine x_get B P hxl (by decide) rfl F_X3_7_3 (by decide) l1 dX3_add_2 ?_
  refine x_alen B P l2 (by decide) rfl hnc dX3_add_5 ?_
  refine g_icmp_ltN (tgt := 35) B (by omega) (by omega) dX3_add_6 (by decide) (fun c1 => ?_) (fun c1 => ?_)
  · refine g_aload_n B 0 dX3_add_35 rfl ?_
    refine x_get B P hxl (by decide) rfl F_X3_7_3 (by decide) l1 dX3_add_36 ?_
    refine g_iload_n B 1 dX3_add_39 rfl ?_
    refine g_dup2 B dX3_add_40 rfl rfl ?_
    refine x_ldI B P l2 (by decide) rfl hnc (by omega) (by omega) rfl dX3_add_41 ?_
    refine g_iconst (v := nI 1) B dX3_add_42 (by decide) ?_
    refine g_iadd B dX3_add_43 ?_
    refine x_stI B P l2 (by decide) rfl hnc (by omega) (by omega) dX3_add_44 (fun R2 I2 hs2 hk2 P2 => ?_)
    refine g_aload_n B 0 dX3_add_45 rfl ?_
    refine g_dup B dX3_add_46 rfl ?_
    refine x_get B P2 hxl (by decide) rfl F_X3_19_3 (by decide) l3 dX3_add_47 ?_
    refine g_iconst (v := nI 1) B dX3_add_50 (by decide) ?_
    refine g_iadd B dX3_add_51 ?_
    refine x_put (q := (RX3, TX3, 4)) B P2 hxl (by decide) rfl F_X3_19_3 rfl rfl (tyX3_ok 1 (by decide)) rfl rfl dX3_add_52 (fun O3 V3 hs3 hk3 P3 => ?_)
    refine g_aload_n B 0 dX3_add_55 rfl ?_
    refine g_dup B dX3_add_56 rfl ?_
    refine x_get B P3 hxl (by decide) rfl F_X3_23_3 (by decide) (rdK hs3 (by decide) l4) dX3_add_57 ?_
    refine g_iload_n B 1 dX3_add_60 rfl ?_
    refine g_iadd B dX3_add_61 ?_
    refine x_put (q := (RX3, TX3, 4)) B P3 hxl (by decide) rfl F_X3_23_3 rfl rfl (tyX3_ok 2 (by decide)) rfl rfl dX3_add_62 (fun O4 V4 hs4 hk4 P4 => ?_)
    refine g_aload_n B 0 dX3_add_65 rfl ?_
    refine g_aload_n B 0 dX3_add_66 rfl ?_
    refine x_get B P4 hxl (by decide) rfl F_X3_26_3 (by decide) (rdK hs4 (by decide) (rdK hs3 (by decide) l5)) dX3_add_67 ?_
    refine g_iload_n B 1 dX3_add_70 rfl ?_
    refine g_callS (kc2 := ps) (ks2 := ps) (rest := [_]) B M_J7_max q1417 q413 (c_J7_max P4) rfl rfl (Nat.le_of_ble_eq_true rfl) (Nat.le_of_ble_eq_true rfl) (Nat.le_of_ble_eq_true rfl) (Nat.le_refl _) (Nat.le_refl _) dX3_add_71 (xkA (fun v5 T5 O5 R5 le5 p5 => ?_))
    obtain ⟨rfl, eT5, eO5, eR5⟩ := p5
    obtain rfl := eT5.symm
    obtain rfl := eO5.symm
    obtain rfl := eR5.symm
    refine x_put (q := (RX3, TX3, 4)) B P4 hxl (by decide) rfl F_X3_26_3 rfl rfl (tyX3_ok 3 (by decide)) rfl rfl dX3_add_74 (fun O6 V6 hs6 hk6 P6 => ?_)
    refine g_vretL B E rfl dX3_add_77 ?_
    have fz : xFr sLa Y V I J A Y V6 I2 J A := ((((xFr.uI (S := sLa) (r := 1041) (o := id) (by unfold sLa gLa; decide) hs2 hk2).tr (xFr.uV (S := sLa) (r := 3) (o := 0) (by unfold sLa gLa; decide) hs3 hk3)).tr (xFr.uV (S := sLa) (r := 3) (o := 0) (by unfold sLa gLa; decide) hs4 hk4)).tr (xFr.uV (S := sLa) (r := 3) (o := 0) (by unfold sLa gLa; decide) hs6 hk6))
    exact ⟨rfl, _, _, _, ps, P6, H.la fz (fun _ _ e => e) ⟨xl1, id, xc, l0, (rdK hs6 (by decide) (rdK hs4 (by decide) (rdK hs3 (by decide) l1))), l2, ⟨_, (rdK hs6 (by decide) (rdK hs4 (by decide) (rdS hs3)))⟩, ⟨_, (rdK hs6 (by decide) (rdS hs4))⟩, ⟨_, (rdS hs6)⟩, by rw [hnc]; omega, by rw [hnc]; omega⟩, fz, Nat.le_refl _, Nat.le_refl _⟩
  · refine g_iconst (v := nI 2) B dX3_add_9 (by decide) ?_
    refine g_iload_n B 1 dX3_add_10 rfl ?_
    refine g_imulN B dX3_add_11 ?_
    refine xV.room (kc' := ps - 2 * (2 * lat - nc) + 1) (ks' := ps - 2 * (2 * lat - nc) + 2 * lat) (by omega) (by omega) ?_
    refine x_newaI (atype := .int) (ty := .int) (N := (2 * lat)) (kc := _) (ks := _) B P 1041 (fun q => q) (by unfold okA; decide) rfl rfl rfl (by decide) q217 rfl (show 2 * lat * 4 ≤ 536870912 by omega) (by omega) (fun q hq x => P.fresh hq _ _ (by unfold idR; decide)) (fun _ => Or.inl (fun _ => rfl)) dX3_add_12 (fun q7 Y7 I7 T7 R7 hq7 le7 gr7 hf7 at7 hN7 hs7 hk7 P7 => ?_)
    refine g_astore_n (lv2 := [(2, _), (0, _), (1, _)]) B dX3_add_14 (by decide) rfl ?_
    refine g_aload_n B 1 dX3_add_15 rfl ?_
    refine x_get B P7 (le7.at hxl) (by decide) rfl F_X3_7_3 (by decide) l1 dX3_add_16 ?_
    refine g_iconst (v := nI 0) B dX3_add_19 (by decide) ?_
    refine g_aload_n B 0 dX3_add_20 rfl ?_
    refine g_iconst (v := nI 0) B dX3_add_21 (by decide) ?_
    refine g_aload_n B 1 dX3_add_22 rfl ?_
    refine x_get B P7 (le7.at hxl) (by decide) rfl F_X3_7_3 (by decide) l1 dX3_add_23 ?_
    refine x_alen B P7 (le7.at l2) (by decide) rfl (le7.n l2 hnc) dX3_add_26 ?_
    have hle8 : nc ≤ 2 * lat := by omega
    refine x_copy B P7 (le7.at l2) at7 (Or.inl (by decide)) (Or.inl (by decide)) rfl rfl rfl rfl rfl rfl (sp' := 0) (dp' := 0) (n' := nc) (by rw [(le7.n l2 hnc)]; omega) (by rw [hN7]; omega) (by rw [(le7.n l2 hnc)]; omega) (by rw [hN7]; omega) (fun _ _ => rfl) q1416 q472 q471 q114 (Nat.le_of_ble_eq_true rfl) (Nat.le_of_ble_eq_true rfl) dX3_add_27 (fun R8 I8 hs8 hk8 P8 => ?_)
    refine g_aload_n B 1 dX3_add_30 rfl ?_
    refine g_aload_n B 0 dX3_add_31 rfl ?_
    refine x_put (q := (RX3, TX3, 4)) B P8 (le7.at hxl) (by decide) rfl F_X3_7_3 rfl rfl (tyX3_ok 0 (by decide)) rfl rfl dX3_add_32 (fun O9 V9 hs9 hk9 P9 => ?_)
    refine g_aload_n B 1 dX3_add_35 rfl ?_
    refine x_get B P9 (le7.at hxl) (by decide) rfl F_X3_7_3 (by decide) (rdS hs9) dX3_add_36 ?_
    refine g_iload_n B 2 dX3_add_39 rfl ?_
    refine g_dup2 B dX3_add_40 rfl rfl ?_
    refine x_ldI B P9 at7 (by decide) rfl hN7 (by omega) (by omega) rfl dX3_add_41 ?_
    refine g_iconst (v := nI 1) B dX3_add_42 (by decide) ?_
    refine g_iadd B dX3_add_43 ?_
    refine x_stI B P9 at7 (by decide) rfl hN7 (by omega) (by omega) dX3_add_44 (fun R10 I10 hs10 hk10 P10 => ?_)
    refine g_aload_n B 1 dX3_add_45 rfl ?_
    refine g_dup B dX3_add_46 rfl ?_
    refine x_get B P10 (le7.at hxl) (by decide) rfl F_X3_19_3 (by decide) (rdK hs9 (by decide) l3) dX3_add_47 ?_
    refine g_iconst (v := nI 1) B dX3_add_50 (by decide) ?_
    refine g_iadd B dX3_add_51 ?_
    refine x_put (q := (RX3, TX3, 4)) B P10 (le7.at hxl) (by decide) rfl F_X3_19_3 rfl rfl (tyX3_ok 1 (by decide)) rfl rfl dX3_add_52 (fun O11 V11 hs11 hk11 P11 => ?_)
    refine g_aload_n B 1 dX3_add_55 rfl ?_
    refine g_dup B dX3_add_56 rfl ?_
    refine x_get B P11 (le7.at hxl) (by decide) rfl F_X3_23_3 (by decide) (rdK hs11 (by decide) (rdK hs9 (by decide) l4)) dX3_add_57 ?_
    refine g_iload_n B 2 dX3_add_60 rfl ?_
    refine g_iadd B dX3_add_61 ?_
    refine x_put (q := (RX3, TX3, 4)) B P11 (le7.at hxl) (by decide) rfl F_X3_23_3 rfl rfl (tyX3_ok 2 (by decide)) rfl rfl dX3_add_62 (fun O12 V12 hs12 hk12 P12 => ?_)
    refine g_aload_n B 1 dX3_add_65 rfl ?_
    refine g_aload_n B 1 dX3_add_66 rfl ?_
    refine x_get B P12 (le7.at hxl) (by decide) rfl F_X3_26_3 (by decide) (rdK hs12 (by decide) (rdK hs11 (by decide) (rdK hs9 (by decide) l5))) dX3_add_67 ?_
    refine g_iload_n B 2 dX3_add_70 rfl ?_
    refine g_callS (kc2 := (ps - 2 * (2 * lat - nc))) (ks2 := (ps - 2 * (2 * lat - nc))) (rest := [_]) B M_J7_max q1417 q413 (c_J7_max P12) rfl rfl (Nat.le_of_ble_eq_true rfl) (Nat.le_of_ble_eq_true rfl) (Nat.le_of_ble_eq_true rfl) (Nat.le_refl _) (Nat.le_refl _) dX3_add_71 (xkA (fun v13 T13 O13 R13 le13 p13 => ?_))
    obtain ⟨rfl, eT13, eO13, eR13⟩ := p13
    obtain rfl := eT13.symm
    obtain rfl := eO13.symm
    obtain rfl := eR13.symm
    refine x_put (q := (RX3, TX3, 4)) B P12 (le7.at hxl) (by decide) rfl F_X3_26_3 rfl rfl (tyX3_ok 3 (by decide)) rfl rfl dX3_add_74 (fun O14 V14 hs14 hk14 P14 => ?_)
    refine g_vretL B E rfl dX3_add_77 ?_
    have fz : xFr sLa Y V I J A Y7 V14 I10 J A := (((((((xFr.nI (S := sLa) (r := 1041) (o := q7) (by unfold sLa gLa; decide) le7 gr7 hs7 hk7).tr (xFr.uI (S := sLa) (r := 1041) (o := q7) (by unfold sLa gLa; decide) hs8 hk8)).tr (xFr.uV (S := sLa) (r := 3) (o := 0) (by unfold sLa gLa; decide) hs9 hk9)).tr (xFr.uI (S := sLa) (r := 1041) (o := q7) (by unfold sLa gLa; decide) hs10 hk10)).tr (xFr.uV (S := sLa) (r := 3) (o := 0) (by unfold sLa gLa; decide) hs11 hk11)).tr (xFr.uV (S := sLa) (r := 3) (o := 0) (by unfold sLa gLa; decide) hs12 hk12)).tr (xFr.uV (S := sLa) (r := 3) (o := 0) (by unfold sLa gLa; decide) hs14 hk14))
    exact ⟨rfl, _, _, _, ps - 2 * (2 * lat - nc), P14, H.la fz (fun _ _ e => e) ⟨xl1, q7, q7, le7.at l0, (rdK hs14 (by decide) (rdK hs12 (by decide) (rdK hs11 (by decide) (rdS hs9)))), at7, ⟨_, (rdK hs14 (by decide) (rdK hs12 (by decide) (rdS hs11)))⟩, ⟨_, (rdK hs14 (by decide) (rdS hs12))⟩, ⟨_, (rdS hs14)⟩, by rw [hN7]; omega, by rw [hN7]; omega⟩, fz, Nat.le_refl _, Nat.le_refl _⟩
