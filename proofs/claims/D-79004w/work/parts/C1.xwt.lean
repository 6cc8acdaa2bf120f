set_option maxRecDepth 100000
theorem g_write {Z : xZ} {G : xG} {cc : ByteArray} {own : String} {nL fr lo : Nat} {ret : Option FieldType} {T : xT} {O R : xO} {pc : Nat} {lv : List (Nat × Value)} {st : List Value} {kc ks kc2 ks2 mc ms : Nat} {Y : xY} {V : xVV} {I : xII} {J : xJJ} {A : xVV} {w0 : xW} {o x sb idx kd fr' lo' : Nat} {Post : Option Value → xW → Prop} (B : xOk Z G cc own nL fr lo ret) (P : PX Y V I J A w0 T O R) (h : yAt Y 4 o x) (hk : yK Y 4 o = kd) (h8 : kd ≤ 8) (h7 : kd ≠ 7) (q1 : Cond.methodLink own idx yX4_write ∈ lw_all) (hC4 : kd ≤ 6 → xCtr G yX4_write cX4_write 2 none fr' lo' mc ms [.ref x, .ref sb] (T, O, R) Post) (hC8 : kd = 8 → xCtr G yX8_write cX8_write 2 none fr' lo' mc ms [.ref x, .ref sb] (T, O, R) Post) (hst : (st.map fun v => v.category).sum ≤ 8) (hfr : fr' + 1 ≤ fr) (hlo : 8 + (2 + 11) + lo' ≤ lo) (hkc : kc2 + mc ≤ kc) (hks : ks2 + ms ≤ ks) (d : decode cc pc = .ok (.invokevirtual idx, 3)) (kk : ∀ (r : Option Value) (T2 : xT) (O2 R2 : xO), xLe (T, O, R) (T2, O2, R2) → Post r (T2, O2, R2) → xV Z (T2, O2, R2) (pc + 3) lv (r.toList ++ st) kc2 ks2) : xV Z (T, O, R) pc lv (.ref sb :: .ref x :: st) kc ks := by
  obtain ⟨n, u, ty⟩ := P.ty h (by decide) (show xrT (yK Y) 4 o = opR kd by rw [← hk]; rfl)
  rcases (show kd = 0 ∨ kd = 1 ∨ kd = 2 ∨ kd = 3 ∨ kd = 4 ∨ kd = 5 ∨ kd = 6 ∨ kd = 7 ∨ kd = 8 by omega) with rfl | rfl | rfl | rfl | rfl | rfl | rfl | rfl | rfl
  · exact g_callU (rest := st) (kc2 := kc2) (ks2 := ks2) B (C := "PipelineSimulator$Mapper") (owner := "PipelineSimulator$Operator") M_X4_write rfl q1 q2349 q2348 q2354 ty rfl (hC4 (by decide)) rfl rfl hst hfr hlo hkc hks d kk
  · exact g_callU (rest := st) (kc2 := kc2) (ks2 := ks2) B (C := "PipelineSimulator$Filter") (owner := "PipelineSimulator$Operator") M_X4_write rfl q1 q2349 q2348 q2352 ty rfl (hC4 (by decide)) rfl rfl hst hfr hlo hkc hks d kk
  · exact g_callU (rest := st) (kc2 := kc2) (ks2 := ks2) B (C := "PipelineSimulator$Rekeyer") (owner := "PipelineSimulator$Operator") M_X4_write rfl q1 q2349 q2348 q2355 ty rfl (hC4 (by decide)) rfl rfl hst hfr hlo hkc hks d kk
  · exact g_callU (rest := st) (kc2 := kc2) (ks2 := ks2) B (C := "PipelineSimulator$Copier") (owner := "PipelineSimulator$Operator") M_X4_write rfl q1 q2349 q2348 q2351 ty rfl (hC4 (by decide)) rfl rfl hst hfr hlo hkc hks d kk
  · exact g_callU (rest := st) (kc2 := kc2) (ks2 := ks2) B (C := "PipelineSimulator$Summer") (owner := "PipelineSimulator$Operator") M_X4_write rfl q1 q2349 q2348 q2386 ty rfl (hC4 (by decide)) rfl rfl hst hfr hlo hkc hks d kk
  · exact g_callU (rest := st) (kc2 := kc2) (ks2 := ks2) B (C := "PipelineSimulator$Changes") (owner := "PipelineSimulator$Operator") M_X4_write rfl q1 q2349 q2348 q2350 ty rfl (hC4 (by decide)) rfl rfl hst hfr hlo hkc hks d kk
  · exact g_callU (rest := st) (kc2 := kc2) (ks2 := ks2) B (C := "PipelineSimulator$Greatest") (owner := "PipelineSimulator$Operator") M_X4_write rfl q1 q2349 q2348 q2353 ty rfl (hC4 (by decide)) rfl rfl hst hfr hlo hkc hks d kk
  · exact absurd rfl h7
  · exact g_callO (rest := st) (kc2 := kc2) (ks2 := ks2) B (C := "PipelineSimulator$Sink") (owner := "PipelineSimulator$Operator") M_X8_write ⟨by decide +kernel, by decide +kernel, by decide +kernel⟩ q1 q2349 q2348 q2387 q2357 q2356 ty rfl (hC8 rfl) rfl rfl hst hfr hlo hkc hks d kk
theorem c_X0_append {G : xG} {T : xT} {O R : xO} {Y : xY} {V : xVV} {I : xII} {J : xJJ} {A : xVV} {w0 : xW} {a : aA} {tk x0 g0 fi ps : Nat} {c k : Int32} (P : PX Y V I J A w0 T O R) (H : RepX a tk x0 g0 fi ps Y V I J A) (hT : txOk a.txt) (h0q : yAt Y 0 0 x0) : xCtr G yX0_append cX0_append 4 (some Jvm.ClassFile.FieldType.int) 6 146 60 24000 [.ref x0, .int c, .int k] (T, O, R) (xA (fun v T2 O2 R2 => v = .int (a.appF c k).1 ∧ xR w0 Y (a.appF c k).2 tk x0 g0 fi ps T2 O2 R2)) := by
  refine xCtr.of (by decide +kernel) (Nat.le_of_ble_eq_true rfl) ?_
  intro Z B E hz hnm
  change xV Z (T, O, R) 0 [(0, .ref x0), (1, .int c), (2, .int k)] [] 60 24000
  have hR := sbR_43
  obtain ⟨h0, ⟨⟨pa0, pb0, pc0⟩, ⟨pa5, pb5, pc5⟩, ⟨pa6, pb6, pc6⟩, ⟨pa8, pb8, pc8⟩, ⟨pa9, pb9, pc9⟩, ⟨pa10, pb10, pc10⟩, ⟨pa11, pb11, pc11⟩, ⟨pa12, pb12, pc12⟩, ⟨pa13, pb13, pc13⟩, ⟨pa20, pb20, pc20⟩, ⟨pa21, pb21, pc21⟩, ⟨pa22, pb22, pc22⟩⟩, ⟨nq1, nq2, nq3, nq4⟩, nq7, nq14, nq15, nq16, nq17, nq18, nq19⟩ := H.Si
  obtain ⟨xt, St⟩ := H.Tx
  obtain rfl : pa21 = xt := P.fn pc21 St.1
  obtain ⟨id, xv, S⟩ := St.e
  have htl := hT.1
  refine g_iload_n B 1 dX0_append_0 rfl ?_
  refine g_i2l B dX0_append_1 rfl ?_
  refine g_lconst (v := 0) B dX0_append_2 (by decide) ?_
  refine g_ldc2 (v := 127) B q2042 dX0_append_3 ?_
  refine g_callS (rest := []) B M_X0_isBetween q805 q806 (c_X0_isBetween (x := c) (l := nI 0) (u := nI 127) P rfl rfl rfl) rfl rfl (Nat.le_of_ble_eq_true rfl) (Nat.le_of_ble_eq_true rfl) (Nat.le_of_ble_eq_true rfl) (Nat.le_refl _) (Nat.le_refl _) dX0_append_6 (xkA (fun v1 T1 O1 R1 le1 p1 => ?_))
  obtain ⟨rfl, eT1, eO1, eR1⟩ := p1
  obtain rfl := eT1.symm
  obtain rfl := eO1.symm
  obtain rfl := eR1.symm
  refine g_if_eqB (tgt := 24) B dX0_append_9 (by decide) (fun c2 => ?_) (fun c2 => ?_)
  · refine g_ldc (v := (-1000000002)) B q811 dX0_append_24 ?_
    refine g_iret B E rfl rfl dX0_append_26 ?_
    have hF : a.appF c k = (-1000000002, a) := by rw [aA.appF, if_neg (fun q => by have q2 := q.1; rw [c2] at q2; cases q2)]
    exact ⟨_, rfl, by rw [hF], _, _, _, _, _, P, yLe.rf, by rw [hF]; exact H⟩
  · refine g_iload_n B 2 dX0_append_12 rfl ?_
    refine g_i2l B dX0_append_13 rfl ?_
    refine g_lconst (v := 1) B dX0_append_14 (by decide) ?_
    refine g_ldc2 (v := 60) B q2043 dX0_append_15 ?_
    refine g_callS (rest := []) B M_X0_isBetween q805 q806 (c_X0_isBetween (x := k) (l := nI 1) (u := nI 60) P rfl rfl rfl) rfl rfl (Nat.le_of_ble_eq_true rfl) (Nat.le_of_ble_eq_true rfl) (Nat.le_of_ble_eq_true rfl) (Nat.le_refl _) (Nat.le_refl _) dX0_append_18 (xkA (fun v3 T3 O3 R3 le3 p3 => ?_))
    obtain ⟨rfl, eT3, eO3, eR3⟩ := p3
    obtain rfl := eT3.symm
    obtain rfl := eO3.symm
    obtain rfl := eR3.symm
    refine g_if_neB (tgt := 27) B dX0_append_21 (by decide) (fun c4 => ?_) (fun c4 => ?_)
    · have hb_c := c2
      have hb_k := c4
      obtain ⟨nc, h_nc, e_nc⟩ := inB_nI (by omega) hb_c
      have hc_nc : c.toNatClampNeg = nc := by rw [e_nc]; exact nI_clamp (by omega)
      subst e_nc
      obtain ⟨nk, hk1, hk2, e_nk⟩ := inB1_nI (by decide) hb_k
      have hc_nk : k.toNatClampNeg = nk := by rw [e_nk]; exact nI_clamp (by omega)
      subst e_nk
      refine g_aload_n B 0 dX0_append_27 rfl ?_
      refine x_get B P h0q (by decide) rfl F_X0_165_0 (by decide) pb21 dX0_append_28 ?_
      obtain ⟨n5, u5, ty5⟩ := P.ty pc21 (by decide) rfl
      refine g_callV (rest := []) B M_J13_length q2044 q1127 q2929 ty5 rfl (c_J13_length (l := a.txt) P sbR_43 S) rfl rfl (Nat.le_of_ble_eq_true rfl) (Nat.le_of_ble_eq_true rfl) (Nat.le_of_ble_eq_true rfl) (Nat.le_refl _) (Nat.le_refl _) dX0_append_31 (xkA (fun v5 T5 O5 R5 le5 p5 => ?_))
      obtain ⟨rfl, eT5, eO5, eR5⟩ := p5
      obtain rfl := eT5.symm
      obtain rfl := eO5.symm
      obtain rfl := eR5.symm
      refine g_iload_n B 2 dX0_append_34 rfl ?_
      refine g_iaddN B dX0_append_35 ?_
      refine g_bipush (v := nI 60) B dX0_append_36 (by decide) ?_
      refine g_icmp_leN (tgt := 44) B (by omega) (by omega) dX0_append_38 (by decide) (fun c6 => ?_) (fun c6 => ?_)
      · refine g_iconst (v := nI 0) B dX0_append_44 (by decide) ?_
        refine g_istore_n (lv2 := [(3, _), (0, _), (1, _), (2, _)]) B dX0_append_45 (by decide) rfl ?_
        have L : ∀ (d : Nat) (j : Nat) (Y1 : xY) (V1 : xVV) (I1 : xII) (T1 : xT) (O1 R1 : xO), d = nk - j → PX Y1 V1 I1 J A w0 T1 O1 R1 → (j ≤ nk) → (RepX (a.w_txt (a.txt ++ List.replicate j nc)) tk x0 g0 fi ps Y1 V1 I1 J A) → (yLe Y Y1) → xV Z (T1, O1, R1) 46 [(3, .int (nI j)), (2, .int (nI nk)), (1, .int (nI nc)), (0, .ref x0)] [] (60 - j) (400 * (60 - j)) := by
          intro d
          induction d using Nat.strongRecOn with
          | _ d ih =>
            intro j Y1 V1 I1 T1 O1 R1 hd P1 hj H1 le1
            obtain ⟨h01, ⟨⟨pa01, pb01, pc01⟩, ⟨pa51, pb51, pc51⟩, ⟨pa61, pb61, pc61⟩, ⟨pa81, pb81, pc81⟩, ⟨pa91, pb91, pc91⟩, ⟨pa101, pb101, pc101⟩, ⟨pa111, pb111, pc111⟩, ⟨pa121, pb121, pc121⟩, ⟨pa131, pb131, pc131⟩, ⟨pa201, pb201, pc201⟩, ⟨pa211, pb211, pc211⟩, ⟨pa221, pb221, pc221⟩⟩, ⟨nq11, nq21, nq31, nq41⟩, nq71, nq141, nq151, nq161, nq171, nq181, nq191⟩ := H1.Si
            obtain ⟨xt1, St1⟩ := H1.Tx
            obtain rfl : pa211 = xt1 := P1.fn pc211 St1.1
            obtain ⟨id1, xv1, S1⟩ := St1.e
            have hrl : (a.txt ++ List.replicate j nc).length = a.txt.length + j := by rw [List.length_append, List.length_replicate]
            refine g_iload_n B 0 dX0_append_46 rfl ?_
            refine g_iload_n B 1 dX0_append_47 rfl ?_
            refine g_icmp_geN (tgt := 67) B (by omega) (by omega) dX0_append_48 (by decide) (fun c101 => ?_) (fun c101 => ?_)
            · refine g_aload_n B 3 dX0_append_67 rfl ?_
              refine x_get B P1 h01 (by decide) rfl F_X0_165_0 (by decide) pb211 dX0_append_68 ?_
              obtain ⟨n102, u102, ty102⟩ := P1.ty pc211 (by decide) rfl
              refine g_callV (kc2 := (60 - j)) (ks2 := (400 * (60 - j))) (rest := []) B M_J13_length q2044 q1127 q2929 ty102 rfl (c_J13_length (l := (a.txt ++ List.replicate j nc)) P1 sbR_43 S1) rfl rfl (Nat.le_of_ble_eq_true rfl) (Nat.le_of_ble_eq_true rfl) (Nat.le_of_ble_eq_true rfl) (Nat.le_refl _) (Nat.le_refl _) dX0_append_71 (xkA (fun v102 T102 O102 R102 le102 p102 => ?_))
              obtain ⟨rfl, eT102, eO102, eR102⟩ := p102
              obtain rfl := eT102.symm
              obtain rfl := eO102.symm
              obtain rfl := eR102.symm
              refine g_iret B E rfl rfl dX0_append_74 ?_
              have ej : j = nk := by omega
              subst ej
              have hF : a.appF (nI nc) (nI j) = (nI (a.txt.length + j), a.w_txt (a.txt ++ List.replicate j nc)) := by rw [aA.appF, if_pos ⟨hb_c, hb_k⟩, hc_nk, hc_nc, if_neg (by omega)]
              exact ⟨_, rfl, by rw [hF, hrl], _, _, _, _, _, P1, le1, by rw [hF]; exact H1⟩
            · refine g_aload_n B 3 dX0_append_51 rfl ?_
              refine x_get B P1 h01 (by decide) rfl F_X0_165_0 (by decide) pb211 dX0_append_52 ?_
              refine g_iload_n B 2 dX0_append_55 rfl ?_
              refine g_i2c B dX0_append_56 rfl ?_
              refine g_top (show Value.int ((((nI nc)).toUInt32 % 65536).toInt32) = Value.int (nI nc) from congrArg Value.int (nI_i2c (by omega))) ?_
              obtain ⟨n103, u103, ty103⟩ := P1.ty pc211 (by decide) rfl
              refine g_callV (kc2 := 60 - (j + 1)) (ks2 := 400 * (60 - (j + 1))) (rest := []) B M_J13_append_2 q2045 q2046 q2047 ty103 rfl (c_J13_appendC (l := (a.txt ++ List.replicate j nc)) P1 sbR_43 S1 (by rw [hrl]; omega) (by omega)) rfl rfl (Nat.le_of_ble_eq_true rfl) (Nat.le_of_ble_eq_true rfl) (Nat.le_of_ble_eq_true rfl) (by omega) (by omega) dX0_append_57 (xkA (fun v103 T103 O103 R103 le103 p103 => ?_))
              obtain ⟨Y103, V103, I103, J103, A103, P103, rfl, eJ103, eA103, ss103, f103⟩ := p103
              obtain rfl := eJ103.symm
              obtain rfl := eA103.symm
              obtain ⟨id103, xv103, S103⟩ := ss103
              have e103 : (a.txt ++ List.replicate j nc) ++ [nc] = (a.txt ++ List.replicate (j + 1) nc) := by rw [List.append_assoc, ← List.replicate_succ']
              rw [e103] at S103
              have H103 : RepX (a.w_txt (a.txt ++ List.replicate (j + 1) nc)) tk x0 g0 fi ps Y103 V103 I103 J A := ⟨H1.Si.fr f103 (fun r o e q => by unfold sSbf at e; unfold gSi at q; omega), H1.Ol.fr f103 (fun r o e q => by unfold sSbf at e; unfold gOl at q; omega), H1.Op.fr f103 (fun r o e q => by unfold sSbf at e; unfold gOp at q; omega), H1.Ks.fr f103 (fun r o e q => by unfold sSbf at e; unfold gKs at q; omega), H1.In.fr f103 (fun r o e q => by unfold sSbf at e; unfold gIn at q; omega), H1.Ct.fr f103 (fun r o e q => by unfold sSbf at e; unfold gCt at q; omega), H1.Of.fr f103 (fun r o e q => by unfold sSbf at e; unfold gOf at q; omega), H1.Ch.fr f103 (fun r o e q => by unfold sSbf at e; unfold gCh at q; omega), H1.Ar.fr f103 (fun r o e q => by unfold sSbf at e; unfold gAr at q; omega), H1.Ve.fr f103 (fun r o e q => by unfold sSbf at e; unfold gVe at q; omega), H1.Ip.fr f103 (fun r o e q => by unfold sSbf at e; unfold gIp at q; omega), ⟨_, S103.b⟩, H1.Wr.fr f103 (fun r o e q => by unfold sSbf at e; unfold gWr at q; omega), H1.Ex.fr f103 (fun r o e q => by unfold sSbf at e; unfold gEx at q; omega), H1.La.fr f103 (fun r o e q => by unfold sSbf at e; unfold gLa at q; omega)⟩
              refine g_pop B dX0_append_60 rfl ?_
              refine g_iinc (v := nI (j + 1)) (lv2 := [(3, _), (2, _), (1, _), (0, _)]) B 0 dX0_append_61 rfl (nI_1 _) (by decide) rfl ?_
              refine g_goto (tgt := 46) B dX0_append_64 (by decide) ?_
              exact ih (nk - (j + 1)) (by omega) (j + 1) _ _ _ _ _ _ rfl P103 (by omega) H103 (le1.tr f103.1.1)
        refine g_pick [0, 3, 2, 1] rfl ?_
        exact L _ 0 _ _ _ _ _ _ rfl P (Nat.zero_le _) (by rw [show (a.txt ++ List.replicate 0 nc) = a.txt by simp]; exact H) yLe.rf
      · refine g_ldc (v := (-1000000003)) B q820 dX0_append_41 ?_
        refine g_iret B E rfl rfl dX0_append_43 ?_
        have hF : a.appF (nI nc) (nI nk) = (-1000000003, a) := by rw [aA.appF, if_pos ⟨hb_c, hb_k⟩, hc_nk, if_pos (by omega)]
        exact ⟨_, rfl, by rw [hF], _, _, _, _, _, P, yLe.rf, by rw [hF]; exact H⟩
    · refine g_ldc (v := (-1000000002)) B q811 dX0_append_24 ?_
      refine g_iret B E rfl rfl dX0_append_26 ?_
      have hF : a.appF c k = (-1000000002, a) := by rw [aA.appF, if_neg (fun q => by have q2 := q.2; rw [c4] at q2; cases q2)]
      exact ⟨_, rfl, by rw [hF], _, _, _, _, _, P, yLe.rf, by rw [hF]; exact H⟩
theorem c_X0_written {G : xG} {T : xT} {O R : xO} {Y : xY} {V : xVV} {I : xII} {J : xJJ} {A : xVV} {w0 : xW} {a : aA} {tk x0 g0 fi ps : Nat} {i : Int32} (P : PX Y V I J A w0 T O R) (H : RepX a tk x0 g0 fi ps Y V I J A) (hw : a.wr.length ≤ 80) (hw2 : ∀ j, j < a.wr.length → a.wr.getD j 0 < 128) (h0q : yAt Y 0 0 x0) : xCtr G yX0_written cX0_written 2 (some Jvm.ClassFile.FieldType.int) 4 88 0 0 [.ref x0, .int i] (T, O, R) (xA (fun v T2 O2 R2 => v = .int (a.wrdF i) ∧ T2 = T ∧ O2 = O ∧ R2 = R)) := by
  refine xCtr.of (by decide +kernel) (Nat.le_of_ble_eq_true rfl) ?_
  intro Z B E hz hnm
  change xV Z (T, O, R) 0 [(0, .ref x0), (1, .int i)] [] 0 0
  obtain ⟨h0, ⟨⟨pa0, pb0, pc0⟩, ⟨pa5, pb5, pc5⟩, ⟨pa6, pb6, pc6⟩, ⟨pa8, pb8, pc8⟩, ⟨pa9, pb9, pc9⟩, ⟨pa10, pb10, pc10⟩, ⟨pa11, pb11, pc11⟩, ⟨pa12, pb12, pc12⟩, ⟨pa13, pb13, pc13⟩, ⟨pa20, pb20, pc20⟩, ⟨pa21, pb21, pc21⟩, ⟨pa22, pb22, pc22⟩⟩, ⟨nq1, nq2, nq3, nq4⟩, nq7, nq14, nq15, nq16, nq17, nq18, nq19⟩ := H.Si
  obtain ⟨xt, St⟩ := H.Wr
  obtain rfl : pa22 = xt := P.fn pc22 St.1
  obtain ⟨id, xv, S⟩ := St.e
  refine g_iload_n B 1 dX0_written_0 rfl ?_
  refine g_i2l B dX0_written_1 rfl ?_
  refine g_lconst (v := 0) B dX0_written_2 (by decide) ?_
  refine g_aload_n B 0 dX0_written_3 rfl ?_
  refine x_get B P h0q (by decide) rfl F_X0_169_0 (by decide) pb22 dX0_written_4 ?_
  obtain ⟨n1, u1, ty1⟩ := P.ty pc22 (by decide) rfl
  refine g_callV (rest := [_, _]) B M_J13_length q2044 q1127 q2929 ty1 rfl (c_J13_length (l := a.wr) P sbR_143 S) rfl rfl (Nat.le_of_ble_eq_true rfl) (Nat.le_of_ble_eq_true rfl) (Nat.le_of_ble_eq_true rfl) (Nat.le_refl _) (Nat.le_refl _) dX0_written_7 (xkA (fun v1 T1 O1 R1 le1 p1 => ?_))
  obtain ⟨rfl, eT1, eO1, eR1⟩ := p1
  obtain rfl := eT1.symm
  obtain rfl := eO1.symm
  obtain rfl := eR1.symm
  refine g_iconst (v := nI 1) B dX0_written_10 (by decide) ?_
  refine g_isub B dX0_written_11 ?_
  refine g_i2l B dX0_written_12 rfl ?_
  refine g_callS (rest := []) B M_X0_isBetween q805 q806 (c_X0_isBetween (x := i) (l := nI 0) (u := ((nI a.wr.length) - (nI 1))) P rfl rfl rfl) rfl rfl (Nat.le_of_ble_eq_true rfl) (Nat.le_of_ble_eq_true rfl) (Nat.le_of_ble_eq_true rfl) (Nat.le_refl _) (Nat.le_refl _) dX0_written_13 (xkA (fun v2 T2 O2 R2 le2 p2 => ?_))
  obtain ⟨rfl, eT2, eO2, eR2⟩ := p2
  obtain rfl := eT2.symm
  obtain rfl := eO2.symm
  obtain rfl := eR2.symm
  refine g_if_eqB (tgt := 30) B dX0_written_16 (by decide) (fun c3 => ?_) (fun c3 => ?_)
  · refine g_ldcw (v := (-1000000001)) B q1853 dX0_written_30 ?_
    refine g_iret B E rfl rfl dX0_written_33 ?_
    exact ⟨_, rfl, by rw [aA.wrdF, c3]; rfl, rfl, rfl, rfl⟩
  · have hb := c3
    obtain ⟨ni, hi_, e_ni⟩ := inB_len (by omega) hb
    have hc_ni : i.toNatClampNeg = ni := by rw [e_ni]; exact nI_clamp (by omega)
    subst e_ni
    have hlt : a.wr.getD ni 0 < 128 := hw2 ni hi_
    refine g_aload_n B 0 dX0_written_19 rfl ?_
    refine x_get B P h0q (by decide) rfl F_X0_169_0 (by decide) pb22 dX0_written_20 ?_
    refine g_iload_n B 1 dX0_written_23 rfl ?_
    obtain ⟨n4, u4, ty4⟩ := P.ty pc22 (by decide) rfl
    refine g_callV (rest := []) B M_J13_charAt q2406 q2101 q2102 ty4 rfl (c_J13_charAt (l := a.wr) P sbR_143 S hi_ hlt) rfl rfl (Nat.le_of_ble_eq_true rfl) (Nat.le_of_ble_eq_true rfl) (Nat.le_of_ble_eq_true rfl) (Nat.le_refl _) (Nat.le_refl _) dX0_written_24 (xkA (fun v4 T4 O4 R4 le4 p4 => ?_))
    obtain ⟨rfl, eT4, eO4, eR4⟩ := p4
    obtain rfl := eT4.symm
    obtain rfl := eO4.symm
    obtain rfl := eR4.symm
    refine g_goto (tgt := 33) B dX0_written_27 (by decide) ?_
    refine g_iret B E rfl rfl dX0_written_33 ?_
    exact ⟨_, rfl, by rw [aA.wrdF, if_pos hb, hc_ni], rfl, rfl, rfl⟩
theorem sb_gWr : ∀ r o, sSbf 143 3002 r o → gWr r := fun r o e => by unfold sSbf at e; unfold gWr; omega
theorem aA.wwr (a : aA) (l l2 : List Nat) : (a.w_wr l).w_wr l2 = a.w_wr l2 := rfl
theorem RepX.wr {a : aA} {tk x0 g0 fi ps : Nat} {Y Y1 : xY} {V V1 : xVV} {I I1 : xII} {J : xJJ} {A : xVV} {l l2 : List Nat} (H : RepX (a.w_wr l) tk x0 g0 fi ps Y V I J A) (f : xFr (sSbf 143 3002) Y V I J A Y1 V1 I1 J A) (hX : XWr Y1 V1 I1 l2) : RepX (a.w_wr l2) tk x0 g0 fi ps Y1 V1 I1 J A := by
  have h := H.w_wr f sb_gWr hX
  rw [aA.wwr] at h
  exact h
theorem c_X0_write {G : xG} {T : xT} {O R : xO} {Y : xY} {V : xVV} {I : xII} {J : xJJ} {A : xVV} {w0 : xW} {a : aA} {tk x0 g0 fi ps : Nat} {Bd : Nat} (P : PX Y V I J A w0 T O R) (H : RepX a tk x0 g0 fi ps Y V I J A) (W : WF Bd a) (h0q : yAt Y 0 0 x0) : xCtr G yX0_write cX0_write 2 (some Jvm.ClassFile.FieldType.int) 7 169 46 18400 [.ref x0] (T, O, R) (xA (fun v T2 O2 R2 => v = .int a.wrF.1 ∧ xR w0 Y a.wrF.2 tk x0 g0 fi ps T2 O2 R2)) := by
  refine xCtr.of (by decide +kernel) (Nat.le_of_ble_eq_true rfl) ?_
  intro Z B E hz hnm
  change xV Z (T, O, R) 0 [(0, .ref x0)] [] 46 18400
  have hn2 := W.n2
  have hn6 := W.n6
  obtain ⟨h0, ⟨⟨pa0, pb0, pc0⟩, ⟨pa5, pb5, pc5⟩, ⟨pa6, pb6, pc6⟩, ⟨pa8, pb8, pc8⟩, ⟨pa9, pb9, pc9⟩, ⟨pa10, pb10, pc10⟩, ⟨pa11, pb11, pc11⟩, ⟨pa12, pb12, pc12⟩, ⟨pa13, pb13, pc13⟩, ⟨pa20, pb20, pc20⟩, ⟨pa21, pb21, pc21⟩, ⟨pa22, pb22, pc22⟩⟩, ⟨nq1, nq2, nq3, nq4⟩, nq7, nq14, nq15, nq16, nq17, nq18, nq19⟩ := H.Si
  obtain ⟨xt, St⟩ := H.Wr
  obtain rfl : pa22 = xt := P.fn pc22 St.1
  obtain ⟨id, xv, S⟩ := St.e
  refine g_aload_n B 0 dX0_write_0 rfl ?_
  refine x_get B P h0q (by decide) rfl F_X0_169_0 (by decide) pb22 dX0_write_1 ?_
  refine g_iconst (v := nI 0) B dX0_write_4 (by decide) ?_
  obtain ⟨n1, u1, ty1⟩ := P.ty pc22 (by decide) rfl
  refine g_callV (kc2 := 45) (ks2 := 18000) (rest := []) B M_J13_setLength q2323 q2324 q2325 ty1 rfl (c_J13_setLength0 P sbR_143 S) rfl rfl (Nat.le_of_ble_eq_true rfl) (Nat.le_of_ble_eq_true rfl) (Nat.le_of_ble_eq_true rfl) (by decide) (by decide) dX0_write_5 (xkN (fun T1 O1 R1 le1 p1 => ?_))
  obtain ⟨Y1, V1, I1, J1, A1, P1, eJ1, eA1, ss1, f1⟩ := p1
  obtain rfl := eJ1.symm
  obtain rfl := eA1.symm
  have H1 : RepX (a.w_wr []) tk x0 g0 fi ps Y1 V1 I1 J A := by obtain ⟨id1, xv1, S1⟩ := ss1; exact H.w_wr f1 sb_gWr ⟨_, S1.b⟩
  refine g_iconst (v := nI 1) B dX0_write_8 (by decide) ?_
  refine g_istore_n (lv2 := [(1, _), (0, _)]) B dX0_write_9 (by decide) rfl ?_
  have L : ∀ (d : Nat) (j : Nat) (l : List Nat) (Y1 : xY) (V1 : xVV) (I1 : xII) (T1 : xT) (O1 R1 : xO), d = a.n - j → PX Y1 V1 I1 J A w0 T1 O1 R1 → (j + 1 ≤ a.n) → (j + 1 < a.n → l = a.wOps j) → (j + 1 = a.n → l = a.wAll) → (RepX (a.w_wr l) tk x0 g0 fi ps Y1 V1 I1 J A) → (yLe Y Y1) → xV Z (T1, O1, R1) 10 [(1, .int (nI (j + 1))), (0, .ref x0)] [] (9 * (5 - j)) (3600 * (5 - j)) := by
    intro d
    induction d using Nat.strongRecOn with
    | _ d ih =>
      intro j l Y1 V1 I1 T1 O1 R1 hd P1 hj hl1 hl2 H1 le1
      obtain ⟨h01, ⟨⟨pa01, pb01, pc01⟩, ⟨pa51, pb51, pc51⟩, ⟨pa61, pb61, pc61⟩, ⟨pa81, pb81, pc81⟩, ⟨pa91, pb91, pc91⟩, ⟨pa101, pb101, pc101⟩, ⟨pa111, pb111, pc111⟩, ⟨pa121, pb121, pc121⟩, ⟨pa131, pb131, pc131⟩, ⟨pa201, pb201, pc201⟩, ⟨pa211, pb211, pc211⟩, ⟨pa221, pb221, pc221⟩⟩, ⟨nq11, nq21, nq31, nq41⟩, nq71, nq141, nq151, nq161, nq171, nq181, nq191⟩ := H1.Si
      obtain ⟨xol1, ll1, Lol1, lln1, llo1⟩ := H1.Ol
      obtain rfl : pa81 = xol1 := P1.fn pc81 Lol1.1
      obtain ⟨xt1, St1⟩ := H1.Wr
      obtain rfl : pa221 = xt1 := P1.fn pc221 St1.1
      obtain ⟨id1, xv1, S1⟩ := St1.e
      have hll1 : ll1.length = a.n := lln1
      refine g_iload_n B 0 dX0_write_10 rfl ?_
      refine g_aload_n B 1 dX0_write_11 rfl ?_
      refine x_get B P1 h01 (by decide) rfl F_X0_115_0 (by decide) pb81 dX0_write_12 ?_
      obtain ⟨n101, u101, ty101⟩ := P1.ty pc81 (by decide) rfl
      refine g_callV (kc2 := (9 * (5 - j))) (ks2 := (3600 * (5 - j))) (rest := [_]) B M_J4_size q502 q503 q504 ty101 rfl (c_J4_size (r := 34) (rd := 5002) P1 (by decide) rfl Lol1) rfl rfl (Nat.le_of_ble_eq_true rfl) (Nat.le_of_ble_eq_true rfl) (Nat.le_of_ble_eq_true rfl) (Nat.le_refl _) (Nat.le_refl _) dX0_write_15 (xkA (fun v101 T101 O101 R101 le101 p101 => ?_))
      obtain ⟨rfl, eT101, eO101, eR101⟩ := p101
      obtain rfl := eT101.symm
      obtain rfl := eO101.symm
      obtain rfl := eR101.symm
      refine g_icmp_geN (tgt := 73) B (by first | omega | (rw [hll1]; omega)) (by first | omega | (rw [hll1]; omega)) dX0_write_18 (by decide) (fun c102 => ?_) (fun c102 => ?_)
      · refine g_aload_n B 1 dX0_write_73 rfl ?_
        refine x_get B P1 h01 (by decide) rfl F_X0_169_0 (by decide) pb221 dX0_write_74 ?_
        obtain ⟨n103, u103, ty103⟩ := P1.ty pc221 (by decide) rfl
        refine g_callV (kc2 := (9 * (5 - j))) (ks2 := (3600 * (5 - j))) (rest := []) B M_J13_length q2044 q1127 q2929 ty103 rfl (c_J13_length (l := l) P1 sbR_143 S1) rfl rfl (Nat.le_of_ble_eq_true rfl) (Nat.le_of_ble_eq_true rfl) (Nat.le_of_ble_eq_true rfl) (Nat.le_refl _) (Nat.le_refl _) dX0_write_77 (xkA (fun v103 T103 O103 R103 le103 p103 => ?_))
        obtain ⟨rfl, eT103, eO103, eR103⟩ := p103
        obtain rfl := eT103.symm
        obtain rfl := eO103.symm
        obtain rfl := eR103.symm
        refine g_iret B E rfl rfl dX0_write_80 ?_
        have hlw := hl2 (by omega)
        subst hlw
        have hF : a.wrF = (nI a.wAll.length, a.w_wr a.wAll) := aA.wrF.eq_1 a
        exact ⟨_, rfl, by rw [hF], _, _, _, _, _, P1, le1, by rw [hF]; exact H1⟩
      · refine g_iload_n B 0 dX0_write_21 rfl ?_
        refine g_iconst (v := nI 1) B dX0_write_22 (by decide) ?_
        refine g_icmp_leN (tgt := 49) B (by first | omega | (rw [hll1]; omega)) (by first | omega | (rw [hll1]; omega)) dX0_write_23 (by decide) (fun c104 => ?_) (fun c104 => ?_)
        · refine g_aload_n B 1 dX0_write_49 rfl ?_
          refine x_get B P1 h01 (by decide) rfl F_X0_115_0 (by decide) pb81 dX0_write_50 ?_
          refine g_iload_n B 0 dX0_write_53 rfl ?_
          obtain ⟨n105, u105, ty105⟩ := P1.ty pc81 (by decide) rfl
          refine g_callV (kc2 := (9 * (5 - j))) (ks2 := (3600 * (5 - j))) (rest := []) B M_J4_get q506 q507 q508 ty105 rfl (c_J4_get (r := 34) (rd := 5002) P1 (by decide) rfl Lol1 rfl (by rw [lln1]; first | omega | (rw [hll1]; omega))) rfl rfl (Nat.le_of_ble_eq_true rfl) (Nat.le_of_ble_eq_true rfl) (Nat.le_of_ble_eq_true rfl) (Nat.le_refl _) (Nat.le_refl _) dX0_write_54 (xkA (fun v105 T105 O105 R105 le105 p105 => ?_))
          obtain ⟨rfl, eT105, eO105, eR105⟩ := p105
          obtain rfl := eT105.symm
          obtain rfl := eO105.symm
          obtain rfl := eR105.symm
          obtain ⟨n106, u106, ty106⟩ := P1.ty (llo1 (j + 1) (by first | omega | (rw [hll1]; omega))) (by decide) rfl
          refine g_cast B ty106 (opNa _) q520 (opCast_X4 _) dX0_write_57 ?_
          refine g_aload_n B 1 dX0_write_60 rfl ?_
          refine x_get B P1 h01 (by decide) rfl F_X0_169_0 (by decide) pb221 dX0_write_61 ?_
          obtain ⟨xo1, ko1⟩ := H1.Op (j + 1) (by omega)
          have ⟨k01, k11, k21, k31, k41, k51, ⟨xk1, k61, k71⟩, k81, k91, k101, k111⟩ := ko1
          have k11 : yK Y1 4 (j + 1) = a.kd (j + 1) := k11
          have k21 : V1 4 (j + 1) 0 = .int (nI (a.kd (j + 1))) := k21
          have k31 : V1 4 (j + 1) 1 = .int (a.pa (j + 1)) := k31
          have k41 : V1 4 (j + 1) 2 = .int (a.pb (j + 1)) := k41
          have k51 : V1 4 (j + 1) 3 = .int (nI (a.p (j + 1))) := k51
          have hor1 := W.kr (j + 1) (by omega)
          have hop1 := W.p1 (j + 1) (by omega)
          have hol1 : l.length ≤ 70 := by rw [hl1 (by omega)]; have := aA.wOps_len a j; omega
          by_cases hlast : j + 1 + 1 = a.n
          · have hk107 : a.kd (j + 1) = 8 := by have := W.kl; rw [show a.n - 1 = j + 1 by omega] at this; exact this
            refine g_write (kc2 := 9 * (5 - (j + 1))) (ks2 := 3600 * (5 - (j + 1))) (Post := (xN (xPN w0 (fun Y2 V2 I2 J2 A2 => J2 = J ∧ A2 = A ∧ (∃ id2 xv2, xSe Y2 V2 I2 143 3002 pa221 (l ++ wOs (a.p (j + 1))) id2 xv2) ∧ xFr (sSbf 143 3002) Y1 V1 I1 J A Y2 V2 I2 J2 A2)))) B P1 (llo1 (j + 1) (show j + 1 < a.n by omega)) k11 (by omega) (by omega) q2347 (fun hk => absurd hk (by omega)) (fun hk => c_X8_write P1 (llo1 (j + 1) (show j + 1 < a.n by omega)) k21 k31 k41 k51 S1 hol1 (by omega) hor1.1.1 hor1.1.2 hor1.2.1 hor1.2.2) (Nat.le_of_ble_eq_true rfl) (Nat.le_of_ble_eq_true rfl) (Nat.le_of_ble_eq_true rfl) (by omega) (by omega) dX0_write_64 (xkN (fun T107 O107 R107 le107 p107 => ?_))
            obtain ⟨Y107, V107, I107, J107, A107, P107, eJ107, eA107, ⟨id107, xv107, S107⟩, f107⟩ := p107
            obtain rfl := eJ107.symm
            obtain rfl := eA107.symm
            have H107 : RepX (a.w_wr (l ++ wOs (a.p (j + 1)))) tk x0 g0 fi ps Y107 V107 I107 J A := H1.wr f107 ⟨_, S107.b⟩
            refine g_iinc (v := nI ((j + 1) + 1)) (lv2 := [(1, _), (0, _)]) B 0 dX0_write_67 rfl (nI_1 _) (by decide) rfl ?_
            refine g_goto (tgt := 10) B dX0_write_70 (by decide) ?_
            exact ih (a.n - (j + 1)) (by omega) (j + 1) (l ++ wOs (a.p (j + 1))) _ _ _ _ _ _ rfl P107 (by omega) (fun e => absurd e (by omega)) (fun _ => by rw [hl1 (by omega)]; show _ = a.wOps (a.n - 2) ++ wOs (a.p (a.n - 2 + 1)); rw [show a.n - 2 = j by omega]) H107 (le1.tr f107.1.1)
          · have hk107 : a.kd (j + 1) ≤ 6 := W.km (j + 1) (by omega) (by omega)
            refine g_write (kc2 := 9 * (5 - (j + 1))) (ks2 := 3600 * (5 - (j + 1))) (Post := (xN (xPN w0 (fun Y2 V2 I2 J2 A2 => J2 = J ∧ A2 = A ∧ (∃ id2 xv2, xSe Y2 V2 I2 143 3002 pa221 (l ++ wOq (a.kd (j + 1)) (a.pa (j + 1)) (a.pb (j + 1)) (a.p (j + 1))) id2 xv2) ∧ xFr (sSbf 143 3002) Y1 V1 I1 J A Y2 V2 I2 J2 A2)))) B P1 (llo1 (j + 1) (show j + 1 < a.n by omega)) k11 (by omega) (by omega) q2347 (fun hk => c_X4_write P1 (llo1 (j + 1) (show j + 1 < a.n by omega)) k21 k31 k41 k51 S1 hol1 (by omega) hor1.1.1 hor1.1.2 hor1.2.1 hor1.2.2 hk) (fun hk => absurd hk (by omega)) (Nat.le_of_ble_eq_true rfl) (Nat.le_of_ble_eq_true rfl) (Nat.le_of_ble_eq_true rfl) (by omega) (by omega) dX0_write_64 (xkN (fun T107 O107 R107 le107 p107 => ?_))
            obtain ⟨Y107, V107, I107, J107, A107, P107, eJ107, eA107, ⟨id107, xv107, S107⟩, f107⟩ := p107
            obtain rfl := eJ107.symm
            obtain rfl := eA107.symm
            have H107 : RepX (a.w_wr (l ++ wOq (a.kd (j + 1)) (a.pa (j + 1)) (a.pb (j + 1)) (a.p (j + 1)))) tk x0 g0 fi ps Y107 V107 I107 J A := H1.wr f107 ⟨_, S107.b⟩
            refine g_iinc (v := nI ((j + 1) + 1)) (lv2 := [(1, _), (0, _)]) B 0 dX0_write_67 rfl (nI_1 _) (by decide) rfl ?_
            refine g_goto (tgt := 10) B dX0_write_70 (by decide) ?_
            exact ih (a.n - (j + 1)) (by omega) (j + 1) (l ++ wOq (a.kd (j + 1)) (a.pa (j + 1)) (a.pb (j + 1)) (a.p (j + 1))) _ _ _ _ _ _ rfl P107 (by omega) (fun _ => by rw [hl1 (by omega)]; show _ = a.wOps j ++ a.wOp (j + 1); rw [aA.wOp_q, if_neg (by omega : ¬ 1 < j + 1), List.nil_append]) (fun e => absurd e (by omega)) H107 (le1.tr f107.1.1)
        · refine g_iload_n B 0 dX0_write_26 rfl ?_
          refine g_aload_n B 1 dX0_write_27 rfl ?_
          refine x_get B P1 h01 (by decide) rfl F_X0_115_0 (by decide) pb81 dX0_write_28 ?_
          obtain ⟨n108, u108, ty108⟩ := P1.ty pc81 (by decide) rfl
          refine g_callV (kc2 := (9 * (5 - j))) (ks2 := (3600 * (5 - j))) (rest := [_]) B M_J4_size q502 q503 q504 ty108 rfl (c_J4_size (r := 34) (rd := 5002) P1 (by decide) rfl Lol1) rfl rfl (Nat.le_of_ble_eq_true rfl) (Nat.le_of_ble_eq_true rfl) (Nat.le_of_ble_eq_true rfl) (Nat.le_refl _) (Nat.le_refl _) dX0_write_31 (xkA (fun v108 T108 O108 R108 le108 p108 => ?_))
          obtain ⟨rfl, eT108, eO108, eR108⟩ := p108
          obtain rfl := eT108.symm
          obtain rfl := eO108.symm
          obtain rfl := eR108.symm
          refine g_iconst (v := nI 1) B dX0_write_34 (by decide) ?_
          refine g_isubN B (by first | omega | (rw [hll1]; omega)) dX0_write_35 ?_
          refine g_icmp_geN (tgt := 49) B (by first | omega | (rw [hll1]; omega)) (by first | omega | (rw [hll1]; omega)) dX0_write_36 (by decide) (fun c109 => ?_) (fun c109 => ?_)
          · refine g_aload_n B 1 dX0_write_49 rfl ?_
            refine x_get B P1 h01 (by decide) rfl F_X0_115_0 (by decide) pb81 dX0_write_50 ?_
            refine g_iload_n B 0 dX0_write_53 rfl ?_
            obtain ⟨n110, u110, ty110⟩ := P1.ty pc81 (by decide) rfl
            refine g_callV (kc2 := (9 * (5 - j))) (ks2 := (3600 * (5 - j))) (rest := []) B M_J4_get q506 q507 q508 ty110 rfl (c_J4_get (r := 34) (rd := 5002) P1 (by decide) rfl Lol1 rfl (by rw [lln1]; first | omega | (rw [hll1]; omega))) rfl rfl (Nat.le_of_ble_eq_true rfl) (Nat.le_of_ble_eq_true rfl) (Nat.le_of_ble_eq_true rfl) (Nat.le_refl _) (Nat.le_refl _) dX0_write_54 (xkA (fun v110 T110 O110 R110 le110 p110 => ?_))
            obtain ⟨rfl, eT110, eO110, eR110⟩ := p110
            obtain rfl := eT110.symm
            obtain rfl := eO110.symm
            obtain rfl := eR110.symm
            obtain ⟨n111, u111, ty111⟩ := P1.ty (llo1 (j + 1) (by first | omega | (rw [hll1]; omega))) (by decide) rfl
            refine g_cast B ty111 (opNa _) q520 (opCast_X4 _) dX0_write_57 ?_
            refine g_aload_n B 1 dX0_write_60 rfl ?_
            refine x_get B P1 h01 (by decide) rfl F_X0_169_0 (by decide) pb221 dX0_write_61 ?_
            obtain ⟨xo1, ko1⟩ := H1.Op (j + 1) (by omega)
            have ⟨k01, k11, k21, k31, k41, k51, ⟨xk1, k61, k71⟩, k81, k91, k101, k111⟩ := ko1
            have k11 : yK Y1 4 (j + 1) = a.kd (j + 1) := k11
            have k21 : V1 4 (j + 1) 0 = .int (nI (a.kd (j + 1))) := k21
            have k31 : V1 4 (j + 1) 1 = .int (a.pa (j + 1)) := k31
            have k41 : V1 4 (j + 1) 2 = .int (a.pb (j + 1)) := k41
            have k51 : V1 4 (j + 1) 3 = .int (nI (a.p (j + 1))) := k51
            have hor1 := W.kr (j + 1) (by omega)
            have hop1 := W.p1 (j + 1) (by omega)
            have hol1 : l.length ≤ 70 := by rw [hl1 (by omega)]; have := aA.wOps_len a j; omega
            by_cases hlast : j + 1 + 1 = a.n
            · have hk112 : a.kd (j + 1) = 8 := by have := W.kl; rw [show a.n - 1 = j + 1 by omega] at this; exact this
              refine g_write (kc2 := 9 * (5 - (j + 1))) (ks2 := 3600 * (5 - (j + 1))) (Post := (xN (xPN w0 (fun Y2 V2 I2 J2 A2 => J2 = J ∧ A2 = A ∧ (∃ id2 xv2, xSe Y2 V2 I2 143 3002 pa221 (l ++ wOs (a.p (j + 1))) id2 xv2) ∧ xFr (sSbf 143 3002) Y1 V1 I1 J A Y2 V2 I2 J2 A2)))) B P1 (llo1 (j + 1) (show j + 1 < a.n by omega)) k11 (by omega) (by omega) q2347 (fun hk => absurd hk (by omega)) (fun hk => c_X8_write P1 (llo1 (j + 1) (show j + 1 < a.n by omega)) k21 k31 k41 k51 S1 hol1 (by omega) hor1.1.1 hor1.1.2 hor1.2.1 hor1.2.2) (Nat.le_of_ble_eq_true rfl) (Nat.le_of_ble_eq_true rfl) (Nat.le_of_ble_eq_true rfl) (by omega) (by omega) dX0_write_64 (xkN (fun T112 O112 R112 le112 p112 => ?_))
              obtain ⟨Y112, V112, I112, J112, A112, P112, eJ112, eA112, ⟨id112, xv112, S112⟩, f112⟩ := p112
              obtain rfl := eJ112.symm
              obtain rfl := eA112.symm
              have H112 : RepX (a.w_wr (l ++ wOs (a.p (j + 1)))) tk x0 g0 fi ps Y112 V112 I112 J A := H1.wr f112 ⟨_, S112.b⟩
              refine g_iinc (v := nI ((j + 1) + 1)) (lv2 := [(1, _), (0, _)]) B 0 dX0_write_67 rfl (nI_1 _) (by decide) rfl ?_
              refine g_goto (tgt := 10) B dX0_write_70 (by decide) ?_
              exact ih (a.n - (j + 1)) (by omega) (j + 1) (l ++ wOs (a.p (j + 1))) _ _ _ _ _ _ rfl P112 (by omega) (fun e => absurd e (by omega)) (fun _ => by rw [hl1 (by omega)]; show _ = a.wOps (a.n - 2) ++ wOs (a.p (a.n - 2 + 1)); rw [show a.n - 2 = j by omega]) H112 (le1.tr f112.1.1)
            · have hk112 : a.kd (j + 1) ≤ 6 := W.km (j + 1) (by omega) (by omega)
              refine g_write (kc2 := 9 * (5 - (j + 1))) (ks2 := 3600 * (5 - (j + 1))) (Post := (xN (xPN w0 (fun Y2 V2 I2 J2 A2 => J2 = J ∧ A2 = A ∧ (∃ id2 xv2, xSe Y2 V2 I2 143 3002 pa221 (l ++ wOq (a.kd (j + 1)) (a.pa (j + 1)) (a.pb (j + 1)) (a.p (j + 1))) id2 xv2) ∧ xFr (sSbf 143 3002) Y1 V1 I1 J A Y2 V2 I2 J2 A2)))) B P1 (llo1 (j + 1) (show j + 1 < a.n by omega)) k11 (by omega) (by omega) q2347 (fun hk => c_X4_write P1 (llo1 (j + 1) (show j + 1 < a.n by omega)) k21 k31 k41 k51 S1 hol1 (by omega) hor1.1.1 hor1.1.2 hor1.2.1 hor1.2.2 hk) (fun hk => absurd hk (by omega)) (Nat.le_of_ble_eq_true rfl) (Nat.le_of_ble_eq_true rfl) (Nat.le_of_ble_eq_true rfl) (by omega) (by omega) dX0_write_64 (xkN (fun T112 O112 R112 le112 p112 => ?_))
              obtain ⟨Y112, V112, I112, J112, A112, P112, eJ112, eA112, ⟨id112, xv112, S112⟩, f112⟩ := p112
              obtain rfl := eJ112.symm
              obtain rfl := eA112.symm
              have H112 : RepX (a.w_wr (l ++ wOq (a.kd (j + 1)) (a.pa (j + 1)) (a.pb (j + 1)) (a.p (j + 1)))) tk x0 g0 fi ps Y112 V112 I112 J A := H1.wr f112 ⟨_, S112.b⟩
              refine g_iinc (v := nI ((j + 1) + 1)) (lv2 := [(1, _), (0, _)]) B 0 dX0_write_67 rfl (nI_1 _) (by decide) rfl ?_
              refine g_goto (tgt := 10) B dX0_write_70 (by decide) ?_
              exact ih (a.n - (j + 1)) (by omega) (j + 1) (l ++ wOq (a.kd (j + 1)) (a.pa (j + 1)) (a.pb (j + 1)) (a.p (j + 1))) _ _ _ _ _ _ rfl P112 (by omega) (fun _ => by rw [hl1 (by omega)]; show _ = a.wOps j ++ a.wOp (j + 1); rw [aA.wOp_q, if_neg (by omega : ¬ 1 < j + 1), List.nil_append]) (fun e => absurd e (by omega)) H112 (le1.tr f112.1.1)
          · refine g_aload_n B 1 dX0_write_39 rfl ?_
            refine x_get B P1 h01 (by decide) rfl F_X0_169_0 (by decide) pb221 dX0_write_40 ?_
            refine g_bipush (v := nI 124) B dX0_write_43 (by decide) ?_
            obtain ⟨n113, u113, ty113⟩ := P1.ty pc221 (by decide) rfl
            refine g_callV (kc2 := 9 * (5 - (j + 1)) + 8) (ks2 := 3600 * (5 - (j + 1)) + 3200) (rest := []) B M_J13_append_2 q2045 q2046 q2047 ty113 rfl (c_J13_appendC (l := l) P1 sbR_143 S1 (by rw [hl1 (by omega)]; have := aA.wOps_len a j; omega) (by decide)) rfl rfl (Nat.le_of_ble_eq_true rfl) (Nat.le_of_ble_eq_true rfl) (Nat.le_of_ble_eq_true rfl) (by omega) (by omega) dX0_write_45 (xkA (fun v113 T113 O113 R113 le113 p113 => ?_))
            obtain ⟨Y113, V113, I113, J113, A113, P113, rfl, eJ113, eA113, ss113, f113⟩ := p113
            obtain rfl := eJ113.symm
            obtain rfl := eA113.symm
            have H113 : RepX (a.w_wr (l ++ [124])) tk x0 g0 fi ps Y113 V113 I113 J A := by obtain ⟨id113, xv113, S113⟩ := ss113; exact H1.wr f113 ⟨_, S113.b⟩
            obtain ⟨h0113, ⟨⟨pa0113, pb0113, pc0113⟩, ⟨pa5113, pb5113, pc5113⟩, ⟨pa6113, pb6113, pc6113⟩, ⟨pa8113, pb8113, pc8113⟩, ⟨pa9113, pb9113, pc9113⟩, ⟨pa10113, pb10113, pc10113⟩, ⟨pa11113, pb11113, pc11113⟩, ⟨pa12113, pb12113, pc12113⟩, ⟨pa13113, pb13113, pc13113⟩, ⟨pa20113, pb20113, pc20113⟩, ⟨pa21113, pb21113, pc21113⟩, ⟨pa22113, pb22113, pc22113⟩⟩, ⟨nq1113, nq2113, nq3113, nq4113⟩, nq7113, nq14113, nq15113, nq16113, nq17113, nq18113, nq19113⟩ := H113.Si
            obtain ⟨xol113, ll113, Lol113, lln113, llo113⟩ := H113.Ol
            obtain rfl : pa8113 = xol113 := P113.fn pc8113 Lol113.1
            obtain ⟨xt113, St113⟩ := H113.Wr
            obtain rfl : pa22113 = xt113 := P113.fn pc22113 St113.1
            obtain ⟨id113, xv113, S113⟩ := St113.e
            have hll113 : ll113.length = a.n := lln113
            refine g_pop B dX0_write_48 rfl ?_
            refine g_aload_n B 1 dX0_write_49 rfl ?_
            refine x_get B P113 h0113 (by decide) rfl F_X0_115_0 (by decide) pb8113 dX0_write_50 ?_
            refine g_iload_n B 0 dX0_write_53 rfl ?_
            obtain ⟨n114, u114, ty114⟩ := P113.ty pc8113 (by decide) rfl
            refine g_callV (kc2 := (9 * (5 - (j + 1)) + 8)) (ks2 := (3600 * (5 - (j + 1)) + 3200)) (rest := []) B M_J4_get q506 q507 q508 ty114 rfl (c_J4_get (r := 34) (rd := 5002) P113 (by decide) rfl Lol113 rfl (by rw [lln113]; first | omega | (rw [hll1]; omega))) rfl rfl (Nat.le_of_ble_eq_true rfl) (Nat.le_of_ble_eq_true rfl) (Nat.le_of_ble_eq_true rfl) (Nat.le_refl _) (Nat.le_refl _) dX0_write_54 (xkA (fun v114 T114 O114 R114 le114 p114 => ?_))
            obtain ⟨rfl, eT114, eO114, eR114⟩ := p114
            obtain rfl := eT114.symm
            obtain rfl := eO114.symm
            obtain rfl := eR114.symm
            obtain ⟨n115, u115, ty115⟩ := P113.ty (llo113 (j + 1) (by first | omega | (rw [hll1]; omega))) (by decide) rfl
            refine g_cast B ty115 (opNa _) q520 (opCast_X4 _) dX0_write_57 ?_
            refine g_aload_n B 1 dX0_write_60 rfl ?_
            refine x_get B P113 h0113 (by decide) rfl F_X0_169_0 (by decide) pb22113 dX0_write_61 ?_
            obtain ⟨xo113, ko113⟩ := H113.Op (j + 1) (by omega)
            have ⟨k0113, k1113, k2113, k3113, k4113, k5113, ⟨xk113, k6113, k7113⟩, k8113, k9113, k10113, k11113⟩ := ko113
            have k1113 : yK Y113 4 (j + 1) = a.kd (j + 1) := k1113
            have k2113 : V113 4 (j + 1) 0 = .int (nI (a.kd (j + 1))) := k2113
            have k3113 : V113 4 (j + 1) 1 = .int (a.pa (j + 1)) := k3113
            have k4113 : V113 4 (j + 1) 2 = .int (a.pb (j + 1)) := k4113
            have k5113 : V113 4 (j + 1) 3 = .int (nI (a.p (j + 1))) := k5113
            have hor113 := W.kr (j + 1) (by omega)
            have hop113 := W.p1 (j + 1) (by omega)
            have hol113 : (l ++ [124]).length ≤ 70 := by rw [hl1 (by omega)]; have := aA.wOps_len a j; rw [List.length_append, List.length_singleton]; omega
            by_cases hlast : j + 1 + 1 = a.n
            · exfalso
              omega
            · have hk116 : a.kd (j + 1) ≤ 6 := W.km (j + 1) (by omega) (by omega)
              refine g_write (kc2 := 9 * (5 - (j + 1))) (ks2 := 3600 * (5 - (j + 1))) (Post := (xN (xPN w0 (fun Y2 V2 I2 J2 A2 => J2 = J ∧ A2 = A ∧ (∃ id2 xv2, xSe Y2 V2 I2 143 3002 pa22113 ((l ++ [124]) ++ wOq (a.kd (j + 1)) (a.pa (j + 1)) (a.pb (j + 1)) (a.p (j + 1))) id2 xv2) ∧ xFr (sSbf 143 3002) Y113 V113 I113 J A Y2 V2 I2 J2 A2)))) B P113 (llo113 (j + 1) (show j + 1 < a.n by omega)) k1113 (by omega) (by omega) q2347 (fun hk => c_X4_write P113 (llo113 (j + 1) (show j + 1 < a.n by omega)) k2113 k3113 k4113 k5113 S113 hol113 (by omega) hor113.1.1 hor113.1.2 hor113.2.1 hor113.2.2 hk) (fun hk => absurd hk (by omega)) (Nat.le_of_ble_eq_true rfl) (Nat.le_of_ble_eq_true rfl) (Nat.le_of_ble_eq_true rfl) (by omega) (by omega) dX0_write_64 (xkN (fun T116 O116 R116 le116 p116 => ?_))
              obtain ⟨Y116, V116, I116, J116, A116, P116, eJ116, eA116, ⟨id116, xv116, S116⟩, f116⟩ := p116
              obtain rfl := eJ116.symm
              obtain rfl := eA116.symm
              have H116 : RepX (a.w_wr ((l ++ [124]) ++ wOq (a.kd (j + 1)) (a.pa (j + 1)) (a.pb (j + 1)) (a.p (j + 1)))) tk x0 g0 fi ps Y116 V116 I116 J A := H113.wr f116 ⟨_, S116.b⟩
              refine g_iinc (v := nI ((j + 1) + 1)) (lv2 := [(1, _), (0, _)]) B 0 dX0_write_67 rfl (nI_1 _) (by decide) rfl ?_
              refine g_goto (tgt := 10) B dX0_write_70 (by decide) ?_
              exact ih (a.n - (j + 1)) (by omega) (j + 1) ((l ++ [124]) ++ wOq (a.kd (j + 1)) (a.pa (j + 1)) (a.pb (j + 1)) (a.p (j + 1))) _ _ _ _ _ _ rfl P116 (by omega) (fun _ => by rw [hl1 (by omega)]; show _ = a.wOps j ++ a.wOp (j + 1); rw [aA.wOp_q, if_pos (by omega : 1 < j + 1), List.append_assoc]) (fun e => absurd e (by omega)) H116 ((le1.tr f113.1.1).tr f116.1.1)
  exact L _ 0 [] _ _ _ _ _ _ rfl P1 (by omega) (fun _ => rfl) (fun e => absurd e (by omega)) H1 f1.1.1
