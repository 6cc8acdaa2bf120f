set_option maxRecDepth 100000
theorem c_X4_reset {G : xG} {T : xT} {O R : xO} {Y : xY} {V : xVV} {I : xII} {J : xJJ} {A : xVV} {w0 : xW} {o xo xk : Nat} {st : Nat → Nat → Option (Int32 × Int32)} (P : PX Y V I J A w0 T O R) (k0 : yAt Y 4 o xo) (k6 : V 4 o 4 = .ref xk) (K : xVk Y V I J 1 6 35 4001 1021 1022 o xk st) : xCtr G yX4_reset cX4_reset 1 none 3 60 0 0 [.ref xo] (T, O, R) (xN (xPN w0 (fun Y2 V2 I2 J2 A2 => Y2 = Y ∧ A2 = A ∧ (∀ k, k < 5 → V2 4 o k = V 4 o k) ∧ (V2 4 o 5 = .int (nI 0) ∧ V2 4 o 6 = .int (nI 0) ∧ V2 4 o 7 = .int (nI 0) ∧ V2 4 o 8 = .int (nI 0)) ∧ xVk Y V2 I2 J2 1 6 35 4001 1021 1022 o xk (fun _ _ => none) ∧ xFr (sOR o) Y V I J A Y2 V2 I2 J2 A2))) := by
  refine xCtr.of (by decide +kernel) (Nat.le_of_ble_eq_true rfl) ?_
  intro Z B E hz hnm
  change xV Z (T, O, R) 0 [(0, .ref xo)] [] 0 0
  refine g_aload_n B 0 dX4_reset_0 rfl ?_
  refine x_get B P k0 (by decide) rfl (FO_X4_13 _) (by decide) k6 dX4_reset_1 ?_
  obtain ⟨n1, u1, ty1⟩ := P.ty K.1 (by decide) rfl
  refine g_callV (rest := []) B M_X1_reset q1249 q1213 q1214 ty1 rfl (c_X1_resetK P (by decide) rfl ksRp K) rfl rfl (Nat.le_of_ble_eq_true rfl) (Nat.le_of_ble_eq_true rfl) (Nat.le_of_ble_eq_true rfl) (Nat.le_refl _) (Nat.le_refl _) dX4_reset_4 (xkN (fun T1 O1 R1 le1 p1 => ?_))
  obtain ⟨Y1, V1, I1, J1, A1, P1, rfl, rfl, S1, f1⟩ := p1
  refine g_aload_n B 0 dX4_reset_7 rfl ?_
  refine g_iconst (v := nI 0) B dX4_reset_8 (by decide) ?_
  obtain ⟨q2, hq2, hf2, ht2⟩ := opQ (yK Y 4 o) 5 (by decide)
  refine x_put B P1 k0 (by decide) rfl (FO_X4_54 _) hq2 hf2 ht2 rfl rfl dX4_reset_9 (fun O2 V2 hs2 hk2 P2 => ?_)
  refine g_aload_n B 0 dX4_reset_12 rfl ?_
  refine g_iconst (v := nI 0) B dX4_reset_13 (by decide) ?_
  obtain ⟨q3, hq3, hf3, ht3⟩ := opQ (yK Y 4 o) 6 (by decide)
  refine x_put B P2 k0 (by decide) rfl (FO_X4_57 _) hq3 hf3 ht3 rfl rfl dX4_reset_14 (fun O3 V3 hs3 hk3 P3 => ?_)
  refine g_aload_n B 0 dX4_reset_17 rfl ?_
  refine g_iconst (v := nI 0) B dX4_reset_18 (by decide) ?_
  obtain ⟨q4, hq4, hf4, ht4⟩ := opQ (yK Y 4 o) 7 (by decide)
  refine x_put B P3 k0 (by decide) rfl (FO_X4_60 _) hq4 hf4 ht4 rfl rfl dX4_reset_19 (fun O4 V4 hs4 hk4 P4 => ?_)
  refine g_aload_n B 0 dX4_reset_22 rfl ?_
  refine g_iconst (v := nI 0) B dX4_reset_23 (by decide) ?_
  obtain ⟨q5, hq5, hf5, ht5⟩ := opQ (yK Y 4 o) 8 (by decide)
  refine x_put B P4 k0 (by decide) rfl (FO_X4_63 _) hq5 hf5 ht5 rfl rfl dX4_reset_24 (fun O5 V5 hs5 hk5 P5 => ?_)
  refine g_vret B E rfl dX4_reset_27 ?_
  have fz : xFr (sOR o) Y V I J A Y V5 I1 J1 A := (((((f1.mono (S2 := (sOR o)) (fun r c e => Or.inr e)).tr (xFr.uV (S := (sOR o)) (r := 4) (o := o) (Or.inl ⟨rfl, rfl⟩) hs2 hk2)).tr (xFr.uV (S := (sOR o)) (r := 4) (o := o) (Or.inl ⟨rfl, rfl⟩) hs3 hk3)).tr (xFr.uV (S := (sOR o)) (r := 4) (o := o) (Or.inl ⟨rfl, rfl⟩) hs4 hk4)).tr (xFr.uV (S := (sOR o)) (r := 4) (o := o) (Or.inl ⟨rfl, rfl⟩) hs5 hk5))
  have SS := S1.fr (A := A) (A1 := A) (((((xFr.uV (S := (fun r c => r = 4 ∧ c = o)) (r := 4) (o := o) ⟨rfl, rfl⟩ hs2 hk2).tr (xFr.uV (S := (fun r c => r = 4 ∧ c = o)) (r := 4) (o := o) ⟨rfl, rfl⟩ hs3 hk3)).tr (xFr.uV (S := (fun r c => r = 4 ∧ c = o)) (r := 4) (o := o) ⟨rfl, rfl⟩ hs4 hk4)).tr (xFr.uV (S := (fun r c => r = 4 ∧ c = o)) (r := 4) (o := o) ⟨rfl, rfl⟩ hs5 hk5))) (by intro e; exact absurd e.1 (by decide)) (fun r v hv hr e => by have := e.1; omega)
  have hold : ∀ k, k < 5 → V5 4 o k = V 4 o k := fun k hk => (rdK hs5 (by omega) (rdK hs4 (by omega) (rdK hs3 (by omega) (rdK hs2 (by omega) ((congrFun (f1.2 4 o xo k0 (fun e => by unfold sVk at e; omega)).1 k))))))
  exact ⟨rfl, _, _, _, _, _, P5, rfl, rfl, hold, ⟨(rdK hs5 (by decide) (rdK hs4 (by decide) (rdK hs3 (by decide) (rdS hs2)))), (rdK hs5 (by decide) (rdK hs4 (by decide) (rdS hs3))), (rdK hs5 (by decide) (rdS hs4)), (rdS hs5)⟩, SS, fz⟩
theorem g_reset {Z : xZ} {G : xG} {cc : ByteArray} {own : String} {nL fr lo : Nat} {ret : Option FieldType} {T : xT} {O R : xO} {pc : Nat} {lv : List (Nat × Value)} {st : List Value} {kc ks mc ms kc2 ks2 : Nat} {Y : xY} {V : xVV} {I : xII} {J : xJJ} {A : xVV} {w0 : xW} {o x idx kd fr' lo' : Nat} {Post : Option Value → xW → Prop} (B : xOk Z G cc own nL fr lo ret) (P : PX Y V I J A w0 T O R) (h : yAt Y 4 o x) (hk : yK Y 4 o = kd) (h8 : kd ≤ 8) (q1 : Cond.methodLink own idx yX4_reset ∈ lw_all) (hC : xCtr G yX4_reset cX4_reset 1 none fr' lo' mc ms [.ref x] (T, O, R) Post) (hst : (st.map fun v => v.category).sum ≤ 8) (hfr : fr' + 1 ≤ fr) (hlo : 8 + (1 + 11) + lo' ≤ lo) (hkc : kc2 + mc ≤ kc) (hks : ks2 + ms ≤ ks) (d : decode cc pc = .ok (.invokevirtual idx, 3)) (kk : ∀ (r : Option Value) (T2 : xT) (O2 R2 : xO), xLe (T, O, R) (T2, O2, R2) → Post r (T2, O2, R2) → xV Z (T2, O2, R2) (pc + 3) lv (r.toList ++ st) kc2 ks2) : xV Z (T, O, R) pc lv (.ref x :: st) kc ks := by
  obtain ⟨n, u, ty⟩ := P.ty h (by decide) (show xrT (yK Y) 4 o = opR kd by rw [← hk]; rfl)
  rcases (show kd = 0 ∨ kd = 1 ∨ kd = 2 ∨ kd = 3 ∨ kd = 4 ∨ kd = 5 ∨ kd = 6 ∨ kd = 7 ∨ kd = 8 by omega) with rfl | rfl | rfl | rfl | rfl | rfl | rfl | rfl | rfl
  · exact g_callU (rest := st) (kc2 := kc2) (ks2 := ks2) B (C := "PipelineSimulator$Mapper") (owner := "PipelineSimulator$Operator") M_X4_reset rfl q1 q1238 q1237 q1243 ty rfl hC rfl rfl hst hfr hlo hkc hks d kk
  · exact g_callU (rest := st) (kc2 := kc2) (ks2 := ks2) B (C := "PipelineSimulator$Filter") (owner := "PipelineSimulator$Operator") M_X4_reset rfl q1 q1238 q1237 q1241 ty rfl hC rfl rfl hst hfr hlo hkc hks d kk
  · exact g_callU (rest := st) (kc2 := kc2) (ks2 := ks2) B (C := "PipelineSimulator$Rekeyer") (owner := "PipelineSimulator$Operator") M_X4_reset rfl q1 q1238 q1237 q1244 ty rfl hC rfl rfl hst hfr hlo hkc hks d kk
  · exact g_callU (rest := st) (kc2 := kc2) (ks2 := ks2) B (C := "PipelineSimulator$Copier") (owner := "PipelineSimulator$Operator") M_X4_reset rfl q1 q1238 q1237 q1240 ty rfl hC rfl rfl hst hfr hlo hkc hks d kk
  · exact g_callU (rest := st) (kc2 := kc2) (ks2 := ks2) B (C := "PipelineSimulator$Summer") (owner := "PipelineSimulator$Operator") M_X4_reset rfl q1 q1238 q1237 q1247 ty rfl hC rfl rfl hst hfr hlo hkc hks d kk
  · exact g_callU (rest := st) (kc2 := kc2) (ks2 := ks2) B (C := "PipelineSimulator$Changes") (owner := "PipelineSimulator$Operator") M_X4_reset rfl q1 q1238 q1237 q1239 ty rfl hC rfl rfl hst hfr hlo hkc hks d kk
  · exact g_callU (rest := st) (kc2 := kc2) (ks2 := ks2) B (C := "PipelineSimulator$Greatest") (owner := "PipelineSimulator$Operator") M_X4_reset rfl q1 q1238 q1237 q1242 ty rfl hC rfl rfl hst hfr hlo hkc hks d kk
  · exact g_callU (rest := st) (kc2 := kc2) (ks2 := ks2) B (C := "PipelineSimulator$Source") (owner := "PipelineSimulator$Operator") M_X4_reset rfl q1 q1238 q1237 q1246 ty rfl hC rfl rfl hst hfr hlo hkc hks d kk
  · exact g_callU (rest := st) (kc2 := kc2) (ks2 := ks2) B (C := "PipelineSimulator$Sink") (owner := "PipelineSimulator$Operator") M_X4_reset rfl q1 q1238 q1237 q1245 ty rfl hC rfl rfl hst hfr hlo hkc hks d kk
theorem c_X3_reset {G : xG} {T : xT} {O R : xO} {Y : xY} {V : xVV} {I : xII} {J : xJJ} {A : xVV} {w0 : xW} {xl ps : Nat} (P : PX Y V I J A w0 T O R) (hxl : yAt Y 3 0 xl) (L : XLa Y V ps) : xCtr G yX3_reset cX3_reset 1 none 0 0 1 64 [.ref xl] (T, O, R) (xN (xPN w0 (fun Y2 V2 I2 J2 A2 => J2 = J ∧ A2 = A ∧ XLa Y2 V2 19872 ∧ xFr sLa Y V I J A Y2 V2 I2 J2 A2))) := by
  refine xCtr.of (by decide +kernel) (Nat.le_of_ble_eq_true rfl) ?_
  intro Z B E hz hnm
  change xV Z (T, O, R) 0 [(0, .ref xl)] [] 1 64
  obtain ⟨xl1, id, xc, l0, l1, l2, ⟨u1, l3⟩, ⟨u2, l4⟩, ⟨u3, l5⟩, l6, l7⟩ := L
  obtain rfl : xl1 = xl := P.fn l0 hxl
  refine g_aload_n B 0 dX3_reset_0 rfl ?_
  refine g_bipush (v := nI 64) B dX3_reset_1 (by decide) ?_
  refine x_newaI (atype := .int) (ty := .int) (N := 64) (kc := 0) (ks := 0) B P 1041 (fun q => q) (by unfold okA; decide) rfl rfl rfl (by decide) q217 rfl (by decide) (by decide) (fun q hq x => P.fresh hq _ _ (by unfold idR; decide)) (fun _ => Or.inl (fun _ => rfl)) dX3_reset_3 (fun q1 Y1 I1 T1 R1 hq1 le1 gr1 hf1 at1 hN1 hs1 hk1 P1 => ?_)
  refine x_put (q := (RX3, TX3, 4)) B P1 (le1.at hxl) (by decide) rfl F_X3_7_3 rfl rfl (tyX3_ok 0 (by decide)) rfl rfl dX3_reset_5 (fun O2 V2 hs2 hk2 P2 => ?_)
  refine g_aload_n B 0 dX3_reset_8 rfl ?_
  refine g_iconst (v := nI 0) B dX3_reset_9 (by decide) ?_
  refine x_put (q := (RX3, TX3, 4)) B P2 (le1.at hxl) (by decide) rfl F_X3_19_3 rfl rfl (tyX3_ok 1 (by decide)) rfl rfl dX3_reset_10 (fun O3 V3 hs3 hk3 P3 => ?_)
  refine g_aload_n B 0 dX3_reset_13 rfl ?_
  refine g_iconst (v := nI 0) B dX3_reset_14 (by decide) ?_
  refine x_put (q := (RX3, TX3, 4)) B P3 (le1.at hxl) (by decide) rfl F_X3_23_3 rfl rfl (tyX3_ok 2 (by decide)) rfl rfl dX3_reset_15 (fun O4 V4 hs4 hk4 P4 => ?_)
  refine g_aload_n B 0 dX3_reset_18 rfl ?_
  refine g_iconst (v := nI 0) B dX3_reset_19 (by decide) ?_
  refine x_put (q := (RX3, TX3, 4)) B P4 (le1.at hxl) (by decide) rfl F_X3_26_3 rfl rfl (tyX3_ok 3 (by decide)) rfl rfl dX3_reset_20 (fun O5 V5 hs5 hk5 P5 => ?_)
  refine g_vret B E rfl dX3_reset_23 ?_
  have fz : xFr sLa Y V I J A Y1 V5 I1 J A := (((((xFr.nI (S := sLa) (r := 1041) (o := q1) (by unfold sLa gLa; decide) le1 gr1 hs1 hk1).tr (xFr.uV (S := sLa) (r := 3) (o := 0) (by unfold sLa gLa; decide) hs2 hk2)).tr (xFr.uV (S := sLa) (r := 3) (o := 0) (by unfold sLa gLa; decide) hs3 hk3)).tr (xFr.uV (S := sLa) (r := 3) (o := 0) (by unfold sLa gLa; decide) hs4 hk4)).tr (xFr.uV (S := sLa) (r := 3) (o := 0) (by unfold sLa gLa; decide) hs5 hk5))
  exact ⟨rfl, _, _, _, _, _, P5, rfl, rfl, ⟨_, q1, q1, (le1.at hxl), (rdK hs5 (by decide) (rdK hs4 (by decide) (rdK hs3 (by decide) (rdS hs2)))), at1, ⟨_, (rdK hs5 (by decide) (rdK hs4 (by decide) (rdS hs3)))⟩, ⟨_, (rdK hs5 (by decide) (rdS hs4))⟩, ⟨_, (rdS hs5)⟩, by rw [hN1]; decide, by rw [hN1]⟩, fz⟩
