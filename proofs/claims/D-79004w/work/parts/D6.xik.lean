set_option maxRecDepth 100000
theorem c_J2_init {G : xG} {T : xT} {O R : xO} {Y : xY} {V : xVV} {I : xII} {J : xJJ} {A : xVV} {w0 : xW} {x : Nat} (P : PX Y V I J A w0 T O R) (g1 : yAt Y 33 0 x) : xCtr G yJ2_init cJ2_init 1 none 3 60 0 0 [.ref x] (T, O, R) (xN (xPN w0 (fun Y2 V2 I2 J2 A2 => Y2 = Y ∧ I2 = I ∧ J2 = J ∧ A2 = A ∧ V2 33 = va_up (V 33) 0 (va_up (V 33 0) 0 (.int (nI 0))) ∧ ∀ i, i ≠ 33 → V2 i = V i))) := by
  refine xCtr.of (by decide +kernel) (Nat.le_of_ble_eq_true rfl) ?_
  intro Z B E hz hnm
  change xV Z (T, O, R) 0 [(0, .ref x)] [] 0 0
  refine g_aload_n B 0 dJ2_init_0 rfl ?_
  refine g_callI (rest := []) B M_J1_init rfl q171 q172 (c_J1_initL P g1) rfl rfl (Nat.le_of_ble_eq_true rfl) (Nat.le_of_ble_eq_true rfl) (Nat.le_of_ble_eq_true rfl) (Nat.le_refl _) (Nat.le_refl _) dJ2_init_1 (xkN (fun T1 O1 R1 le1 p1 => ?_))
  obtain ⟨Y1, V1, I1, J1, A1, r1⟩ := p1
  refine g_vret B E rfl dJ2_init_4 ?_
  exact ⟨rfl, _, _, _, _, _, r1⟩
theorem c_J3_init {G : xG} {T : xT} {O R : xO} {Y : xY} {V : xVV} {I : xII} {J : xJJ} {A : xVV} {w0 : xW} {x : Nat} (P : PX Y V I J A w0 T O R) (g1 : yAt Y 33 0 x) (z3 : V 33 0 3 = .null) : xCtr G yJ3_init cJ3_init 1 none 4 80 0 0 [.ref x] (T, O, R) (xN (xPN w0 (fun Y2 V2 I2 J2 A2 => Y2 = Y ∧ I2 = I ∧ J2 = J ∧ A2 = A ∧ xSp Y2 V2 x [] ∧ xFr (s1 33 0) Y V I J A Y2 V2 I2 J2 A2))) := by
  refine xCtr.of (by decide +kernel) (Nat.le_of_ble_eq_true rfl) ?_
  intro Z B E hz hnm
  change xV Z (T, O, R) 0 [(0, .ref x)] [] 0 0
  refine g_aload_n B 0 dJ3_init_0 rfl ?_
  refine g_callI (rest := []) B M_J2_init rfl q168 q169 (c_J2_init P g1) rfl rfl (Nat.le_of_ble_eq_true rfl) (Nat.le_of_ble_eq_true rfl) (Nat.le_of_ble_eq_true rfl) (Nat.le_refl _) (Nat.le_refl _) dJ3_init_1 (xkN (fun T1 O1 R1 le1 p1 => ?_))
  obtain ⟨Y1, V1, I1, J1, A1, P1, eY1, eI1, eJ1, eA1, hs1, hk1⟩ := p1
  obtain rfl := eY1.symm
  obtain rfl := eI1.symm
  obtain rfl := eJ1.symm
  obtain rfl := eA1.symm
  refine g_aload_n B 0 dJ3_init_4 rfl ?_
  refine g_iconst (v := nI 0) B dJ3_init_5 (by decide) ?_
  refine x_put (q := (RJ3, TJ3, 4)) B P1 g1 (by decide) rfl F_J3_7_33 rfl rfl (tyJ3_ok 1 (by decide)) rfl rfl dJ3_init_6 (fun O2 V2 hs2 hk2 P2 => ?_)
  refine g_vret B E rfl dJ3_init_9 ?_
  exact ⟨rfl, _, _, _, _, _, P2, rfl, rfl, rfl, rfl, ⟨g1, ⟨_, (rdK hs2 (by decide) (rdS hs1))⟩, (rdS hs2), (rdK hs2 (by decide) (rdK hs1 (by decide) z3)), trivial, List.nodup_nil, by decide⟩, ((xFr.uV (S := (s1 33 0)) (r := 33) (o := 0) ⟨rfl, rfl⟩ hs1 hk1).tr (xFr.uV (S := (s1 33 0)) (r := 33) (o := 0) ⟨rfl, rfl⟩ hs2 hk2))⟩
theorem c_X3_init {G : xG} {T : xT} {O R : xO} {Y : xY} {V : xVV} {I : xII} {J : xJJ} {A : xVV} {w0 : xW} {xl : Nat} (P : PX Y V I J A w0 T O R) (hxl : yAt Y 3 0 xl) (z1 : V 3 0 1 = .int (nI 0)) (z2 : V 3 0 2 = .int (nI 0)) (z3 : V 3 0 3 = .int (nI 0)) : xCtr G yX3_init cX3_init 1 none 1 20 1 64 [.ref xl] (T, O, R) (xN (xPN w0 (fun Y2 V2 I2 J2 A2 => J2 = J ∧ A2 = A ∧ XLa Y2 V2 19872 ∧ xFr sLa Y V I J A Y2 V2 I2 J2 A2))) := by
  refine xCtr.of (by decide +kernel) (Nat.le_of_ble_eq_true rfl) ?_
  intro Z B E hz hnm
  change xV Z (T, O, R) 0 [(0, .ref xl)] [] 1 64
  refine g_aload_n B 0 dX3_init_0 rfl ?_
  refine g_objInit B q266 q161 q162 (by decide) (by decide) dX3_init_1 ?_
  refine g_aload_n B 0 dX3_init_4 rfl ?_
  refine g_bipush (v := nI 64) B dX3_init_5 (by decide) ?_
  refine x_newaI (atype := .int) (ty := .int) (N := 64) (kc := 0) (ks := 0) B P 1041 (fun q => q) (by unfold okA; decide) rfl rfl rfl (by decide) q217 rfl (by decide) (by decide) (fun q hq x => P.fresh hq _ _ (by unfold idR; decide)) (fun _ => Or.inl (fun _ => rfl)) dX3_init_7 (fun q1 Y1 I1 T1 R1 hq1 le1 gr1 hf1 at1 hN1 hs1 hk1 P1 => ?_)
  refine x_put (q := (RX3, TX3, 4)) B P1 (le1.at hxl) (by decide) rfl F_X3_7_3 rfl rfl (tyX3_ok 0 (by decide)) rfl rfl dX3_init_9 (fun O2 V2 hs2 hk2 P2 => ?_)
  refine g_vret B E rfl dX3_init_12 ?_
  have fz : xFr sLa Y V I J A Y1 V2 I1 J A := ((xFr.nI (S := sLa) (r := 1041) (o := q1) (by unfold sLa gLa; decide) le1 gr1 hs1 hk1).tr (xFr.uV (S := sLa) (r := 3) (o := 0) (by unfold sLa gLa; decide) hs2 hk2))
  exact ⟨rfl, _, _, _, _, _, P2, rfl, rfl, ⟨_, q1, q1, (le1.at hxl), (rdS hs2), at1, ⟨_, (rdK hs2 (by decide) z1)⟩, ⟨_, (rdK hs2 (by decide) z2)⟩, ⟨_, (rdK hs2 (by decide) z3)⟩, by rw [hN1]; decide, by rw [hN1]⟩, fz⟩
def opNew (k : Nat) (pa pb : Int32) (p : Nat) : Nat × Int32 × Int32 × Nat := if k < 3 then (k, pa, pb, p) else if k < 5 then (k, pa, nI 0, p) else if k < 7 then (k, nI 0, nI 0, p) else (8, nI 0, nI 0, p)
theorem oNo.gr {Y Y1 : xY} {o o2 q : Nat} (g : ∀ r' o' x', yAt Y1 r' o' x' → yAt Y r' o' x' ∨ (r' = 4 ∧ o' = o2 ∧ x' = q)) (h : oNo Y o) : oNo Y1 o := by
  have k : ∀ r c, r ≠ 4 → yNo Y r c → yNo Y1 r c := fun r c hr hn x hx => by
    rcases g r c x hx with e | e
    · exact hn x e
    · exact hr e.1
  refine ⟨k 1 o (by decide) h.1, fun v hv => ?_⟩
  obtain ⟨h1, h2, h3, h4, h5⟩ := h.2 v hv
  exact ⟨k _ _ (by decide) h1, k _ _ (by decide) h2, k _ _ (by decide) h3, k _ _ (by decide) h4, k _ _ (by decide) h5⟩
theorem c_X0_operatorNew {G : xG} {T : xT} {O R : xO} {Y : xY} {V : xVV} {I : xII} {J : xJJ} {A : xVV} {w0 : xW} {k p o : Nat} {pa pb : Int32} (P : PX Y V I J A w0 T O R) (hk : k < 1000) (n4 : yNo Y 4 o) (no : oNo Y o) : xCtr G yX0_operator_2 cX0_operator_2 4 (some (Jvm.ClassFile.FieldType.object "PipelineSimulator$Operator")) 8 170 17 129 [.int (nI k), .int pa, .int pb, .int (nI p)] (T, O, R) (xA (xP w0 (fun v Y2 V2 I2 J2 A2 => A2 = A ∧ ∃ xo, v = .ref xo ∧ xOn Y2 V2 I2 J2 o xo (opNew k pa pb p) ∧ xFr (sON o) Y V I J A Y2 V2 I2 J2 A2))) := by
  refine xCtr.of (by decide +kernel) (Nat.le_of_ble_eq_true rfl) ?_
  intro Z B E hz hnm
  change xV Z (T, O, R) 0 [(0, .int (nI k)), (1, .int pa), (2, .int pb), (3, .int (nI p))] [] 17 129
  refine g_iload_n B 0 dX0_operator_2_0 rfl ?_
  rcases (show k = 0 ∨ k = 1 ∨ k = 2 ∨ k = 3 ∨ k = 4 ∨ k = 5 ∨ k = 6 ∨ 7 ≤ k by omega) with rfl | rfl | rfl | rfl | rfl | rfl | rfl | hk7
  · refine g_tableIn (tgt := 44) B dX0_operator_2_1 (by decide) (by decide) rfl (by decide) ?_
    refine x_new (kc := 16) (ks := 120) (t := 15) B P 4 0 (fun _ => o) (by decide) rfl (by unfold okT; decide) tyX15 rfl (fun k hk => tyX15_ok k hk) q2208 q2209 q134 (fun _ _ => n4) (fun h => absurd h (by unfold idR; decide)) dX0_operator_2_44 (fun q1 Y1 V1 T1 O1 hq1 le1 gr1 hf1 at1 hK1 hs1 hk1 P1 => ?_)
    refine g_dup B dX0_operator_2_47 rfl ?_
    refine g_iload_n B 1 dX0_operator_2_48 rfl ?_
    refine g_iload_n B 2 dX0_operator_2_49 rfl ?_
    refine g_iload_n B 3 dX0_operator_2_50 rfl ?_
    have zo : zOp Y1 V1 o q1 0 := ⟨at1, hK1, rdN hs1 rfl, rdN hs1 rfl, rdN hs1 rfl, rdN hs1 rfl⟩
    have no2 := no.gr gr1
    refine g_callI (kc2 := 0) (ks2 := 0) (rest := [_]) B M_X15_init rfl q2210 q2211 (c_X15_init P1 zo no2) rfl rfl (Nat.le_of_ble_eq_true rfl) (Nat.le_of_ble_eq_true rfl) (Nat.le_of_ble_eq_true rfl) (by decide) (by decide) dX0_operator_2_51 (xkN (fun T2 O2 R2 le2 p2 => ?_))
    obtain ⟨Y2, V2, I2, J2, A2, P2, eA2, on2, f2⟩ := p2
    refine g_aret B E rfl (Or.inl ⟨_, rfl⟩) (Or.inr ⟨_, rfl⟩) dX0_operator_2_54 ?_
    exact ⟨_, rfl, _, _, _, _, _, P2, eA2, _, rfl, on2, (xFr.nV (S := sON o) (r := 4) (o := o) (Or.inl ⟨rfl, rfl⟩) le1 gr1 hs1 hk1).tr f2⟩
  · refine g_tableIn (tgt := 55) B dX0_operator_2_1 (by decide) (by decide) rfl (by decide) ?_
    refine x_new (kc := 16) (ks := 120) (t := 16) B P 4 1 (fun _ => o) (by decide) rfl (by unfold okT; decide) tyX16 rfl (fun k hk => tyX16_ok k hk) q2224 q2225 q135 (fun _ _ => n4) (fun h => absurd h (by unfold idR; decide)) dX0_operator_2_55 (fun q3 Y3 V3 T3 O3 hq3 le3 gr3 hf3 at3 hK3 hs3 hk3 P3 => ?_)
    refine g_dup B dX0_operator_2_58 rfl ?_
    refine g_iload_n B 1 dX0_operator_2_59 rfl ?_
    refine g_iload_n B 2 dX0_operator_2_60 rfl ?_
    refine g_iload_n B 3 dX0_operator_2_61 rfl ?_
    have zo : zOp Y3 V3 o q3 1 := ⟨at3, hK3, rdN hs3 rfl, rdN hs3 rfl, rdN hs3 rfl, rdN hs3 rfl⟩
    have no2 := no.gr gr3
    refine g_callI (kc2 := 0) (ks2 := 0) (rest := [_]) B M_X16_init rfl q2226 q2227 (c_X16_init P3 zo no2) rfl rfl (Nat.le_of_ble_eq_true rfl) (Nat.le_of_ble_eq_true rfl) (Nat.le_of_ble_eq_true rfl) (by decide) (by decide) dX0_operator_2_62 (xkN (fun T4 O4 R4 le4 p4 => ?_))
    obtain ⟨Y4, V4, I4, J4, A4, P4, eA4, on4, f4⟩ := p4
    refine g_aret B E rfl (Or.inl ⟨_, rfl⟩) (Or.inr ⟨_, rfl⟩) dX0_operator_2_65 ?_
    exact ⟨_, rfl, _, _, _, _, _, P4, eA4, _, rfl, on4, (xFr.nV (S := sON o) (r := 4) (o := o) (Or.inl ⟨rfl, rfl⟩) le3 gr3 hs3 hk3).tr f4⟩
  · refine g_tableIn (tgt := 66) B dX0_operator_2_1 (by decide) (by decide) rfl (by decide) ?_
    refine x_new (kc := 16) (ks := 120) (t := 17) B P 4 2 (fun _ => o) (by decide) rfl (by unfold okT; decide) tyX17 rfl (fun k hk => tyX17_ok k hk) q2240 q2241 q136 (fun _ _ => n4) (fun h => absurd h (by unfold idR; decide)) dX0_operator_2_66 (fun q5 Y5 V5 T5 O5 hq5 le5 gr5 hf5 at5 hK5 hs5 hk5 P5 => ?_)
    refine g_dup B dX0_operator_2_69 rfl ?_
    refine g_iload_n B 1 dX0_operator_2_70 rfl ?_
    refine g_iload_n B 2 dX0_operator_2_71 rfl ?_
    refine g_iload_n B 3 dX0_operator_2_72 rfl ?_
    have zo : zOp Y5 V5 o q5 2 := ⟨at5, hK5, rdN hs5 rfl, rdN hs5 rfl, rdN hs5 rfl, rdN hs5 rfl⟩
    have no2 := no.gr gr5
    refine g_callI (kc2 := 0) (ks2 := 0) (rest := [_]) B M_X17_init rfl q2242 q2243 (c_X17_init P5 zo no2) rfl rfl (Nat.le_of_ble_eq_true rfl) (Nat.le_of_ble_eq_true rfl) (Nat.le_of_ble_eq_true rfl) (by decide) (by decide) dX0_operator_2_73 (xkN (fun T6 O6 R6 le6 p6 => ?_))
    obtain ⟨Y6, V6, I6, J6, A6, P6, eA6, on6, f6⟩ := p6
    refine g_aret B E rfl (Or.inl ⟨_, rfl⟩) (Or.inr ⟨_, rfl⟩) dX0_operator_2_76 ?_
    exact ⟨_, rfl, _, _, _, _, _, P6, eA6, _, rfl, on6, (xFr.nV (S := sON o) (r := 4) (o := o) (Or.inl ⟨rfl, rfl⟩) le5 gr5 hs5 hk5).tr f6⟩
  · refine g_tableIn (tgt := 77) B dX0_operator_2_1 (by decide) (by decide) rfl (by decide) ?_
    refine x_new (kc := 16) (ks := 120) (t := 18) B P 4 3 (fun _ => o) (by decide) rfl (by unfold okT; decide) tyX18 rfl (fun k hk => tyX18_ok k hk) q2256 q2257 q137 (fun _ _ => n4) (fun h => absurd h (by unfold idR; decide)) dX0_operator_2_77 (fun q7 Y7 V7 T7 O7 hq7 le7 gr7 hf7 at7 hK7 hs7 hk7 P7 => ?_)
    refine g_dup B dX0_operator_2_80 rfl ?_
    refine g_iload_n B 1 dX0_operator_2_81 rfl ?_
    refine g_iload_n B 3 dX0_operator_2_82 rfl ?_
    have zo : zOp Y7 V7 o q7 3 := ⟨at7, hK7, rdN hs7 rfl, rdN hs7 rfl, rdN hs7 rfl, rdN hs7 rfl⟩
    have no2 := no.gr gr7
    refine g_callI (kc2 := 0) (ks2 := 0) (rest := [_]) B M_X18_init rfl q2258 q2259 (c_X18_init P7 zo no2) rfl rfl (Nat.le_of_ble_eq_true rfl) (Nat.le_of_ble_eq_true rfl) (Nat.le_of_ble_eq_true rfl) (by decide) (by decide) dX0_operator_2_83 (xkN (fun T8 O8 R8 le8 p8 => ?_))
    obtain ⟨Y8, V8, I8, J8, A8, P8, eA8, on8, f8⟩ := p8
    refine g_aret B E rfl (Or.inl ⟨_, rfl⟩) (Or.inr ⟨_, rfl⟩) dX0_operator_2_86 ?_
    exact ⟨_, rfl, _, _, _, _, _, P8, eA8, _, rfl, on8, (xFr.nV (S := sON o) (r := 4) (o := o) (Or.inl ⟨rfl, rfl⟩) le7 gr7 hs7 hk7).tr f8⟩
  · refine g_tableIn (tgt := 87) B dX0_operator_2_1 (by decide) (by decide) rfl (by decide) ?_
    refine x_new (kc := 16) (ks := 120) (t := 19) B P 4 4 (fun _ => o) (by decide) rfl (by unfold okT; decide) tyX19 rfl (fun k hk => tyX19_ok k hk) q2272 q2273 q138 (fun _ _ => n4) (fun h => absurd h (by unfold idR; decide)) dX0_operator_2_87 (fun q9 Y9 V9 T9 O9 hq9 le9 gr9 hf9 at9 hK9 hs9 hk9 P9 => ?_)
    refine g_dup B dX0_operator_2_90 rfl ?_
    refine g_iload_n B 1 dX0_operator_2_91 rfl ?_
    refine g_iload_n B 3 dX0_operator_2_92 rfl ?_
    have zo : zOp Y9 V9 o q9 4 := ⟨at9, hK9, rdN hs9 rfl, rdN hs9 rfl, rdN hs9 rfl, rdN hs9 rfl⟩
    have no2 := no.gr gr9
    refine g_callI (kc2 := 0) (ks2 := 0) (rest := [_]) B M_X19_init rfl q2274 q2275 (c_X19_init P9 zo no2) rfl rfl (Nat.le_of_ble_eq_true rfl) (Nat.le_of_ble_eq_true rfl) (Nat.le_of_ble_eq_true rfl) (by decide) (by decide) dX0_operator_2_93 (xkN (fun T10 O10 R10 le10 p10 => ?_))
    obtain ⟨Y10, V10, I10, J10, A10, P10, eA10, on10, f10⟩ := p10
    refine g_aret B E rfl (Or.inl ⟨_, rfl⟩) (Or.inr ⟨_, rfl⟩) dX0_operator_2_96 ?_
    exact ⟨_, rfl, _, _, _, _, _, P10, eA10, _, rfl, on10, (xFr.nV (S := sON o) (r := 4) (o := o) (Or.inl ⟨rfl, rfl⟩) le9 gr9 hs9 hk9).tr f10⟩
  · refine g_tableIn (tgt := 97) B dX0_operator_2_1 (by decide) (by decide) rfl (by decide) ?_
    refine x_new (kc := 16) (ks := 120) (t := 20) B P 4 5 (fun _ => o) (by decide) rfl (by unfold okT; decide) tyX20 rfl (fun k hk => tyX20_ok k hk) q2288 q2289 q139 (fun _ _ => n4) (fun h => absurd h (by unfold idR; decide)) dX0_operator_2_97 (fun q11 Y11 V11 T11 O11 hq11 le11 gr11 hf11 at11 hK11 hs11 hk11 P11 => ?_)
    refine g_dup B dX0_operator_2_100 rfl ?_
    refine g_iload_n B 3 dX0_operator_2_101 rfl ?_
    have zo : zOp Y11 V11 o q11 5 := ⟨at11, hK11, rdN hs11 rfl, rdN hs11 rfl, rdN hs11 rfl, rdN hs11 rfl⟩
    have no2 := no.gr gr11
    refine g_callI (kc2 := 0) (ks2 := 0) (rest := [_]) B M_X20_init rfl q2290 q2291 (c_X20_init P11 zo no2) rfl rfl (Nat.le_of_ble_eq_true rfl) (Nat.le_of_ble_eq_true rfl) (Nat.le_of_ble_eq_true rfl) (by decide) (by decide) dX0_operator_2_102 (xkN (fun T12 O12 R12 le12 p12 => ?_))
    obtain ⟨Y12, V12, I12, J12, A12, P12, eA12, on12, f12⟩ := p12
    refine g_aret B E rfl (Or.inl ⟨_, rfl⟩) (Or.inr ⟨_, rfl⟩) dX0_operator_2_105 ?_
    exact ⟨_, rfl, _, _, _, _, _, P12, eA12, _, rfl, on12, (xFr.nV (S := sON o) (r := 4) (o := o) (Or.inl ⟨rfl, rfl⟩) le11 gr11 hs11 hk11).tr f12⟩
  · refine g_tableIn (tgt := 106) B dX0_operator_2_1 (by decide) (by decide) rfl (by decide) ?_
    refine x_new (kc := 16) (ks := 120) (t := 21) B P 4 6 (fun _ => o) (by decide) rfl (by unfold okT; decide) tyX21 rfl (fun k hk => tyX21_ok k hk) q2304 q2305 q140 (fun _ _ => n4) (fun h => absurd h (by unfold idR; decide)) dX0_operator_2_106 (fun q13 Y13 V13 T13 O13 hq13 le13 gr13 hf13 at13 hK13 hs13 hk13 P13 => ?_)
    refine g_dup B dX0_operator_2_109 rfl ?_
    refine g_iload_n B 3 dX0_operator_2_110 rfl ?_
    have zo : zOp Y13 V13 o q13 6 := ⟨at13, hK13, rdN hs13 rfl, rdN hs13 rfl, rdN hs13 rfl, rdN hs13 rfl⟩
    have no2 := no.gr gr13
    refine g_callI (kc2 := 0) (ks2 := 0) (rest := [_]) B M_X21_init rfl q2306 q2307 (c_X21_init P13 zo no2) rfl rfl (Nat.le_of_ble_eq_true rfl) (Nat.le_of_ble_eq_true rfl) (Nat.le_of_ble_eq_true rfl) (by decide) (by decide) dX0_operator_2_111 (xkN (fun T14 O14 R14 le14 p14 => ?_))
    obtain ⟨Y14, V14, I14, J14, A14, P14, eA14, on14, f14⟩ := p14
    refine g_aret B E rfl (Or.inl ⟨_, rfl⟩) (Or.inr ⟨_, rfl⟩) dX0_operator_2_114 ?_
    exact ⟨_, rfl, _, _, _, _, _, P14, eA14, _, rfl, on14, (xFr.nV (S := sON o) (r := 4) (o := o) (Or.inl ⟨rfl, rfl⟩) le13 gr13 hs13 hk13).tr f14⟩
  · refine g_tableOut (tgt := 115) B dX0_operator_2_1 (Or.inr (by rw [nI_toInt (by omega)]; omega)) (by decide) ?_
    refine x_new (kc := 16) (ks := 120) (t := 8) B P 4 8 (fun _ => o) (by decide) rfl (by unfold okT; decide) tyX8 rfl (fun k hk => tyX8_ok k hk) q475 q476 q116 (fun _ _ => n4) (fun h => absurd h (by unfold idR; decide)) dX0_operator_2_115 (fun q15 Y15 V15 T15 O15 hq15 le15 gr15 hf15 at15 hK15 hs15 hk15 P15 => ?_)
    refine g_dup B dX0_operator_2_118 rfl ?_
    refine g_iload_n B 3 dX0_operator_2_119 rfl ?_
    have zo : zOp Y15 V15 o q15 8 := ⟨at15, hK15, rdN hs15 rfl, rdN hs15 rfl, rdN hs15 rfl, rdN hs15 rfl⟩
    have no2 := no.gr gr15
    refine g_callI (kc2 := 0) (ks2 := 0) (rest := [_]) B M_X8_init rfl q477 q478 (c_X8_init P15 zo no2) rfl rfl (Nat.le_of_ble_eq_true rfl) (Nat.le_of_ble_eq_true rfl) (Nat.le_of_ble_eq_true rfl) (by decide) (by decide) dX0_operator_2_120 (xkN (fun T16 O16 R16 le16 p16 => ?_))
    obtain ⟨Y16, V16, I16, J16, A16, P16, eA16, on16, f16⟩ := p16
    refine g_aret B E rfl (Or.inl ⟨_, rfl⟩) (Or.inr ⟨_, rfl⟩) dX0_operator_2_123 ?_
    exact ⟨_, rfl, _, _, _, _, _, P16, eA16, _, rfl, (by rw [show opNew k pa pb p = (8, nI 0, nI 0, p) by unfold opNew; rw [if_neg (by omega), if_neg (by omega), if_neg (by omega)]]; exact on16), (xFr.nV (S := sON o) (r := 4) (o := o) (Or.inl ⟨rfl, rfl⟩) le15 gr15 hs15 hk15).tr f16⟩
