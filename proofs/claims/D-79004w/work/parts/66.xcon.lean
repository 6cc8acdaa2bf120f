set_option maxRecDepth 100000
/-- what is asked of the roles of new states of keys -/
def ksN (rk rb rw r1 r2 : Nat) : Prop := ksR rk rb rw r1 r2 ∧ okA rw ∧ okA r1 ∧ okA r2 ∧ ¬ idR rk ∧ ¬ idR rb ∧ ¬ idR rw ∧ ¬ idR r1 ∧ ¬ idR r2
def yNo (Y : xY) (r o : Nat) : Prop := ∀ x, ¬ yAt Y r o x
theorem c_J5_initWords {G : xG} {T : xT} {O R : xO} {Y : xY} {V : xVV} {I : xII} {J : xJJ} {A : xVV} {w0 : xW} {r rw o x : Nat} {k : Nat} (P : PX Y V I J A w0 T O R) (hr : r < 1000) (hx : r % 100 = 35) (hw : rw / 1000 = 4) (hok : okA rw) (hni : ¬ idR rw) (hat : yAt Y r o x) (hf : yNo Y rw o) (h1 : 1 ≤ k) (h2 : k < 65) : xCtr G yJ5_initWords cJ5_initWords 2 none 1 20 1 1 [.ref x, .int (nI k)] (T, O, R) (xN (xPN w0 (fun Y2 V2 I2 J2 A2 => I = I2 ∧ A = A2 ∧ ∃ xw, yAt Y2 rw o xw ∧ V2 r o 0 = .ref xw ∧ (∀ j, j ≠ 0 → V2 r o j = V r o j) ∧ yN Y2 rw o = 1 ∧ J2 rw o 0 = 0 ∧ xFr (sBs r rw o) Y V I J A Y2 V2 I2 J2 A2))) := by
  refine xCtr.of (by decide +kernel) (Nat.le_of_ble_eq_true rfl) ?_
  intro Z B E hz hnm
  change xV Z (T, O, R) 0 [(0, .ref x), (1, .int (nI k))] [] 1 1
  refine g_aload_n B 0 dJ5_initWords_0 rfl ?_
  refine g_iload_n B 1 dJ5_initWords_1 rfl ?_
  refine g_iconst (v := nI 1) B dJ5_initWords_2 (by decide) ?_
  refine g_isubN B (by omega) dJ5_initWords_3 ?_
  refine g_callS (rest := [_]) B M_J5_wordIndex q308 q309 (c_J5_wordIndex (k := (k - 1)) P (by omega)) rfl rfl (Nat.le_of_ble_eq_true rfl) (Nat.le_of_ble_eq_true rfl) (Nat.le_of_ble_eq_true rfl) (Nat.le_refl _) (Nat.le_refl _) dJ5_initWords_4 (xkA (fun v1 T1 O1 R1 le1 p1 => ?_))
  obtain ⟨rfl, eT1, eO1, eR1⟩ := p1
  obtain rfl := eT1.symm
  obtain rfl := eO1.symm
  obtain rfl := eR1.symm
  refine g_iconst (v := nI 1) B dJ5_initWords_7 (by decide) ?_
  refine g_iaddN B dJ5_initWords_8 ?_
  refine g_top (show Value.int (nI (0 + 1)) = .int (nI 1) from rfl) ?_
  refine x_newaJ (N := 1) (kc := 0) (ks := 0) B P rw (fun _ => o) hok hw q321 rfl (by decide) (by decide) (fun _ _ => hf) hni dJ5_initWords_9 (fun q2 Y2 J2 T2 R2 hq2 le2 gr2 hf2 at2 hN2 hs2 hk2 P2 => ?_)
  refine x_put (q := (RJ5, TJ5, 3)) B P2 (le2.at hat) hr (xrTv hx (by decide)) F_J5_11_35 rfl rfl (tyJ5_ok 0 (by decide)) rfl rfl dJ5_initWords_11 (fun O3 V3 hs3 hk3 P3 => ?_)
  refine g_vret B E rfl dJ5_initWords_14 ?_
  exact ⟨rfl, _, _, _, _, _, P3, rfl, rfl, q2, at2, rdS hs3, fun j hj => rdK hs3 hj rfl, hN2, rdN hs2 rfl, (xFr.nJ (r := rw) (o := o) (Or.inr rfl |> fun e => ⟨rfl, e⟩) le2 gr2 hs2 hk2).tr (xFr.uV (r := r) (o := o) ⟨rfl, Or.inl rfl⟩ hs3 hk3)⟩
theorem c_J5_init {G : xG} {T : xT} {O R : xO} {Y : xY} {V : xVV} {I : xII} {J : xJJ} {A : xVV} {w0 : xW} {r rw o x : Nat} {k : Nat} (P : PX Y V I J A w0 T O R) (hr : r < 1000) (hx : r % 100 = 35) (hw : rw / 1000 = 4) (hok : okA rw) (hni : ¬ idR rw) (hat : yAt Y r o x) (hf : yNo Y rw o) (h1 : 1 ≤ k) (h2 : k < 65) : xCtr G yJ5_init cJ5_init 2 none 2 41 1 1 [.ref x, .int (nI k)] (T, O, R) (xN (xPN w0 (fun Y2 V2 I2 J2 A2 => I = I2 ∧ A = A2 ∧ xBs Y2 V2 J2 r rw o x 0 ∧ xFr (sBs r rw o) Y V I J A Y2 V2 I2 J2 A2))) := by
  refine xCtr.of (by decide +kernel) (Nat.le_of_ble_eq_true rfl) ?_
  intro Z B E hz hnm
  change xV Z (T, O, R) 0 [(0, .ref x), (1, .int (nI k))] [] 1 1
  refine g_aload_n B 0 dJ5_init_0 rfl ?_
  refine g_objInit B q303 q161 q162 (by decide) (by decide) dJ5_init_1 ?_
  refine g_aload_n B 0 dJ5_init_4 rfl ?_
  refine g_iconst (v := nI 0) B dJ5_init_5 (by decide) ?_
  refine x_put (q := (RJ5, TJ5, 3)) B P hat hr (xrTv hx (by decide)) F_J5_7_35 rfl rfl (tyJ5_ok 1 (by decide)) rfl rfl dJ5_init_6 (fun O1 V1 hs1 hk1 P1 => ?_)
  refine g_aload_n B 0 dJ5_init_9 rfl ?_
  refine g_iconst (v := nI 0) B dJ5_init_10 (by decide) ?_
  refine x_put (q := (RJ5, TJ5, 3)) B P1 hat hr (xrTv hx (by decide)) F_J5_24_35 rfl rfl (tyJ5_ok 2 (by decide)) rfl rfl dJ5_init_11 (fun O2 V2 hs2 hk2 P2 => ?_)
  refine g_iload_n B 1 dJ5_init_14 rfl ?_
  refine g_if_geN (tgt := 45) B (by omega) dJ5_init_15 (by decide) ?_
  refine g_aload_n B 0 dJ5_init_45 rfl ?_
  refine g_iload_n B 1 dJ5_init_46 rfl ?_
  obtain ⟨n4, u4, ty4⟩ := P2.ty hat hr (xrTv hx (by decide))
  have v1 := rdK hs2 (j := 1) (by decide) (rdS hs1)
  have v2 := rdS hs2
  refine g_callV (kc2 := 0) (ks2 := 0) (rest := []) B M_J5_initWords q304 q306 qs0 ty4 rfl (c_J5_initWords P2 hr hx hw hok hni hat hf (by omega) (by omega)) rfl rfl (Nat.le_of_ble_eq_true rfl) (Nat.le_of_ble_eq_true rfl) (Nat.le_of_ble_eq_true rfl) (by decide) (by decide) dJ5_init_47 (xkN (fun T4 O4 R4 le4 p4 => ?_))
  obtain ⟨Y4, V4, I4, J4, A4, P4, rfl, rfl, xw4, hxw4, v04, vn4, hn4, hj4, f4⟩ := p4
  refine g_aload_n B 0 dJ5_init_50 rfl ?_
  refine g_iconst (v := nI 1) B dJ5_init_51 (by decide) ?_
  refine x_put (q := (RJ5, TJ5, 3)) B P4 (f4.1.at hat) hr (xrTv hx (by decide)) F_J5_24_35 rfl rfl (tyJ5_ok 2 (by decide)) rfl rfl dJ5_init_52 (fun O5 V5 hs5 hk5 P5 => ?_)
  refine g_vret B E rfl dJ5_init_55 ?_
  exact ⟨rfl, _, _, _, _, _, P5, rfl, rfl, ⟨f4.1.at hat, by decide, ⟨xw4, hxw4, rdK hs5 (by decide) v04⟩, hn4, hj4, rdK hs5 (by decide) ((vn4 1 (by decide)).trans v1), _, rdS hs5⟩, ((xFr.uV (r := r) (o := o) ⟨rfl, Or.inl rfl⟩ hs1 hk1).tr (xFr.uV (r := r) (o := o) ⟨rfl, Or.inl rfl⟩ hs2 hk2)).tr (f4.tr (xFr.uV (r := r) (o := o) ⟨rfl, Or.inl rfl⟩ hs5 hk5))⟩
def sNew (rk rb rw r1 r2 s : Nat) : Nat → Nat → Prop := fun r o => o = s ∧ (r = rk ∨ r = rb ∨ r = rw ∨ r = r1 ∨ r = r2)
theorem c_X6_init {G : xG} {T : xT} {O R : xO} {Y : xY} {V : xVV} {I : xII} {J : xJJ} {A : xVV} {w0 : xW} {rk rb rw r1 r2 s x : Nat} (P : PX Y V I J A w0 T O R) (hN : ksN rk rb rw r1 r2) (hat : yAt Y rk s x) (f1 : yNo Y rb s) (f2 : yNo Y rw s) (f3 : yNo Y r1 s) (f4 : yNo Y r2 s) : xCtr G yX6_init cX6_init 1 none 3 62 4 36 [.ref x] (T, O, R) (xN (xPN w0 (fun Y2 V2 I2 J2 A2 => A = A2 ∧ xKs Y2 V2 I2 J2 rk rb rw r1 r2 s x (fun _ => none) ∧ xFr (sNew rk rb rw r1 r2 s) Y V I J A Y2 V2 I2 J2 A2))) := by
  have hR := hN.1
  have hR2 := hR
  unfold ksR at hR2
  refine xCtr.of (by decide +kernel) (Nat.le_of_ble_eq_true rfl) ?_
  intro Z B E hz hnm
  change xV Z (T, O, R) 0 [(0, .ref x)] [] 4 36
  refine g_aload_n B 0 dX6_init_0 rfl ?_
  refine g_objInit B q297 q161 q162 (by decide) (by decide) dX6_init_1 ?_
  refine g_aload_n B 0 dX6_init_4 rfl ?_
  refine x_new (kc := 3) (ks := 33) (t := 35) B P rb 0 (fun _ => s) hR.2.2.1 (by rw [if_neg (by omega)]; exact hR.2.2.2.1) (by unfold okT; decide) tyJ5 rfl (fun k hk => tyJ5_ok k hk) q298 q299 q110 (fun _ _ => f1) (fun h => absurd h hN.2.2.2.2.2.1) dX6_init_5 (fun q1 Y1 V1 T1 O1 hq1 le1 gr1 hf1 at1 hK1 hs1 hk1 P1 => ?_)
  refine g_dup B dX6_init_8 rfl ?_
  refine g_bipush (v := nI 16) B dX6_init_9 (by decide) ?_
  refine g_callI (kc2 := 2) (ks2 := 32) (rest := [_, _]) B M_J5_init rfl q300 q301 (c_J5_init (k := 16) P1 hR.2.2.1 hR.2.2.2.1 hR.2.2.2.2.1 hN.2.1 hN.2.2.2.2.2.2.1 at1 (yGr.no gr1 f2 (by omega)) (by decide) (by decide)) rfl rfl (Nat.le_of_ble_eq_true rfl) (Nat.le_of_ble_eq_true rfl) (Nat.le_of_ble_eq_true rfl) (by decide) (by decide) dX6_init_11 (xkN (fun T2 O2 R2 le2 p2 => ?_))
  obtain ⟨Y2, V2, I2, J2, A2, P2, rfl, rfl, S2, f2⟩ := p2
  have F1 : yNo Y2 r1 s := f2.1.no (yGr.no gr1 f3 (by omega)) (fun e => by unfold sBs at e; omega)
  have F2a : yNo Y2 r2 s := f2.1.no (yGr.no gr1 f4 (by omega)) (fun e => by unfold sBs at e; omega)
  refine x_putF (q := (RX6, TX6, 3)) (k := 0) B P2 hnm (f2.1.at (le1.at hat)) hR.1 (xrTv hR.2.1 (by decide)) rfl (by decide) q322 rfl rfl (tyX6_ok 0 (by decide)) rfl rfl dX6_init_14 (fun O3 V3 hs3 hk3 P3 => ?_)
  refine g_aload_n B 0 dX6_init_17 rfl ?_
  refine g_bipush (v := nI 16) B dX6_init_18 (by decide) ?_
  refine x_newaI (atype := .int) (ty := .int) (N := 16) (kc := 1) (ks := 16) B P3 r1 (fun _ => s) hN.2.2.1 rfl (by rw [hR.2.2.2.2.2.1]; rfl) rfl (Or.inl hR.2.2.2.2.2.1) q217 rfl (by decide) (by decide) (fun _ _ => by exact F1) (fun h => absurd h hN.2.2.2.2.2.2.2.1) dX6_init_20 (fun q4 Y4 I4 T4 R4 hq4 le4 gr4 hf4 at4 hN4 hs4 hk4 P4 => ?_)
  have F2 : yNo Y4 r2 s := yGr.no gr4 F2a (fun e => hR2.2.2.2.2.2.2.2 e.1.symm)
  refine x_putF (q := (RX6, TX6, 3)) (k := 1) B P4 hnm (le4.at (f2.1.at (le1.at hat))) hR.1 (xrTv hR.2.1 (by decide)) rfl (by decide) q323 rfl rfl (tyX6_ok 1 (by decide)) rfl rfl dX6_init_22 (fun O5 V5 hs5 hk5 P5 => ?_)
  refine g_aload_n B 0 dX6_init_25 rfl ?_
  refine g_bipush (v := nI 16) B dX6_init_26 (by decide) ?_
  refine x_newaI (atype := .int) (ty := .int) (N := 16) (kc := 0) (ks := 0) B P5 r2 (fun _ => s) hN.2.2.2.1 rfl (by rw [hR.2.2.2.2.2.2.1]; rfl) rfl (Or.inl hR.2.2.2.2.2.2.1) q217 rfl (by decide) (by decide) (fun _ _ => by exact F2) (fun h => absurd h hN.2.2.2.2.2.2.2.2) dX6_init_28 (fun q6 Y6 I6 T6 R6 hq6 le6 gr6 hf6 at6 hN6 hs6 hk6 P6 => ?_)
  refine x_putF (q := (RX6, TX6, 3)) (k := 2) B P6 hnm (le6.at (le4.at (f2.1.at (le1.at hat)))) hR.1 (xrTv hR.2.1 (by decide)) rfl (by decide) q324 rfl rfl (tyX6_ok 2 (by decide)) rfl rfl dX6_init_30 (fun O7 V7 hs7 hk7 P7 => ?_)
  refine g_vret B E rfl dX6_init_33 ?_
  have g1 := xFr.nV (S := sNew rk rb rw r1 r2 s) (I := I) (J := J) (A := A) (r := rb) (o := s) (by unfold sNew; omega) le1 gr1 hs1 hk1
  have g2 := f2.mono (S2 := sNew rk rb rw r1 r2 s) (fun r o e => by unfold sBs at e; unfold sNew; omega)
  have g3 := xFr.uV (S := sNew rk rb rw r1 r2 s) (Y := Y2) (I := I) (J := J2) (A := A) (r := rk) (o := s) (by unfold sNew; omega) hs3 hk3
  have g4 := xFr.nI (S := sNew rk rb rw r1 r2 s) (V := V3) (J := J2) (A := A) (r := r1) (o := s) (by unfold sNew; omega) le4 gr4 hs4 hk4
  have g5 := xFr.uV (S := sNew rk rb rw r1 r2 s) (Y := Y4) (I := I4) (J := J2) (A := A) (r := rk) (o := s) (by unfold sNew; omega) hs5 hk5
  have g6 := xFr.nI (S := sNew rk rb rw r1 r2 s) (V := V5) (J := J2) (A := A) (r := r2) (o := s) (by unfold sNew; omega) le6 gr6 hs6 hk6
  have g7 := xFr.uV (S := sNew rk rb rw r1 r2 s) (Y := Y6) (I := I6) (J := J2) (A := A) (r := rk) (o := s) (by unfold sNew; omega) hs7 hk7
  have k3 := xFr.uV (S := (fun r o => r = rk ∨ r = r1 ∨ r = r2)) (Y := Y2) (I := I) (J := J2) (A := A) (r := rk) (o := s) (Or.inl rfl) hs3 hk3
  have k4 := xFr.nI (S := (fun r o => r = rk ∨ r = r1 ∨ r = r2)) (V := V3) (J := J2) (A := A) (r := r1) (o := s) (Or.inr (Or.inl rfl)) le4 gr4 hs4 hk4
  have k5 := xFr.uV (S := (fun r o => r = rk ∨ r = r1 ∨ r = r2)) (Y := Y4) (I := I4) (J := J2) (A := A) (r := rk) (o := s) (Or.inl rfl) hs5 hk5
  have k6 := xFr.nI (S := (fun r o => r = rk ∨ r = r1 ∨ r = r2)) (V := V5) (J := J2) (A := A) (r := r2) (o := s) (Or.inr (Or.inr rfl)) le6 gr6 hs6 hk6
  have k7 := xFr.uV (S := (fun r o => r = rk ∨ r = r1 ∨ r = r2)) (Y := Y6) (I := I6) (J := J2) (A := A) (r := rk) (o := s) (Or.inl rfl) hs7 hk7
  have SB := S2.fr ((((k3.tr k4).tr k5).tr k6).tr k7) (by omega) (by omega)
  exact ⟨rfl, _, _, _, _, _, P7, rfl, ⟨(le6.at (le4.at (f2.1.at (le1.at hat)))), ⟨_, 0, rdK hs7 (by decide) (rdK hs5 (by decide) (rdS hs3)), SB, fun key hk => Nat.zero_testBit key⟩, ⟨⟨_, (le6.at at4), rdK hs7 (by decide) (rdS hs5)⟩, (le6.n at4 hN4)⟩, ⟨⟨_, at6, rdS hs7⟩, hN6⟩, fun key hk p hp => by cases hp⟩, g1.tr (g2.tr (g3.tr (g4.tr (g5.tr (g6.tr g7)))))⟩
