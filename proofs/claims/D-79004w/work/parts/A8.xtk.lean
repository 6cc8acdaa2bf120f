set_option maxRecDepth 100000
theorem tick1_tk {a : aA} {B : Nat} (W : WF B a) : a.tick1.tk = a.tk + 1 := by
  have h := (W.tick0.allWork a.n (by show (1 : Nat) ≠ 0; decide) (by show 0 < a.tk + 1; omega) (Nat.le_refl _)).2
  rw [aA.tick1_eq]
  exact h.tk
theorem c_X0_tick {G : xG} {T : xT} {O R : xO} {Y : xY} {V : xVV} {I : xII} {J : xJJ} {A : xVV} {w0 : xW} {a : aA} {tk x0 g0 fi ps : Nat} {Bd : Nat} {l : Int32} (P : PX Y V I J A w0 T O R) (H : RepX a tk x0 g0 fi ps Y V I J A) (W : WF Bd a) (hA : AInv a) (hB : Bd < 1700000) (h0q : yAt Y 0 0 x0) (htk : tk = a.tk) (htk5 : tk ≤ 4800) : xCtrL G yX0_tick cX0_tick 3 (some Jvm.ClassFile.FieldType.int) 15 333 (4 * fi + ps + 36000) (18 * fi + ps + 126000) [.ref x0, .int l] (T, O, R) (xAL (fun v T2 O2 R2 kl sl => v = .int (a.tickF l).1 ∧ xRL w0 Y (a.tickF l).2 (a.tickF l).2.tk x0 g0 T2 O2 R2 kl sl)) := by
  refine xCtrL.of (by decide +kernel) (Nat.le_of_ble_eq_true rfl) ?_
  intro Z B E hz hnm
  change xV Z (T, O, R) 0 [(0, .ref x0), (1, .int l)] [] (4 * fi + ps + 36000) (18 * fi + ps + 126000)
  refine g_iload_n B 1 dX0_tick_0 rfl ?_
  refine g_i2l B dX0_tick_1 rfl ?_
  refine g_lconst (v := 1) B dX0_tick_2 (by decide) ?_
  refine g_ldc2 (v := 200) B q1258 dX0_tick_3 ?_
  refine g_callS (kc2 := (4 * fi + ps + 36000)) (ks2 := (18 * fi + ps + 126000)) (rest := []) B M_X0_isBetween q805 q806 (c_X0_isBetween (x := l) (l := nI 1) (u := nI 200) P rfl rfl rfl) rfl rfl (Nat.le_of_ble_eq_true rfl) (Nat.le_of_ble_eq_true rfl) (Nat.le_of_ble_eq_true rfl) (Nat.le_refl _) (Nat.le_refl _) dX0_tick_6 (xkA (fun v1 T1 O1 R1 le1 p1 => ?_))
  obtain ⟨rfl, eT1, eO1, eR1⟩ := p1
  obtain rfl := eT1.symm
  obtain rfl := eO1.symm
  obtain rfl := eR1.symm
  refine g_if_neB (tgt := 15) B dX0_tick_9 (by decide) (fun c2 => ?_) (fun c2 => ?_)
  · obtain ⟨lm, hl1, hl2, rfl⟩ := inB1_nI (by decide) c2
    have hF : a.tickF (nI lm) = (nI (aA.ticks lm a).1, (aA.ticks lm a).2) := by rw [aA.tickF, if_pos c2, nI_clamp (by omega)]
    refine g_iconst (v := nI 0) B dX0_tick_15 (by decide) ?_
    refine g_istore_n (lv2 := [(2, _), (0, _), (1, _)]) B dX0_tick_16 (by decide) rfl ?_
    refine xV.room (kc' := 4 * fi + ps + 180 * lm) (ks' := 18 * fi + ps + 630 * lm) (by omega) (by omega) ?_
    have L : ∀ (d : Nat) (n r Bd1 : Nat) (b : aA) (fi1 ps1 : Nat) (Y1 : xY) (V1 : xVV) (I1 : xII) (J1 : xJJ) (A1 : xVV) (T1 : xT) (O1 R1 : xO), d = r → PX Y1 V1 I1 J1 A1 w0 T1 O1 R1 → (n + r = lm) → (Bd1 + 300 * r < 1800000) → (b.tk + r ≤ 5000) → (RepX b b.tk x0 g0 fi1 ps1 Y1 V1 I1 J1 A1) → (WF Bd1 b) → (AInv b) → (aA.ticks lm a = ((aA.ticks r b).1 + n, (aA.ticks r b).2)) → (yLe Y Y1) → xV Z (T1, O1, R1) 17 [(2, .int (nI n)), (0, .ref x0), (1, .int (nI lm))] [] (4 * fi1 + ps1 + 180 * r) (18 * fi1 + ps1 + 630 * r) := by
      intro d
      induction d using Nat.strongRecOn with
      | _ d ih =>
        intro n r Bd1 b fi1 ps1 Y1 V1 I1 J1 A1 T1 O1 R1 hd P1 hnr hBd hbt H1 W1 A1_ hT le1
        have hb0 := le1.at h0q
        have hck : b.tk ≤ 5000 := by omega
        refine g_iload_n B 0 dX0_tick_17 rfl ?_
        refine g_iload_n B 2 dX0_tick_18 rfl ?_
        refine g_icmp_geN (tgt := 39) B (by omega) (by omega) dX0_tick_19 (by decide) (fun c101 => ?_) (fun c101 => ?_)
        · refine g_iload_n B 0 dX0_tick_39 rfl ?_
          refine g_iretL B E rfl rfl dX0_tick_40 ?_
          have er : r = 0 := by omega
          subst er
          have hT2 : aA.ticks lm a = (n, b) := by rw [hT]; exact Prod.ext (Nat.zero_add n) rfl
          exact ⟨_, rfl, by rw [hF, hT2], _, _, _, _, _, fi1, ps1, P1, le1, by rw [hF, hT2]; exact H1, by omega, by omega⟩
        · obtain ⟨r2, hr2⟩ : ∃ r2, r = r2 + 1 := ⟨r - 1, by omega⟩
          refine g_aload_n B 1 dX0_tick_22 rfl ?_
          obtain ⟨n102, u102, ty102⟩ := P1.ty hb0 (by decide) rfl
          refine g_callV (kc2 := (4 * fi1 + ps1 + 180 * r)) (ks2 := (18 * fi1 + ps1 + 630 * r)) (rest := []) B M_X0_isDone q1259 q1261 qs11 ty102 rfl (c_X0_isDone P1 H1 W1 A1_ (by omega) hb0) rfl rfl (Nat.le_of_ble_eq_true rfl) (Nat.le_of_ble_eq_true rfl) (Nat.le_of_ble_eq_true rfl) (Nat.le_refl _) (Nat.le_refl _) dX0_tick_23 (xkA (fun v102 T102 O102 R102 le102 p102 => ?_))
          obtain ⟨rfl, eT102, eO102, eR102⟩ := p102
          obtain rfl := eT102.symm
          obtain rfl := eO102.symm
          obtain rfl := eR102.symm
          refine g_if_neB (tgt := 39) B dX0_tick_26 (by decide) (fun c103 => ?_) (fun c103 => ?_)
          · refine g_iload_n B 0 dX0_tick_39 rfl ?_
            refine g_iretL B E rfl rfl dX0_tick_40 ?_
            have hT2 : aA.ticks lm a = (n, b) := by rw [hT, hr2, aA.ticks_s, if_pos c103]; exact Prod.ext (Nat.zero_add n) rfl
            exact ⟨_, rfl, by rw [hF, hT2], _, _, _, _, _, fi1, ps1, P1, le1, by rw [hF, hT2]; exact H1, by omega, by omega⟩
          · refine g_aload_n B 1 dX0_tick_29 rfl ?_
            obtain ⟨n104, u104, ty104⟩ := P1.ty hb0 (by decide) rfl
            have hq : b.quiet = false := c103
            refine g_callVL (kc2 := 180 * r2) (ks2 := 630 * r2) (rest := []) B M_X0_tick_2 q1275 q1277 qs14 ty104 rfl (c_X0_tick_2 P1 H1 W1 hb0 A1_ (by omega) rfl hck) rfl rfl (Nat.le_of_ble_eq_true rfl) (Nat.le_of_ble_eq_true rfl) (Nat.le_of_ble_eq_true rfl) (by omega) (by omega) dX0_tick_30 (xkNL (fun T104 O104 R104 kl104 sl104 le104 p104 => ?_))
            obtain ⟨Y104, V104, I104, J104, A104, fi104, ps104, P104, le2104, H104, kle104, sle104⟩ := p104
            refine xV.room (kc' := 4 * fi104 + ps104 + 180 * r2) (ks' := 18 * fi104 + ps104 + 630 * r2) (by omega) (by omega) ?_
            have h0z := le2104.at hb0
            have htt := tick1_tk W1
            rw [← htt] at H104
            refine g_iinc (v := nI (n + 1)) (lv2 := [(2, _), (0, _), (1, _)]) B 0 dX0_tick_33 rfl (nI_1 _) (by decide) rfl ?_
            refine g_goto (tgt := 17) B dX0_tick_36 (by decide) ?_
            have hF2 : aA.ticks lm a = ((aA.ticks r2 b.tick1).1 + (n + 1), (aA.ticks r2 b.tick1).2) := by rw [hT, hr2, aA.ticks_s, if_neg (by rw [hq]; decide)]; exact Prod.ext (by show _ + 1 + n = _ + (n + 1); omega) rfl
            exact ih (r2) ((by omega)) (n + 1) r2 (Bd1 + 300) b.tick1 fi104 ps104 _ _ _ _ _ _ _ _ rfl P104 (by omega) (by omega) (by omega) H104 W1.tick1 (A1_.tick1 W1) hF2 (le1.tr le2104)
    exact L _ 0 lm Bd a fi ps _ _ _ _ _ _ _ _ rfl P (by omega) (by omega) (by omega) (by rw [← htk]; exact H) W hA rfl yLe.rf
  · refine g_ldc (v := (-1000000002)) B q811 dX0_tick_12 ?_
    refine g_iretL B E rfl rfl dX0_tick_14 ?_
    have hF : a.tickF l = (-1000000002, a) := by rw [aA.tickF, if_neg (by rw [c2]; decide)]
    exact ⟨_, rfl, by rw [hF], _, _, _, _, _, fi, ps, P, yLe.rf, by rw [hF, ← htk]; exact H, by omega, by omega⟩
