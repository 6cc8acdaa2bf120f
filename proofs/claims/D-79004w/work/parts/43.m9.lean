set_option maxRecDepth 100000
theorem aBits_set {s : Nat → Bool} {f : Nat} (hf : f < 3) : nI (aBits s) ||| (nI 1 <<< (nI f &&& 31)) = nI (aBits (up1 s f true)) := by
  rcases (show f = 0 ∨ f = 1 ∨ f = 2 by omega) with rfl | rfl | rfl
  · unfold aBits up1
    generalize s 0 = x; generalize s 1 = y; generalize s 2 = z
    revert x y z; decide
  · unfold aBits up1
    generalize s 0 = x; generalize s 1 = y; generalize s 2 = z
    revert x y z; decide
  · unfold aBits up1
    generalize s 0 = x; generalize s 1 = y; generalize s 2 = z
    revert x y z; decide
theorem aBits_full {s : Nat → Bool} {p : Nat} (h1 : 1 ≤ p) (h3 : p ≤ 3) (h : ∀ f, p ≤ f → s f = false) : (nI (aBits s) = (nI 1 <<< (nI p &&& 31)) - nI 1) ↔ (List.range p).all s = true := by
  rcases (show p = 1 ∨ p = 2 ∨ p = 3 by omega) with rfl | rfl | rfl
  · have e1 := h 1 (by omega); have e2 := h 2 (by omega)
    unfold aBits
    rw [e1, e2, show List.range 1 = [0] from rfl]
    simp only [List.all_cons, List.all_nil]
    generalize s 0 = x
    revert x; decide
  · have e2 := h 2 (by omega)
    unfold aBits
    rw [e2, show List.range 2 = [0, 1] from rfl]
    simp only [List.all_cons, List.all_nil]
    generalize s 0 = x; generalize s 1 = y
    revert x y; decide
  · unfold aBits
    rw [show List.range 3 = [0, 1, 2] from rfl]
    simp only [List.all_cons, List.all_nil]
    generalize s 0 = x; generalize s 1 = y; generalize s 2 = z
    revert x y z; decide
theorem RMsp.row {s s' : Nat → Nat → Nat → Bool} {o i : Nat} {r : Nat → Bool} {f g : Nat → Int32} (h : RMsp s f) (hi : i < 3) (e : g = va_up f (3 * o + i) (nI (aBits r))) (hs : ∀ y z, s' y z = if y = o ∧ z = i then r else s y z) : RMsp s' g := fun o1 h1 i1 h2 => by
  rw [hs, e]
  by_cases c : o1 = o ∧ i1 = i
  · obtain ⟨rfl, rfl⟩ := c
    rw [if_pos ⟨rfl, rfl⟩, va_ups]
  · rw [if_neg c, va_upe (by omega)]
    exact h o1 h1 i1 h2
theorem up3_row {s : Nat → Nat → Nat → Bool} {o i f : Nat} {x : Bool} (y z : Nat) : up3 s o i f x y z = if y = o ∧ z = i then up1 (s o i) f x else s y z := by
  funext w
  unfold up3
  by_cases c : y = o ∧ z = i
  · rw [if_pos c, c.1, c.2]
    unfold up1
    by_cases d : w = f
    · rw [if_pos ⟨rfl, rfl, d⟩, if_pos d]
    · rw [if_neg (fun e => d e.2.2), if_neg d]
  · rw [if_neg c, if_neg (fun e => c ⟨e.1, e.2.1⟩)]
theorem RepM.al {b : aA} {sc : Nat → Int32} {ar : Nat → Nat → Int32} (h : RepM b sc ar) (x : Nat → Nat → Bool) : RepM (b.w_al x) sc ar := h
/-- what align clears -/
def aA.spF (a : aA) (o i : Nat) : Nat → Nat → Nat → Bool := fun x y z => if x = o ∧ y = i then false else a.sp x y z
theorem aA.align0_eq (a : aA) (o i : Nat) : a.align0 o i = (((a.w_sp (a.spF o i)).w_st (svSt (a.w_sp (a.spF o i)) o i 16)).w_ct (up3 (a.w_sp (a.spF o i)).ct 1 o i ((a.w_sp (a.spF o i)).ct 0 o i))).w_al (up2 a.al o i true) := rfl
theorem aA.align_mid {a b : aA} {o i : Nat} (h : a.align0 o i = b) (hn : o + 1 < a.n) : a.align o i = b.w_hd (up2 b.hd o i true) := by
  rw [aA.align_eq, if_pos hn, ← h]; rfl
theorem aA.align_last {a b : aA} {o i : Nat} (h : a.align0 o i = b) (hn : ¬ o + 1 < a.n) (c : ¬ b.nm 3 + 1 = a.p o) : a.align o i = b.w_nm (up1 b.nm 3 (b.nm 3 + 1)) := by
  have e : (a.align0 o i).nm = a.nm := (aA.align0_st a o i).2.2
  rw [h] at e
  have c2 : ¬ a.sk + 1 = a.p o := by unfold aA.sk; rw [← e]; exact c
  rw [aA.align_eq, if_neg hn, if_neg c2, h, e]; rfl
theorem aA.align_end {a b : aA} {o i : Nat} (h : a.align0 o i = b) (hn : ¬ o + 1 < a.n) (c : b.nm 3 + 1 = a.p o) : a.align o i = (b.w_nm (up1 b.nm 3 (b.nm 3 + 1))).finish := by
  have e : (a.align0 o i).nm = a.nm := (aA.align0_st a o i).2.2
  rw [h] at e
  have c2 : a.sk + 1 = a.p o := by unfold aA.sk; rw [← e]; exact c
  rw [aA.align_eq, if_neg hn, if_pos c2, h, e]; rfl
theorem WF.bar2 {B : Nat} {a : aA} (W : WF B a) {o i f : Nat} (h0 : 0 < o) (ho : o < a.n) (hi : i < a.p o) (hf : f < a.p (o - 1)) : WF B (a.w_sp (up3 a.sp o i f true)) := W.w_sp _ (up3_P (P := fun x y z b => ¬ (0 < x ∧ x < a.n ∧ y < a.p x ∧ z < a.p (x - 1)) → b = false) W.spu (fun c => absurd ⟨h0, ho, hi, hf⟩ c))
theorem WF.bar3 {B : Nat} {a : aA} (W : WF B a) (o i : Nat) : WF B (a.w_sp (a.spF o i)) := W.w_sp _ (fun x y z c => by
  unfold aA.spF
  split
  · rfl
  · exact W.spu x y z c)
theorem aA.nm_w_nm (b : aA) (f : Nat → Nat) : (b.w_nm f).nm = f := rfl
theorem aA.nm_w_sp (b : aA) (f : Nat → Nat → Nat → Bool) : (b.w_sp f).nm = b.nm := rfl
theorem aA.nm_w_ch (b : aA) (f : Nat → Nat → Nat → aCh) : (b.w_ch f).nm = b.nm := rfl
theorem aA.nm_w_pt (b : aA) (f : Nat → Nat → Nat) : (b.w_pt f).nm = b.nm := rfl
theorem RMnm.sk {b : aA} {sc sc2 : Nat → Int32} (h : RMnm b sc) (hk : ∀ i, i ≠ 38 → sc2 i = sc i) {x : Nat} (e : sc2 38 = nI x) : RMnm ((b.w_of b.of).w_nm (up1 b.nm 3 x)) sc2 := by
  obtain ⟨⟨n7, n8, n9, n10⟩, ⟨n14, n36, n37⟩, n15, n16, n17, n38, n18, n19⟩ := h
  exact ⟨⟨by rw [hk 7 (by decide)]; exact n7, by rw [hk 8 (by decide)]; exact n8, by rw [hk 9 (by decide)]; exact n9, by rw [hk 10 (by decide)]; exact n10⟩, ⟨by rw [hk 14 (by decide)]; exact n14, by rw [hk 36 (by decide)]; exact n36, by rw [hk 37 (by decide)]; exact n37⟩, by rw [hk 15 (by decide)]; exact n15, by rw [hk 16 (by decide)]; exact n16, by rw [hk 17 (by decide)]; exact n17, e, by rw [hk 18 (by decide)]; exact n18, by rw [hk 19 (by decide)]; exact n19⟩
theorem aA.w_of_self (b : aA) : b.w_of b.of = b := rfl
theorem RepM.sk {b : aA} {sc sc2 : Nat → Int32} {ar : Nat → Nat → Int32} (h : RepM b sc ar) (hk : ∀ i, i ≠ 38 → sc2 i = sc i) {x : Nat} (e : sc2 38 = nI x) : RepM (b.w_nm (up1 b.nm 3 x)) sc2 ar := by
  have q := h.nums (f := b.of) (g := up1 b.nm 3 x) (RMnm.sk h.2.2.2.1 hk e) (fun k hk2 => hk k (by omega)) rfl (fun q => q)
  rw [aA.w_of_self] at q
  exact q
theorem c_M_barrier {G : xG} {T : xT} {O R : xO} {m : Nat} {ad : Nat → Nat} {sc : Nat → Int32} {ar : Nat → Nat → Int32} {Bd : Nat} {o i f : Nat} {a2 : aA} (P : PM m ad O R sc ar T O R) {a : aA} (H : RepM a sc ar) (h2 : a2 = a.w_sp (up3 a.sp o i f true)) (W : WF Bd a) (hB : Bd ≤ 2 ^ 30) (hrn : 0 < a.nm 2) (h0 : 0 < o) (ho : o < a.n) (hi : i < a.p o) (hf : f < a.p (o - 1)) : xCtr G yX12_barrier cX12_barrier 5 none 2 46 0 0 [.ref m, .int (nI o), .int (nI i), .int (nI f)] (T, O, R) (xN (mPostN m ad T O R (fun sc2 ar2 => RepM (if a2.full o i = true then a2.align o i else a2) sc2 ar2))) := by
  have hR := H
  obtain ⟨Htxt, Hop, Hinp, Hnm, Hstt, ⟨Hs0, Hs1, Hs2⟩, ⟨Hc0, Hc1, Hc2⟩, Hls, Hsp, Hpt, Hhd, Hch, Hex, Hwr⟩ := H
  have hn2 := W.n2
  have hn6 := W.n6
  have hp3 := (W.p1 o ho).2
  have hi3 : i < 3 := by omega
  have hf3 := (W.p1 (o - 1) (by omega)).2
  refine xCtr.of (by decide +kernel) (Nat.le_of_ble_eq_true rfl) ?_
  intro Z B E hz hnm
  change xV Z (T, O, R) 0 [(0, .ref m), (1, .int (nI o)), (2, .int (nI i)), (3, .int (nI f))] [] 0 0
  refine g_iload_n B 1 dX12_barrier_0 rfl ?_
  refine g_iload_n B 2 dX12_barrier_1 rfl ?_
  refine g_callS (rest := []) B M_X12_spot q2744 q2745 (c_M_spot (o := o) (i := i)) rfl rfl (Nat.le_of_ble_eq_true rfl) (Nat.le_of_ble_eq_true rfl) (Nat.le_of_ble_eq_true rfl) (Nat.le_refl _) (Nat.le_refl _) dX12_barrier_2 (xkA (fun v1 T1 O1 R1 le1 p1 => ?_))
  obtain ⟨rfl, eT1, eO1, eR1⟩ := p1
  obtain rfl := eT1.symm
  obtain rfl := eO1.symm
  obtain rfl := eR1.symm
  refine g_istore (lv2 := [(4, _), (0, _), (1, _), (2, _), (3, _)]) B dX12_barrier_5 (by decide) rfl ?_
  refine g_aload_n B 1 dX12_barrier_7 rfl ?_
  refine m_geta B P F_X12_105_12 (by decide) (Or.inl rfl) dX12_barrier_8 ?_
  refine g_iload B 0 dX12_barrier_11 rfl ?_
  refine g_dup2 B dX12_barrier_13 rfl rfl ?_
  refine m_ld B P (by decide) rfl rfl (by show _ < 18; omega) (by decide) (show _ = (nI (aBits (a.sp o i))) from (Hsp o (by omega) i (by omega))) dX12_barrier_14 ?_
  refine g_iconst (v := nI 1) B dX12_barrier_15 (by decide) ?_
  refine g_iload_n B 4 dX12_barrier_16 rfl ?_
  refine g_ishl B dX12_barrier_17 ?_
  refine g_ior B dX12_barrier_18 ?_
  refine m_st B P (by decide) rfl rfl (by show _ < 18; omega) (by decide) dX12_barrier_19 (fun R2 ar2 hs2 hk2 P2 => ?_)
  have e43 : ar2 43 = va_up (ar 43) (3 * o + i) ((nI (aBits (a.sp o i))) ||| ((nI 1) <<< ((nI f) &&& 31))) := hs2
  rw [aBits_set (by omega)] at e43
  have H1 : RepM a2 sc ar2 := by rw [h2]; exact hR.sp (fun k hk _ => hk2 k hk) (Hsp.row (r := up1 (a.sp o i) f true) (by omega) e43 up3_row)
  have S2 : sSt a2 a := by rw [h2]; exact sSt.rf
  have hr2 : 0 < a2.nm 2 := by rw [h2, aA.nm_w_sp]; exact hrn
  have W1 : WF Bd a2 := by rw [h2]; exact W.bar2 h0 ho hi hf
  obtain ⟨Htxt, Hop, Hinp, Hnm, Hstt, ⟨Hs0, Hs1, Hs2⟩, ⟨Hc0, Hc1, Hc2⟩, Hls, Hsp, Hpt, Hhd, Hch, Hex, Hwr⟩ := H1.views (a := a) S2
  have hfull := aBits_full (s := up1 (a.sp o i) f true) (W.p1 (o - 1) (by omega)).1 (W.p1 (o - 1) (by omega)).2 (fun g hg => by rw [up1_n (by omega)]; exact W.spu o i g (fun c => by omega))
  have hfe : a2.full o i = (List.range (a.p (o - 1))).all (up1 (a.sp o i) f true) := by rw [h2]; show (List.range (a.p (o - 1))).all (fun g => up3 a.sp o i f true o i g) = _; rw [show (fun g => up3 a.sp o i f true o i g) = up1 (a.sp o i) f true from (up3_row o i).trans (if_pos ⟨rfl, rfl⟩)]
  refine g_aload_n B 1 dX12_barrier_20 rfl ?_
  refine m_geta B P2 F_X12_105_12 (by decide) (Or.inl rfl) dX12_barrier_21 ?_
  refine g_iload B 0 dX12_barrier_24 rfl ?_
  refine m_ld B P2 (by decide) rfl rfl (by show _ < 18; omega) (by decide) (show _ = (nI (aBits (up1 (a.sp o i) f true))) from ((congrFun e43 _).trans va_ups)) dX12_barrier_26 ?_
  refine g_iconst (v := nI 1) B dX12_barrier_27 (by decide) ?_
  refine g_aload_n B 1 dX12_barrier_28 rfl ?_
  refine m_geta B P2 F_X12_22_12 (by decide) (Or.inl rfl) dX12_barrier_29 ?_
  refine g_iload_n B 2 dX12_barrier_32 rfl ?_
  refine g_iconst (v := nI 1) B dX12_barrier_33 (by decide) ?_
  refine g_isubN B (by omega) dX12_barrier_34 ?_
  refine m_ld B P2 (by decide) rfl rfl (by show _ < 6; omega) (by decide) (show _ = (nI (a.p (o - 1))) from (Hop.2 (o - 1) (by omega)).2.2.2) dX12_barrier_35 ?_
  refine g_ishl B dX12_barrier_36 ?_
  refine g_iconst (v := nI 1) B dX12_barrier_37 (by decide) ?_
  refine g_isub B dX12_barrier_38 ?_
  refine g_icmp_eq (tgt := 43) B dX12_barrier_39 (by decide) (fun c3 => ?_) (fun c3 => ?_)
  · refine g_aload_n B 1 dX12_barrier_43 rfl ?_
    refine m_geta B P2 F_X12_105_12 (by decide) (Or.inl rfl) dX12_barrier_44 ?_
    refine g_iload B 0 dX12_barrier_47 rfl ?_
    refine g_iconst (v := nI 0) B dX12_barrier_49 (by decide) ?_
    refine m_st B P2 (by decide) rfl rfl (by show _ < 18; omega) (by decide) dX12_barrier_50 (fun R4 ar4 hs4 hk4 P4 => ?_)
    have e43 : ar4 43 = va_up (ar2 43) (3 * o + i) (nI 0) := hs4
    have hF : a2.full o i = true := by rw [hfe]; exact hfull.mp c3
    have H2 : RepM (a2.w_sp (a2.spF o i)) sc ar4 := H1.sp (fun k hk _ => hk4 k hk) (RMsp.row (s := a2.sp) (r := fun _ => false) H1.2.2.2.2.2.2.2.2.1 (by omega) e43 (fun y z => by funext g; unfold aA.spF; by_cases c : y = o ∧ z = i; rw [if_pos c, if_pos c]; rw [if_neg c, if_neg c]))
    have W2 : WF Bd (a2.w_sp (a2.spF o i)) := W1.bar3 o i
    refine g_aload_n B 1 dX12_barrier_51 rfl ?_
    refine g_iload_n B 2 dX12_barrier_52 rfl ?_
    refine g_iload_n B 3 dX12_barrier_53 rfl ?_
    refine g_callV (rest := []) B M_X12_saves q2802 q2804 qs84 (P4.1.choose_spec.choose_spec) rfl (c_M_saves (a := (a2.w_sp (a2.spF o i))) (o := o) (i := i) P4.self H2 W2 (show o < a2.n by rw [S2.n]; exact ho) (show i < a2.p o by rw [S2.p]; exact hi)) rfl rfl (Nat.le_of_ble_eq_true rfl) (Nat.le_of_ble_eq_true rfl) (Nat.le_of_ble_eq_true rfl) (Nat.le_refl _) (Nat.le_refl _) dX12_barrier_54 (xkN (fun T5 O5 R5 le5 p5 => ?_))
    obtain ⟨eT5, sc5, ar5, Q5, hr5⟩ := p5
    obtain rfl := eT5.symm
    have P5 := P4.rebase Q5
    have H3 : RepM (a2.align0 o i) sc5 ar5 := by rw [aA.align0_eq]; exact hr5.al _
    have g3 := aA.align0_st a2 o i
    have hn3 : (a2.align0 o i).nm 3 ≤ Bd := by rw [g3.2.2]; exact W1.nms.2.2.2.1
    have hrb : 0 < (a2.align0 o i).nm 2 := by rw [g3.2.2]; exact hr2
    generalize hAL : (a2.align0 o i) = b at H3 g3 hn3 hrb
    have g4 : sSt b a := g3.1.tr S2
    obtain ⟨Htxt, Hop, Hinp, Hnm, Hstt, ⟨Hs0, Hs1, Hs2⟩, ⟨Hc0, Hc1, Hc2⟩, Hls, Hsp, Hpt, Hhd, Hch, Hex, Hwr⟩ := H3.views g4
    refine g_iload_n B 2 dX12_barrier_57 rfl ?_
    refine g_aload_n B 1 dX12_barrier_58 rfl ?_
    refine g_callV (rest := [_]) B M_X12_sink q2732 q2734 qs68 (P5.1.choose_spec.choose_spec) rfl (c_M_sink P5.self Hop.1) rfl rfl (Nat.le_of_ble_eq_true rfl) (Nat.le_of_ble_eq_true rfl) (Nat.le_of_ble_eq_true rfl) (Nat.le_refl _) (Nat.le_refl _) dX12_barrier_59 (xkA (fun v6 T6 O6 R6 le6 p6 => ?_))
    obtain ⟨rfl, eT6, eO6, eR6⟩ := p6
    obtain rfl := eT6.symm
    obtain rfl := eO6.symm
    obtain rfl := eR6.symm
    refine g_icmp_geN (tgt := 74) B (by omega) (by omega) dX12_barrier_62 (by decide) (fun c7 => ?_) (fun c7 => ?_)
    · refine g_aload_n B 1 dX12_barrier_74 rfl ?_
      refine g_dup B dX12_barrier_75 rfl ?_
      refine m_get B P5 F_X12_318_12 (by decide) (Or.inl rfl) (show _ = (nI (b.nm 3)) from Hnm.2.2.2.2.2.1) dX12_barrier_76 ?_
      refine g_iconst (v := nI 1) B dX12_barrier_79 (by decide) ?_
      refine g_iaddN B dX12_barrier_80 ?_
      refine m_put B P5 F_X12_318_12 (by decide) (Or.inl rfl) rfl rfl rfl dX12_barrier_81 (fun O8 sc8 hs8 hk8 P8 => ?_)
      have n38 : sc8 38 = (nI ((b.nm 3) + 1)) := hs8
      have H4 : RepM (b.w_nm (up1 b.nm 3 (b.nm 3 + 1))) sc8 ar5 := H3.sk hk8 n38
      refine g_aload_n B 1 dX12_barrier_84 rfl ?_
      refine m_get B P8 F_X12_318_12 (by decide) (Or.inl rfl) (show _ = (nI ((b.nm 3) + 1)) from hs8) dX12_barrier_85 ?_
      refine g_aload_n B 1 dX12_barrier_88 rfl ?_
      refine m_geta B P8 F_X12_22_12 (by decide) (Or.inl rfl) dX12_barrier_89 ?_
      refine g_iload_n B 2 dX12_barrier_92 rfl ?_
      refine m_ld B P8 (by decide) rfl rfl (by show _ < 6; omega) (by decide) (show _ = (nI (a.p o)) from (Hop.2 o (by omega)).2.2.2) dX12_barrier_93 ?_
      refine g_icmp_neN (tgt := 101) B (by omega) (by omega) dX12_barrier_94 (by decide) (fun c9 => ?_) (fun c9 => ?_)
      · refine g_vret B E rfl dX12_barrier_101 ?_
        refine ⟨rfl, rfl, _, _, P8, ?_⟩
        rw [if_pos hF, aA.align_last hAL (by rw [S2.n]; omega) (by rw [S2.p]; exact c9)]; exact H4
      · refine g_aload_n B 1 dX12_barrier_97 rfl ?_
        refine g_callV (rest := []) B M_X12_completes q2806 q2808 qs85 (P8.1.choose_spec.choose_spec) rfl (c_M_completes (a := b.w_nm (up1 b.nm 3 (b.nm 3 + 1))) P8.self H4 (by rw [aA.nm_w_nm, up1_n (by decide)]; exact hrb)) rfl rfl (Nat.le_of_ble_eq_true rfl) (Nat.le_of_ble_eq_true rfl) (Nat.le_of_ble_eq_true rfl) (Nat.le_refl _) (Nat.le_refl _) dX12_barrier_98 (xkN (fun T10 O10 R10 le10 p10 => ?_))
        obtain ⟨eT10, sc10, ar10, Q10, hr10⟩ := p10
        obtain rfl := eT10.symm
        have P10 := P8.rebase Q10
        refine g_vret B E rfl dX12_barrier_101 ?_
        refine ⟨rfl, rfl, _, _, P10, ?_⟩
        rw [if_pos hF, aA.align_end hAL (by rw [S2.n]; omega) (by rw [S2.p]; exact c9)]; exact hr10
    · refine g_aload_n B 1 dX12_barrier_65 rfl ?_
      refine m_geta B P5 F_X12_111_12 (by decide) (Or.inr rfl) dX12_barrier_66 ?_
      refine g_iload B 0 dX12_barrier_69 rfl ?_
      refine g_iconst (v := nI 1) B dX12_barrier_71 (by decide) ?_
      refine m_stz B P5 (by decide) rfl rfl (by show _ < 18; omega) (by decide) rfl dX12_barrier_72 (fun R11 ar11 hs11 hk11 P11 => ?_)
      refine g_vret B E rfl dX12_barrier_73 ?_
      refine ⟨rfl, rfl, _, _, P11, ?_⟩
      have e45 : ar11 45 = va_up (ar5 45) (3 * o + i) (nI 1) := hs11
      rw [if_pos hF, aA.align_mid hAL (by rw [S2.n]; omega)]
      exact H3.hd (fun k hk _ => hk11 k hk) (RMhd.up Hhd (x := true) e45 (by omega))
  · refine g_vret B E rfl dX12_barrier_42 ?_
    exact ⟨rfl, rfl, _, _, P2, by rw [if_neg (fun e => c3 (hfull.mpr (by rw [← hfe]; exact e)))]; exact H1⟩
