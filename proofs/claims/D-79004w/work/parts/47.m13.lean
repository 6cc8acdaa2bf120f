set_option maxRecDepth 100000
/-- the channels below x have aged -/
def gch (a : aA) (x : Nat) : Nat → Nat → Nat → aCh := fun o i j => if mLn o i j < x ∧ i < 3 ∧ j < 3 then cGrow (a.cf 1) (a.cf 2) (a.ch o i j) else a.ch o i j
theorem gch_at {a : aA} {x : Nat} (hx : x < 54) : gch a x (x / 9) (x / 3 % 3) (x % 3) = a.ch (x / 9) (x / 3 % 3) (x % 3) := if_neg (fun c => by have := c.1; rw [mLn_flat hx] at this; omega)
theorem gch_0 (a : aA) : gch a 0 = a.ch := by
  funext o i j; exact if_neg (fun c => by omega)
theorem gch_step {a : aA} {x : Nat} (hx : x < 54) : gch a (x + 1) = up3 (gch a x) (x / 9) (x / 3 % 3) (x % 3) (cGrow (a.cf 1) (a.cf 2) (a.ch (x / 9) (x / 3 % 3) (x % 3))) := by
  funext o i j
  by_cases c : o = x / 9 ∧ i = x / 3 % 3 ∧ j = x % 3
  · obtain ⟨rfl, rfl, rfl⟩ := c
    rw [up3_s]
    exact if_pos ⟨by rw [mLn_flat hx]; omega, by omega, by omega⟩
  · rw [up3_n c]
    unfold gch
    by_cases d : mLn o i j < x ∧ i < 3 ∧ j < 3
    · rw [if_pos d, if_pos ⟨by omega, d.2⟩]
    · rw [if_neg d, if_neg]
      rintro ⟨e1, e2, e3⟩
      apply d
      refine ⟨?_, e2, e3⟩
      rcases Nat.lt_or_ge (mLn o i j) x with e | e
      · exact e
      · have e4 : mLn o i j = x := by omega
        unfold mLn at e4
        exact absurd ⟨by omega, by omega, by omega⟩ c
theorem gch_same {a : aA} {x : Nat} (hx : x < 54) (h : (a.ch (x / 9) (x / 3 % 3) (x % 3)).2.1.length = 0) : gch a (x + 1) = gch a x := by
  rw [gch_step hx]
  funext o i j
  by_cases c : o = x / 9 ∧ i = x / 3 % 3 ∧ j = x % 3
  · obtain ⟨rfl, rfl, rfl⟩ := c
    rw [up3_s, gch_at hx]
    exact if_pos h
  · rw [up3_n c]
theorem gch_54 {B : Nat} {a : aA} (W : WF B a) : gch a 54 = fun o i j => cGrow (a.cf 1) (a.cf 2) (a.ch o i j) := by
  funext o i j
  unfold gch
  by_cases c : mLn o i j < 54 ∧ i < 3 ∧ j < 3
  · rw [if_pos c]
  · rw [if_neg c, W.chu o i j, cGrow_c0]
    rintro ⟨h1, h2, h3⟩
    have h4 := W.n6
    have h5 := (W.p1 o (by omega)).2
    have h6 := (W.p1 (o + 1) h1).2
    exact c ⟨by unfold mLn; omega, by omega, by omega⟩
theorem gch_len {B : Nat} {a : aA} (W : WF B a) (x : Nat) : ∀ o, o < 6 → ∀ i, i < 3 → ∀ j, j < 3 → (gch a x o i j).1.length ≤ 4 ∧ (gch a x o i j).2.1.length ≤ 4 := fun o _ i _ j _ => by
  have h1 := W.cf.1.2
  have h2 := W.cf.2.2.1.2
  unfold gch
  split
  · have h := (W.ch o i j).grow (g := a.cf 1) h1
    exact ⟨Nat.le_trans h.1 h2, Nat.le_trans h.2.1 h1⟩
  · exact ⟨Nat.le_trans (W.ch o i j).1 h2, Nat.le_trans (W.ch o i j).2.1 h1⟩
theorem mCh.aged {q : List (Option (List aRec))} {op : List aRec} {age age2 c : Nat} {ar ar2 : Nat → Nat → Int32} (h : mCh (q, op, age) c ar) (e : ar2 47 = va_up (ar 47) c (nI age2)) (hk : ∀ k, k ≠ 47 → ar2 k = ar k) : mCh (q, op, age2) c ar2 := by
  obtain ⟨h46, h47, hr, h51, t, h52, hn, hb⟩ := h
  refine ⟨by rw [hk 46 (by decide)]; exact h46, by rw [e, va_ups], by rw [hk 48 (by decide), hk 49 (by decide), hk 50 (by decide)]; exact hr, by rw [hk 51 (by decide)]; exact h51, t, by rw [hk 52 (by decide)]; exact h52, hn, ?_⟩
  rw [hk 53 (by decide), hk 54 (by decide), hk 55 (by decide), hk 56 (by decide)]
  exact hb
theorem mFr.aged {c : Nat} {ar ar2 : Nat → Nat → Int32} {v : Int32} (e : ar2 47 = va_up (ar 47) c v) (hk : ∀ k, k ≠ 47 → ar2 k = ar k) : mFr c ar ar2 :=
  ⟨fun k h => hk k (by omega), fun x hx => ⟨by rw [hk 46 (by decide)], by rw [e, va_upe hx], by rw [hk 51 (by decide)], by rw [hk 52 (by decide)]⟩, fun x _ => ⟨by rw [hk 48 (by decide)], by rw [hk 49 (by decide)], by rw [hk 50 (by decide)], by rw [hk 53 (by decide)]⟩, fun x _ => ⟨by rw [hk 54 (by decide)], by rw [hk 55 (by decide)], by rw [hk 56 (by decide)]⟩⟩
theorem RepM.gstep {a b : aA} {sc : Nat → Int32} {ar ar2 : Nat → Nat → Int32} {x : Nat} (h : RepM (b.w_ch (gch a x)) sc ar) {B : Nat} (W : WF B a) (hx : x < 54) (f : mFr x ar ar2) (n : mCh (cGrow (a.cf 1) (a.cf 2) (a.ch (x / 9) (x / 3 % 3) (x % 3))) x ar2) : RepM (b.w_ch (gch a (x + 1))) sc ar2 := by
  have := h.chan (o := x / 9) (i := x / 3 % 3) (j := x % 3) (gch_len W x) (by omega) (by omega) (by rw [mLn_flat hx]; exact f) (by rw [mLn_flat hx]; exact n)
  rw [gch_step hx]
  exact this
/-- the number before k -/
def mK : Nat → Int32
  | 0 => -1
  | k + 1 => nI k
theorem mK_prd (k : Nat) : nI k + (-1) = mK k := by
  cases k with
  | zero => rfl
  | succ k => exact nI_prd (Nat.succ_ne_zero k)
theorem RMnm.tick {b : aA} {sc sc2 : Nat → Int32} (h : RMnm b sc) (hk : ∀ i, i ≠ 15 → i ≠ 19 → sc2 i = sc i) (e1 : sc2 15 = nI (b.tk + 1)) (e2 : sc2 19 = nI 1) : RMnm ((b.w_of b.of).w_nm (up1 (up1 b.nm 4 1) 0 (b.tk + 1))) sc2 := by
  obtain ⟨⟨n7, n8, n9, n10⟩, ⟨n14, n36, n37⟩, n15, n16, n17, n38, n18, n19⟩ := h
  exact ⟨⟨by rw [hk 7 (by decide) (by decide)]; exact n7, by rw [hk 8 (by decide) (by decide)]; exact n8, by rw [hk 9 (by decide) (by decide)]; exact n9, by rw [hk 10 (by decide) (by decide)]; exact n10⟩, ⟨by rw [hk 14 (by decide) (by decide)]; exact n14, by rw [hk 36 (by decide) (by decide)]; exact n36, by rw [hk 37 (by decide) (by decide)]; exact n37⟩, e1, by rw [hk 16 (by decide) (by decide)]; exact n16, by rw [hk 17 (by decide) (by decide)]; exact n17, by rw [hk 38 (by decide) (by decide)]; exact n38, by rw [hk 18 (by decide) (by decide)]; exact n18, e2⟩
theorem RepM.tick {b : aA} {sc sc2 : Nat → Int32} {ar : Nat → Nat → Int32} (h : RepM b sc ar) (hk : ∀ i, i ≠ 15 → i ≠ 19 → sc2 i = sc i) (e1 : sc2 15 = nI (b.tk + 1)) (e2 : sc2 19 = nI 1) : RepM (b.w_nm (up1 (up1 b.nm 4 1) 0 (b.tk + 1))) sc2 ar := by
  have q := h.nums (f := b.of) (g := up1 (up1 b.nm 4 1) 0 (b.tk + 1)) (RMnm.tick h.2.2.2.1 hk e1 e2) (fun k hk2 => hk k (by omega) (by omega)) rfl (fun q => q)
  rw [aA.w_of_self] at q
  exact q
theorem aA.ch_nm (b : aA) (X : Nat → Nat → Nat → aCh) (N : Nat → Nat) : (b.w_nm N).w_ch X = (b.w_ch X).w_nm N := rfl
theorem aA.tick0_eq {B : Nat} {a : aA} (W : WF B a) : (a.w_nm (up1 (up1 a.nm 4 1) 0 (a.tk + 1))).w_ch (gch a 54) = a.tick0 := by
  rw [gch_54 W, aA.ch_nm]; rfl
theorem aA.tick0_tk (a : aA) : a.tick0.tk = a.tk + 1 := rfl
theorem aA.tick0_4 (a : aA) : a.tick0.nm 4 = 1 := rfl
theorem aA.tick0_n (a : aA) : a.tick0.n = a.n := rfl
theorem aA.tick1_n (a : aA) : a.tick1 = aA.allWork a.tick0.n a.tick0 := by rw [aA.tick1_eq, aA.tick0_n]
theorem aA.w_nm_cf (a : aA) (x : Nat → Nat) : (a.w_nm x).cf = a.cf := rfl
theorem aA.w_nm_ch (a : aA) (x : Nat → Nat) : (a.w_nm x).ch = a.ch := rfl
theorem aA.w_ch_self (b : aA) : b.w_ch b.ch = b := rfl
theorem aA.w_ch_ch (a : aA) (x : Nat → Nat → Nat → aCh) : (a.w_ch x).ch = x := rfl
theorem RepM.cf8 {b : aA} {x : Nat → Nat → Nat → aCh} {sc : Nat → Int32} {ar : Nat → Nat → Int32} (h : RepM (b.w_ch x) sc ar) : sc 8 = nI (b.cf 1) ∧ sc 9 = nI (b.cf 2) ∧ RMch x ar := ⟨h.2.2.2.1.1.2.1, h.2.2.2.1.1.2.2.1, h.2.2.2.2.2.2.2.2.2.2.2.1⟩
theorem sSt.work {o i : Nat} (b : Nat) {B : Nat} {a : aA} (h : WF B a) (hb : a.nm 4 ≠ 0) (ht : 0 < a.tk) (ho : o < a.n) (hi : i < a.p o) : sSt (aA.work o i b a) a := (h.work b hb ht ho hi).2
theorem aA.tick1_tk {B : Nat} {a : aA} (h : WF B a) : a.tick1.tk = a.tk + 1 := by
  have := (h.tick0.allWork a.n (by show (1 : Nat) ≠ 0; decide) (by show 0 < a.tk + 1; omega) (Nat.le_refl _)).2.tk
  exact this
theorem c_M_ticks {G : xG} {T : xT} {O R : xO} {m : Nat} {ad : Nat → Nat} {sc : Nat → Int32} {ar : Nat → Nat → Int32} {Bd : Nat} (P : PM m ad O R sc ar T O R) {a : aA} (H : RepM a sc ar) (W : WF Bd a) (hA : AInv a) (hB : Bd + 300 ≤ 2 ^ 30) (ht2 : a.tk + 1 ≤ 40000) : xCtr G yX12_ticks cX12_ticks 3 none 5 128 0 0 [.ref m] (T, O, R) (xN (mPostN m ad T O R (fun sc2 ar2 => RepM a.tick1 sc2 ar2))) := by
  have hR := H
  obtain ⟨Htxt, Hop, Hinp, Hnm, Hstt, ⟨Hs0, Hs1, Hs2⟩, ⟨Hc0, Hc1, Hc2⟩, Hls, Hsp, Hpt, Hhd, Hch, Hex, Hwr⟩ := H
  refine xCtr.of (by decide +kernel) (Nat.le_of_ble_eq_true rfl) ?_
  intro Z B E hz hnm
  change xV Z (T, O, R) 0 [(0, .ref m)] [] 0 0
  refine g_aload_n B 0 dX12_ticks_0 rfl ?_
  refine g_dup B dX12_ticks_1 rfl ?_
  refine m_get B P F_X12_243_12 (by decide) (Or.inl rfl) (show _ = (nI (a.nm 0)) from Hnm.2.2.1) dX12_ticks_2 ?_
  refine g_iconst (v := nI 1) B dX12_ticks_5 (by decide) ?_
  refine g_iaddN B dX12_ticks_6 ?_
  refine m_put B P F_X12_243_12 (by decide) (Or.inl rfl) rfl rfl rfl dX12_ticks_7 (fun O1 sc1 hs1 hk1 P1 => ?_)
  refine g_aload_n B 0 dX12_ticks_10 rfl ?_
  refine g_iconst (v := nI 1) B dX12_ticks_11 (by decide) ?_
  refine m_put B P1 F_X12_259_12 (by decide) (Or.inr rfl) rfl rfl rfl dX12_ticks_12 (fun O2 sc2 hs2 hk2 P2 => ?_)
  refine g_iconst (v := nI 0) B dX12_ticks_15 (by decide) ?_
  refine g_istore_n (lv2 := [(1, _), (0, _)]) B dX12_ticks_16 (by decide) rfl ?_
  have n15 : sc2 15 = (nI ((a.nm 0) + 1)) := ((hk2 15 (by decide)).trans hs1)
  have n19 : sc2 19 = (nI 1) := hs2
  have H0 : RepM (a.w_nm (up1 (up1 a.nm 4 1) 0 (a.tk + 1))) sc2 ar := hR.tick (fun k h1 h2 => (hk2 k h2).trans (hk1 k h1)) n15 n19
  have ht0 := aA.tick0_eq W
  have h0c : (a.w_nm (up1 (up1 a.nm 4 1) 0 (a.tk + 1))).cf = a.cf := aA.w_nm_cf _ _
  have h0h : (a.w_nm (up1 (up1 a.nm 4 1) 0 (a.tk + 1))).ch = a.ch := aA.w_nm_ch _ _
  generalize ha0 : (a.w_nm (up1 (up1 a.nm 4 1) 0 (a.tk + 1))) = a0 at H0 ht0 h0c h0h
  have L : ∀ (d x : Nat) (O1 R1 : xO) (sc1 : Nat → Int32) (ar1 : Nat → Nat → Int32), d = 54 - x → x ≤ 54 → PM m ad O R sc1 ar1 T O1 R1 → (RepM (a0.w_ch (gch a x)) sc1 ar1) → xV Z (T, O1, R1) 17 [(1, .int (nI x)), (0, .ref m)] [] 0 0 := by
    intro d
    induction d using Nat.strongRecOn with
    | _ d ih =>
      intro x O1 R1 sc1 ar1 hd hx P1 i1
      refine g_iload_n B 0 dX12_ticks_17 rfl ?_
      refine g_bipush (v := nI 54) B dX12_ticks_18 (by decide) ?_
      refine g_icmp_geN (tgt := 82) B (by omega) (by omega) dX12_ticks_20 (by decide) (fun c61 => ?_) (fun c61 => ?_)
      · have hx54 : x = 54 := by omega
        subst hx54
        rw [ht0] at i1
        have W0 := W.tick0
        have A0 := hA.tick0
        have ht1 := aA.tick0_tk a
        have hb0 := aA.tick0_4 a
        have hn0 := aA.tick0_n a
        have htk1 := aA.tick1_n a
        generalize ht : a.tick0 = t at i1 W0 A0 ht1 hb0 hn0 htk1
        have hn2 := W0.n2
        have hn6 := W0.n6
        have i1c := i1
        obtain ⟨Htxt, Hop, Hinp, Hnm, Hstt, ⟨Hs0, Hs1, Hs2⟩, ⟨Hc0, Hc1, Hc2⟩, Hls, Hsp, Hpt, Hhd, Hch, Hex, Hwr⟩ := i1c
        refine g_aload_n B 1 dX12_ticks_82 rfl ?_
        refine g_callV (rest := []) B M_X12_sink q2732 q2734 qs68 (P1.1.choose_spec.choose_spec) rfl (c_M_sink P1.self Hop.1) rfl rfl (Nat.le_of_ble_eq_true rfl) (Nat.le_of_ble_eq_true rfl) (Nat.le_of_ble_eq_true rfl) (Nat.le_refl _) (Nat.le_refl _) dX12_ticks_83 (xkA (fun v62 T62 O62 R62 le62 p62 => ?_))
        obtain ⟨rfl, eT62, eO62, eR62⟩ := p62
        obtain rfl := eT62.symm
        obtain rfl := eO62.symm
        obtain rfl := eR62.symm
        refine g_istore_n (lv2 := [(1, _), (0, _)]) B dX12_ticks_86 (by decide) rfl ?_
        rw [show nI (t.n - 2 + 1) = mK t.n by rw [show t.n = (t.n - 2 + 1) + 1 by omega]; rfl]
        have L2 : ∀ (d2 : Nat) (k : Nat) (c : aA) (Bc : Nat) (O12 R12 : xO) (sc12 : Nat → Int32) (ar12 : Nat → Nat → Int32), d2 = k → PM m ad O R sc12 ar12 T O12 R12 → (k ≤ t.n) → (RepM c sc12 ar12) → (WF Bc c) → (AInv c) → (sSt c t) → (Bc + 45 * k ≤ 2 ^ 30) → (aA.allWork k c = aA.allWork t.n t) → xV Z (T, O12, R12) 87 [(1, .int (mK k)), (0, .ref m)] [] 0 0 := by
          intro d2
          induction d2 using Nat.strongRecOn with
          | _ d2 ih2 =>
            intro k c Bc O12 R12 sc12 ar12 hd2 P12 q0 q1 q2 qA q3 q4 q5
            refine g_iload_n B 0 dX12_ticks_87 rfl ?_
            rcases k with _ | o
            · refine g_top (show Value.int _ = .int (-1) from rfl) ?_
              refine g_if_lt (tgt := 121) B dX12_ticks_88 (by decide) (fun c => ?_) (fun c => absurd (by decide) c)
              refine g_vret B E rfl dX12_ticks_121 ?_
              exact ⟨rfl, rfl, _, _, P12, by rw [htk1, ← q5]; exact q1⟩
            · refine g_top (show Value.int _ = .int (nI o) from rfl) ?_
              refine g_pick [0, 1] (lv' := [(1, .int (nI o)), (0, .ref m)]) rfl ?_
              refine g_if_ltN (tgt := 121) B (by omega) dX12_ticks_88 (by decide) ?_
              refine g_iconst (v := nI 0) B dX12_ticks_91 (by decide) ?_
              refine g_istore_n (lv2 := [(2, _), (1, _), (0, _)]) B dX12_ticks_92 (by decide) rfl ?_
              have hpo := W0.p1 o (by omega)
              have L3 : ∀ (d3 : Nat) (i : Nat) (c3 : aA) (B3 : Nat) (O13 R13 : xO) (sc13 : Nat → Int32) (ar13 : Nat → Nat → Int32), d3 = t.p o - i → PM m ad O R sc13 ar13 T O13 R13 → (i ≤ t.p o) → (RepM c3 sc13 ar13) → (WF B3 c3) → (AInv c3) → (sSt c3 t) → (B3 + 15 * (t.p o - i) + 45 * o ≤ 2 ^ 30) → (aA.works o (t.p o - i) i c3 = aA.works o (t.p o) 0 c) → xV Z (T, O13, R13) 93 [(2, .int (nI i)), (1, .int (nI o)), (0, .ref m)] [] 0 0 := by
                intro d3
                induction d3 using Nat.strongRecOn with
                | _ d3 ih3 =>
                  intro i c3 B3 O13 R13 sc13 ar13 hd3 P13 k0 k1 k2 kA k3 k4 k5
                  have k1c := k1
                  obtain ⟨Htxt, Hop, Hinp, Hnm, Hstt, ⟨Hs0, Hs1, Hs2⟩, ⟨Hc0, Hc1, Hc2⟩, Hls, Hsp, Hpt, Hhd, Hch, Hex, Hwr⟩ := k1c.views k3
                  refine g_iload_n B 0 dX12_ticks_93 rfl ?_
                  refine g_aload_n B 2 dX12_ticks_94 rfl ?_
                  refine m_geta B P13 F_X12_22_12 (by decide) (Or.inl rfl) dX12_ticks_95 ?_
                  refine g_iload_n B 1 dX12_ticks_98 rfl ?_
                  refine m_ld B P13 (by decide) rfl rfl (by show _ < 6; omega) (by decide) (show _ = (nI (t.p o)) from (Hop.2 o (by omega)).2.2.2) dX12_ticks_99 ?_
                  refine g_icmp_geN (tgt := 115) B (by omega) (by omega) dX12_ticks_100 (by decide) (fun c401 => ?_) (fun c401 => ?_)
                  · have hi0 : t.p o - i = 0 := by omega
                    rw [hi0] at k5
                    have k6 : c3 = aA.works o (t.p o) 0 c := k5
                    refine g_iinc (v := mK o) (lv2 := [(1, _), (2, _), (0, _)]) B 1 dX12_ticks_115 rfl (mK_prd o) (by decide) rfl ?_
                    refine g_goto (tgt := 87) B dX12_ticks_118 (by decide) ?_
                    refine g_pick [0, 2] rfl ?_
                    exact ih2 o (by omega) o c3 B3 _ _ _ _ rfl P13 (by omega) k1 k2 kA k3 (by omega) (by rw [← q5, aA.allWork_s, q3.p, ← k6])
                  · refine g_aload_n B 2 dX12_ticks_103 rfl ?_
                    refine g_iload_n B 1 dX12_ticks_104 rfl ?_
                    refine g_iload_n B 0 dX12_ticks_105 rfl ?_
                    refine g_callV (rest := []) B M_X12_works q2736 q2738 qs69 (P13.1.choose_spec.choose_spec) rfl (c_M_works (o := o) (i := i) P13.self k1 k2 kA (by omega) (by rw [k3.2.2.2.2.2.1, hb0]; decide) (by rw [k3.tk, ht1]; omega) (by rw [k3.tk, ht1]; omega) (show o < c3.n by rw [k3.n]; omega) (show i < c3.p o by rw [k3.p]; omega)) rfl rfl (Nat.le_of_ble_eq_true rfl) (Nat.le_of_ble_eq_true rfl) (Nat.le_of_ble_eq_true rfl) (Nat.le_refl _) (Nat.le_refl _) dX12_ticks_106 (xkN (fun T402 O402 R402 le402 p402 => ?_))
                    obtain ⟨eT402, sc402, ar402, Q402, hr402⟩ := p402
                    obtain rfl := eT402.symm
                    have P402 := P13.rebase Q402
                    refine g_iinc (v := nI (i + 1)) (lv2 := [(2, _), (1, _), (0, _)]) B 0 dX12_ticks_109 rfl (nI_1 _) (by decide) rfl ?_
                    refine g_goto (tgt := 93) B dX12_ticks_112 (by decide) ?_
                    obtain ⟨wk1, wk2⟩ := k2.work (o := o) (i := i) (c3.cf 3) (by rw [k3.2.2.2.2.2.1, hb0]; decide) (by rw [k3.tk, ht1]; omega) (show o < c3.n by rw [k3.n]; omega) (show i < c3.p o by rw [k3.p]; omega)
                    have wkA := kA.work (o := o) (i := i) (c3.cf 3) k2 (by rw [k3.2.2.2.2.2.1, hb0]; decide) (by rw [k3.tk, ht1]; omega) (show o < c3.n by rw [k3.n]; omega) (show i < c3.p o by rw [k3.p]; omega)
                    have hcf := k2.cf.2.2.2.2
                    have K5 : aA.works o (t.p o - (i + 1)) (i + 1) (aA.work o i (c3.cf 3) c3) = aA.works o (t.p o) 0 c := by rw [← k5, show t.p o - i = (t.p o - (i + 1)) + 1 by omega]; rfl
                    exact ih3 (t.p o - (i + 1)) (by omega) (i + 1) (aA.work o i (c3.cf 3) c3) (B3 + 15) _ _ _ _ rfl P402 (by omega) hr402 (wk1.mono (by omega)) wkA (wk2.tr k3) (by omega) K5
              exact L3 _ 0 c Bc _ _ _ _ rfl P12 (Nat.zero_le _) q1 q2 qA q3 (by omega) rfl
        exact L2 _ t.n t (Bd + 1) _ _ _ _ rfl P1 (Nat.le_refl _) i1 W0 A0 sSt.rf (by omega) rfl
      · have hC : mCh (a.ch (x / 9) (x / 3 % 3) (x % 3)) x ar1 := by have := i1.cf8.2.2.flat (x := x) (by omega); rw [gch_at (by omega)] at this; exact this
        have hcl := W.ch (x / 9) (x / 3 % 3) (x % 3)
        have hc1 := hcl.1
        have hc2 := hcl.2.1
        have hc22 := hcl.2.2.1
        have hc3 := W.cf.1.2
        have hc4 := W.cf.2.2.1.2
        have hc5 := W.cf.2.1.2
        refine g_aload_n B 1 dX12_ticks_23 rfl ?_
        refine m_geta B P1 F_X12_114_12 (by decide) (Or.inl rfl) dX12_ticks_24 ?_
        refine g_iload_n B 0 dX12_ticks_27 rfl ?_
        refine m_ld B P1 (by decide) rfl rfl (by show _ < 54; omega) (by decide) (show _ = (nI ((a.ch (x / 9) (x / 3 % 3) (x % 3)).2.1.length)) from hC.1) dX12_ticks_28 ?_
        refine g_if_neN (tgt := 35) B (by omega) dX12_ticks_29 (by decide) (fun c63 => ?_) (fun c63 => ?_)
        · refine g_aload_n B 1 dX12_ticks_35 rfl ?_
          refine m_geta B P1 F_X12_117_12 (by decide) (Or.inl rfl) dX12_ticks_36 ?_
          refine g_iload_n B 0 dX12_ticks_39 rfl ?_
          refine g_dup2 B dX12_ticks_40 rfl rfl ?_
          refine m_ld B P1 (by decide) rfl rfl (by show _ < 54; omega) (by decide) (show _ = (nI ((a.ch (x / 9) (x / 3 % 3) (x % 3)).2.2)) from hC.2.1) dX12_ticks_41 ?_
          refine g_iconst (v := nI 1) B dX12_ticks_42 (by decide) ?_
          refine g_iaddN B dX12_ticks_43 ?_
          refine m_st B P1 (by decide) rfl rfl (by show _ < 54; omega) (by decide) dX12_ticks_44 (fun R64 ar64 hs64 hk64 P64 => ?_)
          refine g_aload_n B 1 dX12_ticks_45 rfl ?_
          refine m_geta B P64 F_X12_117_12 (by decide) (Or.inl rfl) dX12_ticks_46 ?_
          refine g_iload_n B 0 dX12_ticks_49 rfl ?_
          refine m_ld B P64 (by decide) rfl rfl (by show _ < 54; omega) (by decide) (show _ = (nI ((a.ch (x / 9) (x / 3 % 3) (x % 3)).2.2 + 1)) from ((congrFun hs64 _).trans va_ups)) dX12_ticks_50 ?_
          refine g_aload_n B 1 dX12_ticks_51 rfl ?_
          refine m_get B P64 F_X12_29_12 (by decide) (Or.inl rfl) (show _ = (nI (a.cf 1)) from (by rw [← h0c]; exact i1.cf8.1)) dX12_ticks_52 ?_
          refine g_icmp_ltN (tgt := 76) B (by omega) (by omega) dX12_ticks_55 (by decide) (fun c65 => ?_) (fun c65 => ?_)
          · refine g_iinc (v := nI (x + 1)) (lv2 := [(1, _), (0, _)]) B 0 dX12_ticks_76 rfl (nI_1 _) (by decide) rfl ?_
            refine g_goto (tgt := 17) B dX12_ticks_79 (by decide) ?_
            have e47 : ar64 47 = va_up (ar1 47) x (nI ((a.ch (x / 9) (x / 3 % 3) (x % 3)).2.2 + 1)) := hs64
            have hg : cGrow (a.cf 1) (a.cf 2) (a.ch (x / 9) (x / 3 % 3) (x % 3)) = ((a.ch (x / 9) (x / 3 % 3) (x % 3)).1, (a.ch (x / 9) (x / 3 % 3) (x % 3)).2.1, (a.ch (x / 9) (x / 3 % 3) (x % 3)).2.2 + 1) := by unfold cGrow; rw [if_neg (by omega), if_neg (by omega)]
            exact ih (54 - (x + 1)) (by omega) (x + 1) _ _ _ _ rfl (by omega) P64 (i1.gstep W (by omega) (mFr.aged e47 hk64) (by rw [hg]; exact mCh.aged hC e47 hk64))
          · refine g_aload_n B 1 dX12_ticks_58 rfl ?_
            refine m_geta B P64 F_X12_129_12 (by decide) (Or.inl rfl) dX12_ticks_59 ?_
            refine g_iload_n B 0 dX12_ticks_62 rfl ?_
            refine m_ld B P64 (by decide) rfl rfl (by show _ < 54; omega) (by decide) (show _ = (nI ((a.ch (x / 9) (x / 3 % 3) (x % 3)).1.length)) from ((congrFun (hk64 51 (by decide)) _).trans hC.2.2.2.1)) dX12_ticks_63 ?_
            refine g_aload_n B 1 dX12_ticks_64 rfl ?_
            refine m_get B P64 F_X12_32_12 (by decide) (Or.inl rfl) (show _ = (nI (a.cf 2)) from (by rw [← h0c]; exact i1.cf8.2.1)) dX12_ticks_65 ?_
            refine g_icmp_geN (tgt := 76) B (by omega) (by omega) dX12_ticks_68 (by decide) (fun c66 => ?_) (fun c66 => ?_)
            · refine g_iinc (v := nI (x + 1)) (lv2 := [(1, _), (0, _)]) B 0 dX12_ticks_76 rfl (nI_1 _) (by decide) rfl ?_
              refine g_goto (tgt := 17) B dX12_ticks_79 (by decide) ?_
              have e47 : ar64 47 = va_up (ar1 47) x (nI ((a.ch (x / 9) (x / 3 % 3) (x % 3)).2.2 + 1)) := hs64
              have hg : cGrow (a.cf 1) (a.cf 2) (a.ch (x / 9) (x / 3 % 3) (x % 3)) = ((a.ch (x / 9) (x / 3 % 3) (x % 3)).1, (a.ch (x / 9) (x / 3 % 3) (x % 3)).2.1, (a.ch (x / 9) (x / 3 % 3) (x % 3)).2.2 + 1) := by unfold cGrow; rw [if_neg (by omega), if_neg (by omega)]
              exact ih (54 - (x + 1)) (by omega) (x + 1) _ _ _ _ rfl (by omega) P64 (i1.gstep W (by omega) (mFr.aged e47 hk64) (by rw [hg]; exact mCh.aged hC e47 hk64))
            · refine g_aload_n B 1 dX12_ticks_71 rfl ?_
              refine g_iload_n B 0 dX12_ticks_72 rfl ?_
              have e47 : ar64 47 = va_up (ar1 47) x (nI ((a.ch (x / 9) (x / 3 % 3) (x % 3)).2.2 + 1)) := hs64
              refine g_callV (rest := []) B M_X12_closes q2728 q2730 qs67 (P64.1.choose_spec.choose_spec) rfl (c_M_closes (ch := ((a.ch (x / 9) (x / 3 % 3) (x % 3)).1, (a.ch (x / 9) (x / 3 % 3) (x % 3)).2.1, (a.ch (x / 9) (x / 3 % 3) (x % 3)).2.2 + 1)) P64.self (by omega) (mCh.aged hC e47 hk64) (show (a.ch (x / 9) (x / 3 % 3) (x % 3)).1.length < 4 by omega) (show (a.ch (x / 9) (x / 3 % 3) (x % 3)).2.1.length ≤ 4 by omega)) rfl rfl (Nat.le_of_ble_eq_true rfl) (Nat.le_of_ble_eq_true rfl) (Nat.le_of_ble_eq_true rfl) (Nat.le_refl _) (Nat.le_refl _) dX12_ticks_73 (xkN (fun T67 O67 R67 le67 p67 => ?_))
              obtain ⟨eT67, sc67, ar67, Q67, hs67, hf67, hr67⟩ := p67
              obtain rfl := eT67.symm
              have P67 := P64.rebase Q67
              refine g_iinc (v := nI (x + 1)) (lv2 := [(1, _), (0, _)]) B 0 dX12_ticks_76 rfl (nI_1 _) (by decide) rfl ?_
              refine g_goto (tgt := 17) B dX12_ticks_79 (by decide) ?_
              have hg : cGrow (a.cf 1) (a.cf 2) (a.ch (x / 9) (x / 3 % 3) (x % 3)) = cClose (a.ch (x / 9) (x / 3 % 3) (x % 3)) := by unfold cGrow; rw [if_neg (by omega), if_pos ⟨by omega, by omega⟩]
              have i2 : RepM (a0.w_ch (gch a (x + 1))) sc1 ar67 := i1.gstep W (by omega) ((mFr.aged e47 hk64).tr hf67) (by rw [hg]; exact hr67)
              rw [← hs67] at i2
              exact ih (54 - (x + 1)) (by omega) (x + 1) _ _ _ _ rfl (by omega) P67 i2
        · refine g_goto (tgt := 76) B dX12_ticks_32 (by decide) ?_
          refine g_iinc (v := nI (x + 1)) (lv2 := [(1, _), (0, _)]) B 0 dX12_ticks_76 rfl (nI_1 _) (by decide) rfl ?_
          refine g_goto (tgt := 17) B dX12_ticks_79 (by decide) ?_
          exact ih (54 - (x + 1)) (by omega) (x + 1) _ _ _ _ rfl (by omega) P1 (by rw [gch_same (by omega) (by omega)]; exact i1)
  exact L _ 0 _ _ _ _ rfl (Nat.zero_le _) P2 (by rw [gch_0, ← h0h, aA.w_ch_self]; exact H0)
/-- between 1 and k -/
theorem inB1_nI {x : Int32} {k : Nat} (hk : k < 2 ^ 31) (h : inB x (nI 1) (nI k) = true) : ∃ j : Nat, 1 ≤ j ∧ j ≤ k ∧ x = nI j := by
  have h0 : inB x (nI 0) (nI k) = true := by
    simp only [inB, Bool.and_eq_true, decide_eq_true_eq] at h ⊢
    exact ⟨Int32.le_trans ((nI_leI (by decide) (by decide)).mpr (by decide)) h.1, h.2⟩
  obtain ⟨j, hj, rfl⟩ := inB_nI hk h0
  simp only [inB, Bool.and_eq_true, decide_eq_true_eq] at h
  exact ⟨j, (nI_leI (by decide) (by omega)).mp h.1, hj, rfl⟩
/-- what tick answers and leaves -/
def aA.tickF (a : aA) (l : Int32) : Int32 × aA := if inB l (nI 1) (nI 200) = true then (nI (aA.ticks l.toNatClampNeg a).1, (aA.ticks l.toNatClampNeg a).2) else (-1000000002, a)
theorem aA.ticks_s (k : Nat) (a : aA) : aA.ticks (k + 1) a = if a.quiet = true then (0, a) else ((aA.ticks k a.tick1).1 + 1, (aA.ticks k a.tick1).2) := rfl
theorem c_M_tick {G : xG} {T : xT} {O R : xO} {m : Nat} {ad : Nat → Nat} {sc : Nat → Int32} {ar : Nat → Nat → Int32} {Bd : Nat} {l : Int32} (P : PM m ad O R sc ar T O R) {a : aA} (H : RepM a sc ar) (W : WF Bd a) (hA : AInv a) (hB : Bd + 60300 ≤ 2 ^ 30) (ht2 : a.tk + 200 ≤ 40000) : xCtr G yX12_tick cX12_tick 3 (some Jvm.ClassFile.FieldType.int) 6 150 0 0 [.ref m, .int l] (T, O, R) (xA (mPost m ad T O R (fun v sc2 ar2 => v = .int (a.tickF l).1 ∧ RepM (a.tickF l).2 sc2 ar2))) := by
  have hR := H
  obtain ⟨Htxt, Hop, Hinp, Hnm, Hstt, ⟨Hs0, Hs1, Hs2⟩, ⟨Hc0, Hc1, Hc2⟩, Hls, Hsp, Hpt, Hhd, Hch, Hex, Hwr⟩ := H
  refine xCtr.of (by decide +kernel) (Nat.le_of_ble_eq_true rfl) ?_
  intro Z B E hz hnm
  change xV Z (T, O, R) 0 [(0, .ref m), (1, .int l)] [] 0 0
  refine g_iload_n B 1 dX12_tick_0 rfl ?_
  refine g_iconst (v := nI 1) B dX12_tick_1 (by decide) ?_
  refine g_sipush (v := nI 200) B dX12_tick_2 (by decide) ?_
  refine g_callS (rest := []) B M_X12_isIn q2663 q2664 (c_M_isIn (x := l) (lo := (nI 1)) (hi := (nI 200))) rfl rfl (Nat.le_of_ble_eq_true rfl) (Nat.le_of_ble_eq_true rfl) (Nat.le_of_ble_eq_true rfl) (Nat.le_refl _) (Nat.le_refl _) dX12_tick_5 (xkA (fun v1 T1 O1 R1 le1 p1 => ?_))
  obtain ⟨rfl, eT1, eO1, eR1⟩ := p1
  obtain rfl := eT1.symm
  obtain rfl := eO1.symm
  obtain rfl := eR1.symm
  refine g_if_neB (tgt := 14) B dX12_tick_8 (by decide) (fun c2 => ?_) (fun c2 => ?_)
  · obtain ⟨n, hn1, hn2, rfl⟩ := inB1_nI (by decide) c2
    have hcl : (nI n).toNatClampNeg = n := nI_clamp (by omega)
    have hF : a.tickF (nI n) = (nI (aA.ticks n a).1, (aA.ticks n a).2) := by rw [aA.tickF, if_pos c2, hcl]
    clear c2
    refine g_iconst (v := nI 0) B dX12_tick_14 (by decide) ?_
    refine g_istore_n (lv2 := [(2, _), (0, _), (1, _)]) B dX12_tick_15 (by decide) rfl ?_
    have L : ∀ (d : Nat) (x : Nat) (c : aA) (Bc : Nat) (O1 R1 : xO) (sc1 : Nat → Int32) (ar1 : Nat → Nat → Int32), d = n - x → PM m ad O R sc1 ar1 T O1 R1 → (x ≤ n) → (RepM c sc1 ar1) → (WF Bc c) → (AInv c) → (Bc + 300 * (n - x) ≤ 2 ^ 30) → (c.tk + (n - x) ≤ 40000) → ((aA.ticks n a).1 = x + (aA.ticks (n - x) c).1 ∧ (aA.ticks n a).2 = (aA.ticks (n - x) c).2) → xV Z (T, O1, R1) 16 [(2, .int (nI x)), (0, .ref m), (1, .int (nI n))] [] 0 0 := by
      intro d
      induction d using Nat.strongRecOn with
      | _ d ih =>
        intro x c Bc O1 R1 sc1 ar1 hd P1 i0 i1 i2 iA i3 i4 i6
        refine g_iload_n B 0 dX12_tick_16 rfl ?_
        refine g_iload_n B 2 dX12_tick_17 rfl ?_
        refine g_icmp_geN (tgt := 38) B (by omega) (by omega) dX12_tick_18 (by decide) (fun c61 => ?_) (fun c61 => ?_)
        · refine g_iload_n B 0 dX12_tick_38 rfl ?_
          refine g_iret B E rfl rfl dX12_tick_39 ?_
          have hE : aA.ticks (n - x) c = (0, c) := by rw [show n - x = 0 by omega]; rfl
          rw [hE] at i6
          have i6a : (aA.ticks n a).1 = x + 0 := i6.1
          have i6b : (aA.ticks n a).2 = c := i6.2
          exact ⟨_, rfl, rfl, _, _, P1, by rw [hF, i6a]; rfl, by rw [hF, i6b]; exact i1⟩
        · refine g_aload_n B 1 dX12_tick_21 rfl ?_
          refine g_callV (rest := []) B M_X12_quiet q2720 q2722 qs65 (P1.1.choose_spec.choose_spec) rfl (c_M_quiet P1.self i1 i2 (by omega)) rfl rfl (Nat.le_of_ble_eq_true rfl) (Nat.le_of_ble_eq_true rfl) (Nat.le_of_ble_eq_true rfl) (Nat.le_refl _) (Nat.le_refl _) dX12_tick_22 (xkA (fun v62 T62 O62 R62 le62 p62 => ?_))
          obtain ⟨rfl, eT62, eO62, eR62⟩ := p62
          obtain rfl := eT62.symm
          obtain rfl := eO62.symm
          obtain rfl := eR62.symm
          refine g_if_neB (tgt := 38) B dX12_tick_25 (by decide) (fun c63 => ?_) (fun c63 => ?_)
          · refine g_iload_n B 0 dX12_tick_38 rfl ?_
            refine g_iret B E rfl rfl dX12_tick_39 ?_
            have hE : aA.ticks (n - x) c = (0, c) := by rw [show n - x = (n - (x + 1)) + 1 by omega, aA.ticks_s, if_pos c63]
            rw [hE] at i6
            have i6a : (aA.ticks n a).1 = x + 0 := i6.1
            have i6b : (aA.ticks n a).2 = c := i6.2
            exact ⟨_, rfl, rfl, _, _, P1, by rw [hF, i6a]; rfl, by rw [hF, i6b]; exact i1⟩
          · refine g_aload_n B 1 dX12_tick_28 rfl ?_
            refine g_callV (rest := []) B M_X12_ticks q2724 q2726 qs66 (P1.1.choose_spec.choose_spec) rfl (c_M_ticks P1.self i1 i2 iA (by omega) (by omega)) rfl rfl (Nat.le_of_ble_eq_true rfl) (Nat.le_of_ble_eq_true rfl) (Nat.le_of_ble_eq_true rfl) (Nat.le_refl _) (Nat.le_refl _) dX12_tick_29 (xkN (fun T64 O64 R64 le64 p64 => ?_))
            obtain ⟨eT64, sc64, ar64, Q64, hr64⟩ := p64
            obtain rfl := eT64.symm
            have P64 := P1.rebase Q64
            refine g_iinc (v := nI (x + 1)) (lv2 := [(2, _), (0, _), (1, _)]) B 0 dX12_tick_32 rfl (nI_1 _) (by decide) rfl ?_
            refine g_goto (tgt := 16) B dX12_tick_35 (by decide) ?_
            have htk := aA.tick1_tk i2
            have hst : aA.ticks (n - x) c = ((aA.ticks (n - (x + 1)) c.tick1).1 + 1, (aA.ticks (n - (x + 1)) c.tick1).2) := by rw [show n - x = (n - (x + 1)) + 1 by omega, aA.ticks_s, if_neg (by rw [c63]; decide)]
            rw [hst] at i6
            have i6a : (aA.ticks n a).1 = x + ((aA.ticks (n - (x + 1)) c.tick1).1 + 1) := i6.1
            exact ih (n - (x + 1)) (by omega) (x + 1) c.tick1 (Bc + 300) _ _ _ _ rfl P64 (by omega) hr64 i2.tick1 (iA.tick1 i2) (by omega) (by omega) ⟨by omega, i6.2⟩
    exact L _ 0 a Bd _ _ _ _ rfl P (Nat.zero_le _) hR W hA (by omega) (by omega) ⟨(Nat.zero_add _).symm, rfl⟩
  · refine g_ldc (v := (-1000000002)) B q2666 dX12_tick_11 ?_
    refine g_iret B E rfl rfl dX12_tick_13 ?_
    have hF : a.tickF l = (-1000000002, a) := by rw [aA.tickF, if_neg (by rw [c2]; decide)]
    exact ⟨_, rfl, rfl, _, _, P, by rw [hF], by rw [hF]; exact hR⟩
