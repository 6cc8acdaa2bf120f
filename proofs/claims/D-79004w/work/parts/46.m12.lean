set_option maxRecDepth 100000
theorem WF.flush_sink {B : Nat} {a : aA} (h : WF B a) {o i : Nat} (hn : ¬ o + 1 < a.n) : a.flush o i = (true, a) := by
  have hl := h.lsu o i (fun c => hn c.1)
  have hh := h.hdu o i (fun c => hn c.1)
  exact aA.flush_1 (by rw [hl]; rfl) hh
theorem nI_prd {b : Nat} (h : b ≠ 0) : nI b + (-1) = nI (b - 1) := by
  obtain ⟨c, rfl⟩ := Nat.exists_eq_succ_of_ne_zero h
  rw [show Nat.succ c - 1 = c from rfl, show Nat.succ c = c + 1 from rfl, ← nI_1 c]
  generalize nI c = x
  show x + 1 + -1 = x
  grind
theorem c_M_works {G : xG} {T : xT} {O R : xO} {m : Nat} {ad : Nat → Nat} {sc : Nat → Int32} {ar : Nat → Nat → Int32} {Bd : Nat} {o i : Nat} (P : PM m ad O R sc ar T O R) {a : aA} (H : RepM a sc ar) (W : WF Bd a) (hA : AInv a) (hB : Bd + 15 ≤ 2 ^ 30) (hbg : a.nm 4 ≠ 0) (ht : 0 < a.tk) (ht2 : a.tk ≤ 40000) (ho : o < a.n) (hi : i < a.p o) : xCtr G yX12_works cX12_works 5 none 4 104 0 0 [.ref m, .int (nI o), .int (nI i)] (T, O, R) (xN (mPostN m ad T O R (fun sc2 ar2 => RepM (aA.work o i (a.cf 3) a) sc2 ar2))) := by
  have hR := H
  obtain ⟨Htxt, Hop, Hinp, Hnm, Hstt, ⟨Hs0, Hs1, Hs2⟩, ⟨Hc0, Hc1, Hc2⟩, Hls, Hsp, Hpt, Hhd, Hch, Hex, Hwr⟩ := H
  have hn2 := W.n2
  have hn6 := W.n6
  have hp3 := (W.p1 o ho).2
  have hi3 : i < 3 := by omega
  have hr4 := W.cf.2.2.2.2
  refine xCtr.of (by decide +kernel) (Nat.le_of_ble_eq_true rfl) ?_
  intro Z B E hz hnm
  change xV Z (T, O, R) 0 [(0, .ref m), (1, .int (nI o)), (2, .int (nI i))] [] 0 0
  refine g_aload_n B 0 dX12_works_0 rfl ?_
  refine m_get B P F_X12_35_12 (by decide) (Or.inl rfl) (show _ = (nI (a.cf 3)) from Hnm.1.2.2.2) dX12_works_1 ?_
  refine g_istore_n (lv2 := [(3, _), (0, _), (1, _), (2, _)]) B dX12_works_4 (by decide) rfl ?_
  refine g_iconst (v := nI 1) B dX12_works_5 (by decide) ?_
  refine g_istore (lv2 := [(4, _), (3, _), (0, _), (1, _), (2, _)]) B dX12_works_6 (by decide) rfl ?_
  have L : ∀ (d : Nat) (b : Nat) (c : aA) (Bc : Nat) (O1 R1 : xO) (sc1 : Nat → Int32) (ar1 : Nat → Nat → Int32), d = b → PM m ad O R sc1 ar1 T O1 R1 → (RepM c sc1 ar1) → (WF Bc c) → (AInv c) → (sSt c a) → (Bc + 3 * b ≤ 2 ^ 30 ∧ b ≤ 5) → (aA.work o i b c = aA.work o i (a.cf 3) a) → xV Z (T, O1, R1) 8 [(3, .int (nI b)), (4, .int (nI 1)), (0, .ref m), (1, .int (nI o)), (2, .int (nI i))] [] 0 0 := by
    intro d
    induction d using Nat.strongRecOn with
    | _ d ih =>
      intro b c Bc O1 R1 sc1 ar1 hd P1 i1 i2 AI i3 i4 i5
      have i1c := i1
      have nb := i3.n
      have pb1 := i3.p o
      obtain ⟨Htxt, Hop, Hinp, Hnm, Hstt, ⟨Hs0, Hs1, Hs2⟩, ⟨Hc0, Hc1, Hc2⟩, Hls, Hsp, Hpt, Hhd, Hch, Hex, Hwr⟩ := i1c.views i3
      refine g_iload B 1 dX12_works_8 rfl ?_
      refine g_if_eqN (tgt := 93) B (by decide) dX12_works_10 (by decide) (fun e => absurd e (by decide)) (fun _ => ?_)
      refine g_iload_n B 3 dX12_works_13 rfl ?_
      refine g_aload_n B 2 dX12_works_14 rfl ?_
      refine g_callV (rest := [_]) B M_X12_sink q2732 q2734 qs68 (P1.1.choose_spec.choose_spec) rfl (c_M_sink P1.self Hop.1) rfl rfl (Nat.le_of_ble_eq_true rfl) (Nat.le_of_ble_eq_true rfl) (Nat.le_of_ble_eq_true rfl) (Nat.le_refl _) (Nat.le_refl _) dX12_works_15 (xkA (fun v61 T61 O61 R61 le61 p61 => ?_))
      obtain ⟨rfl, eT61, eO61, eR61⟩ := p61
      obtain rfl := eT61.symm
      obtain rfl := eO61.symm
      obtain rfl := eR61.symm
      refine g_icmp_eqN (tgt := 30) B (by omega) (by omega) dX12_works_18 (by decide) (fun c62 => ?_) (fun c62 => ?_)
      · have HS : RepM (c.flush o i).2 sc1 ar1 := by rw [i2.flush_sink (by omega)]; exact i1
        have F1 : (c.flush o i).1 = true := by rw [i2.flush_sink (by omega)]
        obtain ⟨W2, S2, hls2⟩ := i2.flush (o := o) (i := i) (by rw [i3.2.2.2.2.2.1]; exact hbg) (show o < c.n by omega) (by omega)
        have A2 := AI.flush (o := o) (i := i) i2 (by rw [i3.2.2.2.2.2.1]; exact hbg) (show o < c.n by omega) (by omega)
        generalize hc2 : (c.flush o i).2 = c2 at HS W2 S2 hls2 A2
        have S3 := S2.tr i3
        have HSc := HS
        obtain ⟨Htxt, Hop, Hinp, Hnm, Hstt, ⟨Hs0, Hs1, Hs2⟩, ⟨Hc0, Hc1, Hc2⟩, Hls, Hsp, Hpt, Hhd, Hch, Hex, Hwr⟩ := HSc.views S3
        refine g_iconst (v := nI 1) B dX12_works_30 (by decide) ?_
        refine g_goto (tgt := 35) B dX12_works_31 (by decide) ?_
        refine g_istore (lv2 := [(4, _), (3, _), (0, _), (1, _), (2, _)]) B dX12_works_35 (by decide) rfl ?_
        refine g_iload B 0 dX12_works_37 rfl ?_
        refine g_if_neN (tgt := 55) B (by decide) dX12_works_39 (by decide) (fun _ => ?_) (fun e => absurd e (by decide))
        refine g_iload_n B 1 dX12_works_55 rfl ?_
        refine g_if_neN (tgt := 65) B (by omega) dX12_works_56 (by decide) (fun c63 => ?_) (fun c63 => ?_)
        · refine g_aload_n B 2 dX12_works_65 rfl ?_
          refine g_iload_n B 3 dX12_works_66 rfl ?_
          refine g_iload_n B 4 dX12_works_67 rfl ?_
          have hls3 := hls2 F1
          obtain ⟨b2, hb2⟩ := Nat.exists_eq_succ_of_ne_zero (show b ≠ 0 by omega)
          have A4 := A2.take (o := o) (i := i) W2 (by rw [S3.2.2.2.2.2.1]; exact hbg) (show o < c2.n by rw [S3.n]; exact ho) (show i < c2.p o by rw [S3.p]; exact hi)
          obtain ⟨W4, S4⟩ := W2.take (o := o) (i := i) (by rw [S3.2.2.2.2.2.1]; exact hbg) (by rw [S3.tk]; exact ht) (show o < c2.n by rw [S3.n]; exact ho) (show i < c2.p o by rw [S3.p]; exact hi) hls3
          refine g_callV (rest := []) B M_X12_takes q2782 q2784 qs79 (P1.1.choose_spec.choose_spec) rfl (c_M_takes (o := o) (i := i) P1.self HS W2 A2 (by omega) (by rw [S3.2.2.2.2.2.1]; exact hbg) (by rw [S3.tk]; exact ht) (by rw [S3.tk]; exact ht2) (show o < c2.n by rw [S3.n]; exact ho) (show i < c2.p o by rw [S3.p]; exact hi) hls3) rfl rfl (Nat.le_of_ble_eq_true rfl) (Nat.le_of_ble_eq_true rfl) (Nat.le_of_ble_eq_true rfl) (Nat.le_refl _) (Nat.le_refl _) dX12_works_68 (xkA (fun v64 T64 O64 R64 le64 p64 => ?_))
          obtain ⟨eT64, sc64, ar64, Q64, rfl, hr64⟩ := p64
          obtain rfl := eT64.symm
          have P64 := P1.rebase Q64
          have HT := hr64
          refine g_if_neB (tgt := 87) B dX12_works_71 (by decide) (fun c65 => ?_) (fun c65 => ?_)
          · refine g_iinc (v := nI (b - 1)) (lv2 := [(3, _), (4, _), (0, _), (1, _), (2, _)]) B 1 dX12_works_87 rfl (nI_prd (by omega)) (by decide) rfl ?_
            refine g_goto (tgt := 8) B dX12_works_90 (by decide) ?_
            have hwk : aA.work o i (b - 1) (c2.take o i).2 = aA.work o i (a.cf 3) a := by rw [← i5, aA.work_eq (b := b), if_neg (by rw [F1]; decide), hb2, hc2]; dsimp only; rw [if_neg (by rw [c65]; decide)]; rfl
            exact ih (b - 1) (by omega) (b - 1) (c2.take o i).2 (Bc + 3) _ _ _ _ rfl P64 HT W4 A4 (S4.tr S3) (by omega) hwk
          · have S5 := S4.tr S3
            have HTc := HT
            obtain ⟨Htxt, Hop, Hinp, Hnm, Hstt, ⟨Hs0, Hs1, Hs2⟩, ⟨Hc0, Hc1, Hc2⟩, Hls, Hsp, Hpt, Hhd, Hch, Hex, Hwr⟩ := HTc.views S5
            refine g_aload_n B 2 dX12_works_74 rfl ?_
            refine m_geta B P64 F_X12_53_12 (by decide) (Or.inl rfl) dX12_works_75 ?_
            refine g_iload_n B 3 dX12_works_78 rfl ?_
            refine g_dup2 B dX12_works_79 rfl rfl ?_
            refine m_ld B P64 (by decide) rfl rfl (by show _ < 6; omega) (by decide) (show _ = (((c2.take o i).2).stt 3 o) from (Hstt 3 (by decide) o (by omega))) dX12_works_80 ?_
            refine g_iconst (v := nI 1) B dX12_works_81 (by decide) ?_
            refine g_iadd B dX12_works_82 ?_
            refine m_st B P64 (by decide) rfl rfl (by show _ < 6; omega) (by decide) dX12_works_83 (fun R66 ar66 hs66 hk66 P66 => ?_)
            have e23 : ar66 23 = va_up (ar64 23) o ((((c2.take o i).2).stt 3 o) + (nI 1)) := hs66
            have HI : RepM (((c2.take o i).2).inc 3 o) sc64 ar66 := HT.stt (fun k hk _ => hk66 k (by omega)) (RMstt.up Hstt (q := 3) (by decide) (e23.trans (congrArg (fun x => va_up (_) o x) rfl)) (fun k hk => hk66 k hk))
            have HF : RepM (aA.work o i b c) sc64 ar66 := by rw [aA.work_eq, if_neg (by rw [F1]; decide), hb2, hc2]; dsimp only; rw [if_pos c65]; exact HI
            refine g_iconst (v := nI 0) B dX12_works_84 (by decide) ?_
            refine g_istore (lv2 := [(4, _), (3, _), (0, _), (1, _), (2, _)]) B dX12_works_85 (by decide) rfl ?_
            refine g_iinc (lv2 := [(3, _), (4, _), (0, _), (1, _), (2, _)]) B 1 dX12_works_87 rfl rfl (by decide) rfl ?_
            refine g_goto (tgt := 8) B dX12_works_90 (by decide) ?_
            refine g_iload B 1 dX12_works_8 rfl ?_
            refine g_if_eqN (tgt := 93) B (by decide) dX12_works_10 (by decide) (fun _ => ?_) (fun e => absurd rfl e)
            refine g_vret B E rfl dX12_works_93 ?_
            exact ⟨rfl, rfl, _, _, P66, by rw [← i5]; exact HF⟩
        · have hb0 : b = 0 := by omega
          have HF : RepM (aA.work o i b c) sc1 ar1 := by rw [aA.work_eq, if_neg (by rw [F1]; decide), hb0, hc2]; exact HS
          refine g_iconst (v := nI 0) B dX12_works_59 (by decide) ?_
          refine g_istore (lv2 := [(4, _), (3, _), (0, _), (1, _), (2, _)]) B dX12_works_60 (by decide) rfl ?_
          refine g_goto (tgt := 87) B dX12_works_62 (by decide) ?_
          refine g_iinc (lv2 := [(3, _), (4, _), (0, _), (1, _), (2, _)]) B 1 dX12_works_87 rfl rfl (by decide) rfl ?_
          refine g_goto (tgt := 8) B dX12_works_90 (by decide) ?_
          refine g_iload B 1 dX12_works_8 rfl ?_
          refine g_if_eqN (tgt := 93) B (by decide) dX12_works_10 (by decide) (fun _ => ?_) (fun e => absurd rfl e)
          refine g_vret B E rfl dX12_works_93 ?_
          exact ⟨rfl, rfl, _, _, P1, by rw [← i5]; exact HF⟩
      · refine g_aload_n B 2 dX12_works_21 rfl ?_
        refine g_iload_n B 3 dX12_works_22 rfl ?_
        refine g_iload_n B 4 dX12_works_23 rfl ?_
        refine g_callV (rest := []) B M_X12_sends q2740 q2742 qs70 (P1.1.choose_spec.choose_spec) rfl (c_M_sends (o := o) (i := i) P1.self i1 i2 (by omega) (by rw [i3.2.2.2.2.2.1]; exact hbg) (show o + 1 < c.n by omega) (by omega)) rfl rfl (Nat.le_of_ble_eq_true rfl) (Nat.le_of_ble_eq_true rfl) (Nat.le_of_ble_eq_true rfl) (Nat.le_refl _) (Nat.le_refl _) dX12_works_24 (xkA (fun v67 T67 O67 R67 le67 p67 => ?_))
        obtain ⟨eT67, sc67, ar67, Q67, rfl, hr67⟩ := p67
        obtain rfl := eT67.symm
        have P67 := P1.rebase Q67
        have HS := hr67
        refine g_if_eqB (tgt := 34) B dX12_works_27 (by decide) (fun c68 => ?_) (fun c68 => ?_)
        · have F1 : (c.flush o i).1 = false := c68
          obtain ⟨W2, S2, hls2⟩ := i2.flush (o := o) (i := i) (by rw [i3.2.2.2.2.2.1]; exact hbg) (show o < c.n by omega) (by omega)
          have A2 := AI.flush (o := o) (i := i) i2 (by rw [i3.2.2.2.2.2.1]; exact hbg) (show o < c.n by omega) (by omega)
          generalize hc2 : (c.flush o i).2 = c2 at HS W2 S2 hls2 A2
          have S3 := S2.tr i3
          have HSc := HS
          obtain ⟨Htxt, Hop, Hinp, Hnm, Hstt, ⟨Hs0, Hs1, Hs2⟩, ⟨Hc0, Hc1, Hc2⟩, Hls, Hsp, Hpt, Hhd, Hch, Hex, Hwr⟩ := HSc.views S3
          refine g_iconst (v := nI 0) B dX12_works_34 (by decide) ?_
          refine g_istore (lv2 := [(4, _), (3, _), (0, _), (1, _), (2, _)]) B dX12_works_35 (by decide) rfl ?_
          refine g_iload B 0 dX12_works_37 rfl ?_
          refine g_if_neN (tgt := 55) B (by decide) dX12_works_39 (by decide) (fun e => absurd rfl e) (fun _ => ?_)
          refine g_aload_n B 2 dX12_works_42 rfl ?_
          refine m_geta B P67 F_X12_50_12 (by decide) (Or.inl rfl) dX12_works_43 ?_
          refine g_iload_n B 3 dX12_works_46 rfl ?_
          refine g_dup2 B dX12_works_47 rfl rfl ?_
          refine m_ld B P67 (by decide) rfl rfl (by show _ < 6; omega) (by decide) (show _ = (c2.stt 2 o) from (Hstt 2 (by decide) o (by omega))) dX12_works_48 ?_
          refine g_iconst (v := nI 1) B dX12_works_49 (by decide) ?_
          refine g_iadd B dX12_works_50 ?_
          refine m_st B P67 (by decide) rfl rfl (by show _ < 6; omega) (by decide) dX12_works_51 (fun R69 ar69 hs69 hk69 P69 => ?_)
          have e22 : ar69 22 = va_up (ar67 22) o ((c2.stt 2 o) + (nI 1)) := hs69
          have HI : RepM (c2.inc 2 o) sc67 ar69 := HS.stt (fun k hk _ => hk69 k (by omega)) (RMstt.up Hstt (q := 2) (by decide) (e22.trans (congrArg (fun x => va_up (_) o x) rfl)) (fun k hk => hk69 k hk))
          have HF : RepM (aA.work o i b c) sc67 ar69 := by rw [aA.work_eq, if_pos F1, hc2]; exact HI
          refine g_goto (tgt := 87) B dX12_works_52 (by decide) ?_
          refine g_iinc (lv2 := [(3, _), (4, _), (0, _), (1, _), (2, _)]) B 1 dX12_works_87 rfl rfl (by decide) rfl ?_
          refine g_goto (tgt := 8) B dX12_works_90 (by decide) ?_
          refine g_iload B 1 dX12_works_8 rfl ?_
          refine g_if_eqN (tgt := 93) B (by decide) dX12_works_10 (by decide) (fun _ => ?_) (fun e => absurd rfl e)
          refine g_vret B E rfl dX12_works_93 ?_
          exact ⟨rfl, rfl, _, _, P69, by rw [← i5]; exact HF⟩
        · have F1 : (c.flush o i).1 = true := c68
          obtain ⟨W2, S2, hls2⟩ := i2.flush (o := o) (i := i) (by rw [i3.2.2.2.2.2.1]; exact hbg) (show o < c.n by omega) (by omega)
          have A2 := AI.flush (o := o) (i := i) i2 (by rw [i3.2.2.2.2.2.1]; exact hbg) (show o < c.n by omega) (by omega)
          generalize hc2 : (c.flush o i).2 = c2 at HS W2 S2 hls2 A2
          have S3 := S2.tr i3
          have HSc := HS
          obtain ⟨Htxt, Hop, Hinp, Hnm, Hstt, ⟨Hs0, Hs1, Hs2⟩, ⟨Hc0, Hc1, Hc2⟩, Hls, Hsp, Hpt, Hhd, Hch, Hex, Hwr⟩ := HSc.views S3
          refine g_iconst (v := nI 1) B dX12_works_30 (by decide) ?_
          refine g_goto (tgt := 35) B dX12_works_31 (by decide) ?_
          refine g_istore (lv2 := [(4, _), (3, _), (0, _), (1, _), (2, _)]) B dX12_works_35 (by decide) rfl ?_
          refine g_iload B 0 dX12_works_37 rfl ?_
          refine g_if_neN (tgt := 55) B (by decide) dX12_works_39 (by decide) (fun _ => ?_) (fun e => absurd e (by decide))
          refine g_iload_n B 1 dX12_works_55 rfl ?_
          refine g_if_neN (tgt := 65) B (by omega) dX12_works_56 (by decide) (fun c70 => ?_) (fun c70 => ?_)
          · refine g_aload_n B 2 dX12_works_65 rfl ?_
            refine g_iload_n B 3 dX12_works_66 rfl ?_
            refine g_iload_n B 4 dX12_works_67 rfl ?_
            have hls3 := hls2 F1
            obtain ⟨b2, hb2⟩ := Nat.exists_eq_succ_of_ne_zero (show b ≠ 0 by omega)
            have A4 := A2.take (o := o) (i := i) W2 (by rw [S3.2.2.2.2.2.1]; exact hbg) (show o < c2.n by rw [S3.n]; exact ho) (show i < c2.p o by rw [S3.p]; exact hi)
            obtain ⟨W4, S4⟩ := W2.take (o := o) (i := i) (by rw [S3.2.2.2.2.2.1]; exact hbg) (by rw [S3.tk]; exact ht) (show o < c2.n by rw [S3.n]; exact ho) (show i < c2.p o by rw [S3.p]; exact hi) hls3
            refine g_callV (rest := []) B M_X12_takes q2782 q2784 qs79 (P67.1.choose_spec.choose_spec) rfl (c_M_takes (o := o) (i := i) P67.self HS W2 A2 (by omega) (by rw [S3.2.2.2.2.2.1]; exact hbg) (by rw [S3.tk]; exact ht) (by rw [S3.tk]; exact ht2) (show o < c2.n by rw [S3.n]; exact ho) (show i < c2.p o by rw [S3.p]; exact hi) hls3) rfl rfl (Nat.le_of_ble_eq_true rfl) (Nat.le_of_ble_eq_true rfl) (Nat.le_of_ble_eq_true rfl) (Nat.le_refl _) (Nat.le_refl _) dX12_works_68 (xkA (fun v71 T71 O71 R71 le71 p71 => ?_))
            obtain ⟨eT71, sc71, ar71, Q71, rfl, hr71⟩ := p71
            obtain rfl := eT71.symm
            have P71 := P67.rebase Q71
            have HT := hr71
            refine g_if_neB (tgt := 87) B dX12_works_71 (by decide) (fun c72 => ?_) (fun c72 => ?_)
            · refine g_iinc (v := nI (b - 1)) (lv2 := [(3, _), (4, _), (0, _), (1, _), (2, _)]) B 1 dX12_works_87 rfl (nI_prd (by omega)) (by decide) rfl ?_
              refine g_goto (tgt := 8) B dX12_works_90 (by decide) ?_
              have hwk : aA.work o i (b - 1) (c2.take o i).2 = aA.work o i (a.cf 3) a := by rw [← i5, aA.work_eq (b := b), if_neg (by rw [F1]; decide), hb2, hc2]; dsimp only; rw [if_neg (by rw [c72]; decide)]; rfl
              exact ih (b - 1) (by omega) (b - 1) (c2.take o i).2 (Bc + 3) _ _ _ _ rfl P71 HT W4 A4 (S4.tr S3) (by omega) hwk
            · have S5 := S4.tr S3
              have HTc := HT
              obtain ⟨Htxt, Hop, Hinp, Hnm, Hstt, ⟨Hs0, Hs1, Hs2⟩, ⟨Hc0, Hc1, Hc2⟩, Hls, Hsp, Hpt, Hhd, Hch, Hex, Hwr⟩ := HTc.views S5
              refine g_aload_n B 2 dX12_works_74 rfl ?_
              refine m_geta B P71 F_X12_53_12 (by decide) (Or.inl rfl) dX12_works_75 ?_
              refine g_iload_n B 3 dX12_works_78 rfl ?_
              refine g_dup2 B dX12_works_79 rfl rfl ?_
              refine m_ld B P71 (by decide) rfl rfl (by show _ < 6; omega) (by decide) (show _ = (((c2.take o i).2).stt 3 o) from (Hstt 3 (by decide) o (by omega))) dX12_works_80 ?_
              refine g_iconst (v := nI 1) B dX12_works_81 (by decide) ?_
              refine g_iadd B dX12_works_82 ?_
              refine m_st B P71 (by decide) rfl rfl (by show _ < 6; omega) (by decide) dX12_works_83 (fun R73 ar73 hs73 hk73 P73 => ?_)
              have e23 : ar73 23 = va_up (ar71 23) o ((((c2.take o i).2).stt 3 o) + (nI 1)) := hs73
              have HI : RepM (((c2.take o i).2).inc 3 o) sc71 ar73 := HT.stt (fun k hk _ => hk73 k (by omega)) (RMstt.up Hstt (q := 3) (by decide) (e23.trans (congrArg (fun x => va_up (_) o x) rfl)) (fun k hk => hk73 k hk))
              have HF : RepM (aA.work o i b c) sc71 ar73 := by rw [aA.work_eq, if_neg (by rw [F1]; decide), hb2, hc2]; dsimp only; rw [if_pos c72]; exact HI
              refine g_iconst (v := nI 0) B dX12_works_84 (by decide) ?_
              refine g_istore (lv2 := [(4, _), (3, _), (0, _), (1, _), (2, _)]) B dX12_works_85 (by decide) rfl ?_
              refine g_iinc (lv2 := [(3, _), (4, _), (0, _), (1, _), (2, _)]) B 1 dX12_works_87 rfl rfl (by decide) rfl ?_
              refine g_goto (tgt := 8) B dX12_works_90 (by decide) ?_
              refine g_iload B 1 dX12_works_8 rfl ?_
              refine g_if_eqN (tgt := 93) B (by decide) dX12_works_10 (by decide) (fun _ => ?_) (fun e => absurd rfl e)
              refine g_vret B E rfl dX12_works_93 ?_
              exact ⟨rfl, rfl, _, _, P73, by rw [← i5]; exact HF⟩
          · have hb0 : b = 0 := by omega
            have HF : RepM (aA.work o i b c) sc67 ar67 := by rw [aA.work_eq, if_neg (by rw [F1]; decide), hb0, hc2]; exact HS
            refine g_iconst (v := nI 0) B dX12_works_59 (by decide) ?_
            refine g_istore (lv2 := [(4, _), (3, _), (0, _), (1, _), (2, _)]) B dX12_works_60 (by decide) rfl ?_
            refine g_goto (tgt := 87) B dX12_works_62 (by decide) ?_
            refine g_iinc (lv2 := [(3, _), (4, _), (0, _), (1, _), (2, _)]) B 1 dX12_works_87 rfl rfl (by decide) rfl ?_
            refine g_goto (tgt := 8) B dX12_works_90 (by decide) ?_
            refine g_iload B 1 dX12_works_8 rfl ?_
            refine g_if_eqN (tgt := 93) B (by decide) dX12_works_10 (by decide) (fun _ => ?_) (fun e => absurd rfl e)
            refine g_vret B E rfl dX12_works_93 ?_
            exact ⟨rfl, rfl, _, _, P67, by rw [← i5]; exact HF⟩
  refine g_pick [1, 0, 2, 3, 4] rfl ?_
  exact L _ (a.cf 3) a Bd _ _ _ _ rfl P hR W hA sSt.rf (by have := W.cf.2.2.2.2; omega) rfl
theorem aA.quiet_iff (a : aA) : a.quiet = true ↔ a.of 0 = a.inp.length ∧ a.rn = 0 ∧ (∀ x, x < 18 → a.ls (x / 3) (x % 3) = []) ∧ ∀ x, x < 54 → (a.ch (x / 9) (x / 3 % 3) (x % 3)).1 = [] ∧ (a.ch (x / 9) (x / 3 % 3) (x % 3)).2.1 = [] := by
  unfold aA.quiet
  simp only [Bool.and_eq_true, decide_eq_true_eq, List.all_eq_true, List.mem_range, List.isEmpty_iff]
  constructor
  · rintro ⟨⟨⟨h1, h2⟩, h3⟩, h4⟩
    exact ⟨h1, h2, fun x hx => h3 (x / 3) (by omega) (x % 3) (by omega), fun x hx => h4 (x / 9) (by omega) (x / 3 % 3) (by omega) (x % 3) (by omega)⟩
  · rintro ⟨h1, h2, h3, h4⟩
    refine ⟨⟨⟨h1, h2⟩, fun o ho i hi => ?_⟩, fun o ho i hi j hj => ?_⟩
    · have := h3 (3 * o + i) (by omega)
      rw [show (3 * o + i) / 3 = o by omega, show (3 * o + i) % 3 = i by omega] at this
      exact this
    · have := h4 (9 * o + 3 * i + j) (by omega)
      rw [show (9 * o + 3 * i + j) / 9 = o by omega, show (9 * o + 3 * i + j) / 3 % 3 = i by omega, show (9 * o + 3 * i + j) % 3 = j by omega] at this
      exact this
theorem aA.quiet_no {a : aA} (h : ¬ (a.of 0 = a.inp.length ∧ a.rn = 0 ∧ (∀ x, x < 18 → a.ls (x / 3) (x % 3) = []) ∧ ∀ x, x < 54 → (a.ch (x / 9) (x / 3 % 3) (x % 3)).1 = [] ∧ (a.ch (x / 9) (x / 3 % 3) (x % 3)).2.1 = [])) : a.quiet = false := by
  cases e : a.quiet
  · rfl
  · exact absurd ((aA.quiet_iff a).mp e) h
theorem RMls.flat {l : Nat → Nat → List aRec} {fn fk fv fb : Nat → Int32} (h : RMls l fn fk fv fb) {x : Nat} (hx : x < 18) : fn x = nI (l (x / 3) (x % 3)).length := by
  have := (h (x / 3) (by omega) (x % 3) (by omega)).1
  rw [show 3 * (x / 3) + x % 3 = x by omega] at this
  exact this
theorem mLn_flat {x : Nat} (hx : x < 54) : mLn (x / 9) (x / 3 % 3) (x % 3) = x := by unfold mLn; omega
theorem RMch.flat {ch : Nat → Nat → Nat → aCh} {ar : Nat → Nat → Int32} (h : RMch ch ar) {x : Nat} (hx : x < 54) : mCh (ch (x / 9) (x / 3 % 3) (x % 3)) x ar := by
  have := h (x / 9) (by omega) (x / 3 % 3) (by omega) (x % 3) (by omega)
  rw [mLn_flat hx] at this
  exact this
theorem c_M_quiet {G : xG} {T : xT} {O R : xO} {m : Nat} {ad : Nat → Nat} {sc : Nat → Int32} {ar : Nat → Nat → Int32} {Bd : Nat} (P : PM m ad O R sc ar T O R) {a : aA} (H : RepM a sc ar) (W : WF Bd a) (hB : Bd ≤ 2 ^ 30) : xCtr G yX12_quiet cX12_quiet 2 (some Jvm.ClassFile.FieldType.boolean) 0 0 0 0 [.ref m] (T, O, R) (xA (fun v T2 O2 R2 => v = .int (bI a.quiet) ∧ T2 = T ∧ O2 = O ∧ R2 = R)) := by
  have hR := H
  obtain ⟨Htxt, Hop, Hinp, Hnm, Hstt, ⟨Hs0, Hs1, Hs2⟩, ⟨Hc0, Hc1, Hc2⟩, Hls, Hsp, Hpt, Hhd, Hch, Hex, Hwr⟩ := H
  have hof := W.ofs 0
  have hinl := W.inp
  have hrn := W.nms.2.2.1
  refine xCtr.of (by decide +kernel) (Nat.le_of_ble_eq_true rfl) ?_
  intro Z B E hz hnm
  change xV Z (T, O, R) 0 [(0, .ref m)] [] 0 0
  refine g_aload_n B 0 dX12_quiet_0 rfl ?_
  refine m_get B P F_X12_271_12 (by decide) (Or.inl rfl) (show _ = (nI (a.of 0)) from Hnm.2.1.1) dX12_quiet_1 ?_
  refine g_aload_n B 0 dX12_quiet_4 rfl ?_
  refine m_get B P F_X12_275_12 (by decide) (Or.inl rfl) (show _ = (nI a.inp.length) from Hinp.1) dX12_quiet_5 ?_
  refine g_icmp_ltN (tgt := 18) B (by omega) (by omega) dX12_quiet_8 (by decide) (fun c1 => ?_) (fun c1 => ?_)
  · refine g_iconst (v := nI 0) B dX12_quiet_18 (by decide) ?_
    refine g_iret B E rfl rfl dX12_quiet_19 ?_
    exact ⟨_, rfl, (nI0 (aA.quiet_no (fun h => by have := h.1; omega))), rfl, rfl, rfl⟩
  · refine g_aload_n B 0 dX12_quiet_11 rfl ?_
    refine m_get B P F_X12_268_12 (by decide) (Or.inl rfl) (show _ = (nI (a.nm 2)) from Hnm.2.2.2.2.1) dX12_quiet_12 ?_
    refine g_if_leN (tgt := 20) B (by omega) dX12_quiet_15 (by decide) (fun c2 => ?_) (fun c2 => ?_)
    · refine g_iconst (v := nI 0) B dX12_quiet_20 (by decide) ?_
      refine g_istore_n (lv2 := [(1, _), (0, _)]) B dX12_quiet_21 (by decide) rfl ?_
      have L : ∀ (d x : Nat), d = 18 - x → x ≤ 18 → (∀ j, j < x → a.ls (j / 3) (j % 3) = []) → xV Z (T, O, R) 22 [(1, .int (nI x)), (0, .ref m)] [] 0 0 := by
        intro d
        induction d using Nat.strongRecOn with
        | _ d ih =>
          intro x hd hx i1
          refine g_iload_n B 0 dX12_quiet_22 rfl ?_
          refine g_bipush (v := nI 18) B dX12_quiet_23 (by decide) ?_
          refine g_icmp_geN (tgt := 45) B (by omega) (by omega) dX12_quiet_25 (by decide) (fun c61 => ?_) (fun c61 => ?_)
          · refine g_iconst (v := nI 0) B dX12_quiet_45 (by decide) ?_
            refine g_istore_n (lv2 := [(1, _), (0, _)]) B dX12_quiet_46 (by decide) rfl ?_
            have L2 : ∀ (d2 x2 : Nat), d2 = 54 - x2 → x2 ≤ 54 → (∀ j, j < x2 → (a.ch (j / 9) (j / 3 % 3) (j % 3)).1 = [] ∧ (a.ch (j / 9) (j / 3 % 3) (j % 3)).2.1 = []) → xV Z (T, O, R) 47 [(1, .int (nI x2)), (0, .ref m)] [] 0 0 := by
              intro d2
              induction d2 using Nat.strongRecOn with
              | _ d2 ih2 =>
                intro x2 hd2 hx2 k1
                refine g_iload_n B 0 dX12_quiet_47 rfl ?_
                refine g_bipush (v := nI 54) B dX12_quiet_48 (by decide) ?_
                refine g_icmp_geN (tgt := 79) B (by omega) (by omega) dX12_quiet_50 (by decide) (fun c201 => ?_) (fun c201 => ?_)
                · refine g_iconst (v := nI 1) B dX12_quiet_79 (by decide) ?_
                  refine g_iret B E rfl rfl dX12_quiet_80 ?_
                  exact ⟨_, rfl, (nI1 ((aA.quiet_iff a).mpr ⟨by omega, by unfold aA.rn; omega, fun y hy => i1 y (by omega), fun y hy => k1 y (by omega)⟩)), rfl, rfl, rfl⟩
                · have hcl := W.ch (x2 / 9) (x2 / 3 % 3) (x2 % 3)
                  have hc1 := hcl.1
                  have hc2 := hcl.2.1
                  have hc3 := W.cf.1.2
                  have hc4 := W.cf.2.2.1.2
                  refine g_aload_n B 1 dX12_quiet_53 rfl ?_
                  refine m_geta B P F_X12_114_12 (by decide) (Or.inl rfl) dX12_quiet_54 ?_
                  refine g_iload_n B 0 dX12_quiet_57 rfl ?_
                  refine m_ld B P (by decide) rfl rfl (by show _ < 54; omega) (by decide) (show _ = (nI ((a.ch (x2 / 9) (x2 / 3 % 3) (x2 % 3)).2.1.length)) from (Hch.flat (by omega)).1) dX12_quiet_58 ?_
                  refine g_if_gtN (tgt := 71) B (by omega) dX12_quiet_59 (by decide) (fun c202 => ?_) (fun c202 => ?_)
                  · refine g_iconst (v := nI 0) B dX12_quiet_71 (by decide) ?_
                    refine g_iret B E rfl rfl dX12_quiet_72 ?_
                    exact ⟨_, rfl, (nI0 (aA.quiet_no (fun h => by have := (h.2.2.2 x2 (by omega)).2; rw [this] at c202; simp at c202))), rfl, rfl, rfl⟩
                  · refine g_aload_n B 1 dX12_quiet_62 rfl ?_
                    refine m_geta B P F_X12_129_12 (by decide) (Or.inl rfl) dX12_quiet_63 ?_
                    refine g_iload_n B 0 dX12_quiet_66 rfl ?_
                    refine m_ld B P (by decide) rfl rfl (by show _ < 54; omega) (by decide) (show _ = (nI ((a.ch (x2 / 9) (x2 / 3 % 3) (x2 % 3)).1.length)) from (Hch.flat (by omega)).2.2.2.1) dX12_quiet_67 ?_
                    refine g_if_leN (tgt := 73) B (by omega) dX12_quiet_68 (by decide) (fun c203 => ?_) (fun c203 => ?_)
                    · refine g_iinc (v := nI (x2 + 1)) (lv2 := [(1, _), (0, _)]) B 0 dX12_quiet_73 rfl (nI_1 _) (by decide) rfl ?_
                      refine g_goto (tgt := 47) B dX12_quiet_76 (by decide) ?_
                      exact ih2 (54 - (x2 + 1)) (by omega) (x2 + 1) rfl (by omega) (fun j hj => by by_cases c : j = x2; subst c; exact ⟨List.eq_nil_of_length_eq_zero (by omega), List.eq_nil_of_length_eq_zero (by omega)⟩; exact k1 j (by omega))
                    · refine g_iconst (v := nI 0) B dX12_quiet_71 (by decide) ?_
                      refine g_iret B E rfl rfl dX12_quiet_72 ?_
                      exact ⟨_, rfl, (nI0 (aA.quiet_no (fun h => by have := (h.2.2.2 x2 (by omega)).1; rw [this] at c203; simp at c203))), rfl, rfl, rfl⟩
            exact L2 _ 0 rfl (Nat.zero_le _) (fun j hj => absurd hj (Nat.not_lt_zero j))
          · have hll := (W.ls (x / 3) (x % 3)).1
            refine g_aload_n B 1 dX12_quiet_28 rfl ?_
            refine m_geta B P F_X12_93_12 (by decide) (Or.inl rfl) dX12_quiet_29 ?_
            refine g_iload_n B 0 dX12_quiet_32 rfl ?_
            refine m_ld B P (by decide) rfl rfl (by show _ < 18; omega) (by decide) (show _ = (nI ((a.ls (x / 3) (x % 3)).length)) from (Hls.flat (by omega))) dX12_quiet_33 ?_
            refine g_if_leN (tgt := 39) B (by omega) dX12_quiet_34 (by decide) (fun c62 => ?_) (fun c62 => ?_)
            · refine g_iinc (v := nI (x + 1)) (lv2 := [(1, _), (0, _)]) B 0 dX12_quiet_39 rfl (nI_1 _) (by decide) rfl ?_
              refine g_goto (tgt := 22) B dX12_quiet_42 (by decide) ?_
              exact ih (18 - (x + 1)) (by omega) (x + 1) rfl (by omega) (fun j hj => by by_cases c : j = x; subst c; exact List.eq_nil_of_length_eq_zero (by omega); exact i1 j (by omega))
            · refine g_iconst (v := nI 0) B dX12_quiet_37 (by decide) ?_
              refine g_iret B E rfl rfl dX12_quiet_38 ?_
              exact ⟨_, rfl, (nI0 (aA.quiet_no (fun h => by have := h.2.2.1 x (by omega); rw [this] at c62; exact absurd c62 (Nat.lt_irrefl 0)))), rfl, rfl, rfl⟩
      exact L _ 0 rfl (Nat.zero_le _) (fun j hj => absurd hj (Nat.not_lt_zero j))
    · refine g_iconst (v := nI 0) B dX12_quiet_18 (by decide) ?_
      refine g_iret B E rfl rfl dX12_quiet_19 ?_
      exact ⟨_, rfl, (nI0 (aA.quiet_no (fun h => by have := h.2.1; unfold aA.rn at this; omega))), rfl, rfl, rfl⟩
