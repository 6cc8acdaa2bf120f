set_option maxRecDepth 100000
theorem c_M_number {G : xG} {T : xT} {O R : xO} {m : Nat} {ad : Nat → Nat} {sc : Nat → Int32} {ar : Nat → Nat → Int32} {i : Nat} {lo hi : Int32} (P : PM m ad O R sc ar T O R) {a : aA} (H : RepM a sc ar) (ht : txOk a.txt) (hil : i ≤ a.txt.length) (hp : pSt i false sc) : xCtr G yX12_number cX12_number 5 (some Jvm.ClassFile.FieldType.int) 1 22 0 0 [.ref m, .int lo, .int hi] (T, O, R) (xA (mPost m ad T O R (fun v sc2 ar2 => (∃ u : Int32, v = .int u ∧ ∀ w, (pNum a.txt i lo hi).2 = some w → u = w) ∧ ar2 = ar ∧ pFr sc sc2 ∧ sc2 60 = nI (pNum a.txt i lo hi).1 ∧ sc2 61 = nI (if (pNum a.txt i lo hi).2.isSome = true then 0 else 1)))) := by
  have hR := H
  obtain ⟨Htxt, Hop, Hinp, Hnm, Hstt, ⟨Hs0, Hs1, Hs2⟩, ⟨Hc0, Hc1, Hc2⟩, Hls, Hsp, Hpt, Hhd, Hch, Hex, Hwr⟩ := H
  have ht1 := ht.1
  refine xCtr.of (by decide +kernel) (Nat.le_of_ble_eq_true rfl) ?_
  intro Z B E hz hnm
  change xV Z (T, O, R) 0 [(0, .ref m), (1, .int lo), (2, .int hi)] [] 0 0
  refine g_aload_n B 0 dX12_number_0 rfl ?_
  have n60 : sc 60 = (nI i) := hp.1
  have n61 : sc 61 = (bI false) := hp.2
  have HR1 : RepM a sc ar := hR.scj (fun k hk => rfl)
  refine g_callV (rest := []) B M_X12_here q2672 q2674 qs58 (P.1.choose_spec.choose_spec) rfl (c_M_here (i := i) (b := false) P.self HR1 ht (by omega) ⟨n60, n61⟩) rfl rfl (Nat.le_of_ble_eq_true rfl) (Nat.le_of_ble_eq_true rfl) (Nat.le_of_ble_eq_true rfl) (Nat.le_refl _) (Nat.le_refl _) dX12_number_1 (xkA (fun v2 T2 O2 R2 le2 p2 => ?_))
  obtain ⟨rfl, eT2, eO2, eR2⟩ := p2
  obtain rfl := eT2.symm
  obtain rfl := eO2.symm
  obtain rfl := eR2.symm
  refine g_bipush (v := nI 45) B dX12_number_4 (by decide) ?_
  refine g_icmp_ne (tgt := 13) B dX12_number_6 (by decide) (fun c3 => ?_) (fun c3 => ?_)
  · refine g_iconst (v := nI 0) B dX12_number_13 (by decide) ?_
    refine g_istore_n (lv2 := [(3, _), (0, _), (1, _), (2, _)]) B dX12_number_14 (by decide) rfl ?_
    refine g_aload_n B 1 dX12_number_15 rfl ?_
    refine g_dup B dX12_number_16 rfl ?_
    refine m_get B P F_X12_212_12 (by decide) (Or.inl rfl) (show _ = (nI i) from hp.1) dX12_number_17 ?_
    refine g_iload_n B 0 dX12_number_20 rfl ?_
    refine g_if_eqN (tgt := 28) B (by omega) dX12_number_21 (by decide) (fun _ => ?_) (fun e => absurd e (by decide))
    refine g_iconst (v := nI 0) B dX12_number_28 (by decide) ?_
    refine g_iaddN B dX12_number_29 ?_
    refine g_top (show Value.int (nI (i + 0)) = .int (nI i) from rfl) ?_
    refine m_put B P F_X12_212_12 (by decide) (Or.inl rfl) rfl rfl rfl dX12_number_30 (fun O5 sc5 hs5 hk5 P5 => ?_)
    refine g_aload_n B 1 dX12_number_33 rfl ?_
    refine g_dup B dX12_number_34 rfl ?_
    refine m_get B P5 F_X12_215_12 (by decide) (Or.inr rfl) (show _ = (bI false) from ((hk5 61 (by decide)).trans hp.2)) dX12_number_35 ?_
    refine g_aload_n B 1 dX12_number_38 rfl ?_
    have n60 : sc5 60 = (nI i) := hs5
    have n61 : sc5 61 = (bI false) := ((hk5 61 (by decide)).trans hp.2)
    have HR6 : RepM a sc5 ar := hR.scj (fun k hk => (hk5 k (fun e => hk (by rw [e]; unfold jS; omega))))
    refine g_callV (rest := [_, _]) B M_X12_here q2672 q2674 qs58 (P5.1.choose_spec.choose_spec) rfl (c_M_here (i := i) (b := false) P5.self HR6 ht (by omega) ⟨n60, n61⟩) rfl rfl (Nat.le_of_ble_eq_true rfl) (Nat.le_of_ble_eq_true rfl) (Nat.le_of_ble_eq_true rfl) (Nat.le_refl _) (Nat.le_refl _) dX12_number_39 (xkA (fun v7 T7 O7 R7 le7 p7 => ?_))
    obtain ⟨rfl, eT7, eO7, eR7⟩ := p7
    obtain rfl := eT7.symm
    obtain rfl := eO7.symm
    obtain rfl := eR7.symm
    refine g_bipush (v := nI 48) B dX12_number_42 (by decide) ?_
    refine g_bipush (v := nI 57) B dX12_number_44 (by decide) ?_
    refine g_callS (rest := [_, _]) B M_X12_isIn q2663 q2664 (c_M_isIn (x := (hereF a.txt i)) (lo := (nI 48)) (hi := (nI 57))) rfl rfl (Nat.le_of_ble_eq_true rfl) (Nat.le_of_ble_eq_true rfl) (Nat.le_of_ble_eq_true rfl) (Nat.le_refl _) (Nat.le_refl _) dX12_number_46 (xkA (fun v8 T8 O8 R8 le8 p8 => ?_))
    obtain ⟨rfl, eT8, eO8, eR8⟩ := p8
    obtain rfl := eT8.symm
    obtain rfl := eO8.symm
    obtain rfl := eR8.symm
    refine g_if_neB (tgt := 56) B dX12_number_49 (by decide) (fun c9 => ?_) (fun c9 => ?_)
    · refine g_iconst (v := nI 0) B dX12_number_56 (by decide) ?_
      refine g_ior B dX12_number_57 ?_
      refine g_top (show Value.int _ = .int (nI 0) from by decide) ?_
      refine m_put B P5 F_X12_215_12 (by decide) (Or.inr rfl) rfl rfl rfl dX12_number_58 (fun O10 sc10 hs10 hk10 P10 => ?_)
      refine g_aload_n B 1 dX12_number_61 rfl ?_
      refine m_get B P10 F_X12_215_12 (by decide) (Or.inr rfl) (show _ = (nI 0) from hs10) dX12_number_62 ?_
      refine g_if_eqN (tgt := 70) B (by omega) dX12_number_65 (by decide) (fun _ => ?_) (fun e => absurd e (by decide))
      have hlt2 := hereF_in c9 (by decide)
      refine g_aload_n B 1 dX12_number_70 rfl ?_
      have n60 : sc10 60 = (nI i) := ((hk10 60 (by decide)).trans hs5)
      have n61 : sc10 61 = (nI 0) := hs10
      have HR12 : RepM a sc10 ar := hR.scj (fun k hk => ((hk10 k (fun e => hk (by rw [e]; unfold jS; omega))).trans (hk5 k (fun e => hk (by rw [e]; unfold jS; omega)))))
      refine g_callV (rest := []) B M_X12_here q2672 q2674 qs58 (P10.1.choose_spec.choose_spec) rfl (c_M_here (i := i) (b := false) P10.self HR12 ht (by omega) ⟨n60, n61⟩) rfl rfl (Nat.le_of_ble_eq_true rfl) (Nat.le_of_ble_eq_true rfl) (Nat.le_of_ble_eq_true rfl) (Nat.le_refl _) (Nat.le_refl _) dX12_number_71 (xkA (fun v13 T13 O13 R13 le13 p13 => ?_))
      obtain ⟨rfl, eT13, eO13, eR13⟩ := p13
      obtain rfl := eT13.symm
      obtain rfl := eO13.symm
      obtain rfl := eR13.symm
      refine g_bipush (v := nI 48) B dX12_number_74 (by decide) ?_
      refine g_isub B dX12_number_76 ?_
      refine g_istore (lv2 := [(4, _), (3, _), (0, _), (1, _), (2, _)]) B dX12_number_77 (by decide) rfl ?_
      refine g_aload_n B 2 dX12_number_79 rfl ?_
      refine g_dup B dX12_number_80 rfl ?_
      refine m_get B P10 F_X12_212_12 (by decide) (Or.inl rfl) (show _ = (nI i) from ((hk10 60 (by decide)).trans hs5)) dX12_number_81 ?_
      refine g_iconst (v := nI 1) B dX12_number_84 (by decide) ?_
      refine g_iaddN B dX12_number_85 ?_
      refine m_put B P10 F_X12_212_12 (by decide) (Or.inl rfl) rfl rfl rfl dX12_number_86 (fun O14 sc14 hs14 hk14 P14 => ?_)
      refine g_aload_n B 2 dX12_number_89 rfl ?_
      have n60 : sc14 60 = (nI (i + 1)) := hs14
      have n61 : sc14 61 = (nI 0) := ((hk14 61 (by decide)).trans hs10)
      have HR15 : RepM a sc14 ar := hR.scj (fun k hk => (((hk14 k (fun e => hk (by rw [e]; unfold jS; omega))).trans (hk10 k (fun e => hk (by rw [e]; unfold jS; omega)))).trans (hk5 k (fun e => hk (by rw [e]; unfold jS; omega)))))
      refine g_callV (rest := []) B M_X12_here q2672 q2674 qs58 (P14.1.choose_spec.choose_spec) rfl (c_M_here (i := (i + 1)) (b := false) P14.self HR15 ht (by omega) ⟨n60, n61⟩) rfl rfl (Nat.le_of_ble_eq_true rfl) (Nat.le_of_ble_eq_true rfl) (Nat.le_of_ble_eq_true rfl) (Nat.le_refl _) (Nat.le_refl _) dX12_number_90 (xkA (fun v16 T16 O16 R16 le16 p16 => ?_))
      obtain ⟨rfl, eT16, eO16, eR16⟩ := p16
      obtain rfl := eT16.symm
      obtain rfl := eO16.symm
      obtain rfl := eR16.symm
      refine g_bipush (v := nI 48) B dX12_number_93 (by decide) ?_
      refine g_bipush (v := nI 57) B dX12_number_95 (by decide) ?_
      refine g_callS (rest := []) B M_X12_isIn q2663 q2664 (c_M_isIn (x := (hereF a.txt (i + 1))) (lo := (nI 48)) (hi := (nI 57))) rfl rfl (Nat.le_of_ble_eq_true rfl) (Nat.le_of_ble_eq_true rfl) (Nat.le_of_ble_eq_true rfl) (Nat.le_refl _) (Nat.le_refl _) dX12_number_97 (xkA (fun v17 T17 O17 R17 le17 p17 => ?_))
      obtain ⟨rfl, eT17, eO17, eR17⟩ := p17
      obtain rfl := eT17.symm
      obtain rfl := eO17.symm
      obtain rfl := eR17.symm
      refine g_if_eqB (tgt := 128) B dX12_number_100 (by decide) (fun c18 => ?_) (fun c18 => ?_)
      · refine g_iload_n B 1 dX12_number_128 rfl ?_
        refine g_if_eqN (tgt := 138) B (by omega) dX12_number_129 (by decide) (fun _ => ?_) (fun e => absurd e (by decide))
        refine g_iload B 0 dX12_number_138 rfl ?_
        refine g_istore (lv2 := [(4, _), (3, _), (0, _), (1, _), (2, _)]) B dX12_number_140 (by decide) rfl ?_
        refine g_aload_n B 2 dX12_number_142 rfl ?_
        refine g_dup B dX12_number_143 rfl ?_
        refine m_get B P14 F_X12_215_12 (by decide) (Or.inr rfl) (show _ = (nI 0) from ((hk14 61 (by decide)).trans hs10)) dX12_number_144 ?_
        refine g_iload B 0 dX12_number_147 rfl ?_
        refine g_iload_n B 3 dX12_number_149 rfl ?_
        refine g_iload_n B 4 dX12_number_150 rfl ?_
        refine g_callS (rest := [_, _]) B M_X12_isIn q2663 q2664 (c_M_isIn (x := ((hereF a.txt i) - (nI 48))) (lo := lo) (hi := hi)) rfl rfl (Nat.le_of_ble_eq_true rfl) (Nat.le_of_ble_eq_true rfl) (Nat.le_of_ble_eq_true rfl) (Nat.le_refl _) (Nat.le_refl _) dX12_number_151 (xkA (fun v20 T20 O20 R20 le20 p20 => ?_))
        obtain ⟨rfl, eT20, eO20, eR20⟩ := p20
        obtain rfl := eT20.symm
        obtain rfl := eO20.symm
        obtain rfl := eR20.symm
        refine g_if_neB (tgt := 161) B dX12_number_154 (by decide) (fun c21 => ?_) (fun c21 => ?_)
        · refine g_iconst (v := nI 0) B dX12_number_161 (by decide) ?_
          refine g_ior B dX12_number_162 ?_
          refine g_top (show Value.int _ = .int (nI 0) from by decide) ?_
          refine m_put B P14 F_X12_215_12 (by decide) (Or.inr rfl) rfl rfl rfl dX12_number_163 (fun O22 sc22 hs22 hk22 P22 => ?_)
          refine g_iload B 0 dX12_number_166 rfl ?_
          refine g_iret B E rfl rfl dX12_number_168 ?_
          have n60 : sc22 60 = (nI (i + 1)) := ((hk22 60 (by decide)).trans hs14)
          have n61 : sc22 61 = (nI 0) := hs22
          have hN : pNum a.txt i lo hi = ((i + 1), some ((hereF a.txt i) - (nI 48))) := by simp only [pNum, c3, c9, c18, c21, ↓reduceIte, Bool.false_eq_true, if_false]
          exact ⟨_, rfl, rfl, _, _, P22, ⟨_, rfl, fun w hw => (by rw [hN] at hw; cases hw; rfl)⟩, rfl, fun k h1 h2 => ((((hk22 k h2).trans (hk14 k h1)).trans (hk10 k h2)).trans (hk5 k h1)), by rw [hN]; exact n60, by rw [hN]; exact n61⟩
        · refine g_iconst (v := nI 1) B dX12_number_157 (by decide) ?_
          refine g_goto (tgt := 162) B dX12_number_158 (by decide) ?_
          refine g_ior B dX12_number_162 ?_
          refine g_top (show Value.int _ = .int (nI 1) from by decide) ?_
          refine m_put B P14 F_X12_215_12 (by decide) (Or.inr rfl) rfl rfl rfl dX12_number_163 (fun O23 sc23 hs23 hk23 P23 => ?_)
          refine g_iload B 0 dX12_number_166 rfl ?_
          refine g_iret B E rfl rfl dX12_number_168 ?_
          have n60 : sc23 60 = (nI (i + 1)) := ((hk23 60 (by decide)).trans hs14)
          have n61 : sc23 61 = (nI 1) := hs23
          have hN : pNum a.txt i lo hi = ((i + 1), none) := by simp only [pNum, c3, c9, c18, c21, ↓reduceIte, Bool.false_eq_true, if_false]
          exact ⟨_, rfl, rfl, _, _, P23, ⟨_, rfl, fun w hw => (by rw [hN] at hw; cases hw)⟩, rfl, fun k h1 h2 => ((((hk23 k h2).trans (hk14 k h1)).trans (hk10 k h2)).trans (hk5 k h1)), by rw [hN]; exact n60, by rw [hN]; exact n61⟩
      · have hlt3 := hereF_in c18 (by decide)
        refine g_bipush (v := nI 10) B dX12_number_103 (by decide) ?_
        refine g_iload B 0 dX12_number_105 rfl ?_
        refine g_imul B dX12_number_107 ?_
        refine g_aload_n B 2 dX12_number_108 rfl ?_
        have n60 : sc14 60 = (nI (i + 1)) := hs14
        have n61 : sc14 61 = (nI 0) := ((hk14 61 (by decide)).trans hs10)
        have HR24 : RepM a sc14 ar := hR.scj (fun k hk => (((hk14 k (fun e => hk (by rw [e]; unfold jS; omega))).trans (hk10 k (fun e => hk (by rw [e]; unfold jS; omega)))).trans (hk5 k (fun e => hk (by rw [e]; unfold jS; omega)))))
        refine g_callV (rest := [_]) B M_X12_here q2672 q2674 qs58 (P14.1.choose_spec.choose_spec) rfl (c_M_here (i := (i + 1)) (b := false) P14.self HR24 ht (by omega) ⟨n60, n61⟩) rfl rfl (Nat.le_of_ble_eq_true rfl) (Nat.le_of_ble_eq_true rfl) (Nat.le_of_ble_eq_true rfl) (Nat.le_refl _) (Nat.le_refl _) dX12_number_109 (xkA (fun v25 T25 O25 R25 le25 p25 => ?_))
        obtain ⟨rfl, eT25, eO25, eR25⟩ := p25
        obtain rfl := eT25.symm
        obtain rfl := eO25.symm
        obtain rfl := eR25.symm
        refine g_iadd B dX12_number_112 ?_
        refine g_bipush (v := nI 48) B dX12_number_113 (by decide) ?_
        refine g_isub B dX12_number_115 ?_
        refine g_istore (lv2 := [(4, _), (3, _), (0, _), (1, _), (2, _)]) B dX12_number_116 (by decide) rfl ?_
        refine g_aload_n B 2 dX12_number_118 rfl ?_
        refine g_dup B dX12_number_119 rfl ?_
        refine m_get B P14 F_X12_212_12 (by decide) (Or.inl rfl) (show _ = (nI (i + 1)) from hs14) dX12_number_120 ?_
        refine g_iconst (v := nI 1) B dX12_number_123 (by decide) ?_
        refine g_iaddN B dX12_number_124 ?_
        refine m_put B P14 F_X12_212_12 (by decide) (Or.inl rfl) rfl rfl rfl dX12_number_125 (fun O26 sc26 hs26 hk26 P26 => ?_)
        refine g_iload_n B 1 dX12_number_128 rfl ?_
        refine g_if_eqN (tgt := 138) B (by omega) dX12_number_129 (by decide) (fun _ => ?_) (fun e => absurd e (by decide))
        refine g_iload B 0 dX12_number_138 rfl ?_
        refine g_istore (lv2 := [(4, _), (3, _), (0, _), (1, _), (2, _)]) B dX12_number_140 (by decide) rfl ?_
        refine g_aload_n B 2 dX12_number_142 rfl ?_
        refine g_dup B dX12_number_143 rfl ?_
        refine m_get B P26 F_X12_215_12 (by decide) (Or.inr rfl) (show _ = (nI 0) from ((hk26 61 (by decide)).trans ((hk14 61 (by decide)).trans hs10))) dX12_number_144 ?_
        refine g_iload B 0 dX12_number_147 rfl ?_
        refine g_iload_n B 3 dX12_number_149 rfl ?_
        refine g_iload_n B 4 dX12_number_150 rfl ?_
        refine g_callS (rest := [_, _]) B M_X12_isIn q2663 q2664 (c_M_isIn (x := ((((nI 10) * ((hereF a.txt i) - (nI 48))) + (hereF a.txt (i + 1))) - (nI 48))) (lo := lo) (hi := hi)) rfl rfl (Nat.le_of_ble_eq_true rfl) (Nat.le_of_ble_eq_true rfl) (Nat.le_of_ble_eq_true rfl) (Nat.le_refl _) (Nat.le_refl _) dX12_number_151 (xkA (fun v28 T28 O28 R28 le28 p28 => ?_))
        obtain ⟨rfl, eT28, eO28, eR28⟩ := p28
        obtain rfl := eT28.symm
        obtain rfl := eO28.symm
        obtain rfl := eR28.symm
        refine g_if_neB (tgt := 161) B dX12_number_154 (by decide) (fun c29 => ?_) (fun c29 => ?_)
        · refine g_iconst (v := nI 0) B dX12_number_161 (by decide) ?_
          refine g_ior B dX12_number_162 ?_
          refine g_top (show Value.int _ = .int (nI 0) from by decide) ?_
          refine m_put B P26 F_X12_215_12 (by decide) (Or.inr rfl) rfl rfl rfl dX12_number_163 (fun O30 sc30 hs30 hk30 P30 => ?_)
          refine g_iload B 0 dX12_number_166 rfl ?_
          refine g_iret B E rfl rfl dX12_number_168 ?_
          have n60 : sc30 60 = (nI ((i + 1) + 1)) := ((hk30 60 (by decide)).trans hs26)
          have n61 : sc30 61 = (nI 0) := hs30
          have hN : pNum a.txt i lo hi = (((i + 1) + 1), some ((((nI 10) * ((hereF a.txt i) - (nI 48))) + (hereF a.txt (i + 1))) - (nI 48))) := by simp only [pNum, c3, c9, c18, c29, ↓reduceIte, Bool.false_eq_true, if_false]
          exact ⟨_, rfl, rfl, _, _, P30, ⟨_, rfl, fun w hw => (by rw [hN] at hw; cases hw; rfl)⟩, rfl, fun k h1 h2 => (((((hk30 k h2).trans (hk26 k h1)).trans (hk14 k h1)).trans (hk10 k h2)).trans (hk5 k h1)), by rw [hN]; exact n60, by rw [hN]; exact n61⟩
        · refine g_iconst (v := nI 1) B dX12_number_157 (by decide) ?_
          refine g_goto (tgt := 162) B dX12_number_158 (by decide) ?_
          refine g_ior B dX12_number_162 ?_
          refine g_top (show Value.int _ = .int (nI 1) from by decide) ?_
          refine m_put B P26 F_X12_215_12 (by decide) (Or.inr rfl) rfl rfl rfl dX12_number_163 (fun O31 sc31 hs31 hk31 P31 => ?_)
          refine g_iload B 0 dX12_number_166 rfl ?_
          refine g_iret B E rfl rfl dX12_number_168 ?_
          have n60 : sc31 60 = (nI ((i + 1) + 1)) := ((hk31 60 (by decide)).trans hs26)
          have n61 : sc31 61 = (nI 1) := hs31
          have hN : pNum a.txt i lo hi = (((i + 1) + 1), none) := by simp only [pNum, c3, c9, c18, c29, ↓reduceIte, Bool.false_eq_true, if_false]
          exact ⟨_, rfl, rfl, _, _, P31, ⟨_, rfl, fun w hw => (by rw [hN] at hw; cases hw)⟩, rfl, fun k h1 h2 => (((((hk31 k h2).trans (hk26 k h1)).trans (hk14 k h1)).trans (hk10 k h2)).trans (hk5 k h1)), by rw [hN]; exact n60, by rw [hN]; exact n61⟩
    · refine g_iconst (v := nI 1) B dX12_number_52 (by decide) ?_
      refine g_goto (tgt := 57) B dX12_number_53 (by decide) ?_
      refine g_ior B dX12_number_57 ?_
      refine g_top (show Value.int _ = .int (nI 1) from by decide) ?_
      refine m_put B P5 F_X12_215_12 (by decide) (Or.inr rfl) rfl rfl rfl dX12_number_58 (fun O32 sc32 hs32 hk32 P32 => ?_)
      refine g_aload_n B 1 dX12_number_61 rfl ?_
      refine m_get B P32 F_X12_215_12 (by decide) (Or.inr rfl) (show _ = (nI 1) from hs32) dX12_number_62 ?_
      refine g_if_eqN (tgt := 70) B (by omega) dX12_number_65 (by decide) (fun e => absurd e (by decide)) (fun _ => ?_)
      refine g_iconst (v := nI 0) B dX12_number_68 (by decide) ?_
      refine g_iret B E rfl rfl dX12_number_69 ?_
      have n60 : sc32 60 = (nI i) := ((hk32 60 (by decide)).trans hs5)
      have n61 : sc32 61 = (nI 1) := hs32
      have hN : pNum a.txt i lo hi = (i, none) := by simp only [pNum, c3, c9, ↓reduceIte, Bool.false_eq_true, if_false]
      exact ⟨_, rfl, rfl, _, _, P32, ⟨_, rfl, fun w hw => (by rw [hN] at hw; cases hw)⟩, rfl, fun k h1 h2 => ((hk32 k h2).trans (hk5 k h1)), by rw [hN]; exact n60, by rw [hN]; exact n61⟩
  · have hlt := hereF_lt c3 (by decide)
    refine g_iconst (v := nI 1) B dX12_number_9 (by decide) ?_
    refine g_goto (tgt := 14) B dX12_number_10 (by decide) ?_
    refine g_istore_n (lv2 := [(3, _), (0, _), (1, _), (2, _)]) B dX12_number_14 (by decide) rfl ?_
    refine g_aload_n B 1 dX12_number_15 rfl ?_
    refine g_dup B dX12_number_16 rfl ?_
    refine m_get B P F_X12_212_12 (by decide) (Or.inl rfl) (show _ = (nI i) from hp.1) dX12_number_17 ?_
    refine g_iload_n B 0 dX12_number_20 rfl ?_
    refine g_if_eqN (tgt := 28) B (by omega) dX12_number_21 (by decide) (fun e => absurd e (by decide)) (fun _ => ?_)
    refine g_iconst (v := nI 1) B dX12_number_24 (by decide) ?_
    refine g_goto (tgt := 29) B dX12_number_25 (by decide) ?_
    refine g_iaddN B dX12_number_29 ?_
    refine m_put B P F_X12_212_12 (by decide) (Or.inl rfl) rfl rfl rfl dX12_number_30 (fun O35 sc35 hs35 hk35 P35 => ?_)
    refine g_aload_n B 1 dX12_number_33 rfl ?_
    refine g_dup B dX12_number_34 rfl ?_
    refine m_get B P35 F_X12_215_12 (by decide) (Or.inr rfl) (show _ = (bI false) from ((hk35 61 (by decide)).trans hp.2)) dX12_number_35 ?_
    refine g_aload_n B 1 dX12_number_38 rfl ?_
    have n60 : sc35 60 = (nI (i + 1)) := hs35
    have n61 : sc35 61 = (bI false) := ((hk35 61 (by decide)).trans hp.2)
    have HR36 : RepM a sc35 ar := hR.scj (fun k hk => (hk35 k (fun e => hk (by rw [e]; unfold jS; omega))))
    refine g_callV (rest := [_, _]) B M_X12_here q2672 q2674 qs58 (P35.1.choose_spec.choose_spec) rfl (c_M_here (i := (i + 1)) (b := false) P35.self HR36 ht (by omega) ⟨n60, n61⟩) rfl rfl (Nat.le_of_ble_eq_true rfl) (Nat.le_of_ble_eq_true rfl) (Nat.le_of_ble_eq_true rfl) (Nat.le_refl _) (Nat.le_refl _) dX12_number_39 (xkA (fun v37 T37 O37 R37 le37 p37 => ?_))
    obtain ⟨rfl, eT37, eO37, eR37⟩ := p37
    obtain rfl := eT37.symm
    obtain rfl := eO37.symm
    obtain rfl := eR37.symm
    refine g_bipush (v := nI 48) B dX12_number_42 (by decide) ?_
    refine g_bipush (v := nI 57) B dX12_number_44 (by decide) ?_
    refine g_callS (rest := [_, _]) B M_X12_isIn q2663 q2664 (c_M_isIn (x := (hereF a.txt (i + 1))) (lo := (nI 48)) (hi := (nI 57))) rfl rfl (Nat.le_of_ble_eq_true rfl) (Nat.le_of_ble_eq_true rfl) (Nat.le_of_ble_eq_true rfl) (Nat.le_refl _) (Nat.le_refl _) dX12_number_46 (xkA (fun v38 T38 O38 R38 le38 p38 => ?_))
    obtain ⟨rfl, eT38, eO38, eR38⟩ := p38
    obtain rfl := eT38.symm
    obtain rfl := eO38.symm
    obtain rfl := eR38.symm
    refine g_if_neB (tgt := 56) B dX12_number_49 (by decide) (fun c39 => ?_) (fun c39 => ?_)
    · refine g_iconst (v := nI 0) B dX12_number_56 (by decide) ?_
      refine g_ior B dX12_number_57 ?_
      refine g_top (show Value.int _ = .int (nI 0) from by decide) ?_
      refine m_put B P35 F_X12_215_12 (by decide) (Or.inr rfl) rfl rfl rfl dX12_number_58 (fun O40 sc40 hs40 hk40 P40 => ?_)
      refine g_aload_n B 1 dX12_number_61 rfl ?_
      refine m_get B P40 F_X12_215_12 (by decide) (Or.inr rfl) (show _ = (nI 0) from hs40) dX12_number_62 ?_
      refine g_if_eqN (tgt := 70) B (by omega) dX12_number_65 (by decide) (fun _ => ?_) (fun e => absurd e (by decide))
      have hlt2 := hereF_in c39 (by decide)
      refine g_aload_n B 1 dX12_number_70 rfl ?_
      have n60 : sc40 60 = (nI (i + 1)) := ((hk40 60 (by decide)).trans hs35)
      have n61 : sc40 61 = (nI 0) := hs40
      have HR42 : RepM a sc40 ar := hR.scj (fun k hk => ((hk40 k (fun e => hk (by rw [e]; unfold jS; omega))).trans (hk35 k (fun e => hk (by rw [e]; unfold jS; omega)))))
      refine g_callV (rest := []) B M_X12_here q2672 q2674 qs58 (P40.1.choose_spec.choose_spec) rfl (c_M_here (i := (i + 1)) (b := false) P40.self HR42 ht (by omega) ⟨n60, n61⟩) rfl rfl (Nat.le_of_ble_eq_true rfl) (Nat.le_of_ble_eq_true rfl) (Nat.le_of_ble_eq_true rfl) (Nat.le_refl _) (Nat.le_refl _) dX12_number_71 (xkA (fun v43 T43 O43 R43 le43 p43 => ?_))
      obtain ⟨rfl, eT43, eO43, eR43⟩ := p43
      obtain rfl := eT43.symm
      obtain rfl := eO43.symm
      obtain rfl := eR43.symm
      refine g_bipush (v := nI 48) B dX12_number_74 (by decide) ?_
      refine g_isub B dX12_number_76 ?_
      refine g_istore (lv2 := [(4, _), (3, _), (0, _), (1, _), (2, _)]) B dX12_number_77 (by decide) rfl ?_
      refine g_aload_n B 2 dX12_number_79 rfl ?_
      refine g_dup B dX12_number_80 rfl ?_
      refine m_get B P40 F_X12_212_12 (by decide) (Or.inl rfl) (show _ = (nI (i + 1)) from ((hk40 60 (by decide)).trans hs35)) dX12_number_81 ?_
      refine g_iconst (v := nI 1) B dX12_number_84 (by decide) ?_
      refine g_iaddN B dX12_number_85 ?_
      refine m_put B P40 F_X12_212_12 (by decide) (Or.inl rfl) rfl rfl rfl dX12_number_86 (fun O44 sc44 hs44 hk44 P44 => ?_)
      refine g_aload_n B 2 dX12_number_89 rfl ?_
      have n60 : sc44 60 = (nI ((i + 1) + 1)) := hs44
      have n61 : sc44 61 = (nI 0) := ((hk44 61 (by decide)).trans hs40)
      have HR45 : RepM a sc44 ar := hR.scj (fun k hk => (((hk44 k (fun e => hk (by rw [e]; unfold jS; omega))).trans (hk40 k (fun e => hk (by rw [e]; unfold jS; omega)))).trans (hk35 k (fun e => hk (by rw [e]; unfold jS; omega)))))
      refine g_callV (rest := []) B M_X12_here q2672 q2674 qs58 (P44.1.choose_spec.choose_spec) rfl (c_M_here (i := ((i + 1) + 1)) (b := false) P44.self HR45 ht (by omega) ⟨n60, n61⟩) rfl rfl (Nat.le_of_ble_eq_true rfl) (Nat.le_of_ble_eq_true rfl) (Nat.le_of_ble_eq_true rfl) (Nat.le_refl _) (Nat.le_refl _) dX12_number_90 (xkA (fun v46 T46 O46 R46 le46 p46 => ?_))
      obtain ⟨rfl, eT46, eO46, eR46⟩ := p46
      obtain rfl := eT46.symm
      obtain rfl := eO46.symm
      obtain rfl := eR46.symm
      refine g_bipush (v := nI 48) B dX12_number_93 (by decide) ?_
      refine g_bipush (v := nI 57) B dX12_number_95 (by decide) ?_
      refine g_callS (rest := []) B M_X12_isIn q2663 q2664 (c_M_isIn (x := (hereF a.txt ((i + 1) + 1))) (lo := (nI 48)) (hi := (nI 57))) rfl rfl (Nat.le_of_ble_eq_true rfl) (Nat.le_of_ble_eq_true rfl) (Nat.le_of_ble_eq_true rfl) (Nat.le_refl _) (Nat.le_refl _) dX12_number_97 (xkA (fun v47 T47 O47 R47 le47 p47 => ?_))
      obtain ⟨rfl, eT47, eO47, eR47⟩ := p47
      obtain rfl := eT47.symm
      obtain rfl := eO47.symm
      obtain rfl := eR47.symm
      refine g_if_eqB (tgt := 128) B dX12_number_100 (by decide) (fun c48 => ?_) (fun c48 => ?_)
      · refine g_iload_n B 1 dX12_number_128 rfl ?_
        refine g_if_eqN (tgt := 138) B (by omega) dX12_number_129 (by decide) (fun e => absurd e (by decide)) (fun _ => ?_)
        refine g_iload B 0 dX12_number_132 rfl ?_
        refine g_ineg B dX12_number_134 ?_
        refine g_goto (tgt := 140) B dX12_number_135 (by decide) ?_
        refine g_istore (lv2 := [(4, _), (3, _), (0, _), (1, _), (2, _)]) B dX12_number_140 (by decide) rfl ?_
        refine g_aload_n B 2 dX12_number_142 rfl ?_
        refine g_dup B dX12_number_143 rfl ?_
        refine m_get B P44 F_X12_215_12 (by decide) (Or.inr rfl) (show _ = (nI 0) from ((hk44 61 (by decide)).trans hs40)) dX12_number_144 ?_
        refine g_iload B 0 dX12_number_147 rfl ?_
        refine g_iload_n B 3 dX12_number_149 rfl ?_
        refine g_iload_n B 4 dX12_number_150 rfl ?_
        refine g_callS (rest := [_, _]) B M_X12_isIn q2663 q2664 (c_M_isIn (x := (-((hereF a.txt (i + 1)) - (nI 48)))) (lo := lo) (hi := hi)) rfl rfl (Nat.le_of_ble_eq_true rfl) (Nat.le_of_ble_eq_true rfl) (Nat.le_of_ble_eq_true rfl) (Nat.le_refl _) (Nat.le_refl _) dX12_number_151 (xkA (fun v50 T50 O50 R50 le50 p50 => ?_))
        obtain ⟨rfl, eT50, eO50, eR50⟩ := p50
        obtain rfl := eT50.symm
        obtain rfl := eO50.symm
        obtain rfl := eR50.symm
        refine g_if_neB (tgt := 161) B dX12_number_154 (by decide) (fun c51 => ?_) (fun c51 => ?_)
        · refine g_iconst (v := nI 0) B dX12_number_161 (by decide) ?_
          refine g_ior B dX12_number_162 ?_
          refine g_top (show Value.int _ = .int (nI 0) from by decide) ?_
          refine m_put B P44 F_X12_215_12 (by decide) (Or.inr rfl) rfl rfl rfl dX12_number_163 (fun O52 sc52 hs52 hk52 P52 => ?_)
          refine g_iload B 0 dX12_number_166 rfl ?_
          refine g_iret B E rfl rfl dX12_number_168 ?_
          have n60 : sc52 60 = (nI ((i + 1) + 1)) := ((hk52 60 (by decide)).trans hs44)
          have n61 : sc52 61 = (nI 0) := hs52
          have hN : pNum a.txt i lo hi = (((i + 1) + 1), some (-((hereF a.txt (i + 1)) - (nI 48)))) := by simp only [pNum, c3, c39, c48, c51, ↓reduceIte, Bool.false_eq_true, if_false]
          exact ⟨_, rfl, rfl, _, _, P52, ⟨_, rfl, fun w hw => (by rw [hN] at hw; cases hw; rfl)⟩, rfl, fun k h1 h2 => ((((hk52 k h2).trans (hk44 k h1)).trans (hk40 k h2)).trans (hk35 k h1)), by rw [hN]; exact n60, by rw [hN]; exact n61⟩
        · refine g_iconst (v := nI 1) B dX12_number_157 (by decide) ?_
          refine g_goto (tgt := 162) B dX12_number_158 (by decide) ?_
          refine g_ior B dX12_number_162 ?_
          refine g_top (show Value.int _ = .int (nI 1) from by decide) ?_
          refine m_put B P44 F_X12_215_12 (by decide) (Or.inr rfl) rfl rfl rfl dX12_number_163 (fun O53 sc53 hs53 hk53 P53 => ?_)
          refine g_iload B 0 dX12_number_166 rfl ?_
          refine g_iret B E rfl rfl dX12_number_168 ?_
          have n60 : sc53 60 = (nI ((i + 1) + 1)) := ((hk53 60 (by decide)).trans hs44)
          have n61 : sc53 61 = (nI 1) := hs53
          have hN : pNum a.txt i lo hi = (((i + 1) + 1), none) := by simp only [pNum, c3, c39, c48, c51, ↓reduceIte, Bool.false_eq_true, if_false]
          exact ⟨_, rfl, rfl, _, _, P53, ⟨_, rfl, fun w hw => (by rw [hN] at hw; cases hw)⟩, rfl, fun k h1 h2 => ((((hk53 k h2).trans (hk44 k h1)).trans (hk40 k h2)).trans (hk35 k h1)), by rw [hN]; exact n60, by rw [hN]; exact n61⟩
      · have hlt3 := hereF_in c48 (by decide)
        refine g_bipush (v := nI 10) B dX12_number_103 (by decide) ?_
        refine g_iload B 0 dX12_number_105 rfl ?_
        refine g_imul B dX12_number_107 ?_
        refine g_aload_n B 2 dX12_number_108 rfl ?_
        have n60 : sc44 60 = (nI ((i + 1) + 1)) := hs44
        have n61 : sc44 61 = (nI 0) := ((hk44 61 (by decide)).trans hs40)
        have HR54 : RepM a sc44 ar := hR.scj (fun k hk => (((hk44 k (fun e => hk (by rw [e]; unfold jS; omega))).trans (hk40 k (fun e => hk (by rw [e]; unfold jS; omega)))).trans (hk35 k (fun e => hk (by rw [e]; unfold jS; omega)))))
        refine g_callV (rest := [_]) B M_X12_here q2672 q2674 qs58 (P44.1.choose_spec.choose_spec) rfl (c_M_here (i := ((i + 1) + 1)) (b := false) P44.self HR54 ht (by omega) ⟨n60, n61⟩) rfl rfl (Nat.le_of_ble_eq_true rfl) (Nat.le_of_ble_eq_true rfl) (Nat.le_of_ble_eq_true rfl) (Nat.le_refl _) (Nat.le_refl _) dX12_number_109 (xkA (fun v55 T55 O55 R55 le55 p55 => ?_))
        obtain ⟨rfl, eT55, eO55, eR55⟩ := p55
        obtain rfl := eT55.symm
        obtain rfl := eO55.symm
        obtain rfl := eR55.symm
        refine g_iadd B dX12_number_112 ?_
        refine g_bipush (v := nI 48) B dX12_number_113 (by decide) ?_
        refine g_isub B dX12_number_115 ?_
        refine g_istore (lv2 := [(4, _), (3, _), (0, _), (1, _), (2, _)]) B dX12_number_116 (by decide) rfl ?_
        refine g_aload_n B 2 dX12_number_118 rfl ?_
        refine g_dup B dX12_number_119 rfl ?_
        refine m_get B P44 F_X12_212_12 (by decide) (Or.inl rfl) (show _ = (nI ((i + 1) + 1)) from hs44) dX12_number_120 ?_
        refine g_iconst (v := nI 1) B dX12_number_123 (by decide) ?_
        refine g_iaddN B dX12_number_124 ?_
        refine m_put B P44 F_X12_212_12 (by decide) (Or.inl rfl) rfl rfl rfl dX12_number_125 (fun O56 sc56 hs56 hk56 P56 => ?_)
        refine g_iload_n B 1 dX12_number_128 rfl ?_
        refine g_if_eqN (tgt := 138) B (by omega) dX12_number_129 (by decide) (fun e => absurd e (by decide)) (fun _ => ?_)
        refine g_iload B 0 dX12_number_132 rfl ?_
        refine g_ineg B dX12_number_134 ?_
        refine g_goto (tgt := 140) B dX12_number_135 (by decide) ?_
        refine g_istore (lv2 := [(4, _), (3, _), (0, _), (1, _), (2, _)]) B dX12_number_140 (by decide) rfl ?_
        refine g_aload_n B 2 dX12_number_142 rfl ?_
        refine g_dup B dX12_number_143 rfl ?_
        refine m_get B P56 F_X12_215_12 (by decide) (Or.inr rfl) (show _ = (nI 0) from ((hk56 61 (by decide)).trans ((hk44 61 (by decide)).trans hs40))) dX12_number_144 ?_
        refine g_iload B 0 dX12_number_147 rfl ?_
        refine g_iload_n B 3 dX12_number_149 rfl ?_
        refine g_iload_n B 4 dX12_number_150 rfl ?_
        refine g_callS (rest := [_, _]) B M_X12_isIn q2663 q2664 (c_M_isIn (x := (-((((nI 10) * ((hereF a.txt (i + 1)) - (nI 48))) + (hereF a.txt ((i + 1) + 1))) - (nI 48)))) (lo := lo) (hi := hi)) rfl rfl (Nat.le_of_ble_eq_true rfl) (Nat.le_of_ble_eq_true rfl) (Nat.le_of_ble_eq_true rfl) (Nat.le_refl _) (Nat.le_refl _) dX12_number_151 (xkA (fun v58 T58 O58 R58 le58 p58 => ?_))
        obtain ⟨rfl, eT58, eO58, eR58⟩ := p58
        obtain rfl := eT58.symm
        obtain rfl := eO58.symm
        obtain rfl := eR58.symm
        refine g_if_neB (tgt := 161) B dX12_number_154 (by decide) (fun c59 => ?_) (fun c59 => ?_)
        · refine g_iconst (v := nI 0) B dX12_number_161 (by decide) ?_
          refine g_ior B dX12_number_162 ?_
          refine g_top (show Value.int _ = .int (nI 0) from by decide) ?_
          refine m_put B P56 F_X12_215_12 (by decide) (Or.inr rfl) rfl rfl rfl dX12_number_163 (fun O60 sc60 hs60 hk60 P60 => ?_)
          refine g_iload B 0 dX12_number_166 rfl ?_
          refine g_iret B E rfl rfl dX12_number_168 ?_
          have n60 : sc60 60 = (nI (((i + 1) + 1) + 1)) := ((hk60 60 (by decide)).trans hs56)
          have n61 : sc60 61 = (nI 0) := hs60
          have hN : pNum a.txt i lo hi = ((((i + 1) + 1) + 1), some (-((((nI 10) * ((hereF a.txt (i + 1)) - (nI 48))) + (hereF a.txt ((i + 1) + 1))) - (nI 48)))) := by simp only [pNum, c3, c39, c48, c59, ↓reduceIte, Bool.false_eq_true, if_false]
          exact ⟨_, rfl, rfl, _, _, P60, ⟨_, rfl, fun w hw => (by rw [hN] at hw; cases hw; rfl)⟩, rfl, fun k h1 h2 => (((((hk60 k h2).trans (hk56 k h1)).trans (hk44 k h1)).trans (hk40 k h2)).trans (hk35 k h1)), by rw [hN]; exact n60, by rw [hN]; exact n61⟩
        · refine g_iconst (v := nI 1) B dX12_number_157 (by decide) ?_
          refine g_goto (tgt := 162) B dX12_number_158 (by decide) ?_
          refine g_ior B dX12_number_162 ?_
          refine g_top (show Value.int _ = .int (nI 1) from by decide) ?_
          refine m_put B P56 F_X12_215_12 (by decide) (Or.inr rfl) rfl rfl rfl dX12_number_163 (fun O61 sc61 hs61 hk61 P61 => ?_)
          refine g_iload B 0 dX12_number_166 rfl ?_
          refine g_iret B E rfl rfl dX12_number_168 ?_
          have n60 : sc61 60 = (nI (((i + 1) + 1) + 1)) := ((hk61 60 (by decide)).trans hs56)
          have n61 : sc61 61 = (nI 1) := hs61
          have hN : pNum a.txt i lo hi = ((((i + 1) + 1) + 1), none) := by simp only [pNum, c3, c39, c48, c59, ↓reduceIte, Bool.false_eq_true, if_false]
          exact ⟨_, rfl, rfl, _, _, P61, ⟨_, rfl, fun w hw => (by rw [hN] at hw; cases hw)⟩, rfl, fun k h1 h2 => (((((hk61 k h2).trans (hk56 k h1)).trans (hk44 k h1)).trans (hk40 k h2)).trans (hk35 k h1)), by rw [hN]; exact n60, by rw [hN]; exact n61⟩
    · refine g_iconst (v := nI 1) B dX12_number_52 (by decide) ?_
      refine g_goto (tgt := 57) B dX12_number_53 (by decide) ?_
      refine g_ior B dX12_number_57 ?_
      refine g_top (show Value.int _ = .int (nI 1) from by decide) ?_
      refine m_put B P35 F_X12_215_12 (by decide) (Or.inr rfl) rfl rfl rfl dX12_number_58 (fun O62 sc62 hs62 hk62 P62 => ?_)
      refine g_aload_n B 1 dX12_number_61 rfl ?_
      refine m_get B P62 F_X12_215_12 (by decide) (Or.inr rfl) (show _ = (nI 1) from hs62) dX12_number_62 ?_
      refine g_if_eqN (tgt := 70) B (by omega) dX12_number_65 (by decide) (fun e => absurd e (by decide)) (fun _ => ?_)
      refine g_iconst (v := nI 0) B dX12_number_68 (by decide) ?_
      refine g_iret B E rfl rfl dX12_number_69 ?_
      have n60 : sc62 60 = (nI (i + 1)) := ((hk62 60 (by decide)).trans hs35)
      have n61 : sc62 61 = (nI 1) := hs62
      have hN : pNum a.txt i lo hi = ((i + 1), none) := by simp only [pNum, c3, c39, ↓reduceIte, Bool.false_eq_true, if_false]
      exact ⟨_, rfl, rfl, _, _, P62, ⟨_, rfl, fun w hw => (by rw [hN] at hw; cases hw)⟩, rfl, fun k h1 h2 => ((hk62 k h2).trans (hk35 k h1)), by rw [hN]; exact n60, by rw [hN]; exact n61⟩
