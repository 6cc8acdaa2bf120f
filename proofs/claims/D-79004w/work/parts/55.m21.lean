set_option maxRecDepth 100000
/-- what stands at a place of a text -/
def hereF (t : List Nat) (i : Nat) : Int32 := if i < t.length then nI (t.getD i 0) else -1
def txOk (t : List Nat) : Prop := t.length ≤ 60 ∧ ∀ x, x ∈ t → x < 128
theorem txOk.at {t : List Nat} (h : txOk t) {i : Nat} (hi : i < t.length) : t.getD i 0 < 128 := h.2 _ (by
  rw [List.getD_eq_getElem?_getD, List.getElem?_eq_getElem hi]; exact List.getElem_mem _)
def letF (x : Int32) : Int32 := if x = nI 109 then nI 0 else if x = nI 102 then nI 1 else if x = nI 107 then nI 2 else if x = nI 99 then nI 3 else if x = nI 115 then nI 4 else if x = nI 100 then nI 5 else if x = nI 114 then nI 6 else -1
/-- the parser's place and fault -/
def pSt (i : Nat) (b : Bool) (sc : Nat → Int32) : Prop := sc 60 = nI i ∧ sc 61 = bI b
/-- nothing but the parser's place and fault -/
def pFr (sc sc2 : Nat → Int32) : Prop := ∀ k, k ≠ 60 → k ≠ 61 → sc2 k = sc k
theorem c_M_here {G : xG} {T : xT} {O R : xO} {m : Nat} {ad : Nat → Nat} {sc : Nat → Int32} {ar : Nat → Nat → Int32} {i : Nat} {b : Bool} (P : PM m ad O R sc ar T O R) {a : aA} (H : RepM a sc ar) (ht : txOk a.txt) (hi : i ≤ a.txt.length) (hp : pSt i b sc) : xCtr G yX12_here cX12_here 1 (some Jvm.ClassFile.FieldType.int) 0 0 0 0 [.ref m] (T, O, R) (xA (fun v T2 O2 R2 => v = .int (hereF a.txt i) ∧ T2 = T ∧ O2 = O ∧ R2 = R)) := by
  have hR := H
  obtain ⟨Htxt, Hop, Hinp, Hnm, Hstt, ⟨Hs0, Hs1, Hs2⟩, ⟨Hc0, Hc1, Hc2⟩, Hls, Hsp, Hpt, Hhd, Hch, Hex, Hwr⟩ := H
  have ht1 := ht.1
  refine xCtr.of (by decide +kernel) (Nat.le_of_ble_eq_true rfl) ?_
  intro Z B E hz hnm
  change xV Z (T, O, R) 0 [(0, .ref m)] [] 0 0
  refine g_aload_n B 0 dX12_here_0 rfl ?_
  refine m_get B P F_X12_212_12 (by decide) (Or.inl rfl) (show _ = (nI i) from hp.1) dX12_here_1 ?_
  refine g_aload_n B 0 dX12_here_4 rfl ?_
  refine m_get B P F_X12_208_12 (by decide) (Or.inl rfl) (show _ = (nI a.txt.length) from Htxt.1) dX12_here_5 ?_
  refine g_icmp_geN (tgt := 23) B (by omega) (by omega) dX12_here_8 (by decide) (fun c1 => ?_) (fun c1 => ?_)
  · refine g_iconst (v := (-1)) B dX12_here_23 (by decide) ?_
    refine g_iret B E rfl rfl dX12_here_24 ?_
    exact ⟨_, rfl, by rw [hereF, if_neg (by omega)], rfl, rfl, rfl⟩
  · refine g_aload_n B 0 dX12_here_11 rfl ?_
    refine m_geta B P F_X12_9_12 (by decide) (Or.inl rfl) dX12_here_12 ?_
    refine g_aload_n B 0 dX12_here_15 rfl ?_
    refine m_get B P F_X12_212_12 (by decide) (Or.inl rfl) (show _ = (nI i) from hp.1) dX12_here_16 ?_
    refine m_ld B P (by decide) rfl rfl (by show _ < 60; omega) (by decide) (show _ = (nI (a.txt.getD i 0)) from (Htxt.2 i (by omega))) dX12_here_19 ?_
    refine g_goto (tgt := 24) B dX12_here_20 (by decide) ?_
    refine g_iret B E rfl rfl dX12_here_24 ?_
    exact ⟨_, rfl, by rw [hereF, if_pos (by omega)], rfl, rfl, rfl⟩
theorem c_M_letter {G : xG} {T : xT} {O R : xO} {x : Int32}  : xCtr G yX12_letter cX12_letter 1 (some Jvm.ClassFile.FieldType.int) 0 0 0 0 [.int x] (T, O, R) (xA (fun v T2 O2 R2 => v = .int (letF x) ∧ T2 = T ∧ O2 = O ∧ R2 = R)) := by
  refine xCtr.of (by decide +kernel) (Nat.le_of_ble_eq_true rfl) ?_
  intro Z B E hz hnm
  change xV Z (T, O, R) 0 [(0, .int x)] [] 0 0
  refine g_iload_n B 0 dX12_letter_0 rfl ?_
  refine g_bipush (v := nI 109) B dX12_letter_1 (by decide) ?_
  refine g_icmp_ne (tgt := 10) B dX12_letter_3 (by decide) (fun c1 => ?_) (fun c1 => ?_)
  · refine g_iload_n B 0 dX12_letter_10 rfl ?_
    refine g_bipush (v := nI 102) B dX12_letter_11 (by decide) ?_
    refine g_icmp_ne (tgt := 20) B dX12_letter_13 (by decide) (fun c2 => ?_) (fun c2 => ?_)
    · refine g_iload_n B 0 dX12_letter_20 rfl ?_
      refine g_bipush (v := nI 107) B dX12_letter_21 (by decide) ?_
      refine g_icmp_ne (tgt := 30) B dX12_letter_23 (by decide) (fun c3 => ?_) (fun c3 => ?_)
      · refine g_iload_n B 0 dX12_letter_30 rfl ?_
        refine g_bipush (v := nI 99) B dX12_letter_31 (by decide) ?_
        refine g_icmp_ne (tgt := 40) B dX12_letter_33 (by decide) (fun c4 => ?_) (fun c4 => ?_)
        · refine g_iload_n B 0 dX12_letter_40 rfl ?_
          refine g_bipush (v := nI 115) B dX12_letter_41 (by decide) ?_
          refine g_icmp_ne (tgt := 50) B dX12_letter_43 (by decide) (fun c5 => ?_) (fun c5 => ?_)
          · refine g_iload_n B 0 dX12_letter_50 rfl ?_
            refine g_bipush (v := nI 100) B dX12_letter_51 (by decide) ?_
            refine g_icmp_ne (tgt := 60) B dX12_letter_53 (by decide) (fun c6 => ?_) (fun c6 => ?_)
            · refine g_iload_n B 0 dX12_letter_60 rfl ?_
              refine g_bipush (v := nI 114) B dX12_letter_61 (by decide) ?_
              refine g_icmp_ne (tgt := 71) B dX12_letter_63 (by decide) (fun c7 => ?_) (fun c7 => ?_)
              · refine g_iconst (v := (-1)) B dX12_letter_71 (by decide) ?_
                refine g_iret B E rfl rfl dX12_letter_72 ?_
                exact ⟨_, rfl, by rw [letF, if_neg c1, if_neg c2, if_neg c3, if_neg c4, if_neg c5, if_neg c6, if_neg c7], rfl, rfl, rfl⟩
              · refine g_bipush (v := nI 6) B dX12_letter_66 (by decide) ?_
                refine g_goto (tgt := 72) B dX12_letter_68 (by decide) ?_
                refine g_iret B E rfl rfl dX12_letter_72 ?_
                exact ⟨_, rfl, by rw [letF, if_neg c1, if_neg c2, if_neg c3, if_neg c4, if_neg c5, if_neg c6, if_pos c7], rfl, rfl, rfl⟩
            · refine g_iconst (v := nI 5) B dX12_letter_56 (by decide) ?_
              refine g_goto (tgt := 72) B dX12_letter_57 (by decide) ?_
              refine g_iret B E rfl rfl dX12_letter_72 ?_
              exact ⟨_, rfl, by rw [letF, if_neg c1, if_neg c2, if_neg c3, if_neg c4, if_neg c5, if_pos c6], rfl, rfl, rfl⟩
          · refine g_iconst (v := nI 4) B dX12_letter_46 (by decide) ?_
            refine g_goto (tgt := 72) B dX12_letter_47 (by decide) ?_
            refine g_iret B E rfl rfl dX12_letter_72 ?_
            exact ⟨_, rfl, by rw [letF, if_neg c1, if_neg c2, if_neg c3, if_neg c4, if_pos c5], rfl, rfl, rfl⟩
        · refine g_iconst (v := nI 3) B dX12_letter_36 (by decide) ?_
          refine g_goto (tgt := 72) B dX12_letter_37 (by decide) ?_
          refine g_iret B E rfl rfl dX12_letter_72 ?_
          exact ⟨_, rfl, by rw [letF, if_neg c1, if_neg c2, if_neg c3, if_pos c4], rfl, rfl, rfl⟩
      · refine g_iconst (v := nI 2) B dX12_letter_26 (by decide) ?_
        refine g_goto (tgt := 72) B dX12_letter_27 (by decide) ?_
        refine g_iret B E rfl rfl dX12_letter_72 ?_
        exact ⟨_, rfl, by rw [letF, if_neg c1, if_neg c2, if_pos c3], rfl, rfl, rfl⟩
    · refine g_iconst (v := nI 1) B dX12_letter_16 (by decide) ?_
      refine g_goto (tgt := 72) B dX12_letter_17 (by decide) ?_
      refine g_iret B E rfl rfl dX12_letter_72 ?_
      exact ⟨_, rfl, by rw [letF, if_neg c1, if_pos c2], rfl, rfl, rfl⟩
  · refine g_iconst (v := nI 0) B dX12_letter_6 (by decide) ?_
    refine g_goto (tgt := 72) B dX12_letter_7 (by decide) ?_
    refine g_iret B E rfl rfl dX12_letter_72 ?_
    exact ⟨_, rfl, by rw [letF, if_pos c1], rfl, rfl, rfl⟩
theorem c_M_sign {G : xG} {T : xT} {O R : xO} {m : Nat} {ad : Nat → Nat} {sc : Nat → Int32} {ar : Nat → Nat → Int32} {i c : Nat} (P : PM m ad O R sc ar T O R) {a : aA} (H : RepM a sc ar) (ht : txOk a.txt) (hi : i ≤ a.txt.length) (hp : pSt i false sc) : xCtr G yX12_sign cX12_sign 2 none 1 20 0 0 [.ref m, .int (nI c)] (T, O, R) (xN (mPostN m ad T O R (fun sc2 ar2 => ar2 = ar ∧ pFr sc sc2 ∧ sc2 60 = nI (if hereF a.txt i = nI c then i + 1 else i) ∧ sc2 61 = nI (if hereF a.txt i = nI c then 0 else 1)))) := by
  have hR := H
  obtain ⟨Htxt, Hop, Hinp, Hnm, Hstt, ⟨Hs0, Hs1, Hs2⟩, ⟨Hc0, Hc1, Hc2⟩, Hls, Hsp, Hpt, Hhd, Hch, Hex, Hwr⟩ := H
  have ht1 := ht.1
  refine xCtr.of (by decide +kernel) (Nat.le_of_ble_eq_true rfl) ?_
  intro Z B E hz hnm
  change xV Z (T, O, R) 0 [(0, .ref m), (1, .int (nI c))] [] 0 0
  refine g_aload_n B 0 dX12_sign_0 rfl ?_
  refine g_dup B dX12_sign_1 rfl ?_
  refine m_get B P F_X12_215_12 (by decide) (Or.inr rfl) (show _ = (bI false) from hp.2) dX12_sign_2 ?_
  refine g_aload_n B 0 dX12_sign_5 rfl ?_
  refine g_callV (rest := [_, _]) B M_X12_here q2672 q2674 qs58 (P.1.choose_spec.choose_spec) rfl (c_M_here P.self hR ht hi hp) rfl rfl (Nat.le_of_ble_eq_true rfl) (Nat.le_of_ble_eq_true rfl) (Nat.le_of_ble_eq_true rfl) (Nat.le_refl _) (Nat.le_refl _) dX12_sign_6 (xkA (fun v1 T1 O1 R1 le1 p1 => ?_))
  obtain ⟨rfl, eT1, eO1, eR1⟩ := p1
  obtain rfl := eT1.symm
  obtain rfl := eO1.symm
  obtain rfl := eR1.symm
  refine g_iload_n B 1 dX12_sign_9 rfl ?_
  refine g_icmp_eq (tgt := 17) B dX12_sign_10 (by decide) (fun c2 => ?_) (fun c2 => ?_)
  · refine g_iconst (v := nI 0) B dX12_sign_17 (by decide) ?_
    refine g_ior B dX12_sign_18 ?_
    refine g_top (show Value.int _ = .int (nI 0) from by decide) ?_
    refine m_put B P F_X12_215_12 (by decide) (Or.inr rfl) rfl rfl rfl dX12_sign_19 (fun O3 sc3 hs3 hk3 P3 => ?_)
    refine g_aload_n B 0 dX12_sign_22 rfl ?_
    refine g_dup B dX12_sign_23 rfl ?_
    refine m_get B P3 F_X12_212_12 (by decide) (Or.inl rfl) (show _ = (nI i) from ((hk3 60 (by decide)).trans hp.1)) dX12_sign_24 ?_
    refine g_aload_n B 0 dX12_sign_27 rfl ?_
    refine m_get B P3 F_X12_215_12 (by decide) (Or.inr rfl) (show _ = (nI 0) from hs3) dX12_sign_28 ?_
    refine g_if_eqN (tgt := 38) B (by omega) dX12_sign_31 (by decide) (fun _ => ?_) (fun e => absurd e (by decide))
    refine g_iconst (v := nI 1) B dX12_sign_38 (by decide) ?_
    refine g_iaddN B dX12_sign_39 ?_
    refine m_put B P3 F_X12_212_12 (by decide) (Or.inl rfl) rfl rfl rfl dX12_sign_40 (fun O5 sc5 hs5 hk5 P5 => ?_)
    refine g_vret B E rfl dX12_sign_43 ?_
    have n60 : sc5 60 = (nI (i + 1)) := hs5
    have n61 : sc5 61 = (nI 0) := ((hk5 61 (by decide)).trans hs3)
    exact ⟨rfl, rfl, _, _, P5, rfl, fun k h1 h2 => (hk5 k h1).trans (hk3 k h2), by rw [if_pos c2]; exact n60, by rw [if_pos c2]; exact n61⟩
  · refine g_iconst (v := nI 1) B dX12_sign_13 (by decide) ?_
    refine g_goto (tgt := 18) B dX12_sign_14 (by decide) ?_
    refine g_ior B dX12_sign_18 ?_
    refine g_top (show Value.int _ = .int (nI 1) from by decide) ?_
    refine m_put B P F_X12_215_12 (by decide) (Or.inr rfl) rfl rfl rfl dX12_sign_19 (fun O6 sc6 hs6 hk6 P6 => ?_)
    refine g_aload_n B 0 dX12_sign_22 rfl ?_
    refine g_dup B dX12_sign_23 rfl ?_
    refine m_get B P6 F_X12_212_12 (by decide) (Or.inl rfl) (show _ = (nI i) from ((hk6 60 (by decide)).trans hp.1)) dX12_sign_24 ?_
    refine g_aload_n B 0 dX12_sign_27 rfl ?_
    refine m_get B P6 F_X12_215_12 (by decide) (Or.inr rfl) (show _ = (nI 1) from hs6) dX12_sign_28 ?_
    refine g_if_eqN (tgt := 38) B (by omega) dX12_sign_31 (by decide) (fun e => absurd e (by decide)) (fun _ => ?_)
    refine g_iconst (v := nI 0) B dX12_sign_34 (by decide) ?_
    refine g_goto (tgt := 39) B dX12_sign_35 (by decide) ?_
    refine g_iaddN B dX12_sign_39 ?_
    refine m_put B P6 F_X12_212_12 (by decide) (Or.inl rfl) rfl rfl rfl dX12_sign_40 (fun O8 sc8 hs8 hk8 P8 => ?_)
    refine g_vret B E rfl dX12_sign_43 ?_
    have n60 : sc8 60 = (nI (i + 0)) := hs8
    have n61 : sc8 61 = (nI 1) := ((hk8 61 (by decide)).trans hs6)
    exact ⟨rfl, rfl, _, _, P8, rfl, fun k h1 h2 => (hk8 k h1).trans (hk6 k h2), by rw [if_neg c2]; exact n60, by rw [if_neg c2]; exact n61⟩
theorem hereF_lt {t : List Nat} {i c : Nat} (h : hereF t i = nI c) (hc : c < 128) : i < t.length := by
  unfold hereF at h
  split at h
  · assumption
  · exact absurd (congrArg Int32.toInt h) (by rw [nI_toInt (by omega)]; show ¬ (-1 : Int) = _; omega)
theorem hereF_in {t : List Nat} {i : Nat} {lo hi : Int32} (h : inB (hereF t i) lo hi = true) (hlo : (-1 : Int32) < lo) : i < t.length := by
  unfold hereF at h
  split at h
  · assumption
  · exact absurd h (by rw [inB_l hlo]; decide)
/-- a number: the place behind it, and what it is -/
def pNum (t : List Nat) (i : Nat) (lo hi : Int32) : Nat × Option Int32 :=
  let j := if hereF t i = nI 45 then i + 1 else i
  if inB (hereF t j) (nI 48) (nI 57) = true then
    let q : Nat × Int32 := if inB (hereF t (j + 1)) (nI 48) (nI 57) = true then (j + 2, nI 10 * (hereF t j - nI 48) + hereF t (j + 1) - nI 48) else (j + 1, hereF t j - nI 48)
    let w := if hereF t i = nI 45 then -q.2 else q.2
    if inB w lo hi = true then (q.1, some w) else (q.1, none)
  else (j, none)
theorem c_M_instances {G : xG} {T : xT} {O R : xO} {m : Nat} {ad : Nat → Nat} {sc : Nat → Int32} {ar : Nat → Nat → Int32} {i : Nat} (P : PM m ad O R sc ar T O R) {a : aA} (H : RepM a sc ar) (ht : txOk a.txt) (hi : i ≤ a.txt.length) (hp : pSt i false sc) : xCtr G yX12_instances cX12_instances 2 (some Jvm.ClassFile.FieldType.int) 1 22 0 0 [.ref m] (T, O, R) (xA (mPost m ad T O R (fun v sc2 ar2 => v = .int (hereF a.txt i - nI 48) ∧ ar2 = ar ∧ pFr sc sc2 ∧ sc2 60 = nI (if inB (hereF a.txt i - nI 48) (nI 1) (nI 3) = true then i + 1 else i) ∧ sc2 61 = nI (if inB (hereF a.txt i - nI 48) (nI 1) (nI 3) = true then 0 else 1)))) := by
  have hR := H
  obtain ⟨Htxt, Hop, Hinp, Hnm, Hstt, ⟨Hs0, Hs1, Hs2⟩, ⟨Hc0, Hc1, Hc2⟩, Hls, Hsp, Hpt, Hhd, Hch, Hex, Hwr⟩ := H
  have ht1 := ht.1
  refine xCtr.of (by decide +kernel) (Nat.le_of_ble_eq_true rfl) ?_
  intro Z B E hz hnm
  change xV Z (T, O, R) 0 [(0, .ref m)] [] 0 0
  refine g_aload_n B 0 dX12_instances_0 rfl ?_
  refine g_callV (rest := []) B M_X12_here q2672 q2674 qs58 (P.1.choose_spec.choose_spec) rfl (c_M_here P.self hR ht hi hp) rfl rfl (Nat.le_of_ble_eq_true rfl) (Nat.le_of_ble_eq_true rfl) (Nat.le_of_ble_eq_true rfl) (Nat.le_refl _) (Nat.le_refl _) dX12_instances_1 (xkA (fun v1 T1 O1 R1 le1 p1 => ?_))
  obtain ⟨rfl, eT1, eO1, eR1⟩ := p1
  obtain rfl := eT1.symm
  obtain rfl := eO1.symm
  obtain rfl := eR1.symm
  refine g_bipush (v := nI 48) B dX12_instances_4 (by decide) ?_
  refine g_isub B dX12_instances_6 ?_
  refine g_istore_n (lv2 := [(1, _), (0, _)]) B dX12_instances_7 (by decide) rfl ?_
  refine g_aload_n B 1 dX12_instances_8 rfl ?_
  refine g_dup B dX12_instances_9 rfl ?_
  refine m_get B P F_X12_215_12 (by decide) (Or.inr rfl) (show _ = (bI false) from hp.2) dX12_instances_10 ?_
  refine g_iload_n B 0 dX12_instances_13 rfl ?_
  refine g_iconst (v := nI 1) B dX12_instances_14 (by decide) ?_
  refine g_iconst (v := nI 3) B dX12_instances_15 (by decide) ?_
  refine g_callS (rest := [_, _]) B M_X12_isIn q2663 q2664 (c_M_isIn (x := ((hereF a.txt i) - (nI 48))) (lo := (nI 1)) (hi := (nI 3))) rfl rfl (Nat.le_of_ble_eq_true rfl) (Nat.le_of_ble_eq_true rfl) (Nat.le_of_ble_eq_true rfl) (Nat.le_refl _) (Nat.le_refl _) dX12_instances_16 (xkA (fun v2 T2 O2 R2 le2 p2 => ?_))
  obtain ⟨rfl, eT2, eO2, eR2⟩ := p2
  obtain rfl := eT2.symm
  obtain rfl := eO2.symm
  obtain rfl := eR2.symm
  refine g_if_neB (tgt := 26) B dX12_instances_19 (by decide) (fun c3 => ?_) (fun c3 => ?_)
  · refine g_iconst (v := nI 0) B dX12_instances_26 (by decide) ?_
    refine g_ior B dX12_instances_27 ?_
    refine g_top (show Value.int _ = .int (nI 0) from by decide) ?_
    refine m_put B P F_X12_215_12 (by decide) (Or.inr rfl) rfl rfl rfl dX12_instances_28 (fun O4 sc4 hs4 hk4 P4 => ?_)
    refine g_aload_n B 1 dX12_instances_31 rfl ?_
    refine g_dup B dX12_instances_32 rfl ?_
    refine m_get B P4 F_X12_212_12 (by decide) (Or.inl rfl) (show _ = (nI i) from ((hk4 60 (by decide)).trans hp.1)) dX12_instances_33 ?_
    refine g_aload_n B 1 dX12_instances_36 rfl ?_
    refine m_get B P4 F_X12_215_12 (by decide) (Or.inr rfl) (show _ = (nI 0) from hs4) dX12_instances_37 ?_
    refine g_if_eqN (tgt := 47) B (by omega) dX12_instances_40 (by decide) (fun _ => ?_) (fun e => absurd e (by decide))
    refine g_iconst (v := nI 1) B dX12_instances_47 (by decide) ?_
    refine g_iaddN B dX12_instances_48 ?_
    refine m_put B P4 F_X12_212_12 (by decide) (Or.inl rfl) rfl rfl rfl dX12_instances_49 (fun O6 sc6 hs6 hk6 P6 => ?_)
    refine g_iload_n B 0 dX12_instances_52 rfl ?_
    refine g_iret B E rfl rfl dX12_instances_53 ?_
    have n60 : sc6 60 = (nI (i + 1)) := hs6
    have n61 : sc6 61 = (nI 0) := ((hk6 61 (by decide)).trans hs4)
    exact ⟨_, rfl, rfl, _, _, P6, rfl, rfl, fun k h1 h2 => (hk6 k h1).trans (hk4 k h2), by rw [if_pos c3]; exact n60, by rw [if_pos c3]; exact n61⟩
  · refine g_iconst (v := nI 1) B dX12_instances_22 (by decide) ?_
    refine g_goto (tgt := 27) B dX12_instances_23 (by decide) ?_
    refine g_ior B dX12_instances_27 ?_
    refine g_top (show Value.int _ = .int (nI 1) from by decide) ?_
    refine m_put B P F_X12_215_12 (by decide) (Or.inr rfl) rfl rfl rfl dX12_instances_28 (fun O7 sc7 hs7 hk7 P7 => ?_)
    refine g_aload_n B 1 dX12_instances_31 rfl ?_
    refine g_dup B dX12_instances_32 rfl ?_
    refine m_get B P7 F_X12_212_12 (by decide) (Or.inl rfl) (show _ = (nI i) from ((hk7 60 (by decide)).trans hp.1)) dX12_instances_33 ?_
    refine g_aload_n B 1 dX12_instances_36 rfl ?_
    refine m_get B P7 F_X12_215_12 (by decide) (Or.inr rfl) (show _ = (nI 1) from hs7) dX12_instances_37 ?_
    refine g_if_eqN (tgt := 47) B (by omega) dX12_instances_40 (by decide) (fun e => absurd e (by decide)) (fun _ => ?_)
    refine g_iconst (v := nI 0) B dX12_instances_43 (by decide) ?_
    refine g_goto (tgt := 48) B dX12_instances_44 (by decide) ?_
    refine g_iaddN B dX12_instances_48 ?_
    refine m_put B P7 F_X12_212_12 (by decide) (Or.inl rfl) rfl rfl rfl dX12_instances_49 (fun O9 sc9 hs9 hk9 P9 => ?_)
    refine g_iload_n B 0 dX12_instances_52 rfl ?_
    refine g_iret B E rfl rfl dX12_instances_53 ?_
    have n60 : sc9 60 = (nI (i + 0)) := hs9
    have n61 : sc9 61 = (nI 1) := ((hk9 61 (by decide)).trans hs7)
    exact ⟨_, rfl, rfl, _, _, P9, rfl, rfl, fun k h1 h2 => (hk9 k h1).trans (hk7 k h2), by rw [if_neg (by rw [c3]; decide)]; exact n60, by rw [if_neg (by rw [c3]; decide)]; exact n61⟩
