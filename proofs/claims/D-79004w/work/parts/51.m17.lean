set_option maxRecDepth 100000
def aA.instF (a : aA) (o i w : Int32) : Int32 :=
  if inB o (nI 0) (nI (a.n - 2 + 1)) = true ∧ inB i (nI 0) (nI (a.p o.toNatClampNeg - 1)) = true then
    if inB w (nI 0) (nI 5) = true then
      (match w.toNatClampNeg with
      | 0 => nI (a.ls o.toNatClampNeg i.toNatClampNeg).length
      | 1 => bI (a.hd o.toNatClampNeg i.toNatClampNeg)
      | 2 => nI (aBits (a.sp o.toNatClampNeg i.toNatClampNeg))
      | 3 => nI (a.pt o.toNatClampNeg i.toNatClampNeg)
      | 4 => nI (a.ct 0 o.toNatClampNeg i.toNatClampNeg)
      | _ => nI (a.keysF o.toNatClampNeg i.toNatClampNeg))
    else -1000000002
  else -1000000001
def aA.chanF (a : aA) (o i j w : Int32) : Int32 :=
  if inB o (nI 0) (nI (a.n - 2)) = true ∧ inB i (nI 0) (nI (a.p o.toNatClampNeg - 1)) = true ∧ inB j (nI 0) (nI (a.p (o.toNatClampNeg + 1) - 1)) = true then
    if inB w (nI 0) (nI 4) = true then
      (match w.toNatClampNeg with
      | 0 => nI (a.ch o.toNatClampNeg i.toNatClampNeg j.toNatClampNeg).1.length
      | 1 => nI (a.ch o.toNatClampNeg i.toNatClampNeg j.toNatClampNeg).2.1.length
      | 2 => nI (cRecs (a.ch o.toNatClampNeg i.toNatClampNeg j.toNatClampNeg))
      | 3 => nI (a.ch o.toNatClampNeg i.toNatClampNeg j.toNatClampNeg).2.2
      | _ => nI (a.cf 2 - (a.ch o.toNatClampNeg i.toNatClampNeg j.toNatClampNeg).1.length))
    else -1000000002
  else -1000000001
/-- what the sink has counted -/
def aA.effF (a : aA) : Nat → Int32
  | 0 => nI 0
  | k + 1 => aA.effF a k + ((a.st 0 (a.n - 2 + 1) k).getD (0, 0)).2
def aA.cntF (a : aA) (w : Int32) : Int32 :=
  if inB w (nI 0) (nI 9) = true then
    (match w.toNatClampNeg with
    | 0 => nI (a.n - 2 + 2)
    | 1 => nI a.inp.length
    | 2 => nI (a.of 0)
    | 3 => nI (a.nm 0)
    | 4 => nI (a.nm 1)
    | 5 => nI (a.nm 2)
    | 6 => a.fl
    | 7 => nI (sumN (fun x => cRecs (a.ch (x / 9) (x / 3 % 3) (x % 3))) 54)
    | 8 => nI (sumN (fun x => (a.ls (x / 3) (x % 3)).length) 18)
    | _ => a.effF 16)
  else -1000000002
theorem keysF_no {B : Nat} {a : aA} (W : WF B a) {o : Nat} (h : a.ky o = false) (i k : Nat) : sumN (fun key => if (a.st 0 o key).isSome = true ∧ aHome key (a.p o) = i then 1 else 0) k = 0 := sumN_z (fun j _ => by
  rw [(W.st 0 o j).1 h]
  exact if_neg (fun c => by cases c.1))
theorem c_M_keysOf {G : xG} {T : xT} {O R : xO} {m : Nat} {ad : Nat → Nat} {sc : Nat → Int32} {ar : Nat → Nat → Int32} {Bd : Nat} {o i : Nat} (P : PM m ad O R sc ar T O R) {a : aA} (H : RepM a sc ar) (W : WF Bd a) (ho : o < a.n) (hi : i < 3) : xCtr G yX12_keysOf cX12_keysOf 5 (some Jvm.ClassFile.FieldType.int) 1 22 0 0 [.ref m, .int (nI o), .int (nI i)] (T, O, R) (xA (fun v T2 O2 R2 => v = .int (nI (a.keysF o i)) ∧ T2 = T ∧ O2 = O ∧ R2 = R)) := by
  have hR := H
  obtain ⟨Htxt, Hop, Hinp, Hnm, Hstt, ⟨Hs0, Hs1, Hs2⟩, ⟨Hc0, Hc1, Hc2⟩, Hls, Hsp, Hpt, Hhd, Hch, Hex, Hwr⟩ := H
  have hn2 := W.n2
  have hn6 := W.n6
  have hp3 := (W.p1 o ho).2
  refine xCtr.of (by decide +kernel) (Nat.le_of_ble_eq_true rfl) ?_
  intro Z B E hz hnm
  change xV Z (T, O, R) 0 [(0, .ref m), (1, .int (nI o)), (2, .int (nI i))] [] 0 0
  refine g_iconst (v := nI 0) B dX12_keysOf_0 (by decide) ?_
  refine g_istore_n (lv2 := [(3, _), (0, _), (1, _), (2, _)]) B dX12_keysOf_1 (by decide) rfl ?_
  refine g_iconst (v := nI 0) B dX12_keysOf_2 (by decide) ?_
  refine g_istore (lv2 := [(4, _), (3, _), (0, _), (1, _), (2, _)]) B dX12_keysOf_3 (by decide) rfl ?_
  have L : ∀ (d x : Nat), d = 16 - x → x ≤ 16 → xV Z (T, O, R) 5 [(4, .int (nI x)), (3, .int (nI (sumN (fun key => if (a.st 0 o key).isSome = true ∧ aHome key (a.p o) = i then 1 else 0) x))), (0, .ref m), (1, .int (nI o)), (2, .int (nI i))] [] 0 0 := by
    intro d
    induction d using Nat.strongRecOn with
    | _ d ih =>
      intro x hd hx
      have hhm : aHome x (a.p o) < a.p o := aHome_lt (W.p1 o ho).1
      refine g_iload B 0 dX12_keysOf_5 rfl ?_
      refine g_bipush (v := nI 16) B dX12_keysOf_7 (by decide) ?_
      refine g_icmp_geN (tgt := 60) B (by omega) (by omega) dX12_keysOf_9 (by decide) (fun c61 => ?_) (fun c61 => ?_)
      · refine g_iload_n B 1 dX12_keysOf_60 rfl ?_
        refine g_iret B E rfl rfl dX12_keysOf_61 ?_
        have hE : (sumN (fun key => if (a.st 0 o key).isSome = true ∧ aHome key (a.p o) = i then 1 else 0) x) = a.keysF o i := by rw [show x = 16 by omega]; rfl
        exact ⟨_, rfl, by rw [hE], rfl, rfl, rfl⟩
      · refine g_aload_n B 2 dX12_keysOf_12 rfl ?_
        refine g_iload_n B 3 dX12_keysOf_13 rfl ?_
        refine g_callV (rest := []) B M_X12_isKeyed q2751 q2753 qs72 (P.1.choose_spec.choose_spec) rfl (c_M_isKeyed P.self hR (o := o) (show o < a.n by omega) (show a.n ≤ 6 by omega) (W.kd8 (by omega))) rfl rfl (Nat.le_of_ble_eq_true rfl) (Nat.le_of_ble_eq_true rfl) (Nat.le_of_ble_eq_true rfl) (Nat.le_refl _) (Nat.le_refl _) dX12_keysOf_14 (xkA (fun v62 T62 O62 R62 le62 p62 => ?_))
        obtain ⟨rfl, eT62, eO62, eR62⟩ := p62
        obtain rfl := eT62.symm
        obtain rfl := eO62.symm
        obtain rfl := eR62.symm
        refine g_top (show Value.int _ = .int (bI (a.ky o)) from rfl) ?_
        refine g_if_eqB (tgt := 60) B dX12_keysOf_17 (by decide) (fun c63 => ?_) (fun c63 => ?_)
        · refine g_iload_n B 1 dX12_keysOf_60 rfl ?_
          refine g_iret B E rfl rfl dX12_keysOf_61 ?_
          have hE : (sumN (fun key => if (a.st 0 o key).isSome = true ∧ aHome key (a.p o) = i then 1 else 0) x) = a.keysF o i := by unfold aA.keysF; rw [keysF_no W c63, keysF_no W c63]
          exact ⟨_, rfl, by rw [hE], rfl, rfl, rfl⟩
        · refine g_iload_n B 1 dX12_keysOf_20 rfl ?_
          refine g_aload_n B 2 dX12_keysOf_21 rfl ?_
          refine m_geta B P F_X12_56_12 (by decide) (Or.inr rfl) dX12_keysOf_22 ?_
          refine g_bipush (v := nI 16) B dX12_keysOf_25 (by decide) ?_
          refine g_iload_n B 3 dX12_keysOf_27 rfl ?_
          refine g_imulN B dX12_keysOf_28 ?_
          refine g_iload B 0 dX12_keysOf_29 rfl ?_
          refine g_iaddN B dX12_keysOf_31 ?_
          refine m_ldz B P (by decide) rfl rfl (by show _ < 96; omega) (by decide) (show _ = (bI ((a.st 0 o x).isSome)) from (Hs0 o (by omega) x (by omega)).1) dX12_keysOf_32 ?_
          refine g_if_eqB (tgt := 51) B dX12_keysOf_33 (by decide) (fun c64 => ?_) (fun c64 => ?_)
          · refine g_iconst (v := nI 0) B dX12_keysOf_51 (by decide) ?_
            refine g_iaddN B dX12_keysOf_52 ?_
            refine g_istore_n (lv2 := [(3, _), (4, _), (0, _), (1, _), (2, _)]) B dX12_keysOf_53 (by decide) rfl ?_
            refine g_iinc (v := nI (x + 1)) (lv2 := [(4, _), (3, _), (0, _), (1, _), (2, _)]) B 1 dX12_keysOf_54 rfl (nI_1 _) (by decide) rfl ?_
            refine g_goto (tgt := 5) B dX12_keysOf_57 (by decide) ?_
            have hc : (if (a.st 0 o x).isSome = true ∧ aHome x (a.p o) = i then 1 else 0) = 0 := if_neg (fun e => by rw [c64] at e; exact Bool.noConfusion e.1)
            have hs : (sumN (fun key => if (a.st 0 o key).isSome = true ∧ aHome key (a.p o) = i then 1 else 0) x) + 0 = (sumN (fun key => if (a.st 0 o key).isSome = true ∧ aHome key (a.p o) = i then 1 else 0) (x + 1)) := congrArg (fun z => (sumN (fun key => if (a.st 0 o key).isSome = true ∧ aHome key (a.p o) = i then 1 else 0) x) + z) hc.symm
            rw [hs]
            exact ih (16 - (x + 1)) (by omega) (x + 1) rfl (by omega)
          · refine g_aload_n B 2 dX12_keysOf_36 rfl ?_
            refine g_iload_n B 3 dX12_keysOf_37 rfl ?_
            refine g_iload B 0 dX12_keysOf_38 rfl ?_
            refine g_callV (rest := [_]) B M_X12_home q2755 q2757 qs73 (P.1.choose_spec.choose_spec) rfl (c_M_home P.self hR (o := o) (key := x) (show o < a.n by omega) (show a.n ≤ 6 by omega) (by omega) (W.p1 _ (by omega)).2) rfl rfl (Nat.le_of_ble_eq_true rfl) (Nat.le_of_ble_eq_true rfl) (Nat.le_of_ble_eq_true rfl) (Nat.le_refl _) (Nat.le_refl _) dX12_keysOf_40 (xkA (fun v65 T65 O65 R65 le65 p65 => ?_))
            obtain ⟨rfl, eT65, eO65, eR65⟩ := p65
            obtain rfl := eT65.symm
            obtain rfl := eO65.symm
            obtain rfl := eR65.symm
            refine g_top (show Value.int _ = .int (nI (aHome x (a.p o))) from rfl) ?_
            refine g_iload_n B 4 dX12_keysOf_43 rfl ?_
            refine g_icmp_neN (tgt := 51) B (by omega) (by omega) dX12_keysOf_44 (by decide) (fun c66 => ?_) (fun c66 => ?_)
            · refine g_iconst (v := nI 0) B dX12_keysOf_51 (by decide) ?_
              refine g_iaddN B dX12_keysOf_52 ?_
              refine g_istore_n (lv2 := [(3, _), (4, _), (0, _), (1, _), (2, _)]) B dX12_keysOf_53 (by decide) rfl ?_
              refine g_iinc (v := nI (x + 1)) (lv2 := [(4, _), (3, _), (0, _), (1, _), (2, _)]) B 1 dX12_keysOf_54 rfl (nI_1 _) (by decide) rfl ?_
              refine g_goto (tgt := 5) B dX12_keysOf_57 (by decide) ?_
              have hc : (if (a.st 0 o x).isSome = true ∧ aHome x (a.p o) = i then 1 else 0) = 0 := if_neg (fun e => c66 e.2)
              have hs : (sumN (fun key => if (a.st 0 o key).isSome = true ∧ aHome key (a.p o) = i then 1 else 0) x) + 0 = (sumN (fun key => if (a.st 0 o key).isSome = true ∧ aHome key (a.p o) = i then 1 else 0) (x + 1)) := congrArg (fun z => (sumN (fun key => if (a.st 0 o key).isSome = true ∧ aHome key (a.p o) = i then 1 else 0) x) + z) hc.symm
              rw [hs]
              exact ih (16 - (x + 1)) (by omega) (x + 1) rfl (by omega)
            · refine g_iconst (v := nI 1) B dX12_keysOf_47 (by decide) ?_
              refine g_goto (tgt := 52) B dX12_keysOf_48 (by decide) ?_
              refine g_iaddN B dX12_keysOf_52 ?_
              refine g_istore_n (lv2 := [(3, _), (4, _), (0, _), (1, _), (2, _)]) B dX12_keysOf_53 (by decide) rfl ?_
              refine g_iinc (v := nI (x + 1)) (lv2 := [(4, _), (3, _), (0, _), (1, _), (2, _)]) B 1 dX12_keysOf_54 rfl (nI_1 _) (by decide) rfl ?_
              refine g_goto (tgt := 5) B dX12_keysOf_57 (by decide) ?_
              have hc : (if (a.st 0 o x).isSome = true ∧ aHome x (a.p o) = i then 1 else 0) = 1 := if_pos ⟨c64, c66⟩
              have hs : (sumN (fun key => if (a.st 0 o key).isSome = true ∧ aHome key (a.p o) = i then 1 else 0) x) + 1 = (sumN (fun key => if (a.st 0 o key).isSome = true ∧ aHome key (a.p o) = i then 1 else 0) (x + 1)) := congrArg (fun z => (sumN (fun key => if (a.st 0 o key).isSome = true ∧ aHome key (a.p o) = i then 1 else 0) x) + z) hc.symm
              rw [hs]
              exact ih (16 - (x + 1)) (by omega) (x + 1) rfl (by omega)
  exact L _ 0 rfl (Nat.zero_le _)
theorem c_M_instance {G : xG} {T : xT} {O R : xO} {m : Nat} {ad : Nat → Nat} {sc : Nat → Int32} {ar : Nat → Nat → Int32} {Bd : Nat} {o i w : Int32} (P : PM m ad O R sc ar T O R) {a : aA} (H : RepM a sc ar) (W : WF Bd a) : xCtr G yX12_instance cX12_instance 5 (some Jvm.ClassFile.FieldType.int) 2 46 0 0 [.ref m, .int o, .int i, .int w] (T, O, R) (xA (fun v T2 O2 R2 => v = .int (a.instF o i w) ∧ T2 = T ∧ O2 = O ∧ R2 = R)) := by
  have hR := H
  obtain ⟨Htxt, Hop, Hinp, Hnm, Hstt, ⟨Hs0, Hs1, Hs2⟩, ⟨Hc0, Hc1, Hc2⟩, Hls, Hsp, Hpt, Hhd, Hch, Hex, Hwr⟩ := H
  have hn2 := W.n2
  have hn6 := W.n6
  refine xCtr.of (by decide +kernel) (Nat.le_of_ble_eq_true rfl) ?_
  intro Z B E hz hnm
  change xV Z (T, O, R) 0 [(0, .ref m), (1, .int o), (2, .int i), (3, .int w)] [] 0 0
  refine g_aload_n B 0 dX12_instance_0 rfl ?_
  refine g_iload_n B 1 dX12_instance_1 rfl ?_
  refine g_callV (rest := []) B M_X12_isOperator q2842 q2844 qs89 (P.1.choose_spec.choose_spec) rfl (c_M_isOperator P.self hR (x := o)) rfl rfl (Nat.le_of_ble_eq_true rfl) (Nat.le_of_ble_eq_true rfl) (Nat.le_of_ble_eq_true rfl) (Nat.le_refl _) (Nat.le_refl _) dX12_instance_2 (xkA (fun v1 T1 O1 R1 le1 p1 => ?_))
  obtain ⟨rfl, eT1, eO1, eR1⟩ := p1
  obtain rfl := eT1.symm
  obtain rfl := eO1.symm
  obtain rfl := eR1.symm
  refine g_if_eqB (tgt := 24) B dX12_instance_5 (by decide) (fun c2 => ?_) (fun c2 => ?_)
  · refine g_ldcw (v := (-1000000001)) B q2846 dX12_instance_24 ?_
    refine g_iret B E rfl rfl dX12_instance_27 ?_
    have hF : a.instF o i w = -1000000001 := by rw [aA.instF, if_neg (fun h => by have h3 := h.1; rw [c2] at h3; exact Bool.noConfusion h3)]
    exact ⟨_, rfl, by rw [hF], rfl, rfl, rfl⟩
  · have hbo := c2
    obtain ⟨no, h_no, e_no⟩ := inB_nI (by omega) hbo
    have hc_no : o.toNatClampNeg = no := by rw [e_no]; exact nI_clamp (by omega)
    subst e_no
    have hpp := W.p1 no (by omega)
    refine g_iload_n B 2 dX12_instance_8 rfl ?_
    refine g_iconst (v := nI 0) B dX12_instance_9 (by decide) ?_
    refine g_aload_n B 0 dX12_instance_10 rfl ?_
    refine m_geta B P F_X12_22_12 (by decide) (Or.inl rfl) dX12_instance_11 ?_
    refine g_iload_n B 1 dX12_instance_14 rfl ?_
    refine m_ld B P (by decide) rfl rfl (by show _ < 6; omega) (by decide) (show _ = (nI (a.p no)) from (Hop.2 no (by omega)).2.2.2) dX12_instance_15 ?_
    refine g_iconst (v := nI 1) B dX12_instance_16 (by decide) ?_
    refine g_isubN B (by omega) dX12_instance_17 ?_
    refine g_callS (rest := []) B M_X12_isIn q2663 q2664 (c_M_isIn (x := i) (lo := (nI 0)) (hi := (nI ((a.p no) - 1)))) rfl rfl (Nat.le_of_ble_eq_true rfl) (Nat.le_of_ble_eq_true rfl) (Nat.le_of_ble_eq_true rfl) (Nat.le_refl _) (Nat.le_refl _) dX12_instance_18 (xkA (fun v3 T3 O3 R3 le3 p3 => ?_))
    obtain ⟨rfl, eT3, eO3, eR3⟩ := p3
    obtain rfl := eT3.symm
    obtain rfl := eO3.symm
    obtain rfl := eR3.symm
    refine g_if_neB (tgt := 28) B dX12_instance_21 (by decide) (fun c4 => ?_) (fun c4 => ?_)
    · have hbi := c4
      obtain ⟨ni, h_ni, e_ni⟩ := inB_nI (by omega) hbi
      have hc_ni : i.toNatClampNeg = ni := by rw [e_ni]; exact nI_clamp (by omega)
      subst e_ni
      refine g_iload_n B 3 dX12_instance_28 rfl ?_
      refine g_iconst (v := nI 0) B dX12_instance_29 (by decide) ?_
      refine g_iconst (v := nI 5) B dX12_instance_30 (by decide) ?_
      refine g_callS (rest := []) B M_X12_isIn q2663 q2664 (c_M_isIn (x := w) (lo := (nI 0)) (hi := (nI 5))) rfl rfl (Nat.le_of_ble_eq_true rfl) (Nat.le_of_ble_eq_true rfl) (Nat.le_of_ble_eq_true rfl) (Nat.le_refl _) (Nat.le_refl _) dX12_instance_31 (xkA (fun v5 T5 O5 R5 le5 p5 => ?_))
      obtain ⟨rfl, eT5, eO5, eR5⟩ := p5
      obtain rfl := eT5.symm
      obtain rfl := eO5.symm
      obtain rfl := eR5.symm
      refine g_if_neB (tgt := 40) B dX12_instance_34 (by decide) (fun c6 => ?_) (fun c6 => ?_)
      · refine g_iload_n B 1 dX12_instance_40 rfl ?_
        refine g_iload_n B 2 dX12_instance_41 rfl ?_
        refine g_callS (rest := []) B M_X12_spot q2744 q2745 (c_M_spot (o := no) (i := ni)) rfl rfl (Nat.le_of_ble_eq_true rfl) (Nat.le_of_ble_eq_true rfl) (Nat.le_of_ble_eq_true rfl) (Nat.le_refl _) (Nat.le_refl _) dX12_instance_42 (xkA (fun v7 T7 O7 R7 le7 p7 => ?_))
        obtain ⟨rfl, eT7, eO7, eR7⟩ := p7
        obtain rfl := eT7.symm
        obtain rfl := eO7.symm
        obtain rfl := eR7.symm
        refine g_istore (lv2 := [(4, _), (0, _), (1, _), (2, _), (3, _)]) B dX12_instance_45 (by decide) rfl ?_
        have hbw := c6
        obtain ⟨nw, h_nw, e_nw⟩ := inB_nI (by omega) hbw
        have hc_nw : w.toNatClampNeg = nw := by rw [e_nw]; exact nI_clamp (by omega)
        subst e_nw
        rcases (show nw = 0 ∨ nw = 1 ∨ nw = 2 ∨ nw = 3 ∨ nw = 4 ∨ nw = 5 by omega) with rfl | rfl | rfl | rfl | rfl | rfl
        · refine g_iload_n B 4 dX12_instance_47 rfl ?_
          refine g_tableIn (tgt := 84) B dX12_instance_48 (by decide) (by decide) rfl (by decide) ?_
          refine g_aload_n B 1 dX12_instance_84 rfl ?_
          refine m_geta B P F_X12_93_12 (by decide) (Or.inl rfl) dX12_instance_85 ?_
          refine g_iload B 0 dX12_instance_88 rfl ?_
          refine m_ld B P (by decide) rfl rfl (by show _ < 18; omega) (by decide) (show _ = (nI ((a.ls no ni).length)) from (Hls no (by omega) ni (by omega)).1) dX12_instance_90 ?_
          refine g_iret B E rfl rfl dX12_instance_91 ?_
          have hF : a.instF (nI no) (nI ni) (nI 0) = (nI ((a.ls no ni).length)) := by rw [aA.instF, if_pos ⟨hbo, by rw [hc_no]; exact hbi⟩, if_pos hbw, hc_nw, hc_no, hc_ni]; rfl
          exact ⟨_, rfl, by rw [hF], rfl, rfl, rfl⟩
        · refine g_iload_n B 4 dX12_instance_47 rfl ?_
          refine g_tableIn (tgt := 92) B dX12_instance_48 (by decide) (by decide) rfl (by decide) ?_
          refine g_aload_n B 1 dX12_instance_92 rfl ?_
          refine m_geta B P F_X12_111_12 (by decide) (Or.inr rfl) dX12_instance_93 ?_
          refine g_iload B 0 dX12_instance_96 rfl ?_
          refine m_ldz B P (by decide) rfl rfl (by show _ < 18; omega) (by decide) (show _ = (bI (a.hd no ni)) from (Hhd no (by omega) ni (by omega))) dX12_instance_98 ?_
          refine g_if_eqB (tgt := 106) B dX12_instance_99 (by decide) (fun c8 => ?_) (fun c8 => ?_)
          · refine g_iconst (v := nI 0) B dX12_instance_106 (by decide) ?_
            refine g_iret B E rfl rfl dX12_instance_107 ?_
            have hF : a.instF (nI no) (nI ni) (nI 1) = (bI (a.hd no ni)) := by rw [aA.instF, if_pos ⟨hbo, by rw [hc_no]; exact hbi⟩, if_pos hbw, hc_nw, hc_no, hc_ni]; rfl
            rw [c8] at hF
            exact ⟨_, rfl, by rw [hF]; rfl, rfl, rfl, rfl⟩
          · refine g_iconst (v := nI 1) B dX12_instance_102 (by decide) ?_
            refine g_goto (tgt := 107) B dX12_instance_103 (by decide) ?_
            refine g_iret B E rfl rfl dX12_instance_107 ?_
            have hF : a.instF (nI no) (nI ni) (nI 1) = (bI (a.hd no ni)) := by rw [aA.instF, if_pos ⟨hbo, by rw [hc_no]; exact hbi⟩, if_pos hbw, hc_nw, hc_no, hc_ni]; rfl
            rw [c8] at hF
            exact ⟨_, rfl, by rw [hF]; rfl, rfl, rfl, rfl⟩
        · refine g_iload_n B 4 dX12_instance_47 rfl ?_
          refine g_tableIn (tgt := 108) B dX12_instance_48 (by decide) (by decide) rfl (by decide) ?_
          refine g_aload_n B 1 dX12_instance_108 rfl ?_
          refine m_geta B P F_X12_105_12 (by decide) (Or.inl rfl) dX12_instance_109 ?_
          refine g_iload B 0 dX12_instance_112 rfl ?_
          refine m_ld B P (by decide) rfl rfl (by show _ < 18; omega) (by decide) (show _ = (nI (aBits (a.sp no ni))) from (Hsp no (by omega) ni (by omega))) dX12_instance_114 ?_
          refine g_iret B E rfl rfl dX12_instance_115 ?_
          have hF : a.instF (nI no) (nI ni) (nI 2) = (nI (aBits (a.sp no ni))) := by rw [aA.instF, if_pos ⟨hbo, by rw [hc_no]; exact hbi⟩, if_pos hbw, hc_nw, hc_no, hc_ni]; rfl
          exact ⟨_, rfl, by rw [hF], rfl, rfl, rfl⟩
        · refine g_iload_n B 4 dX12_instance_47 rfl ?_
          refine g_tableIn (tgt := 116) B dX12_instance_48 (by decide) (by decide) rfl (by decide) ?_
          refine g_aload_n B 1 dX12_instance_116 rfl ?_
          refine m_geta B P F_X12_108_12 (by decide) (Or.inl rfl) dX12_instance_117 ?_
          refine g_iload B 0 dX12_instance_120 rfl ?_
          refine m_ld B P (by decide) rfl rfl (by show _ < 18; omega) (by decide) (show _ = (nI (a.pt no ni)) from (Hpt no (by omega) ni (by omega))) dX12_instance_122 ?_
          refine g_iret B E rfl rfl dX12_instance_123 ?_
          have hF : a.instF (nI no) (nI ni) (nI 3) = (nI (a.pt no ni)) := by rw [aA.instF, if_pos ⟨hbo, by rw [hc_no]; exact hbi⟩, if_pos hbw, hc_nw, hc_no, hc_ni]; rfl
          exact ⟨_, rfl, by rw [hF], rfl, rfl, rfl⟩
        · refine g_iload_n B 4 dX12_instance_47 rfl ?_
          refine g_tableIn (tgt := 124) B dX12_instance_48 (by decide) (by decide) rfl (by decide) ?_
          refine g_aload_n B 1 dX12_instance_124 rfl ?_
          refine m_geta B P F_X12_84_12 (by decide) (Or.inl rfl) dX12_instance_125 ?_
          refine g_iload B 0 dX12_instance_128 rfl ?_
          refine m_ld B P (by decide) rfl rfl (by show _ < 18; omega) (by decide) (show _ = (nI (a.ct 0 no ni)) from (Hc0 no (by omega) ni (by omega))) dX12_instance_130 ?_
          refine g_iret B E rfl rfl dX12_instance_131 ?_
          have hF : a.instF (nI no) (nI ni) (nI 4) = (nI (a.ct 0 no ni)) := by rw [aA.instF, if_pos ⟨hbo, by rw [hc_no]; exact hbi⟩, if_pos hbw, hc_nw, hc_no, hc_ni]; rfl
          exact ⟨_, rfl, by rw [hF], rfl, rfl, rfl⟩
        · refine g_iload_n B 4 dX12_instance_47 rfl ?_
          refine g_tableOut (tgt := 132) B dX12_instance_48 (by decide) (by decide) ?_
          refine g_aload_n B 1 dX12_instance_132 rfl ?_
          refine g_iload_n B 2 dX12_instance_133 rfl ?_
          refine g_iload_n B 3 dX12_instance_134 rfl ?_
          refine g_callV (rest := []) B M_X12_keysOf q2863 q2865 qs91 (P.1.choose_spec.choose_spec) rfl (c_M_keysOf (o := no) (i := ni) P.self hR W (by omega) (by omega)) rfl rfl (Nat.le_of_ble_eq_true rfl) (Nat.le_of_ble_eq_true rfl) (Nat.le_of_ble_eq_true rfl) (Nat.le_refl _) (Nat.le_refl _) dX12_instance_135 (xkA (fun v9 T9 O9 R9 le9 p9 => ?_))
          obtain ⟨rfl, eT9, eO9, eR9⟩ := p9
          obtain rfl := eT9.symm
          obtain rfl := eO9.symm
          obtain rfl := eR9.symm
          refine g_iret B E rfl rfl dX12_instance_138 ?_
          have hF : a.instF (nI no) (nI ni) (nI 5) = (nI (a.keysF no ni)) := by rw [aA.instF, if_pos ⟨hbo, by rw [hc_no]; exact hbi⟩, if_pos hbw, hc_nw, hc_no, hc_ni]; rfl
          exact ⟨_, rfl, by rw [hF], rfl, rfl, rfl⟩
      · refine g_ldc (v := (-1000000002)) B q2666 dX12_instance_37 ?_
        refine g_iret B E rfl rfl dX12_instance_39 ?_
        have hF : a.instF (nI no) (nI ni) w = -1000000002 := by rw [aA.instF, if_pos ⟨hbo, by rw [hc_no]; exact hbi⟩, if_neg (by rw [c6]; decide)]
        exact ⟨_, rfl, by rw [hF], rfl, rfl, rfl⟩
    · refine g_ldcw (v := (-1000000001)) B q2846 dX12_instance_24 ?_
      refine g_iret B E rfl rfl dX12_instance_27 ?_
      have hF : a.instF (nI no) i w = -1000000001 := by rw [aA.instF, if_neg (fun h => by have h3 := h.2; rw [hc_no, c4] at h3; exact Bool.noConfusion h3)]
      exact ⟨_, rfl, by rw [hF], rfl, rfl, rfl⟩
theorem c_M_channel {G : xG} {T : xT} {O R : xO} {m : Nat} {ad : Nat → Nat} {sc : Nat → Int32} {ar : Nat → Nat → Int32} {Bd : Nat} {o i j w : Int32} (P : PM m ad O R sc ar T O R) {a : aA} (H : RepM a sc ar) (W : WF Bd a) : xCtr G yX12_channel cX12_channel 6 (some Jvm.ClassFile.FieldType.int) 1 23 0 0 [.ref m, .int o, .int i, .int j, .int w] (T, O, R) (xA (fun v T2 O2 R2 => v = .int (a.chanF o i j w) ∧ T2 = T ∧ O2 = O ∧ R2 = R)) := by
  have hR := H
  obtain ⟨Htxt, Hop, Hinp, Hnm, Hstt, ⟨Hs0, Hs1, Hs2⟩, ⟨Hc0, Hc1, Hc2⟩, Hls, Hsp, Hpt, Hhd, Hch, Hex, Hwr⟩ := H
  have hn2 := W.n2
  have hn6 := W.n6
  refine xCtr.of (by decide +kernel) (Nat.le_of_ble_eq_true rfl) ?_
  intro Z B E hz hnm
  change xV Z (T, O, R) 0 [(0, .ref m), (1, .int o), (2, .int i), (3, .int j), (4, .int w)] [] 0 0
  refine g_iload_n B 1 dX12_channel_0 rfl ?_
  refine g_iconst (v := nI 0) B dX12_channel_1 (by decide) ?_
  refine g_aload_n B 0 dX12_channel_2 rfl ?_
  refine m_get B P F_X12_196_12 (by decide) (Or.inl rfl) (show _ = (nI (a.n - 2)) from Hop.1) dX12_channel_3 ?_
  refine g_callS (rest := []) B M_X12_isIn q2663 q2664 (c_M_isIn (x := o) (lo := (nI 0)) (hi := (nI (a.n - 2)))) rfl rfl (Nat.le_of_ble_eq_true rfl) (Nat.le_of_ble_eq_true rfl) (Nat.le_of_ble_eq_true rfl) (Nat.le_refl _) (Nat.le_refl _) dX12_channel_6 (xkA (fun v1 T1 O1 R1 le1 p1 => ?_))
  obtain ⟨rfl, eT1, eO1, eR1⟩ := p1
  obtain rfl := eT1.symm
  obtain rfl := eO1.symm
  obtain rfl := eR1.symm
  refine g_if_eqB (tgt := 46) B dX12_channel_9 (by decide) (fun c2 => ?_) (fun c2 => ?_)
  · refine g_ldcw (v := (-1000000001)) B q2846 dX12_channel_46 ?_
    refine g_iret B E rfl rfl dX12_channel_49 ?_
    have hF : a.chanF o i j w = -1000000001 := by rw [aA.chanF, if_neg (fun h => by have h3 := h.1; rw [c2] at h3; exact Bool.noConfusion h3)]
    exact ⟨_, rfl, by rw [hF], rfl, rfl, rfl⟩
  · have hbo := c2
    obtain ⟨no, h_no, e_no⟩ := inB_nI (by omega) hbo
    have hc_no : o.toNatClampNeg = no := by rw [e_no]; exact nI_clamp (by omega)
    subst e_no
    have hpp := W.p1 no (by omega)
    have hpq := W.p1 (no + 1) (by omega)
    refine g_iload_n B 2 dX12_channel_12 rfl ?_
    refine g_iconst (v := nI 0) B dX12_channel_13 (by decide) ?_
    refine g_aload_n B 0 dX12_channel_14 rfl ?_
    refine m_geta B P F_X12_22_12 (by decide) (Or.inl rfl) dX12_channel_15 ?_
    refine g_iload_n B 1 dX12_channel_18 rfl ?_
    refine m_ld B P (by decide) rfl rfl (by show _ < 6; omega) (by decide) (show _ = (nI (a.p no)) from (Hop.2 no (by omega)).2.2.2) dX12_channel_19 ?_
    refine g_iconst (v := nI 1) B dX12_channel_20 (by decide) ?_
    refine g_isubN B (by omega) dX12_channel_21 ?_
    refine g_callS (rest := []) B M_X12_isIn q2663 q2664 (c_M_isIn (x := i) (lo := (nI 0)) (hi := (nI ((a.p no) - 1)))) rfl rfl (Nat.le_of_ble_eq_true rfl) (Nat.le_of_ble_eq_true rfl) (Nat.le_of_ble_eq_true rfl) (Nat.le_refl _) (Nat.le_refl _) dX12_channel_22 (xkA (fun v3 T3 O3 R3 le3 p3 => ?_))
    obtain ⟨rfl, eT3, eO3, eR3⟩ := p3
    obtain rfl := eT3.symm
    obtain rfl := eO3.symm
    obtain rfl := eR3.symm
    refine g_if_eqB (tgt := 46) B dX12_channel_25 (by decide) (fun c4 => ?_) (fun c4 => ?_)
    · refine g_ldcw (v := (-1000000001)) B q2846 dX12_channel_46 ?_
      refine g_iret B E rfl rfl dX12_channel_49 ?_
      have hF : a.chanF (nI no) i j w = -1000000001 := by rw [aA.chanF, if_neg (fun h => by have h3 := h.2.1; rw [hc_no, c4] at h3; exact Bool.noConfusion h3)]
      exact ⟨_, rfl, by rw [hF], rfl, rfl, rfl⟩
    · have hbi := c4
      obtain ⟨ni, h_ni, e_ni⟩ := inB_nI (by omega) hbi
      have hc_ni : i.toNatClampNeg = ni := by rw [e_ni]; exact nI_clamp (by omega)
      subst e_ni
      refine g_iload_n B 3 dX12_channel_28 rfl ?_
      refine g_iconst (v := nI 0) B dX12_channel_29 (by decide) ?_
      refine g_aload_n B 0 dX12_channel_30 rfl ?_
      refine m_geta B P F_X12_22_12 (by decide) (Or.inl rfl) dX12_channel_31 ?_
      refine g_iload_n B 1 dX12_channel_34 rfl ?_
      refine g_iconst (v := nI 1) B dX12_channel_35 (by decide) ?_
      refine g_iaddN B dX12_channel_36 ?_
      refine m_ld B P (by decide) rfl rfl (by show _ < 6; omega) (by decide) (show _ = (nI (a.p (no + 1))) from (Hop.2 (no + 1) (by omega)).2.2.2) dX12_channel_37 ?_
      refine g_iconst (v := nI 1) B dX12_channel_38 (by decide) ?_
      refine g_isubN B (by omega) dX12_channel_39 ?_
      refine g_callS (rest := []) B M_X12_isIn q2663 q2664 (c_M_isIn (x := j) (lo := (nI 0)) (hi := (nI ((a.p (no + 1)) - 1)))) rfl rfl (Nat.le_of_ble_eq_true rfl) (Nat.le_of_ble_eq_true rfl) (Nat.le_of_ble_eq_true rfl) (Nat.le_refl _) (Nat.le_refl _) dX12_channel_40 (xkA (fun v5 T5 O5 R5 le5 p5 => ?_))
      obtain ⟨rfl, eT5, eO5, eR5⟩ := p5
      obtain rfl := eT5.symm
      obtain rfl := eO5.symm
      obtain rfl := eR5.symm
      refine g_if_neB (tgt := 50) B dX12_channel_43 (by decide) (fun c6 => ?_) (fun c6 => ?_)
      · have hbj := c6
        obtain ⟨nj, h_nj, e_nj⟩ := inB_nI (by omega) hbj
        have hc_nj : j.toNatClampNeg = nj := by rw [e_nj]; exact nI_clamp (by omega)
        subst e_nj
        have hln : mLn no ni nj < 54 := by unfold mLn; omega
        have hC := Hch no (by omega) ni (by omega) nj (by omega)
        have hq4 := (W.chl no (by omega) ni (by omega) nj (by omega)).1
        have hqc := (W.ch no ni nj).1
        refine g_iload B 4 dX12_channel_50 rfl ?_
        refine g_iconst (v := nI 0) B dX12_channel_52 (by decide) ?_
        refine g_iconst (v := nI 4) B dX12_channel_53 (by decide) ?_
        refine g_callS (rest := []) B M_X12_isIn q2663 q2664 (c_M_isIn (x := w) (lo := (nI 0)) (hi := (nI 4))) rfl rfl (Nat.le_of_ble_eq_true rfl) (Nat.le_of_ble_eq_true rfl) (Nat.le_of_ble_eq_true rfl) (Nat.le_refl _) (Nat.le_refl _) dX12_channel_54 (xkA (fun v7 T7 O7 R7 le7 p7 => ?_))
        obtain ⟨rfl, eT7, eO7, eR7⟩ := p7
        obtain rfl := eT7.symm
        obtain rfl := eO7.symm
        obtain rfl := eR7.symm
        refine g_if_neB (tgt := 63) B dX12_channel_57 (by decide) (fun c8 => ?_) (fun c8 => ?_)
        · have hbw := c8
          obtain ⟨nw, h_nw, e_nw⟩ := inB_nI (by omega) hbw
          have hc_nw : w.toNatClampNeg = nw := by rw [e_nw]; exact nI_clamp (by omega)
          subst e_nw
          rcases (show nw = 0 ∨ nw = 1 ∨ nw = 2 ∨ nw = 3 ∨ nw = 4 by omega) with rfl | rfl | rfl | rfl | rfl
          · refine g_iload_n B 1 dX12_channel_63 rfl ?_
            refine g_iload_n B 2 dX12_channel_64 rfl ?_
            refine g_iload_n B 3 dX12_channel_65 rfl ?_
            refine g_callS (rest := []) B M_X12_line q2759 q2760 (c_M_line (o := no) (i := ni) (j := nj)) rfl rfl (Nat.le_of_ble_eq_true rfl) (Nat.le_of_ble_eq_true rfl) (Nat.le_of_ble_eq_true rfl) (Nat.le_refl _) (Nat.le_refl _) dX12_channel_66 (xkA (fun v9 T9 O9 R9 le9 p9 => ?_))
            obtain ⟨rfl, eT9, eO9, eR9⟩ := p9
            obtain rfl := eT9.symm
            obtain rfl := eO9.symm
            obtain rfl := eR9.symm
            refine g_istore (lv2 := [(5, _), (0, _), (1, _), (2, _), (3, _), (4, _)]) B dX12_channel_69 (by decide) rfl ?_
            refine g_iload B 5 dX12_channel_71 rfl ?_
            refine g_if_neN (tgt := 86) B (by decide) dX12_channel_73 (by decide) (fun e => absurd rfl e) (fun _ => ?_)
            refine g_aload_n B 1 dX12_channel_76 rfl ?_
            refine m_geta B P F_X12_129_12 (by decide) (Or.inl rfl) dX12_channel_77 ?_
            refine g_iload B 0 dX12_channel_80 rfl ?_
            refine m_ld B P (by decide) rfl rfl (by show _ < 54; omega) (by decide) (show _ = (nI ((a.ch no ni nj).1.length)) from hC.2.2.2.1) dX12_channel_82 ?_
            refine g_goto (tgt := 145) B dX12_channel_83 (by decide) ?_
            refine g_iret B E rfl rfl dX12_channel_145 ?_
            have hF : a.chanF (nI no) (nI ni) (nI nj) (nI 0) = (nI ((a.ch no ni nj).1.length)) := by rw [aA.chanF, if_pos ⟨hbo, by rw [hc_no]; exact hbi, by rw [hc_no]; exact hbj⟩, if_pos hbw, hc_nw, hc_no, hc_ni, hc_nj]; rfl
            exact ⟨_, rfl, by rw [hF], rfl, rfl, rfl⟩
          · refine g_iload_n B 1 dX12_channel_63 rfl ?_
            refine g_iload_n B 2 dX12_channel_64 rfl ?_
            refine g_iload_n B 3 dX12_channel_65 rfl ?_
            refine g_callS (rest := []) B M_X12_line q2759 q2760 (c_M_line (o := no) (i := ni) (j := nj)) rfl rfl (Nat.le_of_ble_eq_true rfl) (Nat.le_of_ble_eq_true rfl) (Nat.le_of_ble_eq_true rfl) (Nat.le_refl _) (Nat.le_refl _) dX12_channel_66 (xkA (fun v10 T10 O10 R10 le10 p10 => ?_))
            obtain ⟨rfl, eT10, eO10, eR10⟩ := p10
            obtain rfl := eT10.symm
            obtain rfl := eO10.symm
            obtain rfl := eR10.symm
            refine g_istore (lv2 := [(5, _), (0, _), (1, _), (2, _), (3, _), (4, _)]) B dX12_channel_69 (by decide) rfl ?_
            refine g_iload B 5 dX12_channel_71 rfl ?_
            refine g_if_neN (tgt := 86) B (by decide) dX12_channel_73 (by decide) (fun _ => ?_) (fun e => absurd e (by decide))
            refine g_iload B 5 dX12_channel_86 rfl ?_
            refine g_iconst (v := nI 1) B dX12_channel_88 (by decide) ?_
            refine g_icmp_neN (tgt := 102) B (by decide) (by decide) dX12_channel_89 (by decide) (fun e => absurd rfl e) (fun _ => ?_)
            refine g_aload_n B 1 dX12_channel_92 rfl ?_
            refine m_geta B P F_X12_114_12 (by decide) (Or.inl rfl) dX12_channel_93 ?_
            refine g_iload B 0 dX12_channel_96 rfl ?_
            refine m_ld B P (by decide) rfl rfl (by show _ < 54; omega) (by decide) (show _ = (nI ((a.ch no ni nj).2.1.length)) from hC.1) dX12_channel_98 ?_
            refine g_goto (tgt := 145) B dX12_channel_99 (by decide) ?_
            refine g_iret B E rfl rfl dX12_channel_145 ?_
            have hF : a.chanF (nI no) (nI ni) (nI nj) (nI 1) = (nI ((a.ch no ni nj).2.1.length)) := by rw [aA.chanF, if_pos ⟨hbo, by rw [hc_no]; exact hbi, by rw [hc_no]; exact hbj⟩, if_pos hbw, hc_nw, hc_no, hc_ni, hc_nj]; rfl
            exact ⟨_, rfl, by rw [hF], rfl, rfl, rfl⟩
          · refine g_iload_n B 1 dX12_channel_63 rfl ?_
            refine g_iload_n B 2 dX12_channel_64 rfl ?_
            refine g_iload_n B 3 dX12_channel_65 rfl ?_
            refine g_callS (rest := []) B M_X12_line q2759 q2760 (c_M_line (o := no) (i := ni) (j := nj)) rfl rfl (Nat.le_of_ble_eq_true rfl) (Nat.le_of_ble_eq_true rfl) (Nat.le_of_ble_eq_true rfl) (Nat.le_refl _) (Nat.le_refl _) dX12_channel_66 (xkA (fun v11 T11 O11 R11 le11 p11 => ?_))
            obtain ⟨rfl, eT11, eO11, eR11⟩ := p11
            obtain rfl := eT11.symm
            obtain rfl := eO11.symm
            obtain rfl := eR11.symm
            refine g_istore (lv2 := [(5, _), (0, _), (1, _), (2, _), (3, _), (4, _)]) B dX12_channel_69 (by decide) rfl ?_
            refine g_iload B 5 dX12_channel_71 rfl ?_
            refine g_if_neN (tgt := 86) B (by decide) dX12_channel_73 (by decide) (fun _ => ?_) (fun e => absurd e (by decide))
            refine g_iload B 5 dX12_channel_86 rfl ?_
            refine g_iconst (v := nI 1) B dX12_channel_88 (by decide) ?_
            refine g_icmp_neN (tgt := 102) B (by decide) (by decide) dX12_channel_89 (by decide) (fun _ => ?_) (fun e => absurd e (by decide))
            refine g_iload B 5 dX12_channel_102 rfl ?_
            refine g_iconst (v := nI 2) B dX12_channel_104 (by decide) ?_
            refine g_icmp_neN (tgt := 117) B (by decide) (by decide) dX12_channel_105 (by decide) (fun e => absurd rfl e) (fun _ => ?_)
            refine g_aload_n B 1 dX12_channel_108 rfl ?_
            refine g_iload B 0 dX12_channel_109 rfl ?_
            refine g_callV (rest := []) B M_X12_inside q2851 q2853 qs90 (P.1.choose_spec.choose_spec) rfl (c_M_inside (c := mLn no ni nj) (q := (a.ch no ni nj).1) (op := (a.ch no ni nj).2.1) (age := (a.ch no ni nj).2.2) P.self hln hC hq4) rfl rfl (Nat.le_of_ble_eq_true rfl) (Nat.le_of_ble_eq_true rfl) (Nat.le_of_ble_eq_true rfl) (Nat.le_refl _) (Nat.le_refl _) dX12_channel_111 (xkA (fun v12 T12 O12 R12 le12 p12 => ?_))
            obtain ⟨rfl, eT12, eO12, eR12⟩ := p12
            obtain rfl := eT12.symm
            obtain rfl := eO12.symm
            obtain rfl := eR12.symm
            refine g_goto (tgt := 145) B dX12_channel_114 (by decide) ?_
            refine g_iret B E rfl rfl dX12_channel_145 ?_
            have hF : a.chanF (nI no) (nI ni) (nI nj) (nI 2) = (nI (cRecs (a.ch no ni nj))) := by rw [aA.chanF, if_pos ⟨hbo, by rw [hc_no]; exact hbi, by rw [hc_no]; exact hbj⟩, if_pos hbw, hc_nw, hc_no, hc_ni, hc_nj]; rfl
            exact ⟨_, rfl, by rw [hF], rfl, rfl, rfl⟩
          · refine g_iload_n B 1 dX12_channel_63 rfl ?_
            refine g_iload_n B 2 dX12_channel_64 rfl ?_
            refine g_iload_n B 3 dX12_channel_65 rfl ?_
            refine g_callS (rest := []) B M_X12_line q2759 q2760 (c_M_line (o := no) (i := ni) (j := nj)) rfl rfl (Nat.le_of_ble_eq_true rfl) (Nat.le_of_ble_eq_true rfl) (Nat.le_of_ble_eq_true rfl) (Nat.le_refl _) (Nat.le_refl _) dX12_channel_66 (xkA (fun v13 T13 O13 R13 le13 p13 => ?_))
            obtain ⟨rfl, eT13, eO13, eR13⟩ := p13
            obtain rfl := eT13.symm
            obtain rfl := eO13.symm
            obtain rfl := eR13.symm
            refine g_istore (lv2 := [(5, _), (0, _), (1, _), (2, _), (3, _), (4, _)]) B dX12_channel_69 (by decide) rfl ?_
            refine g_iload B 5 dX12_channel_71 rfl ?_
            refine g_if_neN (tgt := 86) B (by decide) dX12_channel_73 (by decide) (fun _ => ?_) (fun e => absurd e (by decide))
            refine g_iload B 5 dX12_channel_86 rfl ?_
            refine g_iconst (v := nI 1) B dX12_channel_88 (by decide) ?_
            refine g_icmp_neN (tgt := 102) B (by decide) (by decide) dX12_channel_89 (by decide) (fun _ => ?_) (fun e => absurd e (by decide))
            refine g_iload B 5 dX12_channel_102 rfl ?_
            refine g_iconst (v := nI 2) B dX12_channel_104 (by decide) ?_
            refine g_icmp_neN (tgt := 117) B (by decide) (by decide) dX12_channel_105 (by decide) (fun _ => ?_) (fun e => absurd e (by decide))
            refine g_iload B 5 dX12_channel_117 rfl ?_
            refine g_iconst (v := nI 3) B dX12_channel_119 (by decide) ?_
            refine g_icmp_neN (tgt := 133) B (by decide) (by decide) dX12_channel_120 (by decide) (fun e => absurd rfl e) (fun _ => ?_)
            refine g_aload_n B 1 dX12_channel_123 rfl ?_
            refine m_geta B P F_X12_117_12 (by decide) (Or.inl rfl) dX12_channel_124 ?_
            refine g_iload B 0 dX12_channel_127 rfl ?_
            refine m_ld B P (by decide) rfl rfl (by show _ < 54; omega) (by decide) (show _ = (nI ((a.ch no ni nj).2.2)) from hC.2.1) dX12_channel_129 ?_
            refine g_goto (tgt := 145) B dX12_channel_130 (by decide) ?_
            refine g_iret B E rfl rfl dX12_channel_145 ?_
            have hF : a.chanF (nI no) (nI ni) (nI nj) (nI 3) = (nI ((a.ch no ni nj).2.2)) := by rw [aA.chanF, if_pos ⟨hbo, by rw [hc_no]; exact hbi, by rw [hc_no]; exact hbj⟩, if_pos hbw, hc_nw, hc_no, hc_ni, hc_nj]; rfl
            exact ⟨_, rfl, by rw [hF], rfl, rfl, rfl⟩
          · refine g_iload_n B 1 dX12_channel_63 rfl ?_
            refine g_iload_n B 2 dX12_channel_64 rfl ?_
            refine g_iload_n B 3 dX12_channel_65 rfl ?_
            refine g_callS (rest := []) B M_X12_line q2759 q2760 (c_M_line (o := no) (i := ni) (j := nj)) rfl rfl (Nat.le_of_ble_eq_true rfl) (Nat.le_of_ble_eq_true rfl) (Nat.le_of_ble_eq_true rfl) (Nat.le_refl _) (Nat.le_refl _) dX12_channel_66 (xkA (fun v14 T14 O14 R14 le14 p14 => ?_))
            obtain ⟨rfl, eT14, eO14, eR14⟩ := p14
            obtain rfl := eT14.symm
            obtain rfl := eO14.symm
            obtain rfl := eR14.symm
            refine g_istore (lv2 := [(5, _), (0, _), (1, _), (2, _), (3, _), (4, _)]) B dX12_channel_69 (by decide) rfl ?_
            refine g_iload B 5 dX12_channel_71 rfl ?_
            refine g_if_neN (tgt := 86) B (by decide) dX12_channel_73 (by decide) (fun _ => ?_) (fun e => absurd e (by decide))
            refine g_iload B 5 dX12_channel_86 rfl ?_
            refine g_iconst (v := nI 1) B dX12_channel_88 (by decide) ?_
            refine g_icmp_neN (tgt := 102) B (by decide) (by decide) dX12_channel_89 (by decide) (fun _ => ?_) (fun e => absurd e (by decide))
            refine g_iload B 5 dX12_channel_102 rfl ?_
            refine g_iconst (v := nI 2) B dX12_channel_104 (by decide) ?_
            refine g_icmp_neN (tgt := 117) B (by decide) (by decide) dX12_channel_105 (by decide) (fun _ => ?_) (fun e => absurd e (by decide))
            refine g_iload B 5 dX12_channel_117 rfl ?_
            refine g_iconst (v := nI 3) B dX12_channel_119 (by decide) ?_
            refine g_icmp_neN (tgt := 133) B (by decide) (by decide) dX12_channel_120 (by decide) (fun _ => ?_) (fun e => absurd e (by decide))
            refine g_aload_n B 1 dX12_channel_133 rfl ?_
            refine m_get B P F_X12_32_12 (by decide) (Or.inl rfl) (show _ = (nI (a.cf 2)) from Hnm.1.2.2.1) dX12_channel_134 ?_
            refine g_aload_n B 1 dX12_channel_137 rfl ?_
            refine m_geta B P F_X12_129_12 (by decide) (Or.inl rfl) dX12_channel_138 ?_
            refine g_iload B 0 dX12_channel_141 rfl ?_
            refine m_ld B P (by decide) rfl rfl (by show _ < 54; omega) (by decide) (show _ = (nI ((a.ch no ni nj).1.length)) from hC.2.2.2.1) dX12_channel_143 ?_
            refine g_isubN B (by omega) dX12_channel_144 ?_
            refine g_iret B E rfl rfl dX12_channel_145 ?_
            have hF : a.chanF (nI no) (nI ni) (nI nj) (nI 4) = (nI ((a.cf 2) - (a.ch no ni nj).1.length)) := by rw [aA.chanF, if_pos ⟨hbo, by rw [hc_no]; exact hbi, by rw [hc_no]; exact hbj⟩, if_pos hbw, hc_nw, hc_no, hc_ni, hc_nj]; rfl
            exact ⟨_, rfl, by rw [hF], rfl, rfl, rfl⟩
        · refine g_ldc (v := (-1000000002)) B q2666 dX12_channel_60 ?_
          refine g_iret B E rfl rfl dX12_channel_62 ?_
          have hF : a.chanF (nI no) (nI ni) (nI nj) w = -1000000002 := by rw [aA.chanF, if_pos ⟨hbo, by rw [hc_no]; exact hbi, by rw [hc_no]; exact hbj⟩, if_neg (by rw [c8]; decide)]
          exact ⟨_, rfl, by rw [hF], rfl, rfl, rfl⟩
      · refine g_ldcw (v := (-1000000001)) B q2846 dX12_channel_46 ?_
        refine g_iret B E rfl rfl dX12_channel_49 ?_
        have hF : a.chanF (nI no) (nI ni) j w = -1000000001 := by rw [aA.chanF, if_neg (fun h => by have h3 := h.2.2; rw [hc_no, c6] at h3; exact Bool.noConfusion h3)]
        exact ⟨_, rfl, by rw [hF], rfl, rfl, rfl⟩
theorem c_M_count {G : xG} {T : xT} {O R : xO} {m : Nat} {ad : Nat → Nat} {sc : Nat → Int32} {ar : Nat → Nat → Int32} {Bd : Nat} {w : Int32} (P : PM m ad O R sc ar T O R) {a : aA} (H : RepM a sc ar) (W : WF Bd a) : xCtr G yX12_count cX12_count 4 (some Jvm.ClassFile.FieldType.int) 1 23 0 0 [.ref m, .int w] (T, O, R) (xA (fun v T2 O2 R2 => v = .int (a.cntF w) ∧ T2 = T ∧ O2 = O ∧ R2 = R)) := by
  have hR := H
  obtain ⟨Htxt, Hop, Hinp, Hnm, Hstt, ⟨Hs0, Hs1, Hs2⟩, ⟨Hc0, Hc1, Hc2⟩, Hls, Hsp, Hpt, Hhd, Hch, Hex, Hwr⟩ := H
  have hn2 := W.n2
  have hn6 := W.n6
  refine xCtr.of (by decide +kernel) (Nat.le_of_ble_eq_true rfl) ?_
  intro Z B E hz hnm
  change xV Z (T, O, R) 0 [(0, .ref m), (1, .int w)] [] 0 0
  refine g_iload_n B 1 dX12_count_0 rfl ?_
  refine g_iconst (v := nI 0) B dX12_count_1 (by decide) ?_
  refine g_bipush (v := nI 9) B dX12_count_2 (by decide) ?_
  refine g_callS (rest := []) B M_X12_isIn q2663 q2664 (c_M_isIn (x := w) (lo := (nI 0)) (hi := (nI 9))) rfl rfl (Nat.le_of_ble_eq_true rfl) (Nat.le_of_ble_eq_true rfl) (Nat.le_of_ble_eq_true rfl) (Nat.le_refl _) (Nat.le_refl _) dX12_count_4 (xkA (fun v1 T1 O1 R1 le1 p1 => ?_))
  obtain ⟨rfl, eT1, eO1, eR1⟩ := p1
  obtain rfl := eT1.symm
  obtain rfl := eO1.symm
  obtain rfl := eR1.symm
  refine g_if_neB (tgt := 13) B dX12_count_7 (by decide) (fun c2 => ?_) (fun c2 => ?_)
  · have hbw := c2
    obtain ⟨nw, h_nw, e_nw⟩ := inB_nI (by omega) hbw
    have hc_nw : w.toNatClampNeg = nw := by rw [e_nw]; exact nI_clamp (by omega)
    subst e_nw
    rcases (show nw = 0 ∨ nw = 1 ∨ nw = 2 ∨ nw = 3 ∨ nw = 4 ∨ nw = 5 ∨ nw = 6 ∨ nw = 7 ∨ nw = 8 ∨ nw = 9 by omega) with rfl | rfl | rfl | rfl | rfl | rfl | rfl | rfl | rfl | rfl
    · refine g_iconst (v := nI 0) B dX12_count_13 (by decide) ?_
      refine g_istore_n (lv2 := [(2, _), (0, _), (1, _)]) B dX12_count_14 (by decide) rfl ?_
      refine g_iload_n B 2 dX12_count_15 rfl ?_
      refine g_tableIn (tgt := 68) B dX12_count_16 (by decide) (by decide) rfl (by decide) ?_
      refine g_aload_n B 1 dX12_count_68 rfl ?_
      refine m_get B P F_X12_196_12 (by decide) (Or.inl rfl) (show _ = (nI (a.n - 2)) from Hop.1) dX12_count_69 ?_
      refine g_iconst (v := nI 2) B dX12_count_72 (by decide) ?_
      refine g_iaddN B dX12_count_73 ?_
      refine g_iret B E rfl rfl dX12_count_74 ?_
      have hF : a.cntF (nI 0) = (nI ((a.n - 2) + 2)) := by rw [aA.cntF, if_pos hbw, hc_nw]; rfl
      exact ⟨_, rfl, by rw [hF], rfl, rfl, rfl⟩
    · refine g_iconst (v := nI 0) B dX12_count_13 (by decide) ?_
      refine g_istore_n (lv2 := [(2, _), (0, _), (1, _)]) B dX12_count_14 (by decide) rfl ?_
      refine g_iload_n B 2 dX12_count_15 rfl ?_
      refine g_tableIn (tgt := 75) B dX12_count_16 (by decide) (by decide) rfl (by decide) ?_
      refine g_aload_n B 1 dX12_count_75 rfl ?_
      refine m_get B P F_X12_275_12 (by decide) (Or.inl rfl) (show _ = (nI a.inp.length) from Hinp.1) dX12_count_76 ?_
      refine g_iret B E rfl rfl dX12_count_79 ?_
      have hF : a.cntF (nI 1) = (nI a.inp.length) := by rw [aA.cntF, if_pos hbw, hc_nw]; rfl
      exact ⟨_, rfl, by rw [hF], rfl, rfl, rfl⟩
    · refine g_iconst (v := nI 0) B dX12_count_13 (by decide) ?_
      refine g_istore_n (lv2 := [(2, _), (0, _), (1, _)]) B dX12_count_14 (by decide) rfl ?_
      refine g_iload_n B 2 dX12_count_15 rfl ?_
      refine g_tableIn (tgt := 80) B dX12_count_16 (by decide) (by decide) rfl (by decide) ?_
      refine g_aload_n B 1 dX12_count_80 rfl ?_
      refine m_get B P F_X12_271_12 (by decide) (Or.inl rfl) (show _ = (nI (a.of 0)) from Hnm.2.1.1) dX12_count_81 ?_
      refine g_iret B E rfl rfl dX12_count_84 ?_
      have hF : a.cntF (nI 2) = (nI (a.of 0)) := by rw [aA.cntF, if_pos hbw, hc_nw]; rfl
      exact ⟨_, rfl, by rw [hF], rfl, rfl, rfl⟩
    · refine g_iconst (v := nI 0) B dX12_count_13 (by decide) ?_
      refine g_istore_n (lv2 := [(2, _), (0, _), (1, _)]) B dX12_count_14 (by decide) rfl ?_
      refine g_iload_n B 2 dX12_count_15 rfl ?_
      refine g_tableIn (tgt := 85) B dX12_count_16 (by decide) (by decide) rfl (by decide) ?_
      refine g_aload_n B 1 dX12_count_85 rfl ?_
      refine m_get B P F_X12_243_12 (by decide) (Or.inl rfl) (show _ = (nI (a.nm 0)) from Hnm.2.2.1) dX12_count_86 ?_
      refine g_iret B E rfl rfl dX12_count_89 ?_
      have hF : a.cntF (nI 3) = (nI (a.nm 0)) := by rw [aA.cntF, if_pos hbw, hc_nw]; rfl
      exact ⟨_, rfl, by rw [hF], rfl, rfl, rfl⟩
    · refine g_iconst (v := nI 0) B dX12_count_13 (by decide) ?_
      refine g_istore_n (lv2 := [(2, _), (0, _), (1, _)]) B dX12_count_14 (by decide) rfl ?_
      refine g_iload_n B 2 dX12_count_15 rfl ?_
      refine g_tableIn (tgt := 90) B dX12_count_16 (by decide) (by decide) rfl (by decide) ?_
      refine g_aload_n B 1 dX12_count_90 rfl ?_
      refine m_get B P F_X12_253_12 (by decide) (Or.inl rfl) (show _ = (nI (a.nm 1)) from Hnm.2.2.2.1) dX12_count_91 ?_
      refine g_iret B E rfl rfl dX12_count_94 ?_
      have hF : a.cntF (nI 4) = (nI (a.nm 1)) := by rw [aA.cntF, if_pos hbw, hc_nw]; rfl
      exact ⟨_, rfl, by rw [hF], rfl, rfl, rfl⟩
    · refine g_iconst (v := nI 0) B dX12_count_13 (by decide) ?_
      refine g_istore_n (lv2 := [(2, _), (0, _), (1, _)]) B dX12_count_14 (by decide) rfl ?_
      refine g_iload_n B 2 dX12_count_15 rfl ?_
      refine g_tableIn (tgt := 95) B dX12_count_16 (by decide) (by decide) rfl (by decide) ?_
      refine g_aload_n B 1 dX12_count_95 rfl ?_
      refine m_get B P F_X12_268_12 (by decide) (Or.inl rfl) (show _ = (nI (a.nm 2)) from Hnm.2.2.2.2.1) dX12_count_96 ?_
      refine g_iret B E rfl rfl dX12_count_99 ?_
      have hF : a.cntF (nI 5) = (nI (a.nm 2)) := by rw [aA.cntF, if_pos hbw, hc_nw]; rfl
      exact ⟨_, rfl, by rw [hF], rfl, rfl, rfl⟩
    · refine g_iconst (v := nI 0) B dX12_count_13 (by decide) ?_
      refine g_istore_n (lv2 := [(2, _), (0, _), (1, _)]) B dX12_count_14 (by decide) rfl ?_
      refine g_iload_n B 2 dX12_count_15 rfl ?_
      refine g_tableIn (tgt := 100) B dX12_count_16 (by decide) (by decide) rfl (by decide) ?_
      refine g_aload_n B 1 dX12_count_100 rfl ?_
      refine m_get B P F_X12_256_12 (by decide) (Or.inl rfl) (show _ = a.fl from Hnm.2.2.2.2.2.2.1) dX12_count_101 ?_
      refine g_iret B E rfl rfl dX12_count_104 ?_
      have hF : a.cntF (nI 6) = a.fl := by rw [aA.cntF, if_pos hbw, hc_nw]; rfl
      exact ⟨_, rfl, by rw [hF], rfl, rfl, rfl⟩
    · refine g_iconst (v := nI 0) B dX12_count_13 (by decide) ?_
      refine g_istore_n (lv2 := [(2, _), (0, _), (1, _)]) B dX12_count_14 (by decide) rfl ?_
      refine g_iload_n B 2 dX12_count_15 rfl ?_
      refine g_tableIn (tgt := 105) B dX12_count_16 (by decide) (by decide) rfl (by decide) ?_
      refine g_iconst (v := nI 0) B dX12_count_105 (by decide) ?_
      refine g_istore_n (lv2 := [(3, _), (2, _), (0, _), (1, _)]) B dX12_count_106 (by decide) rfl ?_
      have L : ∀ (d x : Nat), d = 54 - x → x ≤ 54 → xV Z (T, O, R) 107 [(3, .int (nI x)), (2, .int (nI (sumN (fun x => cRecs (a.ch (x / 9) (x / 3 % 3) (x % 3))) x))), (0, .ref m), (1, .int (nI 7))] [] 0 0 := by
        intro d
        induction d using Nat.strongRecOn with
        | _ d ih =>
          intro x hd hx
          refine g_iload_n B 0 dX12_count_107 rfl ?_
          refine g_bipush (v := nI 54) B dX12_count_108 (by decide) ?_
          refine g_icmp_geN (tgt := 127) B (by omega) (by omega) dX12_count_110 (by decide) (fun c61 => ?_) (fun c61 => ?_)
          · refine g_iload_n B 1 dX12_count_127 rfl ?_
            have hxx : x = 54 := by omega
            subst hxx
            refine g_iret B E rfl rfl dX12_count_128 ?_
            have hF : a.cntF (nI 7) = (nI (sumN (fun x => cRecs (a.ch (x / 9) (x / 3 % 3) (x % 3))) 54)) := by rw [aA.cntF, if_pos hbw, hc_nw]; rfl
            exact ⟨_, rfl, by rw [hF], rfl, rfl, rfl⟩
          · refine g_iload_n B 1 dX12_count_113 rfl ?_
            refine g_aload_n B 2 dX12_count_114 rfl ?_
            refine g_iload_n B 0 dX12_count_115 rfl ?_
            refine g_callV (rest := [_]) B M_X12_inside q2851 q2853 qs90 (P.1.choose_spec.choose_spec) rfl (c_M_inside (c := x) (q := (a.ch (x / 9) (x / 3 % 3) (x % 3)).1) (op := (a.ch (x / 9) (x / 3 % 3) (x % 3)).2.1) (age := (a.ch (x / 9) (x / 3 % 3) (x % 3)).2.2) P.self (by omega) (Hch.flat (by omega)) (W.chl (x / 9) (by omega) (x / 3 % 3) (by omega) (x % 3) (by omega)).1) rfl rfl (Nat.le_of_ble_eq_true rfl) (Nat.le_of_ble_eq_true rfl) (Nat.le_of_ble_eq_true rfl) (Nat.le_refl _) (Nat.le_refl _) dX12_count_116 (xkA (fun v62 T62 O62 R62 le62 p62 => ?_))
            obtain ⟨rfl, eT62, eO62, eR62⟩ := p62
            obtain rfl := eT62.symm
            obtain rfl := eO62.symm
            obtain rfl := eR62.symm
            refine g_iaddN B dX12_count_119 ?_
            refine g_istore_n (lv2 := [(2, _), (3, _), (0, _), (1, _)]) B dX12_count_120 (by decide) rfl ?_
            refine g_iinc (v := nI (x + 1)) (lv2 := [(3, _), (2, _), (0, _), (1, _)]) B 1 dX12_count_121 rfl (nI_1 _) (by decide) rfl ?_
            refine g_goto (tgt := 107) B dX12_count_124 (by decide) ?_
            exact ih (54 - (x + 1)) (by omega) (x + 1) rfl (by omega)
      exact L _ 0 rfl (Nat.zero_le _)
    · refine g_iconst (v := nI 0) B dX12_count_13 (by decide) ?_
      refine g_istore_n (lv2 := [(2, _), (0, _), (1, _)]) B dX12_count_14 (by decide) rfl ?_
      refine g_iload_n B 2 dX12_count_15 rfl ?_
      refine g_tableIn (tgt := 129) B dX12_count_16 (by decide) (by decide) rfl (by decide) ?_
      refine g_iconst (v := nI 0) B dX12_count_129 (by decide) ?_
      refine g_istore_n (lv2 := [(3, _), (2, _), (0, _), (1, _)]) B dX12_count_130 (by decide) rfl ?_
      have L : ∀ (d x : Nat), d = 18 - x → x ≤ 18 → xV Z (T, O, R) 131 [(3, .int (nI x)), (2, .int (nI (sumN (fun x => (a.ls (x / 3) (x % 3)).length) x))), (0, .ref m), (1, .int (nI 8))] [] 0 0 := by
        intro d
        induction d using Nat.strongRecOn with
        | _ d ih =>
          intro x hd hx
          refine g_iload_n B 0 dX12_count_131 rfl ?_
          refine g_bipush (v := nI 18) B dX12_count_132 (by decide) ?_
          refine g_icmp_geN (tgt := 152) B (by omega) (by omega) dX12_count_134 (by decide) (fun c61 => ?_) (fun c61 => ?_)
          · refine g_iload_n B 1 dX12_count_152 rfl ?_
            have hxx : x = 18 := by omega
            subst hxx
            refine g_iret B E rfl rfl dX12_count_153 ?_
            have hF : a.cntF (nI 8) = (nI (sumN (fun x => (a.ls (x / 3) (x % 3)).length) 18)) := by rw [aA.cntF, if_pos hbw, hc_nw]; rfl
            exact ⟨_, rfl, by rw [hF], rfl, rfl, rfl⟩
          · refine g_iload_n B 1 dX12_count_137 rfl ?_
            refine g_aload_n B 2 dX12_count_138 rfl ?_
            refine m_geta B P F_X12_93_12 (by decide) (Or.inl rfl) dX12_count_139 ?_
            refine g_iload_n B 0 dX12_count_142 rfl ?_
            refine m_ld B P (by decide) rfl rfl (by show _ < 18; omega) (by decide) (show _ = (nI ((a.ls (x / 3) (x % 3)).length)) from (Hls.flat (by omega))) dX12_count_143 ?_
            refine g_iaddN B dX12_count_144 ?_
            refine g_istore_n (lv2 := [(2, _), (3, _), (0, _), (1, _)]) B dX12_count_145 (by decide) rfl ?_
            refine g_iinc (v := nI (x + 1)) (lv2 := [(3, _), (2, _), (0, _), (1, _)]) B 1 dX12_count_146 rfl (nI_1 _) (by decide) rfl ?_
            refine g_goto (tgt := 131) B dX12_count_149 (by decide) ?_
            exact ih (18 - (x + 1)) (by omega) (x + 1) rfl (by omega)
      exact L _ 0 rfl (Nat.zero_le _)
    · refine g_iconst (v := nI 0) B dX12_count_13 (by decide) ?_
      refine g_istore_n (lv2 := [(2, _), (0, _), (1, _)]) B dX12_count_14 (by decide) rfl ?_
      refine g_iload_n B 2 dX12_count_15 rfl ?_
      refine g_tableOut (tgt := 154) B dX12_count_16 (by decide) (by decide) ?_
      refine g_iconst (v := nI 0) B dX12_count_154 (by decide) ?_
      refine g_istore_n (lv2 := [(3, _), (2, _), (0, _), (1, _)]) B dX12_count_155 (by decide) rfl ?_
      change xV Z (T, O, R) _ [(3, .int (nI 0)), (2, .int (a.effF 0)), (0, .ref m), (1, .int (nI 9))] [] 0 0
      have L : ∀ (d x : Nat), d = 16 - x → x ≤ 16 → xV Z (T, O, R) 156 [(3, .int (nI x)), (2, .int (a.effF x)), (0, .ref m), (1, .int (nI 9))] [] 0 0 := by
        intro d
        induction d using Nat.strongRecOn with
        | _ d ih =>
          intro x hd hx
          refine g_iload_n B 0 dX12_count_156 rfl ?_
          refine g_bipush (v := nI 16) B dX12_count_157 (by decide) ?_
          refine g_icmp_geN (tgt := 206) B (by omega) (by omega) dX12_count_159 (by decide) (fun c61 => ?_) (fun c61 => ?_)
          · refine g_iload_n B 1 dX12_count_206 rfl ?_
            have hxx : x = 16 := by omega
            subst hxx
            refine g_iret B E rfl rfl dX12_count_207 ?_
            have hF : a.cntF (nI 9) = (a.effF 16) := by rw [aA.cntF, if_pos hbw, hc_nw]; rfl
            exact ⟨_, rfl, by rw [hF], rfl, rfl, rfl⟩
          · refine g_iload_n B 1 dX12_count_162 rfl ?_
            refine g_aload_n B 2 dX12_count_163 rfl ?_
            refine m_geta B P F_X12_56_12 (by decide) (Or.inr rfl) dX12_count_164 ?_
            refine g_bipush (v := nI 16) B dX12_count_167 (by decide) ?_
            refine g_aload_n B 2 dX12_count_169 rfl ?_
            refine g_callV (rest := [_, _, _]) B M_X12_sink q2732 q2734 qs68 (P.1.choose_spec.choose_spec) rfl (c_M_sink P.self Hop.1) rfl rfl (Nat.le_of_ble_eq_true rfl) (Nat.le_of_ble_eq_true rfl) (Nat.le_of_ble_eq_true rfl) (Nat.le_refl _) (Nat.le_refl _) dX12_count_170 (xkA (fun v62 T62 O62 R62 le62 p62 => ?_))
            obtain ⟨rfl, eT62, eO62, eR62⟩ := p62
            obtain rfl := eT62.symm
            obtain rfl := eO62.symm
            obtain rfl := eR62.symm
            refine g_imulN B dX12_count_173 ?_
            refine g_iload_n B 0 dX12_count_174 rfl ?_
            refine g_iaddN B dX12_count_175 ?_
            refine m_ldz B P (by decide) rfl rfl (by show _ < 96; omega) (by decide) (show _ = (bI ((a.st 0 (a.n - 2 + 1) x).isSome)) from (Hs0 (a.n - 2 + 1) (by omega) x (by omega)).1) dX12_count_176 ?_
            refine g_if_eqB (tgt := 197) B dX12_count_177 (by decide) (fun c63 => ?_) (fun c63 => ?_)
            · refine g_iconst (v := nI 0) B dX12_count_197 (by decide) ?_
              refine g_top (show Value.int (nI 0) = .int ((a.st 0 (a.n - 2 + 1) x).getD (0, 0)).2 from by have h := c63; cases hq : a.st 0 (a.n - 2 + 1) x with | none => rfl | some y => (rw [hq] at h; cases h)) ?_
              refine g_iadd B dX12_count_198 ?_
              refine g_istore_n (lv2 := [(2, _), (3, _), (0, _), (1, _)]) B dX12_count_199 (by decide) rfl ?_
              refine g_iinc (v := nI (x + 1)) (lv2 := [(3, _), (2, _), (0, _), (1, _)]) B 1 dX12_count_200 rfl (nI_1 _) (by decide) rfl ?_
              refine g_goto (tgt := 156) B dX12_count_203 (by decide) ?_
              exact ih (16 - (x + 1)) (by omega) (x + 1) rfl (by omega)
            · refine g_aload_n B 2 dX12_count_180 rfl ?_
              refine m_geta B P F_X12_75_12 (by decide) (Or.inl rfl) dX12_count_181 ?_
              refine g_bipush (v := nI 16) B dX12_count_184 (by decide) ?_
              refine g_aload_n B 2 dX12_count_186 rfl ?_
              refine g_callV (rest := [_, _, _]) B M_X12_sink q2732 q2734 qs68 (P.1.choose_spec.choose_spec) rfl (c_M_sink P.self Hop.1) rfl rfl (Nat.le_of_ble_eq_true rfl) (Nat.le_of_ble_eq_true rfl) (Nat.le_of_ble_eq_true rfl) (Nat.le_refl _) (Nat.le_refl _) dX12_count_187 (xkA (fun v64 T64 O64 R64 le64 p64 => ?_))
              obtain ⟨rfl, eT64, eO64, eR64⟩ := p64
              obtain rfl := eT64.symm
              obtain rfl := eO64.symm
              obtain rfl := eR64.symm
              refine g_imulN B dX12_count_190 ?_
              refine g_iload_n B 0 dX12_count_191 rfl ?_
              refine g_iaddN B dX12_count_192 ?_
              refine m_ld B P (by decide) rfl rfl (by show _ < 96; omega) (by decide) (show _ = ((a.st 0 (a.n - 2 + 1) x).getD (0, 0)).2 from ((Hs0 (a.n - 2 + 1) (by omega) x (by omega)).2 c63).2) dX12_count_193 ?_
              refine g_goto (tgt := 198) B dX12_count_194 (by decide) ?_
              refine g_iadd B dX12_count_198 ?_
              refine g_istore_n (lv2 := [(2, _), (3, _), (0, _), (1, _)]) B dX12_count_199 (by decide) rfl ?_
              refine g_iinc (v := nI (x + 1)) (lv2 := [(3, _), (2, _), (0, _), (1, _)]) B 1 dX12_count_200 rfl (nI_1 _) (by decide) rfl ?_
              refine g_goto (tgt := 156) B dX12_count_203 (by decide) ?_
              exact ih (16 - (x + 1)) (by omega) (x + 1) rfl (by omega)
      exact L _ 0 rfl (Nat.zero_le _)
  · refine g_ldc (v := (-1000000002)) B q2666 dX12_count_10 ?_
    refine g_iret B E rfl rfl dX12_count_12 ?_
    have hF : a.cntF w = -1000000002 := by rw [aA.cntF, if_neg (by rw [c2]; decide)]
    exact ⟨_, rfl, by rw [hF], rfl, rfl, rfl⟩
/-- an operator with another number of instances -/
def aA.resc (a : aA) (o m : Nat) : aA := (a.txt, a.inp, a.nm, a.fl + nI 1, a.cf, up1 a.op o ((a.op o).1, (a.op o).2.1, (a.op o).2.2.1, m), a.stt, a.st, (fun v => if v = 2 then (fun x i => if x = o then 0 else a.ct 2 x i) else a.ct v), a.of, a.ls, a.sp, a.pt, a.hd, a.ch, a.al, a.ex, a.wr)
def aA.movF (a : aA) (o was m : Nat) : Nat := sumN (fun key => if (a.st 2 o key).isSome = true ∧ ¬ aHome key was = aHome key m then 1 else 0) 16
def aA.rescF (a : aA) (o m : Int32) : Int32 × aA :=
  if inB o (nI 0) (nI (a.n - 2 + 1)) = true ∧ ¬ o = 0 then
    if inB m (nI 1) (nI 3) = true then (nI (a.movF o.toNatClampNeg (a.p o.toNatClampNeg) m.toNatClampNeg), (a.resc o.toNatClampNeg m.toNatClampNeg).breaks)
    else (-1000000002, a)
  else (-1000000001, a)
theorem RMop.setp {n : Nat} {op : Nat → Nat × Int32 × Int32 × Nat} {s : Int32} {fk fa fb fp gp : Nat → Int32} {o m : Nat} (h : RMop n op s fk fa fb fp) (e : gp = va_up fp o (nI m)) : RMop n (up1 op o ((op o).1, (op o).2.1, (op o).2.2.1, m)) s fk fa fb gp := by
  refine ⟨h.1, fun x hx => ?_⟩
  obtain ⟨h1, h2, h3, h4⟩ := h.2 x hx
  by_cases c : x = o
  · subst c
    rw [up1_s, e, va_ups]
    exact ⟨h1, h2, h3, rfl⟩
  · rw [up1_n c, e, va_upe c]
    exact ⟨h1, h2, h3, h4⟩
theorem aA.resc_facts (a : aA) (o m : Nat) : (a.resc o m).breaks.n = a.n ∧ (∀ x, (a.resc o m).breaks.kd x = a.kd x) ∧ (a.resc o m).breaks.p o = m ∧ (∀ x, x ≠ o → (a.resc o m).breaks.p x = a.p x) ∧ (a.resc o m).breaks.st 0 = a.st 2 := by
  refine ⟨rfl, fun x => ?_, ?_, fun x hx => ?_, rfl⟩
  · show (up1 a.op o _ x).1 = (a.op x).1
    by_cases c : x = o
    · subst c; rw [up1_s]
    · rw [up1_n c]
  · show (up1 a.op o _ o).2.2.2 = m
    rw [up1_s]
  · show (up1 a.op o _ x).2.2.2 = (a.op x).2.2.2
    rw [up1_n hx]
theorem movF_no {B : Nat} {a : aA} (W : WF B a) {o : Nat} (h : a.ky o = false) (was m k : Nat) : sumN (fun key => if (a.st 2 o key).isSome = true ∧ ¬ aHome key was = aHome key m then 1 else 0) k = 0 := sumN_z (fun j _ => by
  rw [(W.st 2 o j).1 h]
  exact if_neg (fun c => by cases c.1))
theorem c_M_rescale {G : xG} {T : xT} {O R : xO} {m : Nat} {ad : Nat → Nat} {sc : Nat → Int32} {ar : Nat → Nat → Int32} {Bd : Nat} {o u : Int32} (P : PM m ad O R sc ar T O R) {a : aA} (H : RepM a sc ar) (W : WF Bd a) : xCtr G yX12_rescale cX12_rescale 6 (some Jvm.ClassFile.FieldType.int) 2 43 0 0 [.ref m, .int o, .int u] (T, O, R) (xA (mPost m ad T O R (fun v sc2 ar2 => v = .int (a.rescF o u).1 ∧ RepM (a.rescF o u).2 sc2 ar2))) := by
  have hR := H
  obtain ⟨Htxt, Hop, Hinp, Hnm, Hstt, ⟨Hs0, Hs1, Hs2⟩, ⟨Hc0, Hc1, Hc2⟩, Hls, Hsp, Hpt, Hhd, Hch, Hex, Hwr⟩ := H
  have hn2 := W.n2
  have hn6 := W.n6
  refine xCtr.of (by decide +kernel) (Nat.le_of_ble_eq_true rfl) ?_
  intro Z B E hz hnm
  change xV Z (T, O, R) 0 [(0, .ref m), (1, .int o), (2, .int u)] [] 0 0
  refine g_aload_n B 0 dX12_rescale_0 rfl ?_
  refine g_iload_n B 1 dX12_rescale_1 rfl ?_
  refine g_callV (rest := []) B M_X12_isOperator q2842 q2844 qs89 (P.1.choose_spec.choose_spec) rfl (c_M_isOperator P.self hR (x := o)) rfl rfl (Nat.le_of_ble_eq_true rfl) (Nat.le_of_ble_eq_true rfl) (Nat.le_of_ble_eq_true rfl) (Nat.le_refl _) (Nat.le_refl _) dX12_rescale_2 (xkA (fun v1 T1 O1 R1 le1 p1 => ?_))
  obtain ⟨rfl, eT1, eO1, eR1⟩ := p1
  obtain rfl := eT1.symm
  obtain rfl := eO1.symm
  obtain rfl := eR1.symm
  refine g_if_eqB (tgt := 12) B dX12_rescale_5 (by decide) (fun c2 => ?_) (fun c2 => ?_)
  · refine g_ldcw (v := (-1000000001)) B q2846 dX12_rescale_12 ?_
    refine g_iret B E rfl rfl dX12_rescale_15 ?_
    have hF : a.rescF o u = (-1000000001, a) := by rw [aA.rescF, if_neg (fun h => by have h3 := h.1; rw [c2] at h3; exact Bool.noConfusion h3)]
    exact ⟨_, rfl, rfl, _, _, P, by rw [hF], by rw [hF]; exact hR⟩
  · refine g_iload_n B 1 dX12_rescale_8 rfl ?_
    refine g_if_ne (tgt := 16) B dX12_rescale_9 (by decide) (fun c3 => ?_) (fun c3 => ?_)
    · have hbo := c2
      have ho0 := c3
      obtain ⟨no, h_no, e_no⟩ := inB_nI (by omega) hbo
      have hc_no : o.toNatClampNeg = no := by rw [e_no]; exact nI_clamp (by omega)
      subst e_no
      have hno : 0 < no := by rcases Nat.eq_zero_or_pos no with e | e; exact absurd (by rw [e]; rfl) ho0; exact e
      have hpp := W.p1 no (by omega)
      refine g_iload_n B 2 dX12_rescale_16 rfl ?_
      refine g_iconst (v := nI 1) B dX12_rescale_17 (by decide) ?_
      refine g_iconst (v := nI 3) B dX12_rescale_18 (by decide) ?_
      refine g_callS (rest := []) B M_X12_isIn q2663 q2664 (c_M_isIn (x := u) (lo := (nI 1)) (hi := (nI 3))) rfl rfl (Nat.le_of_ble_eq_true rfl) (Nat.le_of_ble_eq_true rfl) (Nat.le_of_ble_eq_true rfl) (Nat.le_refl _) (Nat.le_refl _) dX12_rescale_19 (xkA (fun v4 T4 O4 R4 le4 p4 => ?_))
      obtain ⟨rfl, eT4, eO4, eR4⟩ := p4
      obtain rfl := eT4.symm
      obtain rfl := eO4.symm
      obtain rfl := eR4.symm
      refine g_if_neB (tgt := 28) B dX12_rescale_22 (by decide) (fun c5 => ?_) (fun c5 => ?_)
      · have hbu := c5
        obtain ⟨nu, hu1, hu3, e_nu⟩ := inB1_nI (by decide) hbu
        have hc_nu : u.toNatClampNeg = nu := by rw [e_nu]; exact nI_clamp (by omega)
        subst e_nu
        refine g_aload_n B 0 dX12_rescale_28 rfl ?_
        refine g_dup B dX12_rescale_29 rfl ?_
        refine m_get B P F_X12_256_12 (by decide) (Or.inl rfl) (show _ = a.fl from Hnm.2.2.2.2.2.2.1) dX12_rescale_30 ?_
        refine g_iconst (v := nI 1) B dX12_rescale_33 (by decide) ?_
        refine g_iadd B dX12_rescale_34 ?_
        refine m_put B P F_X12_256_12 (by decide) (Or.inl rfl) rfl rfl rfl dX12_rescale_35 (fun O6 sc6 hs6 hk6 P6 => ?_)
        refine g_aload_n B 0 dX12_rescale_38 rfl ?_
        refine m_geta B P6 F_X12_22_12 (by decide) (Or.inl rfl) dX12_rescale_39 ?_
        refine g_iload_n B 1 dX12_rescale_42 rfl ?_
        refine m_ld B P6 (by decide) rfl rfl (by show _ < 6; omega) (by decide) (show _ = (nI (a.p no)) from (Hop.2 no (by omega)).2.2.2) dX12_rescale_43 ?_
        refine g_istore_n (lv2 := [(3, _), (0, _), (1, _), (2, _)]) B dX12_rescale_44 (by decide) rfl ?_
        refine g_iconst (v := nI 0) B dX12_rescale_45 (by decide) ?_
        refine g_istore (lv2 := [(4, _), (3, _), (0, _), (1, _), (2, _)]) B dX12_rescale_46 (by decide) rfl ?_
        have L : ∀ (d x : Nat) (O1 R1 : xO) (ar1 : Nat → Nat → Int32), d = 3 - x → x ≤ 3 → PM m ad O R sc6 ar1 T O1 R1 → (∀ j, j < x → ar1 35 (3 * no + j) = nI 0) → (∀ y, (y < 3 * no ∨ 3 * no + x ≤ y) → ar1 35 y = ar 35 y) → (∀ k, k ∉ ([35] : List Nat) → ar1 k = ar k) → xV Z (T, O1, R1) 48 [(4, .int (nI x)), (3, .int (nI (a.p no))), (0, .ref m), (1, .int (nI no)), (2, .int (nI nu))] [] 0 0 := by
          intro d
          induction d using Nat.strongRecOn with
          | _ d ih =>
            intro x O1 R1 ar1 hd hx P1 i1 i2 u1
            refine g_iload B 0 dX12_rescale_48 rfl ?_
            refine g_iconst (v := nI 3) B dX12_rescale_50 (by decide) ?_
            refine g_icmp_geN (tgt := 72) B (by omega) (by omega) dX12_rescale_51 (by decide) (fun c61 => ?_) (fun c61 => ?_)
            · have hx3 : x = 3 := by omega
              subst hx3
              refine g_aload_n B 2 dX12_rescale_72 rfl ?_
              refine m_geta B P1 F_X12_22_12 (by decide) (Or.inl rfl) dX12_rescale_73 ?_
              refine g_iload_n B 3 dX12_rescale_76 rfl ?_
              refine g_iload_n B 4 dX12_rescale_77 rfl ?_
              refine m_st B P1 (by decide) rfl rfl (by show _ < 6; omega) (by decide) dX12_rescale_78 (fun R62 ar62 hs62 hk62 P62 => ?_)
              refine g_aload_n B 2 dX12_rescale_79 rfl ?_
              have e6 : ar62 6 = va_up (ar1 6) no (nI nu) := hs62
              have n18 : sc6 18 = (a.fl + (nI 1)) := hs6
              have u2 : ∀ k, k ∉ ([6] : List Nat) → ar62 k = ar1 k := fun k hk => hk62 k (fun e => hk (by rw [e]; decide))
              have e6b : ar62 6 = va_up (ar 6) no (nI nu) := by rw [e6, u1 6 (by decide)]
              have hct : RMct (fun x i => if x = no then 0 else a.ct 2 x i) (ar62 35) := fun x hx i hi => by
                rw [u2 35 (by decide)]
                show ar1 35 (3 * x + i) = nI (if x = no then 0 else a.ct 2 x i)
                by_cases c : x = no
                · rw [if_pos c, c]; exact i1 i hi
                · rw [if_neg c, i2 _ (by omega)]; exact Hc2 x hx i hi
              have H0 : RepM (a.resc no nu) sc6 ar62 := ⟨(by rw [(hk6 1 (by decide)), ((u2 0 (by decide)).trans (u1 0 (by decide)))]; exact Htxt), (by rw [(hk6 2 (by decide)), ((u2 3 (by decide)).trans (u1 3 (by decide))), ((u2 4 (by decide)).trans (u1 4 (by decide))), ((u2 5 (by decide)).trans (u1 5 (by decide)))]; exact RMop.setp Hop e6b), (by rw [(hk6 13 (by decide)), ((u2 11 (by decide)).trans (u1 11 (by decide))), ((u2 12 (by decide)).trans (u1 12 (by decide)))]; exact Hinp), ⟨⟨((hk6 7 (by decide)).trans Hnm.1.1), ((hk6 8 (by decide)).trans Hnm.1.2.1), ((hk6 9 (by decide)).trans Hnm.1.2.2.1), ((hk6 10 (by decide)).trans Hnm.1.2.2.2)⟩, ⟨((hk6 14 (by decide)).trans Hnm.2.1.1), (fun h => (hk6 36 (by decide)).trans (Hnm.2.1.2.1 h)), ((hk6 37 (by decide)).trans Hnm.2.1.2.2)⟩, ((hk6 15 (by decide)).trans Hnm.2.2.1), ((hk6 16 (by decide)).trans Hnm.2.2.2.1), ((hk6 17 (by decide)).trans Hnm.2.2.2.2.1), ((hk6 38 (by decide)).trans Hnm.2.2.2.2.2.1), n18, ((hk6 19 (by decide)).trans Hnm.2.2.2.2.2.2.2)⟩, (fun k hk o ho => by rcases (show k = 0 ∨ k = 1 ∨ k = 2 ∨ k = 3 by omega) with rfl | rfl | rfl | rfl; (rw [show 20 + 0 = 20 from rfl, ((u2 20 (by decide)).trans (u1 20 (by decide)))]; exact Hstt 0 (by decide) o ho); (rw [show 20 + 1 = 21 from rfl, ((u2 21 (by decide)).trans (u1 21 (by decide)))]; exact Hstt 1 (by decide) o ho); (rw [show 20 + 2 = 22 from rfl, ((u2 22 (by decide)).trans (u1 22 (by decide)))]; exact Hstt 2 (by decide) o ho); (rw [show 20 + 3 = 23 from rfl, ((u2 23 (by decide)).trans (u1 23 (by decide)))]; exact Hstt 3 (by decide) o ho)), ⟨(by rw [((u2 24 (by decide)).trans (u1 24 (by decide))), ((u2 27 (by decide)).trans (u1 27 (by decide))), ((u2 30 (by decide)).trans (u1 30 (by decide)))]; exact Hs0), (by rw [((u2 25 (by decide)).trans (u1 25 (by decide))), ((u2 28 (by decide)).trans (u1 28 (by decide))), ((u2 31 (by decide)).trans (u1 31 (by decide)))]; exact Hs1), (by rw [((u2 26 (by decide)).trans (u1 26 (by decide))), ((u2 29 (by decide)).trans (u1 29 (by decide))), ((u2 32 (by decide)).trans (u1 32 (by decide)))]; exact Hs2)⟩, ⟨(by rw [((u2 33 (by decide)).trans (u1 33 (by decide)))]; exact Hc0), (by rw [((u2 34 (by decide)).trans (u1 34 (by decide)))]; exact Hc1), hct⟩, (by rw [((u2 39 (by decide)).trans (u1 39 (by decide))), ((u2 40 (by decide)).trans (u1 40 (by decide))), ((u2 41 (by decide)).trans (u1 41 (by decide))), ((u2 42 (by decide)).trans (u1 42 (by decide)))]; exact Hls), (by rw [((u2 43 (by decide)).trans (u1 43 (by decide)))]; exact Hsp), (by rw [((u2 44 (by decide)).trans (u1 44 (by decide)))]; exact Hpt), (by rw [((u2 45 (by decide)).trans (u1 45 (by decide)))]; exact Hhd), (fun o h1 i h2 j h3 => by have h := Hch o h1 i h2 j h3; unfold mCh at h ⊢; rw [((u2 46 (by decide)).trans (u1 46 (by decide))), ((u2 47 (by decide)).trans (u1 47 (by decide))), ((u2 48 (by decide)).trans (u1 48 (by decide))), ((u2 49 (by decide)).trans (u1 49 (by decide))), ((u2 50 (by decide)).trans (u1 50 (by decide))), ((u2 51 (by decide)).trans (u1 51 (by decide))), ((u2 52 (by decide)).trans (u1 52 (by decide))), ((u2 53 (by decide)).trans (u1 53 (by decide))), ((u2 54 (by decide)).trans (u1 54 (by decide))), ((u2 55 (by decide)).trans (u1 55 (by decide))), ((u2 56 (by decide)).trans (u1 56 (by decide)))]; exact h), (by rw [(hk6 77 (by decide)), ((u2 75 (by decide)).trans (u1 75 (by decide))), ((u2 76 (by decide)).trans (u1 76 (by decide)))]; exact Hex), (by rw [(hk6 80 (by decide)), ((u2 79 (by decide)).trans (u1 79 (by decide)))]; exact Hwr)⟩
              refine g_callV (rest := []) B M_X12_breaks q2699 q2701 qs64 (P62.1.choose_spec.choose_spec) rfl (c_M_breaks (a := a.resc no nu) P62.self H0) rfl rfl (Nat.le_of_ble_eq_true rfl) (Nat.le_of_ble_eq_true rfl) (Nat.le_of_ble_eq_true rfl) (Nat.le_refl _) (Nat.le_refl _) dX12_rescale_80 (xkN (fun T63 O63 R63 le63 p63 => ?_))
              obtain ⟨eT63, sc63, ar63, Q63, hr63⟩ := p63
              obtain rfl := eT63.symm
              have P63 := P62.rebase Q63
              have HB := hr63
              obtain ⟨f1, f2, f3, f4, f5⟩ := aA.resc_facts a no nu
              have GS := HB.2.2.2.2.2.1.1
              rw [f5] at GS
              refine g_iconst (v := nI 0) B dX12_rescale_83 (by decide) ?_
              refine g_istore (lv2 := [(4, _), (3, _), (0, _), (1, _), (2, _)]) B dX12_rescale_84 (by decide) rfl ?_
              refine g_iconst (v := nI 0) B dX12_rescale_86 (by decide) ?_
              refine g_istore (lv2 := [(5, _), (4, _), (3, _), (0, _), (1, _), (2, _)]) B dX12_rescale_87 (by decide) rfl ?_
              change xV Z (T, O63, R63) _ [(5, .int (nI 0)), (4, .int (nI (sumN (fun key => if (a.st 2 no key).isSome = true ∧ ¬ aHome key (a.p no) = aHome key nu then 1 else 0) 0))), (3, .int (nI (a.p no))), (0, .ref m), (1, .int (nI no)), (2, .int (nI nu))] [] 0 0
              have L2 : ∀ (d2 x2 : Nat), d2 = 16 - x2 → x2 ≤ 16 → xV Z (T, O63, R63) 89 [(5, .int (nI x2)), (4, .int (nI (sumN (fun key => if (a.st 2 no key).isSome = true ∧ ¬ aHome key (a.p no) = aHome key nu then 1 else 0) x2))), (3, .int (nI (a.p no))), (0, .ref m), (1, .int (nI no)), (2, .int (nI nu))] [] 0 0 := by
                intro d2
                induction d2 using Nat.strongRecOn with
                | _ d2 ih2 =>
                  intro x2 hd2 hx2
                  have hmul : x2 % 8 * a.p no ≤ 7 * 3 := Nat.mul_le_mul (by omega) (by omega)
                  have hmu2 : x2 % 8 * nu ≤ 7 * 3 := Nat.mul_le_mul (by omega) (by omega)
                  have hau : aHome x2 nu ≤ 2 := by unfold aHome; omega
                  refine g_iload B 0 dX12_rescale_89 rfl ?_
                  refine g_bipush (v := nI 16) B dX12_rescale_91 (by decide) ?_
                  refine g_icmp_geN (tgt := 155) B (by omega) (by omega) dX12_rescale_93 (by decide) (fun c301 => ?_) (fun c301 => ?_)
                  · refine g_iload B 1 dX12_rescale_155 rfl ?_
                    refine g_iret B E rfl rfl dX12_rescale_157 ?_
                    have hE : (sumN (fun key => if (a.st 2 no key).isSome = true ∧ ¬ aHome key (a.p no) = aHome key nu then 1 else 0) x2) = a.movF no (a.p no) nu := by rw [show x2 = 16 by omega]; rfl
                    have hF : a.rescF (nI no) (nI nu) = (nI (a.movF no (a.p no) nu), (a.resc no nu).breaks) := by rw [aA.rescF, if_pos ⟨hbo, ho0⟩, if_pos hbu, hc_no, hc_nu]
                    exact ⟨_, rfl, rfl, _, _, P63, by rw [hF, hE], by rw [hF]; exact HB⟩
                  · refine g_aload_n B 3 dX12_rescale_96 rfl ?_
                    refine g_iload_n B 4 dX12_rescale_97 rfl ?_
                    refine g_callV (rest := []) B M_X12_isKeyed q2751 q2753 qs72 (P63.1.choose_spec.choose_spec) rfl (c_M_isKeyed (o := no) P63.self HB (show no < (a.resc no nu).breaks.n by rw [f1]; omega) (show (a.resc no nu).breaks.n ≤ 6 by rw [f1]; omega) (by rw [f2]; exact W.kd8 (by omega))) rfl rfl (Nat.le_of_ble_eq_true rfl) (Nat.le_of_ble_eq_true rfl) (Nat.le_of_ble_eq_true rfl) (Nat.le_refl _) (Nat.le_refl _) dX12_rescale_98 (xkA (fun v302 T302 O302 R302 le302 p302 => ?_))
                    obtain ⟨rfl, eT302, eO302, eR302⟩ := p302
                    obtain rfl := eT302.symm
                    obtain rfl := eO302.symm
                    obtain rfl := eR302.symm
                    refine g_if_eqB (tgt := 155) B dX12_rescale_101 (by decide) (fun c303 => ?_) (fun c303 => ?_)
                    · refine g_iload B 1 dX12_rescale_155 rfl ?_
                      refine g_iret B E rfl rfl dX12_rescale_157 ?_
                      have hky : a.ky no = false := by unfold aA.ky; rw [← f2]; exact c303
                      have hE : (sumN (fun key => if (a.st 2 no key).isSome = true ∧ ¬ aHome key (a.p no) = aHome key nu then 1 else 0) x2) = a.movF no (a.p no) nu := by unfold aA.movF; rw [movF_no W hky, movF_no W hky]
                      have hF : a.rescF (nI no) (nI nu) = (nI (a.movF no (a.p no) nu), (a.resc no nu).breaks) := by rw [aA.rescF, if_pos ⟨hbo, ho0⟩, if_pos hbu, hc_no, hc_nu]
                      exact ⟨_, rfl, rfl, _, _, P63, by rw [hF, hE], by rw [hF]; exact HB⟩
                    · refine g_iload B 1 dX12_rescale_104 rfl ?_
                      refine g_aload_n B 3 dX12_rescale_106 rfl ?_
                      refine m_geta B P63 F_X12_56_12 (by decide) (Or.inr rfl) dX12_rescale_107 ?_
                      refine g_bipush (v := nI 16) B dX12_rescale_110 (by decide) ?_
                      refine g_iload_n B 4 dX12_rescale_112 rfl ?_
                      refine g_imulN B dX12_rescale_113 ?_
                      refine g_iload B 0 dX12_rescale_114 rfl ?_
                      refine g_iaddN B dX12_rescale_116 ?_
                      refine m_ldz B P63 (by decide) rfl rfl (by show _ < 96; omega) (by decide) (show _ = (bI ((a.st 2 no x2).isSome)) from (GS no (by omega) x2 (by omega)).1) dX12_rescale_117 ?_
                      refine g_if_eqB (tgt := 145) B dX12_rescale_118 (by decide) (fun c304 => ?_) (fun c304 => ?_)
                      · refine g_iconst (v := nI 0) B dX12_rescale_145 (by decide) ?_
                        refine g_iaddN B dX12_rescale_146 ?_
                        refine g_istore (lv2 := [(4, _), (5, _), (3, _), (0, _), (1, _), (2, _)]) B dX12_rescale_147 (by decide) rfl ?_
                        refine g_iinc (v := nI (x2 + 1)) (lv2 := [(5, _), (4, _), (3, _), (0, _), (1, _), (2, _)]) B 1 dX12_rescale_149 rfl (nI_1 _) (by decide) rfl ?_
                        refine g_goto (tgt := 89) B dX12_rescale_152 (by decide) ?_
                        have hc : (if (a.st 2 no x2).isSome = true ∧ ¬ aHome x2 (a.p no) = aHome x2 nu then 1 else 0) = 0 := if_neg (fun e => by rw [c304] at e; exact Bool.noConfusion e.1)
                        have hs : (sumN (fun key => if (a.st 2 no key).isSome = true ∧ ¬ aHome key (a.p no) = aHome key nu then 1 else 0) x2) + 0 = (sumN (fun key => if (a.st 2 no key).isSome = true ∧ ¬ aHome key (a.p no) = aHome key nu then 1 else 0) (x2 + 1)) := congrArg (fun z => (sumN (fun key => if (a.st 2 no key).isSome = true ∧ ¬ aHome key (a.p no) = aHome key nu then 1 else 0) x2) + z) hc.symm
                        rw [hs]
                        exact ih2 (16 - (x2 + 1)) (by omega) (x2 + 1) rfl (by omega)
                      · refine g_iload B 0 dX12_rescale_121 rfl ?_
                        refine g_bipush (v := nI 8) B dX12_rescale_123 (by decide) ?_
                        refine g_iremN B (by omega) (by omega) (by omega) dX12_rescale_125 ?_
                        refine g_iload_n B 2 dX12_rescale_126 rfl ?_
                        refine g_imulN B dX12_rescale_127 ?_
                        refine g_bipush (v := nI 8) B dX12_rescale_128 (by decide) ?_
                        refine g_idivN B (by omega) (by omega) (by omega) dX12_rescale_130 ?_
                        refine g_aload_n B 3 dX12_rescale_131 rfl ?_
                        refine g_iload_n B 4 dX12_rescale_132 rfl ?_
                        refine g_iload B 0 dX12_rescale_133 rfl ?_
                        refine g_callV (rest := [_, _]) B M_X12_home q2755 q2757 qs73 (P63.1.choose_spec.choose_spec) rfl (c_M_home (o := no) (key := x2) P63.self HB (show no < (a.resc no nu).breaks.n by rw [f1]; omega) (show (a.resc no nu).breaks.n ≤ 6 by rw [f1]; omega) (by omega) (by rw [f3]; omega)) rfl rfl (Nat.le_of_ble_eq_true rfl) (Nat.le_of_ble_eq_true rfl) (Nat.le_of_ble_eq_true rfl) (Nat.le_refl _) (Nat.le_refl _) dX12_rescale_135 (xkA (fun v305 T305 O305 R305 le305 p305 => ?_))
                        obtain ⟨rfl, eT305, eO305, eR305⟩ := p305
                        obtain rfl := eT305.symm
                        obtain rfl := eO305.symm
                        obtain rfl := eR305.symm
                        rw [f3]
                        refine g_icmp_eqN (tgt := 145) B (by omega) (by omega) dX12_rescale_138 (by decide) (fun c306 => ?_) (fun c306 => ?_)
                        · refine g_iconst (v := nI 0) B dX12_rescale_145 (by decide) ?_
                          refine g_iaddN B dX12_rescale_146 ?_
                          refine g_istore (lv2 := [(4, _), (5, _), (3, _), (0, _), (1, _), (2, _)]) B dX12_rescale_147 (by decide) rfl ?_
                          refine g_iinc (v := nI (x2 + 1)) (lv2 := [(5, _), (4, _), (3, _), (0, _), (1, _), (2, _)]) B 1 dX12_rescale_149 rfl (nI_1 _) (by decide) rfl ?_
                          refine g_goto (tgt := 89) B dX12_rescale_152 (by decide) ?_
                          have hc : (if (a.st 2 no x2).isSome = true ∧ ¬ aHome x2 (a.p no) = aHome x2 nu then 1 else 0) = 0 := if_neg (fun e => e.2 c306)
                          have hs : (sumN (fun key => if (a.st 2 no key).isSome = true ∧ ¬ aHome key (a.p no) = aHome key nu then 1 else 0) x2) + 0 = (sumN (fun key => if (a.st 2 no key).isSome = true ∧ ¬ aHome key (a.p no) = aHome key nu then 1 else 0) (x2 + 1)) := congrArg (fun z => (sumN (fun key => if (a.st 2 no key).isSome = true ∧ ¬ aHome key (a.p no) = aHome key nu then 1 else 0) x2) + z) hc.symm
                          rw [hs]
                          exact ih2 (16 - (x2 + 1)) (by omega) (x2 + 1) rfl (by omega)
                        · refine g_iconst (v := nI 1) B dX12_rescale_141 (by decide) ?_
                          refine g_goto (tgt := 146) B dX12_rescale_142 (by decide) ?_
                          refine g_iaddN B dX12_rescale_146 ?_
                          refine g_istore (lv2 := [(4, _), (5, _), (3, _), (0, _), (1, _), (2, _)]) B dX12_rescale_147 (by decide) rfl ?_
                          refine g_iinc (v := nI (x2 + 1)) (lv2 := [(5, _), (4, _), (3, _), (0, _), (1, _), (2, _)]) B 1 dX12_rescale_149 rfl (nI_1 _) (by decide) rfl ?_
                          refine g_goto (tgt := 89) B dX12_rescale_152 (by decide) ?_
                          have hc : (if (a.st 2 no x2).isSome = true ∧ ¬ aHome x2 (a.p no) = aHome x2 nu then 1 else 0) = 1 := if_pos ⟨c304, c306⟩
                          have hs : (sumN (fun key => if (a.st 2 no key).isSome = true ∧ ¬ aHome key (a.p no) = aHome key nu then 1 else 0) x2) + 1 = (sumN (fun key => if (a.st 2 no key).isSome = true ∧ ¬ aHome key (a.p no) = aHome key nu then 1 else 0) (x2 + 1)) := congrArg (fun z => (sumN (fun key => if (a.st 2 no key).isSome = true ∧ ¬ aHome key (a.p no) = aHome key nu then 1 else 0) x2) + z) hc.symm
                          rw [hs]
                          exact ih2 (16 - (x2 + 1)) (by omega) (x2 + 1) rfl (by omega)
              exact L2 _ 0 rfl (Nat.zero_le _)
            · refine g_aload_n B 2 dX12_rescale_54 rfl ?_
              refine m_geta B P1 F_X12_90_12 (by decide) (Or.inl rfl) dX12_rescale_55 ?_
              refine g_iload_n B 3 dX12_rescale_58 rfl ?_
              refine g_iload B 0 dX12_rescale_59 rfl ?_
              refine g_callS (rest := [_]) B M_X12_spot q2744 q2745 (c_M_spot (o := no) (i := x)) rfl rfl (Nat.le_of_ble_eq_true rfl) (Nat.le_of_ble_eq_true rfl) (Nat.le_of_ble_eq_true rfl) (Nat.le_refl _) (Nat.le_refl _) dX12_rescale_61 (xkA (fun v64 T64 O64 R64 le64 p64 => ?_))
              obtain ⟨rfl, eT64, eO64, eR64⟩ := p64
              obtain rfl := eT64.symm
              obtain rfl := eO64.symm
              obtain rfl := eR64.symm
              refine g_iconst (v := nI 0) B dX12_rescale_64 (by decide) ?_
              refine m_st B P1 (by decide) rfl rfl (by show _ < 18; omega) (by decide) dX12_rescale_65 (fun R65 ar65 hs65 hk65 P65 => ?_)
              refine g_iinc (v := nI (x + 1)) (lv2 := [(4, _), (3, _), (0, _), (1, _), (2, _)]) B 0 dX12_rescale_66 rfl (nI_1 _) (by decide) rfl ?_
              refine g_goto (tgt := 48) B dX12_rescale_69 (by decide) ?_
              have e35 : ar65 35 = va_up (ar1 35) (3 * no + x) (nI 0) := hs65
              have j1 : ∀ j, j < x + 1 → ar65 35 (3 * no + j) = nI 0 := fun j hj => by
                rw [e35]
                by_cases c : j = x
                · subst c; rw [va_ups]
                · rw [va_upe (by omega)]; exact i1 j (by omega)
              have j2 : ∀ y, (y < 3 * no ∨ 3 * no + (x + 1) ≤ y) → ar65 35 y = ar 35 y := fun y hy => by rw [e35, va_upe (by omega)]; exact i2 y (by omega)
              exact ih (3 - (x + 1)) (by omega) (x + 1) _ _ _ rfl (by omega) P65 j1 j2 (fun k hk => (hk65 k (fun e => hk (by rw [e]; decide))).trans (u1 k hk))
        exact L _ 0 _ _ _ rfl (Nat.zero_le _) P6 (fun j hj => absurd hj (Nat.not_lt_zero j)) (fun _ _ => rfl) (fun _ _ => rfl)
      · refine g_ldc (v := (-1000000002)) B q2666 dX12_rescale_25 ?_
        refine g_iret B E rfl rfl dX12_rescale_27 ?_
        have hF : a.rescF (nI no) u = (-1000000002, a) := by rw [aA.rescF, if_pos ⟨hbo, ho0⟩, if_neg (by rw [c5]; decide)]
        exact ⟨_, rfl, rfl, _, _, P, by rw [hF], by rw [hF]; exact hR⟩
    · refine g_ldcw (v := (-1000000001)) B q2846 dX12_rescale_12 ?_
      refine g_iret B E rfl rfl dX12_rescale_15 ?_
      have hF : a.rescF o u = (-1000000001, a) := by rw [aA.rescF, if_neg (fun h => h.2 c3)]
      exact ⟨_, rfl, rfl, _, _, P, by rw [hF], by rw [hF]; exact hR⟩
