set_option maxRecDepth 100000
theorem g_pick {Z : xZ} {w : xW} {pc : Nat} {lv lv' : List (Nat × Value)} {st : List Value} {kc ks : Nat} (is : List Nat) (hl : lv_pick lv is = lv') (k : xV Z w pc lv' st kc ks) : xV Z w pc lv st kc ks := fun ls H locs cells slots hlv hin => k ls H locs cells slots (lv_sub hlv is hl) hin
/-- the running states, with those of an instance's keys below x saved -/
def svSt (a : aA) (o i x : Nat) : Nat → Nat → Nat → Option (Int32 × Int32) := fun v y key => if v = 1 ∧ y = o ∧ a.ky o = true ∧ key < x ∧ aHome key (a.p o) = i then a.st 0 o key else a.st v y key
theorem svSt_0 (a : aA) (o i : Nat) : svSt a o i 0 = a.st := by
  funext v y key; exact if_neg (fun c => by omega)
theorem svSt_ky {a : aA} {o : Nat} (h : a.ky o = false) (i x x' : Nat) : svSt a o i x = svSt a o i x' := by
  funext v y key
  unfold svSt
  rw [if_neg (fun c => by rw [h] at c; exact absurd c.2.2.1 (by decide)), if_neg (fun c => by rw [h] at c; exact absurd c.2.2.1 (by decide))]
theorem svSt_no {a : aA} {o i x : Nat} (h : ¬ aHome x (a.p o) = i) : svSt a o i (x + 1) = svSt a o i x := by
  funext v y key
  unfold svSt
  by_cases c : v = 1 ∧ y = o ∧ a.ky o = true ∧ key < x ∧ aHome key (a.p o) = i
  · rw [if_pos c, if_pos ⟨c.1, c.2.1, c.2.2.1, by omega, c.2.2.2.2⟩]
  · rw [if_neg c, if_neg]
    rintro ⟨c1, c2, c3, c4, c5⟩
    by_cases e : key = x
    · subst e; exact h c5
    · exact c ⟨c1, c2, c3, by omega, c5⟩
theorem svSt_yes {a : aA} {o i x : Nat} (h : aHome x (a.p o) = i) (hk : a.ky o = true) (y key : Nat) : svSt a o i (x + 1) 1 y key = if y = o ∧ key = x then a.st 0 o x else svSt a o i x 1 y key := by
  unfold svSt
  by_cases e : y = o ∧ key = x
  · obtain ⟨rfl, rfl⟩ := e
    rw [if_pos ⟨rfl, rfl, hk, by omega, h⟩, if_pos ⟨rfl, rfl⟩]
  · rw [if_neg e]
    by_cases c : (1 : Nat) = 1 ∧ y = o ∧ a.ky o = true ∧ key < x ∧ aHome key (a.p o) = i
    · rw [if_pos c, if_pos ⟨c.1, c.2.1, c.2.2.1, by omega, c.2.2.2.2⟩]
    · rw [if_neg c, if_neg]
      rintro ⟨c1, c2, c3, c4, c5⟩
      exact c ⟨c1, c2, c3, by omega, c5⟩
theorem svSt_v {a : aA} {o i x v : Nat} (h : v ≠ 1) : svSt a o i x v = a.st v := by
  funext y key; exact if_neg (fun c => h c.1)
/-- one place of a table of states -/
theorem RMst.set {s s' : Nat → Nat → Option (Int32 × Int32)} {fh f1 f2 gh g1 g2 : Nat → Int32} {o key : Nat} {x : Option (Int32 × Int32)} (h : RMst s fh f1 f2) (hk : key < 16) (hs : ∀ y z, s' y z = if y = o ∧ z = key then x else s y z) (e : ∀ y, y ≠ 16 * o + key → gh y = fh y ∧ g1 y = f1 y ∧ g2 y = f2 y) (eh : gh (16 * o + key) = bI x.isSome) (ev : x.isSome = true → g1 (16 * o + key) = (x.getD (0, 0)).1 ∧ g2 (16 * o + key) = (x.getD (0, 0)).2) : RMst s' gh g1 g2 := fun o1 h1 k1 h2 => by
  rw [hs]
  by_cases hh : o1 = o ∧ k1 = key
  · obtain ⟨rfl, rfl⟩ := hh
    rw [if_pos ⟨rfl, rfl⟩]
    exact ⟨eh, ev⟩
  · rw [if_neg hh]
    obtain ⟨e1, e2, e3⟩ := e (16 * o1 + k1) (by omega)
    rw [e1, e2, e3]
    exact h o1 h1 k1 h2
theorem RMct.up3z {s : Nat → Nat → Nat → Nat} {v o i x : Nat} {f g : Nat → Int32} (h : RMct (s v) f) (e : g = va_up f (3 * o + i) (nI x)) (hi : i < 3) : RMct (up3 s v o i x v) g := by
  have e2 : up3 s v o i x v = up2 (s v) o i x := by
    funext y z
    unfold up3 up2
    by_cases c : y = o ∧ z = i
    · rw [if_pos ⟨rfl, c⟩, if_pos c]
    · rw [if_neg (fun d => c d.2), if_neg c]
  rw [e2]
  exact h.up e hi
theorem up3_v {α : Type} {s : Nat → Nat → Nat → α} {v w o i : Nat} {x : α} (h : w ≠ v) : up3 s v o i x w = s w := by
  funext y z; exact up3_n (fun c => h c.1)
theorem c_M_saves {G : xG} {T : xT} {O R : xO} {m : Nat} {ad : Nat → Nat} {sc : Nat → Int32} {ar : Nat → Nat → Int32} {Bd : Nat} {o i : Nat} (P : PM m ad O R sc ar T O R) {a : aA} (H : RepM a sc ar) (W : WF Bd a) (ho : o < a.n) (hi : i < a.p o) : xCtr G yX12_saves cX12_saves 5 none 1 22 0 0 [.ref m, .int (nI o), .int (nI i)] (T, O, R) (xN (mPostN m ad T O R (fun sc2 ar2 => RepM ((a.w_st (svSt a o i 16)).w_ct (up3 a.ct 1 o i (a.ct 0 o i))) sc2 ar2))) := by
  have hR := H
  obtain ⟨Htxt, Hop, Hinp, Hnm, Hstt, ⟨Hs0, Hs1, Hs2⟩, ⟨Hc0, Hc1, Hc2⟩, Hls, Hsp, Hpt, Hhd, Hch, Hex, Hwr⟩ := H
  have hn2 := W.n2
  have hn6 := W.n6
  have hp3 := (W.p1 o ho).2
  have hi3 : i < 3 := by omega
  refine xCtr.of (by decide +kernel) (Nat.le_of_ble_eq_true rfl) ?_
  intro Z B E hz hnm
  change xV Z (T, O, R) 0 [(0, .ref m), (1, .int (nI o)), (2, .int (nI i))] [] 0 0
  refine g_iconst (v := nI 0) B dX12_saves_0 (by decide) ?_
  refine g_istore_n (lv2 := [(3, _), (0, _), (1, _), (2, _)]) B dX12_saves_1 (by decide) rfl ?_
  have L : ∀ (d x : Nat) (O1 R1 : xO) (sc1 : Nat → Int32) (ar1 : Nat → Nat → Int32), d = 16 - x → x ≤ 16 → PM m ad O R sc1 ar1 T O1 R1 → (RepM (a.w_st (svSt a o i x)) sc1 ar1) → xV Z (T, O1, R1) 2 [(3, .int (nI x)), (0, .ref m), (1, .int (nI o)), (2, .int (nI i))] [] 0 0 := by
    intro d
    induction d using Nat.strongRecOn with
    | _ d ih =>
      intro x O1 R1 sc1 ar1 hd hx P1 i1
      have hhm : aHome x (a.p o) < a.p o := aHome_lt (W.p1 o ho).1
      have hv0 : svSt a o i x 0 = a.st 0 := svSt_v (by decide)
      obtain ⟨Htxt, Hop, Hinp, Hnm, Hstt, ⟨Gs0, Gs1, Gs2⟩, ⟨Hc0, Hc1, Hc2⟩, Hls, Hsp, Hpt, Hhd, Hch, Hex, Hwr⟩ := i1
      have i1 : RepM (a.w_st (svSt a o i x)) sc1 ar1 := ⟨Htxt, Hop, Hinp, Hnm, Hstt, ⟨Gs0, Gs1, Gs2⟩, ⟨Hc0, Hc1, Hc2⟩, Hls, Hsp, Hpt, Hhd, Hch, Hex, Hwr⟩
      have Hs0 : RMst (a.st 0) (ar1 24) (ar1 27) (ar1 30) := by have h := Gs0; rw [show ((a.w_st (svSt a o i x))).st 0 = a.st 0 from hv0] at h; exact h
      refine g_iload_n B 0 dX12_saves_2 rfl ?_
      refine g_bipush (v := nI 16) B dX12_saves_3 (by decide) ?_
      refine g_icmp_geN (tgt := 85) B (by omega) (by omega) dX12_saves_5 (by decide) (fun c61 => ?_) (fun c61 => ?_)
      · have H3 : RepM (a.w_st (svSt a o i 16)) sc1 ar1 := by rw [show 16 = x by omega]; exact i1
        refine g_aload_n B 1 dX12_saves_85 rfl ?_
        refine m_geta B P1 F_X12_87_12 (by decide) (Or.inl rfl) dX12_saves_86 ?_
        refine g_iload_n B 2 dX12_saves_89 rfl ?_
        refine g_iload_n B 3 dX12_saves_90 rfl ?_
        refine g_callS (rest := [_]) B M_X12_spot q2744 q2745 (c_M_spot (o := o) (i := i)) rfl rfl (Nat.le_of_ble_eq_true rfl) (Nat.le_of_ble_eq_true rfl) (Nat.le_of_ble_eq_true rfl) (Nat.le_refl _) (Nat.le_refl _) dX12_saves_91 (xkA (fun v62 T62 O62 R62 le62 p62 => ?_))
        obtain ⟨rfl, eT62, eO62, eR62⟩ := p62
        obtain rfl := eT62.symm
        obtain rfl := eO62.symm
        obtain rfl := eR62.symm
        refine g_aload_n B 1 dX12_saves_94 rfl ?_
        refine m_geta B P1 F_X12_84_12 (by decide) (Or.inl rfl) dX12_saves_95 ?_
        refine g_iload_n B 2 dX12_saves_98 rfl ?_
        refine g_iload_n B 3 dX12_saves_99 rfl ?_
        refine g_callS (rest := [_, _, _]) B M_X12_spot q2744 q2745 (c_M_spot (o := o) (i := i)) rfl rfl (Nat.le_of_ble_eq_true rfl) (Nat.le_of_ble_eq_true rfl) (Nat.le_of_ble_eq_true rfl) (Nat.le_refl _) (Nat.le_refl _) dX12_saves_100 (xkA (fun v63 T63 O63 R63 le63 p63 => ?_))
        obtain ⟨rfl, eT63, eO63, eR63⟩ := p63
        obtain rfl := eT63.symm
        obtain rfl := eO63.symm
        obtain rfl := eR63.symm
        refine m_ld B P1 (by decide) rfl rfl (by show _ < 18; omega) (by decide) (show _ = (nI (a.ct 0 o i)) from (Hc0 o (by omega) i (by omega))) dX12_saves_103 ?_
        refine m_st B P1 (by decide) rfl rfl (by show _ < 18; omega) (by decide) dX12_saves_104 (fun R64 ar64 hs64 hk64 P64 => ?_)
        have e34 : ar64 34 = va_up (ar1 34) (3 * o + i) (nI (a.ct 0 o i)) := hs64
        refine g_vret B E rfl dX12_saves_105 ?_
        refine ⟨rfl, rfl, sc1, ar64, P64, H3.ct (s := up3 a.ct 1 o i (a.ct 0 o i)) (fun k hk _ => hk64 k (by omega)) ?_ (RMct.up3z (s := a.ct) Hc1 e34 (by omega)) ?_⟩
        · rw [up3_v (by decide), hk64 33 (by decide)]; exact Hc0
        · rw [up3_v (by decide), hk64 35 (by decide)]; exact Hc2
      · refine g_aload_n B 1 dX12_saves_8 rfl ?_
        refine g_iload_n B 2 dX12_saves_9 rfl ?_
        refine g_callV (rest := []) B M_X12_isKeyed q2751 q2753 qs72 (P1.1.choose_spec.choose_spec) rfl (c_M_isKeyed P1.self i1 (o := o) (show o < a.n by omega) (show a.n ≤ 6 by omega) (W.kd8 (by omega))) rfl rfl (Nat.le_of_ble_eq_true rfl) (Nat.le_of_ble_eq_true rfl) (Nat.le_of_ble_eq_true rfl) (Nat.le_refl _) (Nat.le_refl _) dX12_saves_10 (xkA (fun v65 T65 O65 R65 le65 p65 => ?_))
        obtain ⟨rfl, eT65, eO65, eR65⟩ := p65
        obtain rfl := eT65.symm
        obtain rfl := eO65.symm
        obtain rfl := eR65.symm
        refine g_top (show Value.int _ = .int (bI (a.ky o)) from rfl) ?_
        refine g_if_eqB (tgt := 85) B dX12_saves_13 (by decide) (fun c66 => ?_) (fun c66 => ?_)
        · have H3 : RepM (a.w_st (svSt a o i 16)) sc1 ar1 := by rw [svSt_ky c66 i 16 x]; exact i1
          refine g_aload_n B 1 dX12_saves_85 rfl ?_
          refine m_geta B P1 F_X12_87_12 (by decide) (Or.inl rfl) dX12_saves_86 ?_
          refine g_iload_n B 2 dX12_saves_89 rfl ?_
          refine g_iload_n B 3 dX12_saves_90 rfl ?_
          refine g_callS (rest := [_]) B M_X12_spot q2744 q2745 (c_M_spot (o := o) (i := i)) rfl rfl (Nat.le_of_ble_eq_true rfl) (Nat.le_of_ble_eq_true rfl) (Nat.le_of_ble_eq_true rfl) (Nat.le_refl _) (Nat.le_refl _) dX12_saves_91 (xkA (fun v67 T67 O67 R67 le67 p67 => ?_))
          obtain ⟨rfl, eT67, eO67, eR67⟩ := p67
          obtain rfl := eT67.symm
          obtain rfl := eO67.symm
          obtain rfl := eR67.symm
          refine g_aload_n B 1 dX12_saves_94 rfl ?_
          refine m_geta B P1 F_X12_84_12 (by decide) (Or.inl rfl) dX12_saves_95 ?_
          refine g_iload_n B 2 dX12_saves_98 rfl ?_
          refine g_iload_n B 3 dX12_saves_99 rfl ?_
          refine g_callS (rest := [_, _, _]) B M_X12_spot q2744 q2745 (c_M_spot (o := o) (i := i)) rfl rfl (Nat.le_of_ble_eq_true rfl) (Nat.le_of_ble_eq_true rfl) (Nat.le_of_ble_eq_true rfl) (Nat.le_refl _) (Nat.le_refl _) dX12_saves_100 (xkA (fun v68 T68 O68 R68 le68 p68 => ?_))
          obtain ⟨rfl, eT68, eO68, eR68⟩ := p68
          obtain rfl := eT68.symm
          obtain rfl := eO68.symm
          obtain rfl := eR68.symm
          refine m_ld B P1 (by decide) rfl rfl (by show _ < 18; omega) (by decide) (show _ = (nI (a.ct 0 o i)) from (Hc0 o (by omega) i (by omega))) dX12_saves_103 ?_
          refine m_st B P1 (by decide) rfl rfl (by show _ < 18; omega) (by decide) dX12_saves_104 (fun R69 ar69 hs69 hk69 P69 => ?_)
          have e34 : ar69 34 = va_up (ar1 34) (3 * o + i) (nI (a.ct 0 o i)) := hs69
          refine g_vret B E rfl dX12_saves_105 ?_
          refine ⟨rfl, rfl, sc1, ar69, P69, H3.ct (s := up3 a.ct 1 o i (a.ct 0 o i)) (fun k hk _ => hk69 k (by omega)) ?_ (RMct.up3z (s := a.ct) Hc1 e34 (by omega)) ?_⟩
          · rw [up3_v (by decide), hk69 33 (by decide)]; exact Hc0
          · rw [up3_v (by decide), hk69 35 (by decide)]; exact Hc2
        · refine g_bipush (v := nI 16) B dX12_saves_16 (by decide) ?_
          refine g_iload_n B 2 dX12_saves_18 rfl ?_
          refine g_imulN B dX12_saves_19 ?_
          refine g_iload_n B 0 dX12_saves_20 rfl ?_
          refine g_iaddN B dX12_saves_21 ?_
          refine g_istore (lv2 := [(4, _), (3, _), (0, _), (1, _), (2, _)]) B dX12_saves_22 (by decide) rfl ?_
          refine g_aload_n B 2 dX12_saves_24 rfl ?_
          refine g_iload_n B 3 dX12_saves_25 rfl ?_
          refine g_iload_n B 1 dX12_saves_26 rfl ?_
          refine g_callV (rest := []) B M_X12_home q2755 q2757 qs73 (P1.1.choose_spec.choose_spec) rfl (c_M_home P1.self i1 (o := o) (key := x) (show o < a.n by omega) (show a.n ≤ 6 by omega) (by omega) (W.p1 _ (by omega)).2) rfl rfl (Nat.le_of_ble_eq_true rfl) (Nat.le_of_ble_eq_true rfl) (Nat.le_of_ble_eq_true rfl) (Nat.le_refl _) (Nat.le_refl _) dX12_saves_27 (xkA (fun v70 T70 O70 R70 le70 p70 => ?_))
          obtain ⟨rfl, eT70, eO70, eR70⟩ := p70
          obtain rfl := eT70.symm
          obtain rfl := eO70.symm
          obtain rfl := eR70.symm
          refine g_top (show Value.int _ = .int (nI (aHome x (a.p o))) from rfl) ?_
          refine g_iload_n B 4 dX12_saves_30 rfl ?_
          refine g_icmp_eqN (tgt := 37) B (by omega) (by omega) dX12_saves_31 (by decide) (fun c71 => ?_) (fun c71 => ?_)
          · refine g_aload_n B 2 dX12_saves_37 rfl ?_
            refine m_geta B P1 F_X12_60_12 (by decide) (Or.inr rfl) dX12_saves_38 ?_
            refine g_iload B 0 dX12_saves_41 rfl ?_
            refine g_aload_n B 2 dX12_saves_43 rfl ?_
            refine m_geta B P1 F_X12_56_12 (by decide) (Or.inr rfl) dX12_saves_44 ?_
            refine g_iload B 0 dX12_saves_47 rfl ?_
            refine m_ldz B P1 (by decide) rfl rfl (by show _ < 96; omega) (by decide) (show _ = (bI ((a.st 0 o x).isSome)) from (Hs0 o (by omega) x (by omega)).1) dX12_saves_49 ?_
            refine m_stz B P1 (by decide) rfl rfl (by show _ < 96; omega) (by decide) (bI_nar _) dX12_saves_50 (fun R72 ar72 hs72 hk72 P72 => ?_)
            refine g_aload_n B 2 dX12_saves_51 rfl ?_
            refine m_geta B P72 F_X12_69_12 (by decide) (Or.inl rfl) dX12_saves_52 ?_
            refine g_iload B 0 dX12_saves_55 rfl ?_
            refine g_aload_n B 2 dX12_saves_57 rfl ?_
            refine m_geta B P72 F_X12_66_12 (by decide) (Or.inl rfl) dX12_saves_58 ?_
            refine g_iload B 0 dX12_saves_61 rfl ?_
            refine m_ld B P72 (by decide) rfl rfl (by show _ < 96; omega) (by decide) (show _ = (ar1 27 ((16 * o) + x)) from ((congrFun (hk72 27 (by decide)) _).trans rfl)) dX12_saves_63 ?_
            refine m_st B P72 (by decide) rfl rfl (by show _ < 96; omega) (by decide) dX12_saves_64 (fun R73 ar73 hs73 hk73 P73 => ?_)
            refine g_aload_n B 2 dX12_saves_65 rfl ?_
            refine m_geta B P73 F_X12_78_12 (by decide) (Or.inl rfl) dX12_saves_66 ?_
            refine g_iload B 0 dX12_saves_69 rfl ?_
            refine g_aload_n B 2 dX12_saves_71 rfl ?_
            refine m_geta B P73 F_X12_75_12 (by decide) (Or.inl rfl) dX12_saves_72 ?_
            refine g_iload B 0 dX12_saves_75 rfl ?_
            refine m_ld B P73 (by decide) rfl rfl (by show _ < 96; omega) (by decide) (show _ = (ar1 30 ((16 * o) + x)) from ((congrFun (hk73 30 (by decide)) _).trans ((congrFun (hk72 30 (by decide)) _).trans rfl))) dX12_saves_77 ?_
            refine m_st B P73 (by decide) rfl rfl (by show _ < 96; omega) (by decide) dX12_saves_78 (fun R74 ar74 hs74 hk74 P74 => ?_)
            refine g_iinc (v := nI (x + 1)) (lv2 := [(3, _), (4, _), (0, _), (1, _), (2, _)]) B 1 dX12_saves_79 rfl (nI_1 _) (by decide) rfl ?_
            refine g_goto (tgt := 2) B dX12_saves_82 (by decide) ?_
            have e25 : ar74 25 = va_up (ar1 25) ((16 * o) + x) (bI ((a.st 0 o x).isSome)) := ((hk74 25 (by decide)).trans ((hk73 25 (by decide)).trans hs72))
            have e28 : ar74 28 = va_up (ar1 28) ((16 * o) + x) (ar1 27 ((16 * o) + x)) := ((hk74 28 (by decide)).trans (hs73.trans (congrArg (fun g => va_up g ((16 * o) + x) (ar1 27 ((16 * o) + x))) (hk72 28 (by decide)))))
            have e31 : ar74 31 = va_up (ar1 31) ((16 * o) + x) (ar1 30 ((16 * o) + x)) := (hs74.trans (congrArg (fun g => va_up g ((16 * o) + x) (ar1 30 ((16 * o) + x))) ((hk73 31 (by decide)).trans (hk72 31 (by decide)))))
            have hS := Hs0 o (by omega) x (by omega)
            have H2 : RepM (a.w_st (svSt a o i (x + 1))) sc1 ar74 := i1.st (a := (a.w_st (svSt a o i x))) (s := svSt a o i (x + 1)) (fun k hk _ => by rw [hk74 k (by omega), hk73 k (by omega), hk72 k (by omega)]) (by rw [hk74 24 (by decide), hk73 24 (by decide), hk72 24 (by decide), hk74 27 (by decide), hk73 27 (by decide), hk72 27 (by decide), hk74 30 (by decide), hk73 30 (by decide), hk72 30 (by decide), svSt_v (by decide)]; exact Hs0) (fun hq => RMst.set (o := o) (key := x) (x := a.st 0 o x) (Gs1 hq) (by omega) (svSt_yes c71 c66) (fun y hy => ⟨by rw [e25, va_upe hy], by rw [e28, va_upe hy], by rw [e31, va_upe hy]⟩) (by rw [e25, va_ups]) (fun hh => ⟨by rw [e28, va_ups]; exact (hS.2 hh).1, by rw [e31, va_ups]; exact (hS.2 hh).2⟩)) (by rw [hk74 26 (by decide), hk73 26 (by decide), hk72 26 (by decide), hk74 29 (by decide), hk73 29 (by decide), hk72 29 (by decide), hk74 32 (by decide), hk73 32 (by decide), hk72 32 (by decide), svSt_v (by decide)]; rw [← svSt_v (a := a) (o := o) (i := i) (x := x) (v := 2) (by decide)]; exact Gs2)
            refine g_pick [0, 2, 3, 4] rfl ?_
            exact ih (16 - (x + 1)) (by omega) (x + 1) _ _ _ _ rfl (by omega) P74 H2
          · refine g_goto (tgt := 79) B dX12_saves_34 (by decide) ?_
            refine g_iinc (v := nI (x + 1)) (lv2 := [(3, _), (4, _), (0, _), (1, _), (2, _)]) B 1 dX12_saves_79 rfl (nI_1 _) (by decide) rfl ?_
            refine g_goto (tgt := 2) B dX12_saves_82 (by decide) ?_
            refine g_pick [0, 2, 3, 4] rfl ?_
            exact ih (16 - (x + 1)) (by omega) (x + 1) _ _ _ _ rfl (by omega) P1 (by rw [svSt_no (by assumption)]; exact i1)
  exact L _ 0 _ _ _ _ rfl (Nat.zero_le _) P (by rw [svSt_0]; exact hR)
theorem RepM.nums {a : aA} {sc sc2 : Nat → Int32} {ar : Nat → Nat → Int32} (h : RepM a sc ar) {f g : Nat → Nat} (n : RMnm ((a.w_of f).w_nm g) sc2) (e : ∀ k, k = 1 ∨ k = 2 ∨ k = 13 ∨ k = 77 ∨ k = 80 → sc2 k = sc k) (hg : g 5 = a.nm 5) (hg2 : 0 < g 2 → 0 < a.nm 2) : RepM ((a.w_of f).w_nm g) sc2 ar := by
  obtain ⟨Htxt, Hop, Hinp, Hnm, Hstt, Hs, Hc, Hls, Hsp, Hpt, Hhd, Hch, Hex, Hwr⟩ := h
  refine ⟨by rw [e 1 (by omega)]; exact Htxt, ?_, by rw [e 13 (by omega)]; exact Hinp, n, Hstt, ⟨Hs.1, fun q => Hs.2.1 (hg2 q), Hs.2.2⟩, Hc, Hls, Hsp, Hpt, Hhd, Hch, by rw [e 77 (by omega)]; exact Hex, by rw [e 80 (by omega)]; exact Hwr⟩
  rw [e 2 (by omega)]
  show RMop (g 5) a.op (sc 2) _ _ _ _
  rw [hg]
  exact Hop
theorem RMst.copy {s : Nat → Nat → Option (Int32 × Int32)} {fh f1 f2 gh g1 g2 : Nat → Int32} (h : RMst s fh f1 f2) (e : ∀ j, j < 96 → gh j = fh j ∧ g1 j = f1 j ∧ g2 j = f2 j) : RMst s gh g1 g2 := fun o h1 k h2 => by
  obtain ⟨e1, e2, e3⟩ := e (16 * o + k) (by omega)
  rw [e1, e2, e3]
  exact h o h1 k h2
theorem RMct.copy {s : Nat → Nat → Nat} {f g : Nat → Int32} (h : RMct s f) (e : ∀ j, j < 18 → g j = f j) : RMct s g := fun o h1 i h2 => by
  rw [e (3 * o + i) (by omega)]
  exact h o h1 i h2
theorem RMst.has {s : Nat → Nat → Option (Int32 × Int32)} {fh f1 f2 : Nat → Int32} (h : RMst s fh f1 f2) {x : Nat} (hx : x < 96) : fh x = bI (s (x / 16) (x % 16)).isSome := by
  have := (h (x / 16) (by omega) (x % 16) (by omega)).1
  rw [show 16 * (x / 16) + x % 16 = x by omega] at this
  exact this
theorem c_M_completes {G : xG} {T : xT} {O R : xO} {m : Nat} {ad : Nat → Nat} {sc : Nat → Int32} {ar : Nat → Nat → Int32}  (P : PM m ad O R sc ar T O R) {a : aA} (H : RepM a sc ar) (hrn : 0 < a.nm 2) : xCtr G yX12_completes cX12_completes 2 none 0 0 0 0 [.ref m] (T, O, R) (xN (mPostN m ad T O R (fun sc2 ar2 => RepM a.finish sc2 ar2))) := by
  have hR := H
  obtain ⟨Htxt, Hop, Hinp, Hnm, Hstt, ⟨Hs0, Hs1, Hs2⟩, ⟨Hc0, Hc1, Hc2⟩, Hls, Hsp, Hpt, Hhd, Hch, Hex, Hwr⟩ := H
  refine xCtr.of (by decide +kernel) (Nat.le_of_ble_eq_true rfl) ?_
  intro Z B E hz hnm
  change xV Z (T, O, R) 0 [(0, .ref m)] [] 0 0
  refine g_iconst (v := nI 0) B dX12_completes_0 (by decide) ?_
  refine g_istore_n (lv2 := [(1, _), (0, _)]) B dX12_completes_1 (by decide) rfl ?_
  have L : ∀ (d x : Nat) (O1 R1 : xO) (ar1 : Nat → Nat → Int32), d = 96 - x → x ≤ 96 → PM m ad O R sc ar1 T O1 R1 → (∀ j, j < x → ar1 26 j = ar 25 j ∧ ar1 29 j = ar 28 j ∧ ar1 32 j = ar 31 j) → (∀ k, k ≠ 26 → k ≠ 29 → k ≠ 32 → ar1 k = ar k) → xV Z (T, O1, R1) 2 [(1, .int (nI x)), (0, .ref m)] [] 0 0 := by
    intro d
    induction d using Nat.strongRecOn with
    | _ d ih =>
      intro x O1 R1 ar1 hd hx P1 i1 i2
      refine g_iload_n B 0 dX12_completes_2 rfl ?_
      refine g_bipush (v := nI 96) B dX12_completes_3 (by decide) ?_
      refine g_icmp_geN (tgt := 50) B (by omega) (by omega) dX12_completes_5 (by decide) (fun c61 => ?_) (fun c61 => ?_)
      · have hx96 : x = 96 := by omega
        subst hx96
        have H2 : RepM (a.w_st (fun v => if v = 2 then a.st 1 else a.st v)) sc ar1 := hR.st (s := fun v => if v = 2 then a.st 1 else a.st v) (fun k hk _ => i2 k (by omega) (by omega) (by omega)) (by rw [i2 24 (by decide) (by decide) (by decide), i2 27 (by decide) (by decide) (by decide), i2 30 (by decide) (by decide) (by decide)]; exact Hs0) (by rw [i2 25 (by decide) (by decide) (by decide), i2 28 (by decide) (by decide) (by decide), i2 31 (by decide) (by decide) (by decide)]; exact Hs1) ((Hs1 hrn).copy i1)
        refine g_iconst (v := nI 0) B dX12_completes_50 (by decide) ?_
        refine g_istore_n (lv2 := [(1, _), (0, _)]) B dX12_completes_51 (by decide) rfl ?_
        have L2 : ∀ (d2 x2 : Nat) (O12 R12 : xO) (ar12 : Nat → Nat → Int32), d2 = 18 - x2 → x2 ≤ 18 → PM m ad O R sc ar12 T O12 R12 → (∀ j, j < x2 → ar12 35 j = ar1 34 j) → (∀ k, k ≠ 35 → ar12 k = ar1 k) → xV Z (T, O12, R12) 52 [(1, .int (nI x2)), (0, .ref m)] [] 0 0 := by
          intro d2
          induction d2 using Nat.strongRecOn with
          | _ d2 ih2 =>
            intro x2 O12 R12 ar12 hd2 hx2 P12 k1 k2
            refine g_iload_n B 0 dX12_completes_52 rfl ?_
            refine g_bipush (v := nI 18) B dX12_completes_53 (by decide) ?_
            refine g_icmp_geN (tgt := 76) B (by omega) (by omega) dX12_completes_55 (by decide) (fun c101 => ?_) (fun c101 => ?_)
            · have hx18 : x2 = 18 := by omega
              subst hx18
              have H3 : RepM ((a.w_st (fun v => if v = 2 then a.st 1 else a.st v)).w_ct (fun v => if v = 2 then a.ct 1 else a.ct v)) sc ar12 := H2.ct (s := fun v => if v = 2 then a.ct 1 else a.ct v) (fun k hk _ => k2 k (by omega)) (by rw [k2 33 (by decide)]; exact H2.2.2.2.2.2.2.1.1) (by rw [k2 34 (by decide)]; exact H2.2.2.2.2.2.2.1.2.1) (H2.2.2.2.2.2.2.1.2.1.copy k1)
              refine g_aload_n B 1 dX12_completes_76 rfl ?_
              refine g_aload_n B 1 dX12_completes_77 rfl ?_
              refine m_get B P12 F_X12_312_12 (by decide) (Or.inl rfl) (show _ = (nI (a.of 1)) from (Hnm.2.1.2.1 hrn)) dX12_completes_78 ?_
              refine m_put B P12 F_X12_262_12 (by decide) (Or.inl rfl) rfl rfl rfl dX12_completes_81 (fun O102 sc102 hs102 hk102 P102 => ?_)
              refine g_aload_n B 1 dX12_completes_84 rfl ?_
              refine g_aload_n B 1 dX12_completes_85 rfl ?_
              refine m_get B P102 F_X12_268_12 (by decide) (Or.inl rfl) (show _ = (nI (a.nm 2)) from ((hk102 17 (by decide)).trans Hnm.2.2.2.2.1)) dX12_completes_86 ?_
              refine m_put B P102 F_X12_253_12 (by decide) (Or.inl rfl) rfl rfl rfl dX12_completes_89 (fun O103 sc103 hs103 hk103 P103 => ?_)
              refine g_aload_n B 1 dX12_completes_92 rfl ?_
              refine g_iconst (v := nI 0) B dX12_completes_93 (by decide) ?_
              refine m_put B P103 F_X12_268_12 (by decide) (Or.inl rfl) rfl rfl rfl dX12_completes_94 (fun O104 sc104 hs104 hk104 P104 => ?_)
              have n37 : sc104 37 = (nI (a.of 1)) := ((hk104 37 (by decide)).trans ((hk103 37 (by decide)).trans hs102))
              have n16 : sc104 16 = (nI (a.nm 2)) := ((hk104 16 (by decide)).trans hs103)
              have n17 : sc104 17 = (nI 0) := hs104
              refine g_vret B E rfl dX12_completes_97 ?_
              have hz : ∀ k, k ≠ 37 → k ≠ 16 → k ≠ 17 → sc104 k = sc k := fun k h1 h2 h3 => (hk104 k h3).trans ((hk103 k h2).trans (hk102 k h1))
              refine ⟨rfl, rfl, sc104, ar12, P104, H3.nums (f := fun v => if v = 2 then a.of 1 else a.of v) (g := up1 (up1 a.nm 1 a.rn) 2 0) ⟨⟨?_, ?_, ?_, ?_⟩, ⟨?_, fun q => absurd q (Nat.lt_irrefl 0), n37⟩, ?_, n16, n17, ?_, ?_, ?_⟩ (fun k hk => hz k (by omega) (by omega) (by omega)) rfl (fun q => absurd q (Nat.lt_irrefl 0))⟩
              · rw [hz 7 (by decide) (by decide) (by decide)]; exact Hnm.1.1
              · rw [hz 8 (by decide) (by decide) (by decide)]; exact Hnm.1.2.1
              · rw [hz 9 (by decide) (by decide) (by decide)]; exact Hnm.1.2.2.1
              · rw [hz 10 (by decide) (by decide) (by decide)]; exact Hnm.1.2.2.2
              · rw [hz 14 (by decide) (by decide) (by decide)]; exact Hnm.2.1.1
              · rw [hz 15 (by decide) (by decide) (by decide)]; exact Hnm.2.2.1
              · rw [hz 38 (by decide) (by decide) (by decide)]; exact Hnm.2.2.2.2.2.1
              · rw [hz 18 (by decide) (by decide) (by decide)]; exact Hnm.2.2.2.2.2.2.1
              · rw [hz 19 (by decide) (by decide) (by decide)]; exact Hnm.2.2.2.2.2.2.2
            · refine g_aload_n B 1 dX12_completes_58 rfl ?_
              refine m_geta B P12 F_X12_90_12 (by decide) (Or.inl rfl) dX12_completes_59 ?_
              refine g_iload_n B 0 dX12_completes_62 rfl ?_
              refine g_aload_n B 1 dX12_completes_63 rfl ?_
              refine m_geta B P12 F_X12_87_12 (by decide) (Or.inl rfl) dX12_completes_64 ?_
              refine g_iload_n B 0 dX12_completes_67 rfl ?_
              refine m_ld B P12 (by decide) rfl rfl (by show _ < 18; omega) (by decide) rfl dX12_completes_68 ?_
              refine m_st B P12 (by decide) rfl rfl (by show _ < 18; omega) (by decide) dX12_completes_69 (fun R105 ar105 hs105 hk105 P105 => ?_)
              refine g_iinc (v := nI (x2 + 1)) (lv2 := [(1, _), (0, _)]) B 0 dX12_completes_70 rfl (nI_1 _) (by decide) rfl ?_
              refine g_goto (tgt := 52) B dX12_completes_73 (by decide) ?_
              have e35 : ar105 35 = va_up (ar12 35) x2 (ar12 34 x2) := hs105
              have j1 : ∀ j, j < x2 + 1 → ar105 35 j = ar1 34 j := fun j hj => by
                rw [e35]
                by_cases c : j = x2
                · subst c; rw [va_ups, k2 34 (by decide)]
                · rw [va_upe c]; exact k1 j (by omega)
              exact ih2 (18 - (x2 + 1)) (by omega) (x2 + 1) _ _ _ rfl (by omega) P105 j1 (fun k h1 => (hk105 k h1).trans (k2 k h1))
        exact L2 _ 0 _ _ _ rfl (Nat.zero_le _) P1 (fun j hj => absurd hj (Nat.not_lt_zero j)) (fun _ _ => rfl)
      · have hb25 : ar1 25 x = bI (a.st 1 (x / 16) (x % 16)).isSome := by rw [i2 25 (by decide) (by decide) (by decide)]; exact (Hs1 hrn).has (by omega)
        refine g_aload_n B 1 dX12_completes_8 rfl ?_
        refine m_geta B P1 F_X12_63_12 (by decide) (Or.inr rfl) dX12_completes_9 ?_
        refine g_iload_n B 0 dX12_completes_12 rfl ?_
        refine g_aload_n B 1 dX12_completes_13 rfl ?_
        refine m_geta B P1 F_X12_60_12 (by decide) (Or.inr rfl) dX12_completes_14 ?_
        refine g_iload_n B 0 dX12_completes_17 rfl ?_
        refine m_ldz B P1 (by decide) rfl rfl (by show _ < 96; omega) (by decide) (show _ = (bI ((a.st 1 (x / 16) (x % 16)).isSome)) from hb25) dX12_completes_18 ?_
        refine m_stz B P1 (by decide) rfl rfl (by show _ < 96; omega) (by decide) (bI_nar _) dX12_completes_19 (fun R62 ar62 hs62 hk62 P62 => ?_)
        refine g_aload_n B 1 dX12_completes_20 rfl ?_
        refine m_geta B P62 F_X12_72_12 (by decide) (Or.inl rfl) dX12_completes_21 ?_
        refine g_iload_n B 0 dX12_completes_24 rfl ?_
        refine g_aload_n B 1 dX12_completes_25 rfl ?_
        refine m_geta B P62 F_X12_69_12 (by decide) (Or.inl rfl) dX12_completes_26 ?_
        refine g_iload_n B 0 dX12_completes_29 rfl ?_
        refine m_ld B P62 (by decide) rfl rfl (by show _ < 96; omega) (by decide) (show _ = (ar1 28 x) from ((congrFun (hk62 28 (by decide)) _).trans rfl)) dX12_completes_30 ?_
        refine m_st B P62 (by decide) rfl rfl (by show _ < 96; omega) (by decide) dX12_completes_31 (fun R63 ar63 hs63 hk63 P63 => ?_)
        refine g_aload_n B 1 dX12_completes_32 rfl ?_
        refine m_geta B P63 F_X12_81_12 (by decide) (Or.inl rfl) dX12_completes_33 ?_
        refine g_iload_n B 0 dX12_completes_36 rfl ?_
        refine g_aload_n B 1 dX12_completes_37 rfl ?_
        refine m_geta B P63 F_X12_78_12 (by decide) (Or.inl rfl) dX12_completes_38 ?_
        refine g_iload_n B 0 dX12_completes_41 rfl ?_
        refine m_ld B P63 (by decide) rfl rfl (by show _ < 96; omega) (by decide) (show _ = (ar1 31 x) from ((congrFun (hk63 31 (by decide)) _).trans ((congrFun (hk62 31 (by decide)) _).trans rfl))) dX12_completes_42 ?_
        refine m_st B P63 (by decide) rfl rfl (by show _ < 96; omega) (by decide) dX12_completes_43 (fun R64 ar64 hs64 hk64 P64 => ?_)
        refine g_iinc (v := nI (x + 1)) (lv2 := [(1, _), (0, _)]) B 0 dX12_completes_44 rfl (nI_1 _) (by decide) rfl ?_
        refine g_goto (tgt := 2) B dX12_completes_47 (by decide) ?_
        have e26 : ar64 26 = va_up (ar1 26) x (bI ((a.st 1 (x / 16) (x % 16)).isSome)) := ((hk64 26 (by decide)).trans ((hk63 26 (by decide)).trans hs62))
        have e29 : ar64 29 = va_up (ar1 29) x (ar1 28 x) := ((hk64 29 (by decide)).trans (hs63.trans (congrArg (fun g => va_up g x (ar1 28 x)) (hk62 29 (by decide)))))
        have e32 : ar64 32 = va_up (ar1 32) x (ar1 31 x) := (hs64.trans (congrArg (fun g => va_up g x (ar1 31 x)) ((hk63 32 (by decide)).trans (hk62 32 (by decide)))))
        have j1 : ∀ j, j < x + 1 → ar64 26 j = ar 25 j ∧ ar64 29 j = ar 28 j ∧ ar64 32 j = ar 31 j := fun j hj => by
          rw [e26, e29, e32]
          by_cases c : j = x
          · subst c; rw [va_ups, va_ups, va_ups, ← hb25, i2 25 (by decide) (by decide) (by decide), i2 28 (by decide) (by decide) (by decide), i2 31 (by decide) (by decide) (by decide)]; exact ⟨rfl, rfl, rfl⟩
          · rw [va_upe c, va_upe c, va_upe c]; exact i1 j (by omega)
        exact ih (96 - (x + 1)) (by omega) (x + 1) _ _ _ rfl (by omega) P64 j1 (fun k h1 h2 h3 => ((hk64 k h3).trans ((hk63 k h2).trans (hk62 k h1))).trans (i2 k h1 h2 h3))
  exact L _ 0 _ _ _ rfl (Nat.zero_le _) P (fun j hj => absurd hj (Nat.not_lt_zero j)) (fun _ _ _ _ => rfl)
