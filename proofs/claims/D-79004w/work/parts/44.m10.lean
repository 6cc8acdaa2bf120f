set_option maxRecDepth 100000
theorem aBits_bit {s : Nat → Bool} {f : Nat} (hf : f < 3) : (nI (aBits s) >>> (nI f &&& 31)) &&& nI 1 = bI (s f) := by
  rcases (show f = 0 ∨ f = 1 ∨ f = 2 by omega) with rfl | rfl | rfl
  · unfold aBits
    generalize s 0 = x; generalize s 1 = y; generalize s 2 = z
    revert x y z; decide
  · unfold aBits
    generalize s 0 = x; generalize s 1 = y; generalize s 2 = z
    revert x y z; decide
  · unfold aBits
    generalize s 0 = x; generalize s 1 = y; generalize s 2 = z
    revert x y z; decide
theorem find_some {p : Nat → Bool} {n x : Nat} (hx : x < n) (h : ∀ j, j < x → p j = false) (hp : p x = true) : (List.range n).find? p = some x := by
  induction n with
  | zero => omega
  | succ n ih =>
    rw [List.range_succ, List.find?_append]
    by_cases c : x < n
    · rw [ih c]; rfl
    · have e : x = n := by omega
      subst e
      rw [List.find?_eq_none.mpr (fun j hj => by rw [h j (List.mem_range.mp hj)]; decide)]
      simp [hp]
theorem find_no {p : Nat → Bool} {n : Nat} (h : ∀ j, j < n → p j = false) : (List.range n).find? p = none := List.find?_eq_none.mpr (fun j hj => by rw [h j (List.mem_range.mp hj)]; decide)
/-- the place of the item that is next -/
def mRd : Option Nat → Int32
  | none => -1
  | some f => nI f
/-- an item can be taken from f -/
def aA.rd (a : aA) (o i f : Nat) : Bool := !a.sp o i f && !(a.ch (o - 1) f i).1.isEmpty
theorem aA.ready_yes {a : aA} {o i x : Nat} (hx : x < a.p (o - 1)) (h : ∀ j, j < x → a.rd o i ((a.pt o i + j) % a.p (o - 1)) = false) (hp : a.rd o i ((a.pt o i + x) % a.p (o - 1)) = true) : a.ready o i = some ((a.pt o i + x) % a.p (o - 1)) := by
  unfold aA.ready
  rw [List.find?_map]
  rw [find_some (p := (fun f => !a.sp o i f && !(a.ch (o - 1) f i).1.isEmpty) ∘ (fun k => (a.pt o i + k) % a.p (o - 1))) hx h hp]
  rfl
theorem aA.ready_no {a : aA} {o i : Nat} (h : ∀ j, j < a.p (o - 1) → a.rd o i ((a.pt o i + j) % a.p (o - 1)) = false) : a.ready o i = none := by
  unfold aA.ready
  rw [List.find?_map]
  rw [find_no (p := (fun f => !a.sp o i f && !(a.ch (o - 1) f i).1.isEmpty) ∘ (fun k => (a.pt o i + k) % a.p (o - 1))) h]
  rfl
theorem c_M_ready {G : xG} {T : xT} {O R : xO} {m : Nat} {ad : Nat → Nat} {sc : Nat → Int32} {ar : Nat → Nat → Int32} {Bd : Nat} {o i : Nat} (P : PM m ad O R sc ar T O R) {a : aA} (H : RepM a sc ar) (W : WF Bd a) (h0 : 0 < o) (ho : o < a.n) (hi : i < a.p o) : xCtr G yX12_ready cX12_ready 6 (some Jvm.ClassFile.FieldType.int) 1 22 0 0 [.ref m, .int (nI o), .int (nI i)] (T, O, R) (xA (fun v T2 O2 R2 => v = .int (mRd (a.ready o i)) ∧ T2 = T ∧ O2 = O ∧ R2 = R)) := by
  have hR := H
  obtain ⟨Htxt, Hop, Hinp, Hnm, Hstt, ⟨Hs0, Hs1, Hs2⟩, ⟨Hc0, Hc1, Hc2⟩, Hls, Hsp, Hpt, Hhd, Hch, Hex, Hwr⟩ := H
  have hn2 := W.n2
  have hn6 := W.n6
  have hp3 := (W.p1 o ho).2
  have hi3 : i < 3 := by omega
  have hpp := W.p1 (o - 1) (by omega)
  have hpt := W.pt o i
  refine xCtr.of (by decide +kernel) (Nat.le_of_ble_eq_true rfl) ?_
  intro Z B E hz hnm
  change xV Z (T, O, R) 0 [(0, .ref m), (1, .int (nI o)), (2, .int (nI i))] [] 0 0
  refine g_iload_n B 1 dX12_ready_0 rfl ?_
  refine g_iload_n B 2 dX12_ready_1 rfl ?_
  refine g_callS (rest := []) B M_X12_spot q2744 q2745 (c_M_spot (o := o) (i := i)) rfl rfl (Nat.le_of_ble_eq_true rfl) (Nat.le_of_ble_eq_true rfl) (Nat.le_of_ble_eq_true rfl) (Nat.le_refl _) (Nat.le_refl _) dX12_ready_2 (xkA (fun v1 T1 O1 R1 le1 p1 => ?_))
  obtain ⟨rfl, eT1, eO1, eR1⟩ := p1
  obtain rfl := eT1.symm
  obtain rfl := eO1.symm
  obtain rfl := eR1.symm
  refine g_istore_n (lv2 := [(3, _), (0, _), (1, _), (2, _)]) B dX12_ready_5 (by decide) rfl ?_
  refine g_iconst (v := nI 0) B dX12_ready_6 (by decide) ?_
  refine g_istore (lv2 := [(4, _), (3, _), (0, _), (1, _), (2, _)]) B dX12_ready_7 (by decide) rfl ?_
  have L : ∀ (d x : Nat), d = (a.p (o - 1)) - x → x ≤ (a.p (o - 1)) → (∀ j, j < x → a.rd o i ((a.pt o i + j) % a.p (o - 1)) = false) → xV Z (T, O, R) 9 [(4, .int (nI x)), (3, .int (nI (3 * o + i))), (0, .ref m), (1, .int (nI o)), (2, .int (nI i))] [] 0 0 := by
    intro d
    induction d using Nat.strongRecOn with
    | _ d ih =>
      intro x hd hx i1
      refine g_iload B 0 dX12_ready_9 rfl ?_
      refine g_aload_n B 2 dX12_ready_11 rfl ?_
      refine m_geta B P F_X12_22_12 (by decide) (Or.inl rfl) dX12_ready_12 ?_
      refine g_iload_n B 3 dX12_ready_15 rfl ?_
      refine g_iconst (v := nI 1) B dX12_ready_16 (by decide) ?_
      refine g_isubN B (by omega) dX12_ready_17 ?_
      refine m_ld B P (by decide) rfl rfl (by show _ < 6; omega) (by decide) (show _ = (nI (a.p (o - 1))) from (Hop.2 (o - 1) (by omega)).2.2.2) dX12_ready_18 ?_
      refine g_icmp_geN (tgt := 82) B (by omega) (by omega) dX12_ready_19 (by decide) (fun c61 => ?_) (fun c61 => ?_)
      · refine g_iconst (v := (-1)) B dX12_ready_82 (by decide) ?_
        refine g_iret B E rfl rfl dX12_ready_83 ?_
        exact ⟨_, rfl, by rw [aA.ready_no (fun j hj => i1 j (by omega))]; rfl, rfl, rfl, rfl⟩
      · refine g_aload_n B 2 dX12_ready_22 rfl ?_
        refine m_geta B P F_X12_108_12 (by decide) (Or.inl rfl) dX12_ready_23 ?_
        refine g_iload_n B 1 dX12_ready_26 rfl ?_
        refine m_ld B P (by decide) rfl rfl (by show _ < 18; omega) (by decide) (show _ = (nI (a.pt o i)) from (Hpt o (by omega) i (by omega))) dX12_ready_27 ?_
        refine g_iload B 0 dX12_ready_28 rfl ?_
        refine g_iaddN B dX12_ready_30 ?_
        refine g_aload_n B 2 dX12_ready_31 rfl ?_
        refine m_geta B P F_X12_22_12 (by decide) (Or.inl rfl) dX12_ready_32 ?_
        refine g_iload_n B 3 dX12_ready_35 rfl ?_
        refine g_iconst (v := nI 1) B dX12_ready_36 (by decide) ?_
        refine g_isubN B (by omega) dX12_ready_37 ?_
        refine m_ld B P (by decide) rfl rfl (by show _ < 6; omega) (by decide) (show _ = (nI (a.p (o - 1))) from (Hop.2 (o - 1) (by omega)).2.2.2) dX12_ready_38 ?_
        refine g_iremN B (by omega) (by omega) (by omega) dX12_ready_39 ?_
        refine g_istore (lv2 := [(5, _), (4, _), (3, _), (0, _), (1, _), (2, _)]) B dX12_ready_40 (by decide) rfl ?_
        have hf : ((a.pt o i + x) % (a.p (o - 1))) < a.p (o - 1) := Nat.mod_lt _ (by omega)
        have hln : mLn (o - 1) ((a.pt o i + x) % (a.p (o - 1))) i < 54 := by unfold mLn; omega
        have hql := (W.ch (o - 1) ((a.pt o i + x) % (a.p (o - 1))) i).1
        have hcr := W.cf.2.2.1.2
        refine g_aload_n B 3 dX12_ready_42 rfl ?_
        refine m_geta B P F_X12_105_12 (by decide) (Or.inl rfl) dX12_ready_43 ?_
        refine g_iload_n B 2 dX12_ready_46 rfl ?_
        refine m_ld B P (by decide) rfl rfl (by show _ < 18; omega) (by decide) (show _ = (nI (aBits (a.sp o i))) from (Hsp o (by omega) i (by omega))) dX12_ready_47 ?_
        refine g_iload B 0 dX12_ready_48 rfl ?_
        refine g_ishr B dX12_ready_50 ?_
        refine g_iconst (v := nI 1) B dX12_ready_51 (by decide) ?_
        refine g_iand B dX12_ready_52 ?_
        refine g_top (show Value.int _ = .int (bI (a.sp o i ((a.pt o i + x) % (a.p (o - 1))))) from by rw [aBits_bit (by omega)]) ?_
        refine g_if_neB (tgt := 76) B dX12_ready_53 (by decide) (fun c62 => ?_) (fun c62 => ?_)
        · refine g_iinc (v := nI (x + 1)) (lv2 := [(4, _), (5, _), (3, _), (0, _), (1, _), (2, _)]) B 1 dX12_ready_76 rfl (nI_1 _) (by decide) rfl ?_
          refine g_goto (tgt := 9) B dX12_ready_79 (by decide) ?_
          have hx1 : a.rd o i ((a.pt o i + x) % (a.p (o - 1))) = false := by unfold aA.rd; rw [c62]; rfl
          refine g_pick [0, 2, 3, 4, 5] rfl ?_
          exact ih ((a.p (o - 1)) - (x + 1)) (by omega) (x + 1) rfl (by omega) (fun j hj => by by_cases c : j = x; subst c; exact hx1; exact i1 j (by omega))
        · refine g_aload_n B 3 dX12_ready_56 rfl ?_
          refine m_geta B P F_X12_129_12 (by decide) (Or.inl rfl) dX12_ready_57 ?_
          refine g_iload_n B 4 dX12_ready_60 rfl ?_
          refine g_iconst (v := nI 1) B dX12_ready_61 (by decide) ?_
          refine g_isubN B (by omega) dX12_ready_62 ?_
          refine g_iload B 0 dX12_ready_63 rfl ?_
          refine g_iload_n B 5 dX12_ready_65 rfl ?_
          refine g_callS (rest := [_]) B M_X12_line q2759 q2760 (c_M_line (o := (o - 1)) (i := (((a.pt o i) + x) % (a.p (o - 1)))) (j := i)) rfl rfl (Nat.le_of_ble_eq_true rfl) (Nat.le_of_ble_eq_true rfl) (Nat.le_of_ble_eq_true rfl) (Nat.le_refl _) (Nat.le_refl _) dX12_ready_66 (xkA (fun v63 T63 O63 R63 le63 p63 => ?_))
          obtain ⟨rfl, eT63, eO63, eR63⟩ := p63
          obtain rfl := eT63.symm
          obtain rfl := eO63.symm
          obtain rfl := eR63.symm
          refine m_ld B P (by decide) rfl rfl (by show _ < 54; omega) (by decide) (show _ = (nI ((a.ch (o - 1) ((a.pt o i + x) % (a.p (o - 1))) i).1.length)) from (Hch (o - 1) (by omega) ((a.pt o i + x) % (a.p (o - 1))) (by omega) i (by omega)).2.2.2.1) dX12_ready_69 ?_
          refine g_if_leN (tgt := 76) B (by omega) dX12_ready_70 (by decide) (fun c64 => ?_) (fun c64 => ?_)
          · refine g_iinc (v := nI (x + 1)) (lv2 := [(4, _), (5, _), (3, _), (0, _), (1, _), (2, _)]) B 1 dX12_ready_76 rfl (nI_1 _) (by decide) rfl ?_
            refine g_goto (tgt := 9) B dX12_ready_79 (by decide) ?_
            have hx1 : a.rd o i ((a.pt o i + x) % (a.p (o - 1))) = false := by unfold aA.rd; rw [List.eq_nil_of_length_eq_zero (show (a.ch (o - 1) ((a.pt o i + x) % (a.p (o - 1))) i).1.length = 0 by omega)]; simp
            refine g_pick [0, 2, 3, 4, 5] rfl ?_
            exact ih ((a.p (o - 1)) - (x + 1)) (by omega) (x + 1) rfl (by omega) (fun j hj => by by_cases c : j = x; subst c; exact hx1; exact i1 j (by omega))
          · refine g_iload B 0 dX12_ready_73 rfl ?_
            refine g_iret B E rfl rfl dX12_ready_75 ?_
            have hx1 : a.rd o i ((a.pt o i + x) % (a.p (o - 1))) = true := by unfold aA.rd; rw [c62]; cases hq : (a.ch (o - 1) ((a.pt o i + x) % (a.p (o - 1))) i).1 with | nil => (have : (a.ch (o - 1) ((a.pt o i + x) % (a.p (o - 1))) i).1.length = 0 := (by rw [hq]; rfl)); omega | cons _ _ => rfl
            exact ⟨_, rfl, by rw [aA.ready_yes (by omega) i1 hx1]; rfl, rfl, rfl, rfl⟩
  exact L _ 0 rfl (Nat.zero_le _) (fun j hj => absurd hj (Nat.not_lt_zero j))
theorem RMnm.of0 {b : aA} {sc sc2 : Nat → Int32} (h : RMnm b sc) (hk : ∀ i, i ≠ 14 → sc2 i = sc i) {x : Nat} (e : sc2 14 = nI x) : RMnm ((b.w_of (up1 b.of 0 x)).w_nm b.nm) sc2 := by
  obtain ⟨⟨n7, n8, n9, n10⟩, ⟨n14, n36, n37⟩, n15, n16, n17, n38, n18, n19⟩ := h
  exact ⟨⟨by rw [hk 7 (by decide)]; exact n7, by rw [hk 8 (by decide)]; exact n8, by rw [hk 9 (by decide)]; exact n9, by rw [hk 10 (by decide)]; exact n10⟩, ⟨e, by rw [hk 36 (by decide)]; exact n36, by rw [hk 37 (by decide)]; exact n37⟩, by rw [hk 15 (by decide)]; exact n15, by rw [hk 16 (by decide)]; exact n16, by rw [hk 17 (by decide)]; exact n17, by rw [hk 38 (by decide)]; exact n38, by rw [hk 18 (by decide)]; exact n18, by rw [hk 19 (by decide)]; exact n19⟩
theorem aA.w_nm_self (b : aA) : b.w_nm b.nm = b := rfl
theorem RepM.of0 {b : aA} {sc sc2 : Nat → Int32} {ar : Nat → Nat → Int32} (h : RepM b sc ar) (hk : ∀ i, i ≠ 14 → sc2 i = sc i) {x : Nat} (e : sc2 14 = nI x) : RepM (b.w_of (up1 b.of 0 x)) sc2 ar := by
  have q := h.nums (f := up1 b.of 0 x) (g := b.nm) (RMnm.of0 h.2.2.2.1 hk e) (fun k hk2 => hk k (by omega)) rfl (fun q => q)
  exact q
theorem up3_self {α : Type} (s : Nat → Nat → Nat → α) (v o k : Nat) : up3 s v o k (s v o k) = s := by
  funext x y z
  by_cases c : x = v ∧ y = o ∧ z = k
  · obtain ⟨rfl, rfl, rfl⟩ := c; rw [up3_s]
  · rw [up3_n c]
theorem aA.w_st_self (b : aA) : b.w_st b.st = b := rfl
theorem nI_inj' {a b : Nat} (ha : a < 2 ^ 31) (hb : b < 2 ^ 31) (h : nI a = nI b) : a = b := by
  have := congrArg Int32.toInt h
  rw [nI_toInt ha, nI_toInt hb] at this
  omega
theorem aA.of_inc (a : aA) (f : Nat → Nat) (k o : Nat) : (a.w_of f).inc k o = (a.inc k o).w_of f := rfl
theorem aA.of_ls (a : aA) (f : Nat → Nat) (x : Nat → Nat → List aRec) : (a.w_of f).w_ls x = (a.w_ls x).w_of f := rfl
theorem aA.of_emit (a : aA) (f : Nat → Nat) (r : aRec) : ((a.w_of f).inc 0 0).emit 0 0 r = ((a.inc 0 0).emit 0 0 r).w_of f := by
  rw [aA.of_inc]
  generalize a.inc 0 0 = b
  unfold aA.emit
  rw [aA.of_ls, aA.of_inc]
  rfl
theorem aA.takeInput_eq {a : aA} (h : a.kd 0 = 7) : a.takeInput = (((a.inc 0 0).emit 0 0 ((a.inp.getD (a.of 0) (0, 0)).1, (a.inp.getD (a.of 0) (0, 0)).2, a.tk - 1))).w_of (up1 a.of 0 (a.of 0 + 1)) := by
  rw [← aA.of_emit]
  unfold aA.takeInput aA.takeIn
  generalize hb : a.w_of (up1 a.of 0 (a.of 0 + 1)) = b
  have hk : b.kd 0 = 7 := by rw [← hb]; exact h
  dsimp only
  rw [hk]
  show aA.emits 0 0 (a.tk - 1) [((a.inp.getD (a.of 0) (0, 0)).1, (a.inp.getD (a.of 0) (0, 0)).2)] ((b.inc 0 0).w_st (up3 b.st 0 0 _ (b.st 0 0 _))) = _
  rw [up3_self]
  rfl
theorem mCh.eat {r : aRec} {rs : List aRec} {q : List (Option (List aRec))} {op : List aRec} {age c t : Nat} {ar ar2 : Nat → Nat → Int32} (h : mCh (some (r :: rs) :: q, op, age) c ar) (ht : ar 52 c = nI t) (ht4 : t ≤ 4) (e : ar2 52 = va_up (ar 52) c (nI (t + 1))) (hk : ∀ k, k ≠ 52 → ar2 k = ar k) : mCh (some rs :: q, op, age) c ar2 := by
  obtain ⟨h46, h47, hr, h51, t', h52, hn, hb⟩ := h
  have htt : t' = t := nI_inj' (by have := hb 0 (Nat.succ_pos _); obtain ⟨-, h2, -⟩ := this; rw [if_pos rfl] at h2; omega) (by omega) (h52.symm.trans ht)
  subst htt
  refine ⟨by rw [hk 46 (by decide)]; exact h46, by rw [hk 47 (by decide)]; exact h47, by rw [hk 48 (by decide), hk 49 (by decide), hk 50 (by decide)]; exact hr, by rw [hk 51 (by decide)]; exact h51, t' + 1, by rw [e, va_ups], fun (c : some rs :: q = []) => absurd c (List.cons_ne_nil _ _), fun z hz => ?_⟩
  rw [hk 53 (by decide), hk 54 (by decide), hk 55 (by decide), hk 56 (by decide)]
  have hz2 := hb z hz
  by_cases z0 : z = 0
  · subst z0
    rw [if_pos rfl]
    obtain ⟨g1, g2, g3⟩ := hz2
    rw [if_pos rfl] at g1 g2 g3
    refine ⟨by rw [g1]; exact congrArg nI (by show t' + (rs.length + 1) = t' + 1 + rs.length; omega), by have : t' + (rs.length + 1) ≤ 4 := g2; show t' + 1 + rs.length ≤ 4; omega, fun k hk2 => ?_⟩
    have := g3 (k + 1) (by show k + 1 < rs.length + 1; omega)
    rw [show 4 * (4 * c + 0) + (t' + 1) + k = 4 * (4 * c + 0) + t' + (k + 1) by omega]
    exact this
  · rw [if_neg z0] at hz2 ⊢
    cases z with
    | zero => exact absurd rfl z0
    | succ z => exact hz2
theorem WF.chl {B : Nat} {a : aA} (W : WF B a) : ∀ o, o < 6 → ∀ i, i < 3 → ∀ j, j < 3 → (a.ch o i j).1.length ≤ 4 ∧ (a.ch o i j).2.1.length ≤ 4 := fun o _ i _ j _ => ⟨Nat.le_trans (W.ch o i j).1 W.cf.2.2.1.2, Nat.le_trans (W.ch o i j).2.1 W.cf.1.2⟩
theorem c_M_takes {G : xG} {T : xT} {O R : xO} {m : Nat} {ad : Nat → Nat} {sc : Nat → Int32} {ar : Nat → Nat → Int32} {Bd : Nat} {o i : Nat} (P : PM m ad O R sc ar T O R) {a : aA} (H : RepM a sc ar) (W : WF Bd a) (hA : AInv a) (hB : Bd ≤ 2 ^ 30) (hbg : a.nm 4 ≠ 0) (ht : 0 < a.tk) (ht2 : a.tk ≤ 40000) (ho : o < a.n) (hi : i < a.p o) (hls : a.ls o i = []) : xCtr G yX12_takes cX12_takes 8 (some Jvm.ClassFile.FieldType.boolean) 3 77 0 0 [.ref m, .int (nI o), .int (nI i)] (T, O, R) (xA (mPost m ad T O R (fun v sc2 ar2 => v = .int (bI (a.take o i).1) ∧ RepM (a.take o i).2 sc2 ar2))) := by
  have hR := H
  obtain ⟨Htxt, Hop, Hinp, Hnm, Hstt, ⟨Hs0, Hs1, Hs2⟩, ⟨Hc0, Hc1, Hc2⟩, Hls, Hsp, Hpt, Hhd, Hch, Hex, Hwr⟩ := H
  have hn2 := W.n2
  have hn6 := W.n6
  have hp3 := (W.p1 o ho).2
  have hi3 : i < 3 := by omega
  refine xCtr.of (by decide +kernel) (Nat.le_of_ble_eq_true rfl) ?_
  intro Z B E hz hnm
  change xV Z (T, O, R) 0 [(0, .ref m), (1, .int (nI o)), (2, .int (nI i))] [] 0 0
  refine g_iload_n B 1 dX12_takes_0 rfl ?_
  refine g_if_neN (tgt := 69) B (by omega) dX12_takes_1 (by decide) (fun c1 => ?_) (fun c1 => ?_)
  · refine g_aload_n B 0 dX12_takes_69 rfl ?_
    refine g_iload_n B 1 dX12_takes_70 rfl ?_
    refine g_iload_n B 2 dX12_takes_71 rfl ?_
    refine g_callV (rest := []) B M_X12_ready q2790 q2792 qs81 (P.1.choose_spec.choose_spec) rfl (c_M_ready (o := o) (i := i) P.self hR W (by omega) ho hi) rfl rfl (Nat.le_of_ble_eq_true rfl) (Nat.le_of_ble_eq_true rfl) (Nat.le_of_ble_eq_true rfl) (Nat.le_refl _) (Nat.le_refl _) dX12_takes_72 (xkA (fun v2 T2 O2 R2 le2 p2 => ?_))
    obtain ⟨rfl, eT2, eO2, eR2⟩ := p2
    obtain rfl := eT2.symm
    obtain rfl := eO2.symm
    obtain rfl := eR2.symm
    have hpp := W.p1 (o - 1) (by omega)
    rcases hrd : a.ready o i with _ | f
    · refine g_top (show Value.int _ = .int (-1) from rfl) ?_
      refine g_istore_n (lv2 := [(3, _), (0, _), (1, _), (2, _)]) B dX12_takes_75 (by decide) rfl ?_
      refine g_iload_n B 0 dX12_takes_76 rfl ?_
      refine g_if_ge (tgt := 82) B dX12_takes_77 (by decide) (fun c => absurd c (by decide)) (fun c => ?_)
      refine g_iconst (v := nI 0) B dX12_takes_80 (by decide) ?_
      refine g_iret B E rfl rfl dX12_takes_81 ?_
      have ht0 : a.take o i = (false, a) := by rw [aA.take, if_neg c1, hrd]
      exact ⟨_, rfl, rfl, _, _, P, by rw [ht0]; rfl, by rw [ht0]; exact hR⟩
    · refine g_top (show Value.int _ = .int (nI f) from rfl) ?_
      obtain ⟨hf, hsp, hne⟩ := aA.ready_some hrd (by omega)
      have hln : mLn (o - 1) f i < 54 := by unfold mLn; omega
      refine g_istore_n (lv2 := [(3, _), (0, _), (1, _), (2, _)]) B dX12_takes_75 (by decide) rfl ?_
      refine g_iload_n B 0 dX12_takes_76 rfl ?_
      refine g_if_geN (tgt := 82) B (by omega) dX12_takes_77 (by decide) ?_
      refine g_aload_n B 1 dX12_takes_82 rfl ?_
      refine m_geta B P F_X12_108_12 (by decide) (Or.inl rfl) dX12_takes_83 ?_
      refine g_iload_n B 2 dX12_takes_86 rfl ?_
      refine g_iload_n B 3 dX12_takes_87 rfl ?_
      refine g_callS (rest := [_]) B M_X12_spot q2744 q2745 (c_M_spot (o := o) (i := i)) rfl rfl (Nat.le_of_ble_eq_true rfl) (Nat.le_of_ble_eq_true rfl) (Nat.le_of_ble_eq_true rfl) (Nat.le_refl _) (Nat.le_refl _) dX12_takes_88 (xkA (fun v4 T4 O4 R4 le4 p4 => ?_))
      obtain ⟨rfl, eT4, eO4, eR4⟩ := p4
      obtain rfl := eT4.symm
      obtain rfl := eO4.symm
      obtain rfl := eR4.symm
      refine g_iload_n B 0 dX12_takes_91 rfl ?_
      refine g_iconst (v := nI 1) B dX12_takes_92 (by decide) ?_
      refine g_iaddN B dX12_takes_93 ?_
      refine g_aload_n B 1 dX12_takes_94 rfl ?_
      refine m_geta B P F_X12_22_12 (by decide) (Or.inl rfl) dX12_takes_95 ?_
      refine g_iload_n B 2 dX12_takes_98 rfl ?_
      refine g_iconst (v := nI 1) B dX12_takes_99 (by decide) ?_
      refine g_isubN B (by omega) dX12_takes_100 ?_
      refine m_ld B P (by decide) rfl rfl (by show _ < 6; omega) (by decide) (show _ = (nI (a.p (o - 1))) from (Hop.2 (o - 1) (by omega)).2.2.2) dX12_takes_101 ?_
      refine g_iremN B (by omega) (by omega) (by omega) dX12_takes_102 ?_
      refine m_st B P (by decide) rfl rfl (by show _ < 18; omega) (by decide) dX12_takes_103 (fun R5 ar5 hs5 hk5 P5 => ?_)
      have e44 : ar5 44 = va_up (ar 44) (3 * o + i) (nI ((f + 1) % (a.p (o - 1)))) := hs5
      have H1 : RepM (a.w_pt (up2 a.pt o i ((f + 1) % a.p (o - 1)))) sc ar5 := hR.pt (fun k hk _ => hk5 k hk) (RMct.up Hpt e44 (by omega))
      have W1 : WF Bd (a.w_pt (up2 a.pt o i ((f + 1) % a.p (o - 1)))) := W.w_pt (by have := Nat.mod_lt (f + 1) (show 0 < a.p (o - 1) by omega); omega)
      have hC : mCh (a.ch (o - 1) f i) (mLn (o - 1) f i) ar5 := H1.2.2.2.2.2.2.2.2.2.2.2.1 (o - 1) (by omega) f (by omega) i (by omega)
      have hW := W.ch (o - 1) f i
      have H1c := H1
      obtain ⟨Htxt, Hop, Hinp, Hnm, Hstt, ⟨Hs0, Hs1, Hs2⟩, ⟨Hc0, Hc1, Hc2⟩, Hls, Hsp, Hpt, Hhd, Hch, Hex, Hwr⟩ := H1c
      refine g_iload_n B 2 dX12_takes_104 rfl ?_
      refine g_iconst (v := nI 1) B dX12_takes_105 (by decide) ?_
      refine g_isubN B (by omega) dX12_takes_106 ?_
      refine g_iload_n B 0 dX12_takes_107 rfl ?_
      refine g_iload_n B 3 dX12_takes_108 rfl ?_
      refine g_callS (rest := []) B M_X12_line q2759 q2760 (c_M_line (o := (o - 1)) (i := f) (j := i)) rfl rfl (Nat.le_of_ble_eq_true rfl) (Nat.le_of_ble_eq_true rfl) (Nat.le_of_ble_eq_true rfl) (Nat.le_refl _) (Nat.le_refl _) dX12_takes_109 (xkA (fun v6 T6 O6 R6 le6 p6 => ?_))
      obtain ⟨rfl, eT6, eO6, eR6⟩ := p6
      obtain rfl := eT6.symm
      obtain rfl := eO6.symm
      obtain rfl := eR6.symm
      refine g_istore (lv2 := [(4, _), (3, _), (0, _), (1, _), (2, _)]) B dX12_takes_112 (by decide) rfl ?_
      rcases hq : (a.ch (o - 1) f i).1 with _ | ⟨b0, q⟩
      · exact absurd hq hne
      have hC2 : mCh (b0 :: q, (a.ch (o - 1) f i).2.1, (a.ch (o - 1) f i).2.2) (mLn (o - 1) f i) ar5 := by rw [← hq]; exact hC
      clear hC
      have hql : q.length < 4 := by have h1 := hW.1; have h2 := W.cf.2.2.1.2; rw [hq] at h1; have h3 : q.length + 1 ≤ a.cf 2 := h1; omega
      rcases b0 with _ | ⟨_ | ⟨r, rs⟩⟩
      · have hz53 : ar5 53 (4 * mLn (o - 1) f i) = -1 := by obtain ⟨-, -, -, -, t, -, -, hb⟩ := hC2; exact (hb 0 (Nat.succ_pos _)).1
        refine g_aload_n B 2 dX12_takes_114 rfl ?_
        refine m_geta B P5 F_X12_135_12 (by decide) (Or.inl rfl) dX12_takes_115 ?_
        refine g_iconst (v := nI 4) B dX12_takes_118 (by decide) ?_
        refine g_iload B 0 dX12_takes_119 rfl ?_
        refine g_imulN B dX12_takes_121 ?_
        refine m_ld B P5 (by decide) rfl rfl (by show _ < 216; omega) (by decide) (show _ = (-1) from hz53) dX12_takes_122 ?_
        refine g_if_ge (tgt := 141) B dX12_takes_123 (by decide) (fun c => absurd c (by decide)) (fun c => ?_)
        refine g_aload_n B 2 dX12_takes_126 rfl ?_
        refine g_iload B 0 dX12_takes_127 rfl ?_
        refine g_callV (rest := []) B M_X12_pops q2794 q2796 qs82 (P5.1.choose_spec.choose_spec) rfl (c_M_pops P5.self hln hC2 hql) rfl rfl (Nat.le_of_ble_eq_true rfl) (Nat.le_of_ble_eq_true rfl) (Nat.le_of_ble_eq_true rfl) (Nat.le_refl _) (Nat.le_refl _) dX12_takes_129 (xkN (fun T7 O7 R7 le7 p7 => ?_))
        obtain ⟨eT7, sc7, ar7, Q7, hs7, hf7, hr7⟩ := p7
        obtain rfl := eT7.symm
        have P7 := P5.rebase Q7
        have H2 : RepM ((a.w_pt (up2 a.pt o i ((f + 1) % a.p (o - 1)))).w_ch (up3 a.ch (o - 1) f i (q, (a.ch (o - 1) f i).2.1, (a.ch (o - 1) f i).2.2))) sc ar7 := H1.chan (a := a.w_pt _) (W1.chl) (by omega) (by omega) hf7 hr7
        have W2 : WF Bd ((a.w_pt (up2 a.pt o i ((f + 1) % a.p (o - 1)))).w_ch (up3 a.ch (o - 1) f i (q, (a.ch (o - 1) f i).2.1, (a.ch (o - 1) f i).2.2))) := W1.w_chq hbg (by show (a.ch (o - 1) f i).1 ≠ []; rw [hq]; simp) (hW.tail hq)
        rw [← hs7] at H2
        have hrn : 0 < a.rn := by obtain ⟨o2, ho2⟩ : ∃ o2, o = o2 + 1 := ⟨o - 1, by omega⟩; subst ho2; exact (hA.rn_of ho hf hi hq).1
        have hrb : ((a.w_pt (up2 a.pt o i ((f + 1) % a.p (o - 1)))).w_ch (up3 a.ch (o - 1) f i (q, (a.ch (o - 1) f i).2.1, (a.ch (o - 1) f i).2.2))).nm 2 = a.rn := by rw [aA.nm_w_ch, aA.nm_w_pt]; rfl
        generalize hb : ((a.w_pt (up2 a.pt o i ((f + 1) % a.p (o - 1)))).w_ch (up3 a.ch (o - 1) f i (q, (a.ch (o - 1) f i).2.1, (a.ch (o - 1) f i).2.2))) = b at H2 W2 hrb
        have S2 : sSt b a := by rw [← hb]; exact sSt.rf
        refine g_aload_n B 2 dX12_takes_132 rfl ?_
        refine g_iload_n B 3 dX12_takes_133 rfl ?_
        refine g_iload_n B 4 dX12_takes_134 rfl ?_
        refine g_iload_n B 1 dX12_takes_135 rfl ?_
        refine g_callV (rest := []) B M_X12_barrier q2798 q2800 qs83 (P7.1.choose_spec.choose_spec) rfl (c_M_barrier (a := b) (o := o) (i := i) (f := f) P7.self H2 rfl W2 hB (by rw [hrb]; exact hrn) (by omega) (show o < b.n by rw [S2.n]; exact ho) (show i < b.p o by rw [S2.p]; exact hi) (show f < b.p (o - 1) by rw [S2.p]; exact hf)) rfl rfl (Nat.le_of_ble_eq_true rfl) (Nat.le_of_ble_eq_true rfl) (Nat.le_of_ble_eq_true rfl) (Nat.le_refl _) (Nat.le_refl _) dX12_takes_136 (xkN (fun T8 O8 R8 le8 p8 => ?_))
        obtain ⟨eT8, sc8, ar8, Q8, hr8⟩ := p8
        obtain rfl := eT8.symm
        have P8 := P7.rebase Q8
        refine g_iconst (v := nI 1) B dX12_takes_139 (by decide) ?_
        refine g_iret B E rfl rfl dX12_takes_140 ?_
        have ht0 : a.take o i = (true, a.takeItem o i f) := by rw [aA.take, if_neg c1, hrd]
        have hti := aA.takeItem_none hq hb.symm rfl
        exact ⟨_, rfl, rfl, _, _, P8, by rw [ht0]; rfl, by rw [ht0]; exact (by rw [hti]; exact hr8)⟩
      · exact absurd (hW.2.2.2.2.1 [] (by rw [hq]; exact List.mem_cons_self ..)).1 (by decide)
      · have hC3 := hC2
        obtain ⟨-, -, -, -, t, h52, -, hb⟩ := hC3
        have hb0 := hb 0 (Nat.succ_pos _)
        obtain ⟨hz53, ht4, hrec⟩ : ar5 53 (4 * mLn (o - 1) f i) = nI (t + (rs.length + 1)) ∧ t + (rs.length + 1) ≤ 4 ∧ mRecs (r :: rs) (4 * (4 * mLn (o - 1) f i) + t) (ar5 54) (ar5 55) (ar5 56) := hb0
        have hr0 := hrec 0 (Nat.succ_pos _)
        rw [show 4 * (4 * mLn (o - 1) f i) + t + 0 = 16 * mLn (o - 1) f i + t by omega] at hr0
        obtain ⟨hr54, hr55, hr56⟩ : ar5 54 (16 * mLn (o - 1) f i + t) = nI r.1 ∧ ar5 55 (16 * mLn (o - 1) f i + t) = r.2.1 ∧ ar5 56 (16 * mLn (o - 1) f i + t) = nI r.2.2 := hr0
        have hrok := (hW.2.2.2.2.1 (r :: rs) (by rw [hq]; exact List.mem_cons_self ..)).2.2 r (List.mem_cons_self ..)
        have hrsl := (hW.2.2.2.2.1 (r :: rs) (by rw [hq]; exact List.mem_cons_self ..)).2.1
        have hr1 := hrok.1
        have hr2 : r.2.2 < a.nm 0 := hrok.2
        refine g_aload_n B 2 dX12_takes_114 rfl ?_
        refine m_geta B P5 F_X12_135_12 (by decide) (Or.inl rfl) dX12_takes_115 ?_
        refine g_iconst (v := nI 4) B dX12_takes_118 (by decide) ?_
        refine g_iload B 0 dX12_takes_119 rfl ?_
        refine g_imulN B dX12_takes_121 ?_
        refine m_ld B P5 (by decide) rfl rfl (by show _ < 216; omega) (by decide) (show _ = (nI (t + (rs.length + 1))) from hz53) dX12_takes_122 ?_
        refine g_if_geN (tgt := 141) B (by omega) dX12_takes_123 (by decide) ?_
        refine g_aload_n B 2 dX12_takes_141 rfl ?_
        refine m_geta B P5 F_X12_138_12 (by decide) (Or.inl rfl) dX12_takes_142 ?_
        refine g_bipush (v := nI 16) B dX12_takes_145 (by decide) ?_
        refine g_iload B 0 dX12_takes_147 rfl ?_
        refine g_imulN B dX12_takes_149 ?_
        refine g_aload_n B 2 dX12_takes_150 rfl ?_
        refine m_geta B P5 F_X12_132_12 (by decide) (Or.inl rfl) dX12_takes_151 ?_
        refine g_iload B 0 dX12_takes_154 rfl ?_
        refine m_ld B P5 (by decide) rfl rfl (by show _ < 54; omega) (by decide) (show _ = (nI t) from h52) dX12_takes_156 ?_
        refine g_iaddN B dX12_takes_157 ?_
        refine m_ld B P5 (by decide) rfl rfl (by show _ < 864; omega) (by decide) (show _ = (nI r.1) from hr54) dX12_takes_158 ?_
        refine g_istore (lv2 := [(5, _), (4, _), (3, _), (0, _), (1, _), (2, _)]) B dX12_takes_159 (by decide) rfl ?_
        refine g_aload_n B 3 dX12_takes_161 rfl ?_
        refine m_geta B P5 F_X12_141_12 (by decide) (Or.inl rfl) dX12_takes_162 ?_
        refine g_bipush (v := nI 16) B dX12_takes_165 (by decide) ?_
        refine g_iload B 1 dX12_takes_167 rfl ?_
        refine g_imulN B dX12_takes_169 ?_
        refine g_aload_n B 3 dX12_takes_170 rfl ?_
        refine m_geta B P5 F_X12_132_12 (by decide) (Or.inl rfl) dX12_takes_171 ?_
        refine g_iload B 1 dX12_takes_174 rfl ?_
        refine m_ld B P5 (by decide) rfl rfl (by show _ < 54; omega) (by decide) (show _ = (nI t) from h52) dX12_takes_176 ?_
        refine g_iaddN B dX12_takes_177 ?_
        refine m_ld B P5 (by decide) rfl rfl (by show _ < 864; omega) (by decide) (show _ = r.2.1 from hr55) dX12_takes_178 ?_
        refine g_istore (lv2 := [(6, _), (5, _), (4, _), (3, _), (0, _), (1, _), (2, _)]) B dX12_takes_179 (by decide) rfl ?_
        refine g_aload_n B 4 dX12_takes_181 rfl ?_
        refine m_geta B P5 F_X12_144_12 (by decide) (Or.inl rfl) dX12_takes_182 ?_
        refine g_bipush (v := nI 16) B dX12_takes_185 (by decide) ?_
        refine g_iload B 2 dX12_takes_187 rfl ?_
        refine g_imulN B dX12_takes_189 ?_
        refine g_aload_n B 4 dX12_takes_190 rfl ?_
        refine m_geta B P5 F_X12_132_12 (by decide) (Or.inl rfl) dX12_takes_191 ?_
        refine g_iload B 2 dX12_takes_194 rfl ?_
        refine m_ld B P5 (by decide) rfl rfl (by show _ < 54; omega) (by decide) (show _ = (nI t) from h52) dX12_takes_196 ?_
        refine g_iaddN B dX12_takes_197 ?_
        refine m_ld B P5 (by decide) rfl rfl (by show _ < 864; omega) (by decide) (show _ = (nI r.2.2) from hr56) dX12_takes_198 ?_
        refine g_istore (lv2 := [(7, _), (6, _), (5, _), (4, _), (3, _), (0, _), (1, _), (2, _)]) B dX12_takes_199 (by decide) rfl ?_
        refine g_aload_n B 5 dX12_takes_201 rfl ?_
        refine m_geta B P5 F_X12_132_12 (by decide) (Or.inl rfl) dX12_takes_202 ?_
        refine g_iload B 3 dX12_takes_205 rfl ?_
        refine g_dup2 B dX12_takes_207 rfl rfl ?_
        refine m_ld B P5 (by decide) rfl rfl (by show _ < 54; omega) (by decide) (show _ = (nI t) from h52) dX12_takes_208 ?_
        refine g_iconst (v := nI 1) B dX12_takes_209 (by decide) ?_
        refine g_iaddN B dX12_takes_210 ?_
        refine m_st B P5 (by decide) rfl rfl (by show _ < 54; omega) (by decide) dX12_takes_211 (fun R10 ar10 hs10 hk10 P10 => ?_)
        refine g_aload_n B 5 dX12_takes_212 rfl ?_
        refine m_geta B P10 F_X12_132_12 (by decide) (Or.inl rfl) dX12_takes_213 ?_
        refine g_iload B 3 dX12_takes_216 rfl ?_
        refine m_ld B P10 (by decide) rfl rfl (by show _ < 54; omega) (by decide) (show _ = (nI (t + 1)) from ((congrFun hs10 _).trans va_ups)) dX12_takes_218 ?_
        refine g_aload_n B 5 dX12_takes_219 rfl ?_
        refine m_geta B P10 F_X12_135_12 (by decide) (Or.inl rfl) dX12_takes_220 ?_
        refine g_iconst (v := nI 4) B dX12_takes_223 (by decide) ?_
        refine g_iload B 3 dX12_takes_224 rfl ?_
        refine g_imulN B dX12_takes_226 ?_
        refine m_ld B P10 (by decide) rfl rfl (by show _ < 216; omega) (by decide) (show _ = (nI (t + (rs.length + 1))) from ((congrFun (hk10 53 (by decide)) _).trans hz53)) dX12_takes_227 ?_
        refine g_icmp_neN (tgt := 237) B (by omega) (by omega) dX12_takes_228 (by decide) (fun c11 => ?_) (fun c11 => ?_)
        · have e52 : ar10 52 = va_up (ar5 52) (mLn (o - 1) f i) (nI (t + 1)) := hs10
          have hE := mCh.eat hC2 h52 (by omega) e52 (fun k hk => hk10 k hk)
          have hF : mFr (mLn (o - 1) f i) ar5 ar10 := ⟨fun k hk => hk10 k (by omega), fun x hx => ⟨by rw [hk10 46 (by decide)], by rw [hk10 47 (by decide)], by rw [hk10 51 (by decide)], by rw [e52, va_upe hx]⟩, fun x hx => ⟨by rw [hk10 48 (by decide)], by rw [hk10 49 (by decide)], by rw [hk10 50 (by decide)], by rw [hk10 53 (by decide)]⟩, fun x hx => ⟨by rw [hk10 54 (by decide)], by rw [hk10 55 (by decide)], by rw [hk10 56 (by decide)]⟩⟩
          have hrs : rs ≠ [] := fun e => by rw [e] at c11; exact c11 rfl
          have hie : rs.isEmpty = false := by cases rs; exact absurd rfl hrs; rfl
          have H2 : RepM ((a.w_pt (up2 a.pt o i ((f + 1) % a.p (o - 1)))).w_ch (up3 a.ch (o - 1) f i ((if rs.isEmpty = true then q else some rs :: q), (a.ch (o - 1) f i).2.1, (a.ch (o - 1) f i).2.2))) sc ar10 := H1.chan (a := a.w_pt _) (W1.chl) (by omega) (by omega) hF (by rw [hie]; exact hE)
          have W2 : WF Bd ((a.w_pt (up2 a.pt o i ((f + 1) % a.p (o - 1)))).w_ch (up3 a.ch (o - 1) f i ((if rs.isEmpty = true then q else some rs :: q), (a.ch (o - 1) f i).2.1, (a.ch (o - 1) f i).2.2))) := W1.w_chq hbg (by show (a.ch (o - 1) f i).1 ≠ []; rw [hq]; simp) (by split; exact hW.tail hq; rename_i e; exact hW.eat hq (fun c => by rw [c] at e; exact e rfl))
          generalize hb : ((a.w_pt (up2 a.pt o i ((f + 1) % a.p (o - 1)))).w_ch (up3 a.ch (o - 1) f i ((if rs.isEmpty = true then q else some rs :: q), (a.ch (o - 1) f i).2.1, (a.ch (o - 1) f i).2.2))) = b at H2 W2
          have S2 : sSt b a := by rw [← hb]; exact sSt.rf
          have hls2 : b.ls o i = [] := by rw [← hb]; exact hls
          refine g_aload_n B 5 dX12_takes_237 rfl ?_
          refine g_iload_n B 6 dX12_takes_238 rfl ?_
          refine g_iload_n B 7 dX12_takes_239 rfl ?_
          refine g_iload B 2 dX12_takes_240 rfl ?_
          refine g_iload B 1 dX12_takes_242 rfl ?_
          refine g_iload B 0 dX12_takes_244 rfl ?_
          refine g_callV (rest := []) B M_X12_takesIn q2810 q2812 qs86 (P10.1.choose_spec.choose_spec) rfl (c_M_takesIn (a := b) (o := o) (i := i) (r := r) P10.self H2 W2 (by omega) (show o < b.n by rw [S2.n]; exact ho) (show i < b.p o by rw [S2.p]; exact hi) (show rOk b.tk r by rw [S2.tk]; exact hrok) hls2 (show b.tk ≤ 40000 by rw [S2.tk]; exact ht2)) rfl rfl (Nat.le_of_ble_eq_true rfl) (Nat.le_of_ble_eq_true rfl) (Nat.le_of_ble_eq_true rfl) (Nat.le_refl _) (Nat.le_refl _) dX12_takes_246 (xkN (fun T12 O12 R12 le12 p12 => ?_))
          obtain ⟨eT12, sc12, ar12, Q12, hr12⟩ := p12
          obtain rfl := eT12.symm
          have P12 := P10.rebase Q12
          refine g_iconst (v := nI 1) B dX12_takes_249 (by decide) ?_
          refine g_iret B E rfl rfl dX12_takes_250 ?_
          have ht0 : a.take o i = (true, a.takeItem o i f) := by rw [aA.take, if_neg c1, hrd]
          have hti := aA.takeItem_some hq hb.symm
          exact ⟨_, rfl, rfl, _, _, P12, by rw [ht0]; rfl, by rw [ht0]; exact (by rw [hti]; exact hr12)⟩
        · refine g_aload_n B 5 dX12_takes_231 rfl ?_
          refine g_iload B 3 dX12_takes_232 rfl ?_
          have e52 : ar10 52 = va_up (ar5 52) (mLn (o - 1) f i) (nI (t + 1)) := hs10
          have hE := mCh.eat hC2 h52 (by omega) e52 (fun k hk => hk10 k hk)
          have hF : mFr (mLn (o - 1) f i) ar5 ar10 := ⟨fun k hk => hk10 k (by omega), fun x hx => ⟨by rw [hk10 46 (by decide)], by rw [hk10 47 (by decide)], by rw [hk10 51 (by decide)], by rw [e52, va_upe hx]⟩, fun x hx => ⟨by rw [hk10 48 (by decide)], by rw [hk10 49 (by decide)], by rw [hk10 50 (by decide)], by rw [hk10 53 (by decide)]⟩, fun x hx => ⟨by rw [hk10 54 (by decide)], by rw [hk10 55 (by decide)], by rw [hk10 56 (by decide)]⟩⟩
          have hrs : rs = [] := List.eq_nil_of_length_eq_zero (by omega)
          rw [hrs] at hE
          refine g_callV (rest := []) B M_X12_pops q2794 q2796 qs82 (P10.1.choose_spec.choose_spec) rfl (c_M_pops P10.self hln hE hql) rfl rfl (Nat.le_of_ble_eq_true rfl) (Nat.le_of_ble_eq_true rfl) (Nat.le_of_ble_eq_true rfl) (Nat.le_refl _) (Nat.le_refl _) dX12_takes_234 (xkN (fun T13 O13 R13 le13 p13 => ?_))
          obtain ⟨eT13, sc13, ar13, Q13, hs13, hf13, hr13⟩ := p13
          obtain rfl := eT13.symm
          have P13 := P10.rebase Q13
          have H2 : RepM ((a.w_pt (up2 a.pt o i ((f + 1) % a.p (o - 1)))).w_ch (up3 a.ch (o - 1) f i ((if rs.isEmpty = true then q else some rs :: q), (a.ch (o - 1) f i).2.1, (a.ch (o - 1) f i).2.2))) sc ar13 := H1.chan (a := a.w_pt _) (W1.chl) (by omega) (by omega) (hF.tr hf13) (by rw [hrs]; exact hr13)
          rw [← hs13] at H2
          have W2 : WF Bd ((a.w_pt (up2 a.pt o i ((f + 1) % a.p (o - 1)))).w_ch (up3 a.ch (o - 1) f i ((if rs.isEmpty = true then q else some rs :: q), (a.ch (o - 1) f i).2.1, (a.ch (o - 1) f i).2.2))) := W1.w_chq hbg (by show (a.ch (o - 1) f i).1 ≠ []; rw [hq]; simp) (by split; exact hW.tail hq; rename_i e; exact hW.eat hq (fun c => by rw [c] at e; exact e rfl))
          generalize hb : ((a.w_pt (up2 a.pt o i ((f + 1) % a.p (o - 1)))).w_ch (up3 a.ch (o - 1) f i ((if rs.isEmpty = true then q else some rs :: q), (a.ch (o - 1) f i).2.1, (a.ch (o - 1) f i).2.2))) = b at H2 W2
          have S2 : sSt b a := by rw [← hb]; exact sSt.rf
          have hls2 : b.ls o i = [] := by rw [← hb]; exact hls
          refine g_aload_n B 5 dX12_takes_237 rfl ?_
          refine g_iload_n B 6 dX12_takes_238 rfl ?_
          refine g_iload_n B 7 dX12_takes_239 rfl ?_
          refine g_iload B 2 dX12_takes_240 rfl ?_
          refine g_iload B 1 dX12_takes_242 rfl ?_
          refine g_iload B 0 dX12_takes_244 rfl ?_
          refine g_callV (rest := []) B M_X12_takesIn q2810 q2812 qs86 (P13.1.choose_spec.choose_spec) rfl (c_M_takesIn (a := b) (o := o) (i := i) (r := r) P13.self H2 W2 (by omega) (show o < b.n by rw [S2.n]; exact ho) (show i < b.p o by rw [S2.p]; exact hi) (show rOk b.tk r by rw [S2.tk]; exact hrok) hls2 (show b.tk ≤ 40000 by rw [S2.tk]; exact ht2)) rfl rfl (Nat.le_of_ble_eq_true rfl) (Nat.le_of_ble_eq_true rfl) (Nat.le_of_ble_eq_true rfl) (Nat.le_refl _) (Nat.le_refl _) dX12_takes_246 (xkN (fun T14 O14 R14 le14 p14 => ?_))
          obtain ⟨eT14, sc14, ar14, Q14, hr14⟩ := p14
          obtain rfl := eT14.symm
          have P14 := P13.rebase Q14
          refine g_iconst (v := nI 1) B dX12_takes_249 (by decide) ?_
          refine g_iret B E rfl rfl dX12_takes_250 ?_
          have ht0 : a.take o i = (true, a.takeItem o i f) := by rw [aA.take, if_neg c1, hrd]
          have hti := aA.takeItem_some hq hb.symm
          exact ⟨_, rfl, rfl, _, _, P14, by rw [ht0]; rfl, by rw [ht0]; exact (by rw [hti]; exact hr14)⟩
  · have hof := W.ofs 0
    have hinl := W.inp
    have hi0 : i = 0 := by have h1 := W.p0; have h2 : o = 0 := c1; rw [h2] at hi; omega
    have ho0 : o = 0 := c1
    refine g_aload_n B 0 dX12_takes_4 rfl ?_
    refine m_get B P F_X12_271_12 (by decide) (Or.inl rfl) (show _ = (nI (a.of 0)) from Hnm.2.1.1) dX12_takes_5 ?_
    refine g_aload_n B 0 dX12_takes_8 rfl ?_
    refine m_get B P F_X12_275_12 (by decide) (Or.inl rfl) (show _ = (nI a.inp.length) from Hinp.1) dX12_takes_9 ?_
    refine g_icmp_neN (tgt := 17) B (by omega) (by omega) dX12_takes_12 (by decide) (fun c15 => ?_) (fun c15 => ?_)
    · have hls : a.ls 0 0 = [] := by rw [ho0, hi0] at hls; exact hls
      have hof := W.ofs 0
      have hinl := W.inp
      have htk : 0 < a.nm 0 := ht
      have htk2 := ht2
      have hi0 := hls
      have hof2 : a.of 0 < a.inp.length := by omega
      refine g_aload_n B 0 dX12_takes_17 rfl ?_
      refine m_geta B P F_X12_44_12 (by decide) (Or.inl rfl) dX12_takes_18 ?_
      refine g_iconst (v := nI 0) B dX12_takes_21 (by decide) ?_
      refine g_dup2 B dX12_takes_22 rfl rfl ?_
      refine m_ld B P (by decide) rfl rfl (by show _ < 6; omega) (by decide) (show _ = (a.stt 0 0) from (Hstt 0 (by decide) 0 (by omega))) dX12_takes_23 ?_
      refine g_iconst (v := nI 1) B dX12_takes_24 (by decide) ?_
      refine g_iadd B dX12_takes_25 ?_
      refine m_st B P (by decide) rfl rfl (by show _ < 6; omega) (by decide) dX12_takes_26 (fun R16 ar16 hs16 hk16 P16 => ?_)
      have e20 : ar16 20 = va_up (ar 20) 0 ((a.stt 0 0) + (nI 1)) := hs16
      have H1 : RepM (a.inc 0 0) sc ar16 := hR.stt (fun k hk _ => hk16 k (by omega)) (RMstt.up Hstt (q := 0) (by decide) (e20.trans (congrArg (fun x => va_up (ar 20) 0 x) rfl)) (fun k hk => hk16 k hk))
      refine g_aload_n B 0 dX12_takes_27 rfl ?_
      refine g_iconst (v := nI 0) B dX12_takes_28 (by decide) ?_
      refine g_iconst (v := nI 0) B dX12_takes_29 (by decide) ?_
      refine g_aload_n B 0 dX12_takes_30 rfl ?_
      refine m_geta B P16 F_X12_38_12 (by decide) (Or.inl rfl) dX12_takes_31 ?_
      refine g_aload_n B 0 dX12_takes_34 rfl ?_
      refine m_get B P16 F_X12_271_12 (by decide) (Or.inl rfl) (show _ = (nI (a.of 0)) from Hnm.2.1.1) dX12_takes_35 ?_
      refine m_ld B P16 (by decide) rfl rfl (by show _ < 60; omega) (by decide) (show _ = (nI ((a.inp.getD (a.of 0) (0, 0)).1)) from ((congrFun (hk16 11 (by decide)) _).trans (Hinp.2 (a.of 0) (by omega)).1)) dX12_takes_38 ?_
      refine g_aload_n B 0 dX12_takes_39 rfl ?_
      refine m_geta B P16 F_X12_41_12 (by decide) (Or.inl rfl) dX12_takes_40 ?_
      refine g_aload_n B 0 dX12_takes_43 rfl ?_
      refine m_get B P16 F_X12_271_12 (by decide) (Or.inl rfl) (show _ = (nI (a.of 0)) from Hnm.2.1.1) dX12_takes_44 ?_
      refine m_ld B P16 (by decide) rfl rfl (by show _ < 60; omega) (by decide) (show _ = (a.inp.getD (a.of 0) (0, 0)).2 from ((congrFun (hk16 12 (by decide)) _).trans (Hinp.2 (a.of 0) (by omega)).2)) dX12_takes_47 ?_
      refine g_aload_n B 0 dX12_takes_48 rfl ?_
      refine m_get B P16 F_X12_243_12 (by decide) (Or.inl rfl) (show _ = (nI (a.nm 0)) from Hnm.2.2.1) dX12_takes_49 ?_
      refine g_iconst (v := nI 1) B dX12_takes_52 (by decide) ?_
      refine g_isubN B (by omega) dX12_takes_53 ?_
      refine g_callV (rest := []) B M_X12_emits q2786 q2788 qs80 (P16.1.choose_spec.choose_spec) rfl (c_M_emits (o := 0) (i := 0) (r := ((a.inp.getD (a.of 0) (0, 0)).1, (a.inp.getD (a.of 0) (0, 0)).2, a.nm 0 - 1)) P16.self H1 (by omega) (by omega) (fun x _ y _ => (W.ls x y).1) (by rw [show (a.inc 0 0).ls 0 0 = [] from hls]; decide)) rfl rfl (Nat.le_of_ble_eq_true rfl) (Nat.le_of_ble_eq_true rfl) (Nat.le_of_ble_eq_true rfl) (Nat.le_refl _) (Nat.le_refl _) dX12_takes_54 (xkN (fun T17 O17 R17 le17 p17 => ?_))
      obtain ⟨eT17, sc17, ar17, Q17, hs17, hk17, hr17⟩ := p17
      obtain rfl := eT17.symm
      have P17 := P16.rebase Q17
      rw [← hs17] at hr17
      have Q := hr17.views (a := a) sSt.rf
      refine g_aload_n B 0 dX12_takes_57 rfl ?_
      refine g_dup B dX12_takes_58 rfl ?_
      refine m_get B P17 F_X12_271_12 (by decide) (Or.inl rfl) (show _ = (nI (a.of 0)) from (Q.2.2.2.1.2.1.1)) dX12_takes_59 ?_
      refine g_iconst (v := nI 1) B dX12_takes_62 (by decide) ?_
      refine g_iaddN B dX12_takes_63 ?_
      refine m_put B P17 F_X12_271_12 (by decide) (Or.inl rfl) rfl rfl rfl dX12_takes_64 (fun O18 sc18 hs18 hk18 P18 => ?_)
      refine g_iconst (v := nI 1) B dX12_takes_67 (by decide) ?_
      refine g_iret B E rfl rfl dX12_takes_68 ?_
      have n14 : sc18 14 = (nI ((a.of 0) + 1)) := hs18
      have ht0 : a.take o i = (true, a.takeInput) := by rw [aA.take, if_pos c1, if_neg c15]
      have H3 := hr17.of0 hk18 n14
      have hti := aA.takeInput_eq W.k0
      exact ⟨_, rfl, rfl, _, _, P18, by rw [ht0]; rfl, by rw [ht0]; exact (by rw [hti]; exact H3)⟩
    · refine g_iconst (v := nI 0) B dX12_takes_15 (by decide) ?_
      refine g_iret B E rfl rfl dX12_takes_16 ?_
      have ht0 : a.take o i = (false, a) := by rw [aA.take, if_pos c1, if_pos c15]
      exact ⟨_, rfl, rfl, _, _, P, by rw [ht0]; rfl, by rw [ht0]; exact hR⟩
