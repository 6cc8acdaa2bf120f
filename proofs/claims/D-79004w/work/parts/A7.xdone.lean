set_option maxRecDepth 100000
theorem lg_lt (x y : Int64) : lg_cmp x y < 0 ↔ x < y := by
  unfold lg_cmp
  by_cases h : x > y
  · rw [if_pos h]
    exact ⟨fun e => absurd e (by decide), fun e => absurd (Int64.lt_trans e h) (Int64.lt_irrefl)⟩
  · rw [if_neg h]
    by_cases e : x = y
    · rw [if_pos e]
      exact ⟨fun q => absurd q (by decide), fun q => absurd (e ▸ q) (Int64.lt_irrefl)⟩
    · rw [if_neg e]
      exact ⟨fun _ => Int64.lt_of_le_of_ne (Int64.not_lt.mp h) e, fun _ => by decide⟩
theorem lg_gt (x y : Int64) : 0 < lg_cmp x y ↔ y < x := by
  unfold lg_cmp
  by_cases h : x > y
  · rw [if_pos h]
    exact ⟨fun _ => h, fun _ => by decide⟩
  · rw [if_neg h]
    by_cases e : x = y
    · rw [if_pos e]
      exact ⟨fun q => absurd q (by decide), fun q => absurd q h⟩
    · rw [if_neg e]
      exact ⟨fun q => absurd q (by decide), fun q => absurd q h⟩
theorem i64_lt (x y : Int32) : x.toInt64 < y.toInt64 ↔ x < y := by
  rw [Int64.lt_iff_toInt_lt, Int32.toInt_toInt64, Int32.toInt_toInt64, Int32.lt_iff_toInt_lt]
theorem c_X0_isBetween {G : xG} {T : xT} {O R : xO} {Y : xY} {V : xVV} {I : xII} {J : xJJ} {A : xVV} {w0 : xW} {X L U : Int64} {x l u : Int32} (P : PX Y V I J A w0 T O R) (e1 : X = x.toInt64) (e2 : L = l.toInt64) (e3 : U = u.toInt64) : xCtr G yX0_isBetween cX0_isBetween 6 (some Jvm.ClassFile.FieldType.boolean) 0 0 0 0 [.long X, .long L, .long U] (T, O, R) (xA (fun v T2 O2 R2 => v = .int (bI (inB x l u)) ∧ T2 = T ∧ O2 = O ∧ R2 = R)) := by
  refine xCtr.of (by decide +kernel) (Nat.le_of_ble_eq_true rfl) ?_
  intro Z B E hz hnm
  change xV Z (T, O, R) 0 [(0, .long X), (2, .long L), (4, .long U)] [] 0 0
  refine g_lload_n B 0 dX0_isBetween_0 rfl ?_
  refine g_lload_n B 1 dX0_isBetween_1 rfl ?_
  refine g_lcmp B dX0_isBetween_2 ?_
  refine g_if_lt (tgt := 17) B dX0_isBetween_3 (by decide) (fun c1 => ?_) (fun c1 => ?_)
  · refine g_iconst (v := nI 0) B dX0_isBetween_17 (by decide) ?_
    refine g_iret B E rfl rfl dX0_isBetween_18 ?_
    exact ⟨_, rfl, congrArg Value.int (bI_f (by unfold inB; rw [decide_eq_false (fun e => absurd ((i64_lt x l).mp (by rw [← e1, ← e2]; exact (lg_lt X L).mp c1)) (Int32.not_lt.mpr e))]; rfl)), rfl, rfl, rfl⟩
  · refine g_lload_n B 0 dX0_isBetween_6 rfl ?_
    refine g_lload B 2 dX0_isBetween_7 rfl ?_
    refine g_lcmp B dX0_isBetween_9 ?_
    refine g_if_gt (tgt := 17) B dX0_isBetween_10 (by decide) (fun c2 => ?_) (fun c2 => ?_)
    · refine g_iconst (v := nI 0) B dX0_isBetween_17 (by decide) ?_
      refine g_iret B E rfl rfl dX0_isBetween_18 ?_
      exact ⟨_, rfl, congrArg Value.int (bI_f (by unfold inB; rw [decide_eq_false (p := x ≤ u) (fun e => absurd ((i64_lt u x).mp (by rw [← e1, ← e3]; exact (lg_gt X U).mp c2)) (Int32.not_lt.mpr e)), Bool.and_false])), rfl, rfl, rfl⟩
    · refine g_iconst (v := nI 1) B dX0_isBetween_13 (by decide) ?_
      refine g_goto (tgt := 18) B dX0_isBetween_14 (by decide) ?_
      refine g_iret B E rfl rfl dX0_isBetween_18 ?_
      exact ⟨_, rfl, congrArg Value.int (bI_t (by unfold inB; rw [decide_eq_true (p := l ≤ x) (Int32.not_lt.mp (fun e => c1 ((lg_lt X L).mpr (by rw [e1, e2]; exact (i64_lt x l).mpr e)))), decide_eq_true (p := x ≤ u) (Int32.not_lt.mp (fun e => c2 ((lg_gt X U).mpr (by rw [e1, e3]; exact (i64_lt u x).mpr e))))]; rfl)), rfl, rfl, rfl⟩
theorem sumN_0 {f : Nat → Nat} {k : Nat} (h : sumN f k = 0) : ∀ x, x < k → f x = 0 := by
  induction k with
  | zero => intro x hx; omega
  | succ k ih =>
    have h : sumN f k + f k = 0 := h
    intro x hx
    by_cases e : x = k
    · subst e; omega
    · exact ih (by omega) x (by omega)
theorem qLen_0 {q : List (Option (List aRec))} (h : qLen q = 0) (hb : qB q = 0) (hw : ∀ l, some l ∈ q → 1 ≤ l.length) : q = [] := by
  cases q with
  | nil => rfl
  | cons b q =>
    cases b with
    | none => rw [qB_cons] at hb; omega
    | some l =>
      have h1 := hw l List.mem_cons_self
      unfold qLen at h
      simp only [List.map_cons, List.sum_cons, Option.getD_some] at h
      omega
theorem quiet_t {a : aA} {B : Nat} (W : WF B a) (hA : AInv a) (h1 : a.of 0 = a.inp.length) (h2 : a.rn = 0) (h3 : sumN (recC a) 54 = 0) (h4 : sumN (recL a) 18 = 0) : a.quiet = true := by
  rw [aA.quiet_iff]
  refine ⟨h1, h2, fun x hx => List.eq_nil_of_length_eq_zero (sumN_0 h4 x hx), fun x hx => ?_⟩
  have hc : cRecs (a.ch (x / 9) (x / 3 % 3) (x % 3)) = 0 := sumN_0 h3 x hx
  by_cases c : x / 9 + 1 < a.n ∧ x / 3 % 3 < a.p (x / 9) ∧ x % 3 < a.p (x / 9 + 1)
  · have hb := ((hA.1 _ _ _ c.1 c.2.1 c.2.2).1 h2).1
    unfold cRecs at hc
    exact ⟨qLen_0 (by omega) hb (fun l hl => ((W.ch _ _ _).2.2.2.2.1 l hl).1), List.eq_nil_of_length_eq_zero (by omega)⟩
  · rw [W.chu _ _ _ c]; exact ⟨rfl, rfl⟩
theorem quiet_f {a : aA} (h : a.quiet = true) : a.of 0 = a.inp.length ∧ a.rn = 0 ∧ sumN (recC a) 54 = 0 ∧ sumN (recL a) 18 = 0 := by
  obtain ⟨h1, h2, h3, h4⟩ := (aA.quiet_iff a).mp h
  refine ⟨h1, h2, sumN_z (fun x hx => ?_), sumN_z (fun x hx => ?_)⟩
  · obtain ⟨q1, q2⟩ := h4 x hx
    show cRecs (a.ch (x / 9) (x / 3 % 3) (x % 3)) = 0
    unfold cRecs
    rw [q1, q2]
    rfl
  · show (a.ls (x / 3) (x % 3)).length = 0
    rw [h3 x hx]; rfl
theorem quiet_n {a : aA} (h : ¬ (a.of 0 = a.inp.length ∧ a.rn = 0 ∧ sumN (recC a) 54 = 0 ∧ sumN (recL a) 18 = 0)) : a.quiet = false := by
  cases e : a.quiet
  · rfl
  · exact absurd (quiet_f e) h
theorem recC_le {a : aA} {B : Nat} (W : WF B a) : sumN (recC a) 54 < 2 ^ 31 ∧ sumN (recL a) 18 < 2 ^ 31 := by
  have key : ∀ (f : Nat → Nat) (b : Nat), (∀ x, f x ≤ b) → ∀ k, sumN f k ≤ b * k := fun f b hf k => by
    induction k with
    | zero => exact Nat.zero_le _
    | succ k ih => show sumN f k + f k ≤ _; have := hf k; rw [Nat.mul_succ]; omega
  have h1 := key (recC a) 20 (fun x => by
    have c := W.ch (x / 9) (x / 3 % 3) (x % 3)
    have hc := W.cf
    have hq : ∀ q : List (Option (List aRec)), (∀ l, some l ∈ q → l.length ≤ 4) → qLen q ≤ 4 * q.length := fun q => by
      induction q with
      | nil => intro _; exact Nat.le_refl _
      | cons b q ih =>
        intro hl
        have := ih (fun l h => hl l (List.mem_cons_of_mem _ h))
        unfold qLen at this ⊢
        simp only [List.map_cons, List.sum_cons, List.length_cons]
        have hb : (b.getD []).length ≤ 4 := by
          cases b with
          | none => exact Nat.zero_le _
          | some l => exact hl l List.mem_cons_self
        omega
    have := hq _ (fun l hl => (c.2.2.2.2.1 l hl).2.1)
    show cRecs (a.ch (x / 9) (x / 3 % 3) (x % 3)) ≤ 20
    unfold cRecs
    have := c.1
    have := c.2.1
    omega) 54
  have h2 := key (recL a) 3 (fun x => (W.ls _ _).1) 18
  omega
theorem c_X0_isDone {G : xG} {T : xT} {O R : xO} {Y : xY} {V : xVV} {I : xII} {J : xJJ} {A : xVV} {w0 : xW} {a : aA} {tk x0 g0 fi ps : Nat} {Bd : Nat} (P : PX Y V I J A w0 T O R) (H : RepX a tk x0 g0 fi ps Y V I J A) (W : WF Bd a) (hA : AInv a) (hB : Bd < 2000000) (h0q : yAt Y 0 0 x0) : xCtr G yX0_isDone cX0_isDone 1 (some Jvm.ClassFile.FieldType.boolean) 2 50 0 0 [.ref x0] (T, O, R) (xA (fun v T2 O2 R2 => v = .int (bI a.quiet) ∧ T2 = T ∧ O2 = O ∧ R2 = R)) := by
  refine xCtr.of (by decide +kernel) (Nat.le_of_ble_eq_true rfl) ?_
  intro Z B E hz hnm
  change xV Z (T, O, R) 0 [(0, .ref x0)] [] 0 0
  have hofl := W.ofs 0
  have hinp := W.inp
  have hrc := recC_le W
  have hnm := W.nms
  obtain ⟨h0, ⟨⟨pa0, pb0, pc0⟩, ⟨pa5, pb5, pc5⟩, ⟨pa6, pb6, pc6⟩, ⟨pa8, pb8, pc8⟩, ⟨pa9, pb9, pc9⟩, ⟨pa10, pb10, pc10⟩, ⟨pa11, pb11, pc11⟩, ⟨pa12, pb12, pc12⟩, ⟨pa13, pb13, pc13⟩, ⟨pa20, pb20, pc20⟩, ⟨pa21, pb21, pc21⟩, ⟨pa22, pb22, pc22⟩⟩, ⟨nq1, nq2, nq3, nq4⟩, nq7, nq14, nq15, nq16, nq17, nq18, nq19⟩ := H.Si
  obtain ⟨xv2, qo, ⟨ko0, ko1⟩, kq0, -, -⟩ := H.Of
  obtain rfl : pa9 = xv2 := P.fn pc9 ko0
  obtain ⟨xof, ko2, ko3⟩ := ko1 0 (by decide)
  have ko4 : V 102 (3 * 0 + 0) 0 = .int (nI (a.of 0)) := ko3.2.trans (congrArg Value.int kq0)
  refine g_aload_n B 0 dX0_isDone_0 rfl ?_
  refine x_get B P h0q (by decide) rfl F_X0_123_0 (by decide) pb9 dX0_isDone_1 ?_
  refine x_get B P pc9 (by decide) rfl F_X0_260_1 (by decide) ko2 dX0_isDone_4 ?_
  obtain ⟨n1, u1, ty1⟩ := P.ty ko3.1 (by decide) rfl
  refine g_castS (q := (RX2, TX2, 1)) B ty1 rfl q223 dX0_isDone_7 ?_
  refine x_get B P ko3.1 (by decide) rfl F_X0_264_2 (by decide) ko4 dX0_isDone_10 ?_
  refine g_aload_n B 0 dX0_isDone_13 rfl ?_
  refine x_get B P h0q (by decide) rfl F_X0_247_0 (by decide) nq7 dX0_isDone_14 ?_
  refine g_icmp_neN (tgt := 45) B (by omega) (by omega) dX0_isDone_17 (by decide) (fun c2 => ?_) (fun c2 => ?_)
  · refine g_iconst (v := nI 0) B dX0_isDone_45 (by decide) ?_
    refine g_iret B E rfl rfl dX0_isDone_46 ?_
    exact ⟨_, rfl, congrArg Value.int (bI_f (quiet_n (fun q => by obtain ⟨q1, q2, q3, q4⟩ := q; have q2 : a.nm 2 = 0 := q2; omega))), rfl, rfl, rfl⟩
  · refine g_aload_n B 0 dX0_isDone_20 rfl ?_
    refine x_get B P h0q (by decide) rfl F_X0_213_0 (by decide) nq16 dX0_isDone_21 ?_
    refine g_if_neN (tgt := 45) B (by omega) dX0_isDone_24 (by decide) (fun c3 => ?_) (fun c3 => ?_)
    · refine g_iconst (v := nI 0) B dX0_isDone_45 (by decide) ?_
      refine g_iret B E rfl rfl dX0_isDone_46 ?_
      exact ⟨_, rfl, congrArg Value.int (bI_f (quiet_n (fun q => by obtain ⟨q1, q2, q3, q4⟩ := q; have q2 : a.nm 2 = 0 := q2; omega))), rfl, rfl, rfl⟩
    · refine g_aload_n B 0 dX0_isDone_27 rfl ?_
      obtain ⟨n4, u4, ty4⟩ := P.ty h0q (by decide) rfl
      refine g_callV (rest := []) B M_X0_recordsInChannels q1263 q1265 qs12 ty4 rfl (c_X0_recordsInChannels P H W h0q) rfl rfl (Nat.le_of_ble_eq_true rfl) (Nat.le_of_ble_eq_true rfl) (Nat.le_of_ble_eq_true rfl) (Nat.le_refl _) (Nat.le_refl _) dX0_isDone_28 (xkA (fun v4 T4 O4 R4 le4 p4 => ?_))
      obtain ⟨rfl, eT4, eO4, eR4⟩ := p4
      obtain rfl := eT4.symm
      obtain rfl := eO4.symm
      obtain rfl := eR4.symm
      refine g_if_neN (tgt := 45) B (by omega) dX0_isDone_31 (by decide) (fun c5 => ?_) (fun c5 => ?_)
      · refine g_iconst (v := nI 0) B dX0_isDone_45 (by decide) ?_
        refine g_iret B E rfl rfl dX0_isDone_46 ?_
        exact ⟨_, rfl, congrArg Value.int (bI_f (quiet_n (fun q => by obtain ⟨q1, q2, q3, q4⟩ := q; have q2 : a.nm 2 = 0 := q2; omega))), rfl, rfl, rfl⟩
      · refine g_aload_n B 0 dX0_isDone_34 rfl ?_
        obtain ⟨n6, u6, ty6⟩ := P.ty h0q (by decide) rfl
        refine g_callV (rest := []) B M_X0_recordsInLists q1267 q1269 qs13 ty6 rfl (c_X0_recordsInLists P H W h0q) rfl rfl (Nat.le_of_ble_eq_true rfl) (Nat.le_of_ble_eq_true rfl) (Nat.le_of_ble_eq_true rfl) (Nat.le_refl _) (Nat.le_refl _) dX0_isDone_35 (xkA (fun v6 T6 O6 R6 le6 p6 => ?_))
        obtain ⟨rfl, eT6, eO6, eR6⟩ := p6
        obtain rfl := eT6.symm
        obtain rfl := eO6.symm
        obtain rfl := eR6.symm
        refine g_if_neN (tgt := 45) B (by omega) dX0_isDone_38 (by decide) (fun c7 => ?_) (fun c7 => ?_)
        · refine g_iconst (v := nI 0) B dX0_isDone_45 (by decide) ?_
          refine g_iret B E rfl rfl dX0_isDone_46 ?_
          exact ⟨_, rfl, congrArg Value.int (bI_f (quiet_n (fun q => by obtain ⟨q1, q2, q3, q4⟩ := q; have q2 : a.nm 2 = 0 := q2; omega))), rfl, rfl, rfl⟩
        · refine g_iconst (v := nI 1) B dX0_isDone_41 (by decide) ?_
          refine g_goto (tgt := 46) B dX0_isDone_42 (by decide) ?_
          refine g_iret B E rfl rfl dX0_isDone_46 ?_
          exact ⟨_, rfl, congrArg Value.int (bI_t (quiet_t W hA (by omega) (show a.nm 2 = 0 by omega) (by omega) (by omega))), rfl, rfl, rfl⟩
theorem c_X0_isQuiet {G : xG} {T : xT} {O R : xO} {Y : xY} {V : xVV} {I : xII} {J : xJJ} {A : xVV} {w0 : xW} {a : aA} {tk x0 g0 fi ps : Nat} {Bd : Nat} (P : PX Y V I J A w0 T O R) (H : RepX a tk x0 g0 fi ps Y V I J A) (W : WF Bd a) (hA : AInv a) (hB : Bd < 2000000) (h0q : yAt Y 0 0 x0) : xCtr G yX0_isQuiet cX0_isQuiet 1 (some Jvm.ClassFile.FieldType.int) 3 70 0 0 [.ref x0] (T, O, R) (xA (fun v T2 O2 R2 => v = .int (bI a.quiet) ∧ T2 = T ∧ O2 = O ∧ R2 = R)) := by
  refine xCtr.of (by decide +kernel) (Nat.le_of_ble_eq_true rfl) ?_
  intro Z B E hz hnm
  change xV Z (T, O, R) 0 [(0, .ref x0)] [] 0 0
  refine g_aload_n B 0 dX0_isQuiet_0 rfl ?_
  obtain ⟨n1, u1, ty1⟩ := P.ty h0q (by decide) rfl
  refine g_callV (rest := []) B M_X0_isDone q1259 q1261 qs11 ty1 rfl (c_X0_isDone P H W hA hB h0q) rfl rfl (Nat.le_of_ble_eq_true rfl) (Nat.le_of_ble_eq_true rfl) (Nat.le_of_ble_eq_true rfl) (Nat.le_refl _) (Nat.le_refl _) dX0_isQuiet_1 (xkA (fun v1 T1 O1 R1 le1 p1 => ?_))
  obtain ⟨rfl, eT1, eO1, eR1⟩ := p1
  obtain rfl := eT1.symm
  obtain rfl := eO1.symm
  obtain rfl := eR1.symm
  refine g_if_eqB (tgt := 11) B dX0_isQuiet_4 (by decide) (fun c2 => ?_) (fun c2 => ?_)
  · refine g_iconst (v := nI 0) B dX0_isQuiet_11 (by decide) ?_
    refine g_iret B E rfl rfl dX0_isQuiet_12 ?_
    exact ⟨_, rfl, congrArg Value.int (bI_f c2), rfl, rfl, rfl⟩
  · refine g_iconst (v := nI 1) B dX0_isQuiet_7 (by decide) ?_
    refine g_goto (tgt := 12) B dX0_isQuiet_8 (by decide) ?_
    refine g_iret B E rfl rfl dX0_isQuiet_12 ?_
    exact ⟨_, rfl, congrArg Value.int (bI_t c2), rfl, rfl, rfl⟩
