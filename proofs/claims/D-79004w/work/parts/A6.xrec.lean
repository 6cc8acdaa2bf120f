set_option maxRecDepth 100000
theorem sumN_skip {f : Nat → Nat} {m k : Nat} (hm : m ≤ k) (h : ∀ x, m ≤ x → x < k → f x = 0) : sumN f k = sumN f m := by
  induction k with
  | zero => rw [show m = 0 by omega]
  | succ k ih =>
    by_cases e : m = k + 1
    · rw [e]
    · show sumN f k + f k = _
      rw [ih (by omega) (fun x h1 h2 => h x h1 (by omega)), h k (by omega) (by omega), Nat.add_zero]
/-- the records in the channels, by their codes; in the lists -/
def recC (a : aA) : Nat → Nat := fun x => cRecs (a.ch (x / 9) (x / 3 % 3) (x % 3))
def recL (a : aA) : Nat → Nat := fun x => (a.ls (x / 3) (x % 3)).length
theorem recC_at (a : aA) {o i j : Nat} (hi : i < 3) (hj : j < 3) : recC a (9 * o + 3 * i + j) = cRecs (a.ch o i j) := by
  unfold recC
  rw [show (9 * o + 3 * i + j) / 9 = o by omega, show (9 * o + 3 * i + j) / 3 % 3 = i by omega, show (9 * o + 3 * i + j) % 3 = j by omega]
theorem recL_at (a : aA) {o i : Nat} (hi : i < 3) : recL a (3 * o + i) = (a.ls o i).length := by
  unfold recL
  rw [show (3 * o + i) / 3 = o by omega, show (3 * o + i) % 3 = i by omega]
theorem recC_0 {a : aA} {B x : Nat} (W : WF B a) (h : ¬ (x / 9 + 1 < a.n ∧ x / 3 % 3 < a.p (x / 9) ∧ x % 3 < a.p (x / 9 + 1))) : recC a x = 0 := by
  unfold recC
  rw [W.chu _ _ _ h]
  rfl
theorem recL_0 {a : aA} {B x : Nat} (W : WF B a) (h : ¬ (x / 3 + 1 < a.n ∧ x % 3 < a.p (x / 3))) : recL a x = 0 := by
  unfold recL
  rw [W.lsu _ _ h]
  rfl
theorem recC_row {a : aA} {B o i : Nat} (W : WF B a) (hp : a.p (o + 1) ≤ 3) (hi : i < 3) : sumN (recC a) (9 * o + 3 * (i + 1)) = sumN (recC a) (9 * o + 3 * i + a.p (o + 1)) := sumN_skip (by omega) (fun x h1 h2 => recC_0 W (fun q => by
  have e1 : x / 9 = o := by omega
  have := q.2.2
  rw [e1] at this
  omega))
theorem recC_op {a : aA} {B o : Nat} (W : WF B a) (hp : a.p o ≤ 3) : sumN (recC a) (9 * (o + 1)) = sumN (recC a) (9 * o + 3 * a.p o) := sumN_skip (by omega) (fun x h1 h2 => recC_0 W (fun q => by
  have e1 : x / 9 = o := by omega
  have := q.2.1
  rw [e1] at this
  omega))
theorem recC_end {a : aA} {B o : Nat} (W : WF B a) (ho : a.n ≤ o + 1) (h5 : o ≤ 6) : sumN (recC a) 54 = sumN (recC a) (9 * o) := sumN_skip (by omega) (fun x h1 h2 => recC_0 W (fun q => by have := q.1; omega))
theorem recL_op {a : aA} {B o : Nat} (W : WF B a) (hp : a.p o ≤ 3) : sumN (recL a) (3 * (o + 1)) = sumN (recL a) (3 * o + a.p o) := sumN_skip (by omega) (fun x h1 h2 => recL_0 W (fun q => by
  have e1 : x / 3 = o := by omega
  have := q.2
  rw [e1] at this
  omega))
theorem recL_end {a : aA} {B o : Nat} (W : WF B a) (ho : a.n ≤ o) (h5 : o ≤ 6) : sumN (recL a) 18 = sumN (recL a) (3 * o) := sumN_skip (by omega) (fun x h1 h2 => recL_0 W (fun q => by have := q.1; omega))
theorem c_X0_recordsInChannels {G : xG} {T : xT} {O R : xO} {Y : xY} {V : xVV} {I : xII} {J : xJJ} {A : xVV} {w0 : xW} {a : aA} {tk x0 g0 fi ps : Nat} {Bd : Nat} (P : PX Y V I J A w0 T O R) (H : RepX a tk x0 g0 fi ps Y V I J A) (W : WF Bd a) (h0q : yAt Y 0 0 x0) : xCtr G yX0_recordsInChannels cX0_recordsInChannels 11 (some Jvm.ClassFile.FieldType.int) 1 20 0 0 [.ref x0] (T, O, R) (xA (fun v T2 O2 R2 => v = .int (nI (sumN (recC a) 54)) ∧ T2 = T ∧ O2 = O ∧ R2 = R)) := by
  refine xCtr.of (by decide +kernel) (Nat.le_of_ble_eq_true rfl) ?_
  intro Z B E hz hnm
  change xV Z (T, O, R) 0 [(0, .ref x0)] [] 0 0
  have hn6 := W.n6
  have hn2 := W.n2
  obtain ⟨h0, ⟨⟨pa0, pb0, pc0⟩, ⟨pa5, pb5, pc5⟩, ⟨pa6, pb6, pc6⟩, ⟨pa8, pb8, pc8⟩, ⟨pa9, pb9, pc9⟩, ⟨pa10, pb10, pc10⟩, ⟨pa11, pb11, pc11⟩, ⟨pa12, pb12, pc12⟩, ⟨pa13, pb13, pc13⟩, ⟨pa20, pb20, pc20⟩, ⟨pa21, pb21, pc21⟩, ⟨pa22, pb22, pc22⟩⟩, ⟨nq1, nq2, nq3, nq4⟩, nq7, nq14, nq15, nq16, nq17, nq18, nq19⟩ := H.Si
  obtain ⟨xol, ll, Lol, lln, llo⟩ := H.Ol
  obtain rfl : pa8 = xol := P.fn pc8 Lol.1
  obtain ⟨bo, bq, sp, lc, xl, HC, dsp, dsb, hls, hfi⟩ := H.Ch
  have hpl : pa0 = xl := P.fn pc0 dsp.1
  have hsm : xSm Y V x0 xl (a.cf 0) (a.cf 1) (a.cf 2) := ⟨h0, pb0.trans (congrArg Value.ref hpl), nq1, nq2, nq3⟩
  obtain ⟨-, xj, b1, b2, b3⟩ := H.Ar
  obtain rfl : pa12 = xj := P.fn pc12 b1
  refine g_iconst (v := nI 0) B dX0_recordsInChannels_0 (by decide) ?_
  refine g_istore_n (lv2 := [(1, _), (0, _)]) B dX0_recordsInChannels_1 (by decide) rfl ?_
  refine g_iconst (v := nI 0) B dX0_recordsInChannels_2 (by decide) ?_
  refine g_istore_n (lv2 := [(2, _), (1, _), (0, _)]) B dX0_recordsInChannels_3 (by decide) rfl ?_
  have LA : ∀ (dA : Nat) (o : Nat), dA = 6 - o → (o + 1 ≤ a.n) → xV Z (T, O, R) 4 [(2, .int (nI o)), (1, .int (nI (sumN (recC a) (9 * o)))), (0, .ref x0)] [] 0 0 := by
    intro dA
    induction dA using Nat.strongRecOn with
    | _ dA ihA =>
      intro o hdA ho5
      refine g_iload_n B 0 dX0_recordsInChannels_4 rfl ?_
      refine g_iconst (v := nI 1) B dX0_recordsInChannels_5 (by decide) ?_
      refine g_iaddN B dX0_recordsInChannels_6 ?_
      refine g_aload_n B 2 dX0_recordsInChannels_7 rfl ?_
      refine x_get B P h0q (by decide) rfl F_X0_115_0 (by decide) pb8 dX0_recordsInChannels_8 ?_
      obtain ⟨n101, u101, ty101⟩ := P.ty pc8 (by decide) rfl
      refine g_callV (rest := [_]) B M_J4_size q502 q503 q504 ty101 rfl (c_J4_size (r := 34) (rd := 5002) P (by decide) rfl Lol) rfl rfl (Nat.le_of_ble_eq_true rfl) (Nat.le_of_ble_eq_true rfl) (Nat.le_of_ble_eq_true rfl) (Nat.le_refl _) (Nat.le_refl _) dX0_recordsInChannels_11 (xkA (fun v101 T101 O101 R101 le101 p101 => ?_))
      obtain ⟨rfl, eT101, eO101, eR101⟩ := p101
      obtain rfl := eT101.symm
      obtain rfl := eO101.symm
      obtain rfl := eR101.symm
      refine g_icmp_geN (tgt := 96) B (by first | omega | (rw [lln]; omega)) (by first | omega | (rw [lln]; omega)) dX0_recordsInChannels_14 (by decide) (fun c102 => ?_) (fun c102 => ?_)
      · rw [← recC_end W (by have q := c102; rw [lln] at q; omega) (by omega)]
        refine g_iload_n B 1 dX0_recordsInChannels_96 rfl ?_
        refine g_iret B E rfl rfl dX0_recordsInChannels_97 ?_
        exact ⟨_, rfl, rfl, rfl, rfl, rfl⟩
      · have hon : o + 1 < a.n := by have q := c102; rw [lln] at q; omega
        obtain ⟨xr, c1, c2, c3, c4⟩ := b3 o hon
        have hpo := W.p1 o (by omega)
        have hpo1 := W.p1 (o + 1) hon
        refine g_aload_n B 2 dX0_recordsInChannels_17 rfl ?_
        refine x_get B P h0q (by decide) rfl F_X0_138_0 (by decide) pb12 dX0_recordsInChannels_18 ?_
        refine g_iload_n B 0 dX0_recordsInChannels_21 rfl ?_
        refine x_ldA B P pc12 (by decide) rfl rfl rfl b2 (by first | omega | (rw [lln]; omega)) (by first | omega | (rw [lln]; omega)) c1 dX0_recordsInChannels_22 ?_
        refine g_astore_n (lv2 := [(3, _), (2, _), (1, _), (0, _)]) B dX0_recordsInChannels_23 (by decide) rfl ?_
        refine g_aload_n B 0 dX0_recordsInChannels_24 rfl ?_
        refine x_alen B P c2 (by decide) rfl c3 dX0_recordsInChannels_25 ?_
        refine g_istore (lv2 := [(4, _), (3, _), (2, _), (1, _), (0, _)]) B dX0_recordsInChannels_26 (by decide) rfl ?_
        refine g_iconst (v := nI 0) B dX0_recordsInChannels_28 (by decide) ?_
        refine g_istore (lv2 := [(5, _), (4, _), (3, _), (2, _), (1, _), (0, _)]) B dX0_recordsInChannels_29 (by decide) rfl ?_
        have LB : ∀ (dB : Nat) (i : Nat), dB = a.p o - i → (i ≤ a.p o) → xV Z (T, O, R) 31 [(5, .int (nI i)), (4, .int (nI (a.p o))), (3, .ref xr), (2, .int (nI o)), (1, .int (nI (sumN (recC a) (9 * o + 3 * i)))), (0, .ref x0)] [] 0 0 := by
          intro dB
          induction dB using Nat.strongRecOn with
          | _ dB ihB =>
            intro i hdB hik
            refine g_iload B 0 dX0_recordsInChannels_31 rfl ?_
            refine g_iload B 1 dX0_recordsInChannels_33 rfl ?_
            refine g_icmp_geN (tgt := 90) B (by first | omega | (rw [lln]; omega)) (by first | omega | (rw [lln]; omega)) dX0_recordsInChannels_35 (by decide) (fun c101 => ?_) (fun c101 => ?_)
            · have eip : i = a.p o := by omega
              rw [eip, ← recC_op W hpo.2]
              refine g_iinc (v := nI (o + 1)) (lv2 := [(2, _), (5, _), (4, _), (3, _), (1, _), (0, _)]) B 3 dX0_recordsInChannels_90 rfl (nI_1 _) (by decide) rfl ?_
              refine g_goto (tgt := 4) B dX0_recordsInChannels_93 (by decide) ?_
              refine g_pick [0, 4, 5] rfl ?_
              exact ihA (6 - (o + 1)) (by omega) (o + 1) rfl (by omega)
            · have hip : i < a.p o := by omega
              obtain ⟨xs, d1, d2, d3, d4⟩ := c4 i hip
              refine g_aload_n B 2 dX0_recordsInChannels_38 rfl ?_
              refine g_iload B 0 dX0_recordsInChannels_39 rfl ?_
              refine x_ldA B P c2 (by decide) rfl rfl rfl c3 (by first | omega | (rw [lln]; omega)) (by first | omega | (rw [lln]; omega)) d1 dX0_recordsInChannels_41 ?_
              refine g_astore (lv2 := [(6, _), (5, _), (4, _), (3, _), (2, _), (1, _), (0, _)]) B dX0_recordsInChannels_42 (by decide) rfl ?_
              refine g_aload B 0 dX0_recordsInChannels_44 rfl ?_
              refine g_astore (lv2 := [(7, _), (6, _), (5, _), (4, _), (3, _), (2, _), (1, _), (0, _)]) B dX0_recordsInChannels_46 (by decide) rfl ?_
              refine g_aload B 0 dX0_recordsInChannels_48 rfl ?_
              refine x_alen B P d2 (by decide) rfl d3 dX0_recordsInChannels_50 ?_
              refine g_istore (lv2 := [(8, _), (7, _), (6, _), (5, _), (4, _), (3, _), (2, _), (1, _), (0, _)]) B dX0_recordsInChannels_51 (by decide) rfl ?_
              refine g_iconst (v := nI 0) B dX0_recordsInChannels_53 (by decide) ?_
              refine g_istore (lv2 := [(9, _), (8, _), (7, _), (6, _), (5, _), (4, _), (3, _), (2, _), (1, _), (0, _)]) B dX0_recordsInChannels_54 (by decide) rfl ?_
              have LC : ∀ (dC : Nat) (j : Nat), dC = a.p (o + 1) - j → (j ≤ a.p (o + 1)) → xV Z (T, O, R) 56 [(9, .int (nI j)), (8, .int (nI (a.p (o + 1)))), (7, .ref xs), (6, .ref xs), (5, .int (nI i)), (4, .int (nI (a.p o))), (3, .ref xr), (2, .int (nI o)), (1, .int (nI (sumN (recC a) (9 * o + 3 * i + j)))), (0, .ref x0)] [] 0 0 := by
                intro dC
                induction dC using Nat.strongRecOn with
                | _ dC ihC =>
                  intro j hdC hjk
                  refine g_iload B 0 dX0_recordsInChannels_56 rfl ?_
                  refine g_iload B 1 dX0_recordsInChannels_58 rfl ?_
                  refine g_icmp_geN (tgt := 84) B (by first | omega | (rw [lln]; omega)) (by first | omega | (rw [lln]; omega)) dX0_recordsInChannels_60 (by decide) (fun c101 => ?_) (fun c101 => ?_)
                  · have ejp : j = a.p (o + 1) := by omega
                    rw [ejp, ← recC_row W hpo1.2 (by omega)]
                    refine g_iinc (v := nI (i + 1)) (lv2 := [(5, _), (9, _), (8, _), (7, _), (6, _), (4, _), (3, _), (2, _), (1, _), (0, _)]) B 4 dX0_recordsInChannels_84 rfl (nI_1 _) (by decide) rfl ?_
                    refine g_goto (tgt := 31) B dX0_recordsInChannels_87 (by decide) ?_
                    refine g_pick [0, 5, 6, 7, 8, 9] rfl ?_
                    exact ihB (a.p o - (i + 1)) (by omega) (i + 1) rfl (by omega)
                  · have hjp : j < a.p (o + 1) := by omega
                    obtain ⟨xm, e1, e2⟩ := d4 j hjp
                    obtain ⟨⟨xh2, Cg⟩, nd, lch⟩ := HC o i j hon hip hjp
                    refine g_aload B 2 dX0_recordsInChannels_63 rfl ?_
                    refine g_iload B 0 dX0_recordsInChannels_65 rfl ?_
                    refine x_ldA B P d2 (by decide) rfl rfl rfl d3 (by first | omega | (rw [lln]; omega)) (by first | omega | (rw [lln]; omega)) e1 dX0_recordsInChannels_67 ?_
                    refine g_astore (lv2 := [(10, _), (9, _), (8, _), (7, _), (6, _), (5, _), (4, _), (3, _), (2, _), (1, _), (0, _)]) B dX0_recordsInChannels_68 (by decide) rfl ?_
                    refine g_iload_n B 9 dX0_recordsInChannels_70 rfl ?_
                    refine g_aload B 0 dX0_recordsInChannels_71 rfl ?_
                    refine x_get B P e2 (by decide) rfl F_X0_254_10 (by decide) Cg.2.2.2.2.1 dX0_recordsInChannels_73 ?_
                    refine g_iaddN B dX0_recordsInChannels_76 ?_
                    refine g_top (show Value.int (nI (sumN (recC a) (9 * o + 3 * i + j) + cRecs (a.ch o i j))) = .int (nI (sumN (recC a) (9 * o + 3 * i + (j + 1)))) from congrArg (fun z => Value.int (nI z)) (by rw [← recC_at a (by omega) (by omega)]; rfl)) ?_
                    refine g_istore_n (lv2 := [(1, _), (10, _), (9, _), (8, _), (7, _), (6, _), (5, _), (4, _), (3, _), (2, _), (0, _)]) B dX0_recordsInChannels_77 (by decide) rfl ?_
                    refine g_iinc (v := nI (j + 1)) (lv2 := [(9, _), (1, _), (10, _), (8, _), (7, _), (6, _), (5, _), (4, _), (3, _), (2, _), (0, _)]) B 2 dX0_recordsInChannels_78 rfl (nI_1 _) (by decide) rfl ?_
                    refine g_goto (tgt := 56) B dX0_recordsInChannels_81 (by decide) ?_
                    refine g_pick [0, 3, 4, 5, 6, 7, 8, 9, 1, 10] rfl ?_
                    exact ihC (a.p (o + 1) - (j + 1)) (by omega) (j + 1) rfl (by omega)
              exact LC _ 0 rfl (Nat.zero_le _)
        exact LB _ 0 rfl (Nat.zero_le _)
  exact LA _ 0 rfl (by omega)
theorem c_X0_recordsInLists {G : xG} {T : xT} {O R : xO} {Y : xY} {V : xVV} {I : xII} {J : xJJ} {A : xVV} {w0 : xW} {a : aA} {tk x0 g0 fi ps : Nat} {Bd : Nat} (P : PX Y V I J A w0 T O R) (H : RepX a tk x0 g0 fi ps Y V I J A) (W : WF Bd a) (h0q : yAt Y 0 0 x0) : xCtr G yX0_recordsInLists cX0_recordsInLists 7 (some Jvm.ClassFile.FieldType.int) 1 20 0 0 [.ref x0] (T, O, R) (xA (fun v T2 O2 R2 => v = .int (nI (sumN (recL a) 18)) ∧ T2 = T ∧ O2 = O ∧ R2 = R)) := by
  refine xCtr.of (by decide +kernel) (Nat.le_of_ble_eq_true rfl) ?_
  intro Z B E hz hnm
  change xV Z (T, O, R) 0 [(0, .ref x0)] [] 0 0
  have hn6 := W.n6
  have hn2 := W.n2
  obtain ⟨h0, ⟨⟨pa0, pb0, pc0⟩, ⟨pa5, pb5, pc5⟩, ⟨pa6, pb6, pc6⟩, ⟨pa8, pb8, pc8⟩, ⟨pa9, pb9, pc9⟩, ⟨pa10, pb10, pc10⟩, ⟨pa11, pb11, pc11⟩, ⟨pa12, pb12, pc12⟩, ⟨pa13, pb13, pc13⟩, ⟨pa20, pb20, pc20⟩, ⟨pa21, pb21, pc21⟩, ⟨pa22, pb22, pc22⟩⟩, ⟨nq1, nq2, nq3, nq4⟩, nq7, nq14, nq15, nq16, nq17, nq18, nq19⟩ := H.Si
  obtain ⟨xol, ll, Lol, lln, llo⟩ := H.Ol
  obtain rfl : pa8 = xol := P.fn pc8 Lol.1
  obtain ⟨⟨xi, e1, e2, e3⟩, -⟩ := H.Ar
  obtain rfl : pa11 = xi := P.fn pc11 e1
  refine g_iconst (v := nI 0) B dX0_recordsInLists_0 (by decide) ?_
  refine g_istore_n (lv2 := [(1, _), (0, _)]) B dX0_recordsInLists_1 (by decide) rfl ?_
  refine g_iconst (v := nI 0) B dX0_recordsInLists_2 (by decide) ?_
  refine g_istore_n (lv2 := [(2, _), (1, _), (0, _)]) B dX0_recordsInLists_3 (by decide) rfl ?_
  have LA : ∀ (dA : Nat) (o : Nat), dA = 6 - o → (o ≤ a.n) → xV Z (T, O, R) 4 [(2, .int (nI o)), (1, .int (nI (sumN (recL a) (3 * o)))), (0, .ref x0)] [] 0 0 := by
    intro dA
    induction dA using Nat.strongRecOn with
    | _ dA ihA =>
      intro o hdA ho5
      refine g_iload_n B 0 dX0_recordsInLists_4 rfl ?_
      refine g_aload_n B 2 dX0_recordsInLists_5 rfl ?_
      refine x_get B P h0q (by decide) rfl F_X0_115_0 (by decide) pb8 dX0_recordsInLists_6 ?_
      obtain ⟨n101, u101, ty101⟩ := P.ty pc8 (by decide) rfl
      refine g_callV (rest := [_]) B M_J4_size q502 q503 q504 ty101 rfl (c_J4_size (r := 34) (rd := 5002) P (by decide) rfl Lol) rfl rfl (Nat.le_of_ble_eq_true rfl) (Nat.le_of_ble_eq_true rfl) (Nat.le_of_ble_eq_true rfl) (Nat.le_refl _) (Nat.le_refl _) dX0_recordsInLists_9 (xkA (fun v101 T101 O101 R101 le101 p101 => ?_))
      obtain ⟨rfl, eT101, eO101, eR101⟩ := p101
      obtain rfl := eT101.symm
      obtain rfl := eO101.symm
      obtain rfl := eR101.symm
      refine g_icmp_geN (tgt := 62) B (by first | omega | (rw [lln]; omega)) (by first | omega | (rw [lln]; omega)) dX0_recordsInLists_12 (by decide) (fun c102 => ?_) (fun c102 => ?_)
      · rw [← recL_end W (by have q := c102; rw [lln] at q; omega) (by omega)]
        refine g_iload_n B 1 dX0_recordsInLists_62 rfl ?_
        refine g_iret B E rfl rfl dX0_recordsInLists_63 ?_
        exact ⟨_, rfl, rfl, rfl, rfl, rfl⟩
      · have hon : o < a.n := by have q := c102; rw [lln] at q; omega
        obtain ⟨xr, c1, c2, c3, c4⟩ := e3 o hon
        have hpo := W.p1 o hon
        refine g_aload_n B 2 dX0_recordsInLists_15 rfl ?_
        refine x_get B P h0q (by decide) rfl F_X0_132_0 (by decide) pb11 dX0_recordsInLists_16 ?_
        refine g_iload_n B 0 dX0_recordsInLists_19 rfl ?_
        refine x_ldA B P pc11 (by decide) rfl rfl rfl e2 (by first | omega | (rw [lln]; omega)) (by first | omega | (rw [lln]; omega)) c1 dX0_recordsInLists_20 ?_
        refine g_astore_n (lv2 := [(3, _), (2, _), (1, _), (0, _)]) B dX0_recordsInLists_21 (by decide) rfl ?_
        refine g_aload_n B 0 dX0_recordsInLists_22 rfl ?_
        refine x_alen B P c2 (by decide) rfl c3 dX0_recordsInLists_23 ?_
        refine g_istore (lv2 := [(4, _), (3, _), (2, _), (1, _), (0, _)]) B dX0_recordsInLists_24 (by decide) rfl ?_
        refine g_iconst (v := nI 0) B dX0_recordsInLists_26 (by decide) ?_
        refine g_istore (lv2 := [(5, _), (4, _), (3, _), (2, _), (1, _), (0, _)]) B dX0_recordsInLists_27 (by decide) rfl ?_
        have LB : ∀ (dB : Nat) (i : Nat), dB = a.p o - i → (i ≤ a.p o) → xV Z (T, O, R) 29 [(5, .int (nI i)), (4, .int (nI (a.p o))), (3, .ref xr), (2, .int (nI o)), (1, .int (nI (sumN (recL a) (3 * o + i)))), (0, .ref x0)] [] 0 0 := by
          intro dB
          induction dB using Nat.strongRecOn with
          | _ dB ihB =>
            intro i hdB hik
            refine g_iload B 0 dX0_recordsInLists_29 rfl ?_
            refine g_iload B 1 dX0_recordsInLists_31 rfl ?_
            refine g_icmp_geN (tgt := 56) B (by first | omega | (rw [lln]; omega)) (by first | omega | (rw [lln]; omega)) dX0_recordsInLists_33 (by decide) (fun c101 => ?_) (fun c101 => ?_)
            · have eip : i = a.p o := by omega
              rw [eip, ← recL_op W hpo.2]
              refine g_iinc (v := nI (o + 1)) (lv2 := [(2, _), (5, _), (4, _), (3, _), (1, _), (0, _)]) B 3 dX0_recordsInLists_56 rfl (nI_1 _) (by decide) rfl ?_
              refine g_goto (tgt := 4) B dX0_recordsInLists_59 (by decide) ?_
              refine g_pick [0, 4, 5] rfl ?_
              exact ihA (6 - (o + 1)) (by omega) (o + 1) rfl (by omega)
            · have hip : i < a.p o := by omega
              obtain ⟨xw, d1, d2⟩ := c4 i hip
              refine g_aload_n B 2 dX0_recordsInLists_36 rfl ?_
              refine g_iload B 0 dX0_recordsInLists_37 rfl ?_
              refine x_ldA B P c2 (by decide) rfl rfl rfl c3 (by first | omega | (rw [lln]; omega)) (by first | omega | (rw [lln]; omega)) d1 dX0_recordsInLists_39 ?_
              refine g_astore (lv2 := [(6, _), (5, _), (4, _), (3, _), (2, _), (1, _), (0, _)]) B dX0_recordsInLists_40 (by decide) rfl ?_
              refine g_iload_n B 5 dX0_recordsInLists_42 rfl ?_
              refine g_aload B 0 dX0_recordsInLists_43 rfl ?_
              obtain ⟨n102, u102, ty102⟩ := P.ty d2 (by decide) rfl
              refine g_callV (rest := [_]) B M_X9_waiting q1271 q1272 q1273 ty102 rfl (c_X9_waiting (o := o) (i := i) P H hon hip d2) rfl rfl (Nat.le_of_ble_eq_true rfl) (Nat.le_of_ble_eq_true rfl) (Nat.le_of_ble_eq_true rfl) (Nat.le_refl _) (Nat.le_refl _) dX0_recordsInLists_45 (xkA (fun v102 T102 O102 R102 le102 p102 => ?_))
              obtain ⟨rfl, eT102, eO102, eR102⟩ := p102
              obtain rfl := eT102.symm
              obtain rfl := eO102.symm
              obtain rfl := eR102.symm
              refine g_iaddN B dX0_recordsInLists_48 ?_
              refine g_top (show Value.int (nI (sumN (recL a) (3 * o + i) + (a.ls o i).length)) = .int (nI (sumN (recL a) (3 * o + (i + 1)))) from congrArg (fun z => Value.int (nI z)) (by rw [← recL_at a (by omega)]; rfl)) ?_
              refine g_istore_n (lv2 := [(1, _), (6, _), (5, _), (4, _), (3, _), (2, _), (0, _)]) B dX0_recordsInLists_49 (by decide) rfl ?_
              refine g_iinc (v := nI (i + 1)) (lv2 := [(5, _), (1, _), (6, _), (4, _), (3, _), (2, _), (0, _)]) B 2 dX0_recordsInLists_50 rfl (nI_1 _) (by decide) rfl ?_
              refine g_goto (tgt := 29) B dX0_recordsInLists_53 (by decide) ?_
              refine g_pick [0, 3, 4, 5, 1, 6] rfl ?_
              exact ihB (a.p o - (i + 1)) (by omega) (i + 1) rfl (by omega)
        exact LB _ 0 rfl (Nat.zero_le _)
  exact LA _ 0 rfl (by omega)
