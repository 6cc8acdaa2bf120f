set_option maxRecDepth 100000
/-- an iterator at q over the list (r, 0) at x, before the place k; m: the list's number of changes -/
def xIt (Y : xY) (V : xVV) (q x k : Nat) (m : Int32) : Prop := yAt Y 50 q q ∧ V 50 q 0 = .int (nI k) ∧ (∃ b, V 50 q 1 = .int b) ∧ V 50 q 2 = .int m ∧ V 50 q 3 = .ref x
def s50 : Nat → Nat → Prop := fun r _ => r = 50
theorem xIt.fr {S : Nat → Nat → Prop} {Y Y1 : xY} {V V1 : xVV} {I I1 : xII} {J J1 : xJJ} {A A1 : xVV} {q x k : Nat} {m : Int32} (d : xIt Y V q x k m) (f : xFr S Y V I J A Y1 V1 I1 J1 A1) (h : ¬ S 50 q) : xIt Y1 V1 q x k m := by
  obtain ⟨d0, d1⟩ := d
  have e := (f.2 50 q q d0 h).1
  unfold xIt
  rw [e]
  exact ⟨f.1.at d0, d1⟩
theorem c_J20_init {G : xG} {T : xT} {O R : xO} {Y : xY} {V : xVV} {I : xII} {J : xJJ} {A : xVV} {w0 : xW} {r rd x g0 : Nat} {l : List Nat} {q : Nat} {m : Int32} (P : PX Y V I J A w0 T O R) (hr : r < 1000) (hx : r % 100 = 34) (g1 : yAt Y r 0 x) (g2 : V r 0 0 = .int m) (hr50 : r ≠ 50) (d0 : yAt Y 50 q q) (hq0 : V 50 q 0 = .int 0) : xCtr G yJ20_init cJ20_init 2 none 1 20 0 0 [.ref q, .ref x] (T, O, R) (xN (fun T2 O2 R2 => ∃ V2, PX Y V2 I J A w0 T2 O2 R2 ∧ xIt Y V2 q x 0 m ∧ xFr s50 Y V I J A Y V2 I J A)) := by
  refine xCtr.of (by decide +kernel) (Nat.le_of_ble_eq_true rfl) ?_
  intro Z B E hz hnm
  change xV Z (T, O, R) 0 [(0, .ref q), (1, .ref x)] [] 0 0
  refine g_aload_n B 0 dJ20_init_0 rfl ?_
  refine g_aload_n B 1 dJ20_init_1 rfl ?_
  refine x_putF (q := (RJ20, TJ20, 4)) (k := 3) B P hnm d0 (by decide) rfl rfl (by decide) q844 rfl rfl (tyJ20_ok 3 (by decide)) rfl rfl dJ20_init_2 (fun O1 V1 hs1 hk1 P1 => ?_)
  refine g_aload_n B 0 dJ20_init_5 rfl ?_
  refine g_objInit B q838 q161 q162 (by decide) (by decide) dJ20_init_6 ?_
  refine g_aload_n B 0 dJ20_init_9 rfl ?_
  refine g_iconst (v := (-1)) B dJ20_init_10 (by decide) ?_
  refine x_put (q := (RJ20, TJ20, 4)) B P1 d0 (by decide) rfl F_J20_13_50 rfl rfl (tyJ20_ok 1 (by decide)) rfl rfl dJ20_init_11 (fun O2 V2 hs2 hk2 P2 => ?_)
  refine g_aload_n B 0 dJ20_init_14 rfl ?_
  refine g_aload_n B 0 dJ20_init_15 rfl ?_
  refine x_get B P2 d0 (by decide) rfl F_J20_1_50 (by decide) (rdK hs2 (by decide) (rdS hs1)) dJ20_init_16 ?_
  refine x_get B P2 g1 hr (xrTv hx (by decide)) F_J20_17_34 (by decide) (rdR hk2 (by omega) (rdR hk1 (by omega) g2)) dJ20_init_19 ?_
  refine x_put (q := (RJ20, TJ20, 4)) B P2 d0 (by decide) rfl F_J20_22_50 rfl rfl (tyJ20_ok 2 (by decide)) rfl rfl dJ20_init_22 (fun O3 V3 hs3 hk3 P3 => ?_)
  refine g_vret B E rfl dJ20_init_25 ?_
  exact ⟨rfl, _, P3, ⟨d0, (rdK hs3 (by decide) (rdK hs2 (by decide) (rdK hs1 (by decide) hq0))), ⟨_, (rdK hs3 (by decide) (rdS hs2))⟩, (rdS hs3), (rdK hs3 (by decide) (rdK hs2 (by decide) (rdS hs1)))⟩, (((xFr.uV (S := s50) (r := 50) (o := q) rfl hs1 hk1).tr (xFr.uV (S := s50) (r := 50) (o := q) rfl hs2 hk2)).tr (xFr.uV (S := s50) (r := 50) (o := q) rfl hs3 hk3))⟩
theorem c_J4_iterator {G : xG} {T : xT} {O R : xO} {Y : xY} {V : xVV} {I : xII} {J : xJJ} {A : xVV} {w0 : xW} {r rd x g0 : Nat} {l : List Nat} {m : Int32} (P : PX Y V I J A w0 T O R) (hr : r < 1000) (hx : r % 100 = 34) (g1 : yAt Y r 0 x) (g2 : V r 0 0 = .int m) : xCtr G yJ4_iterator cJ4_iterator 1 (some (Jvm.ClassFile.FieldType.object "java/util/Iterator")) 2 41 1 4 [.ref x] (T, O, R) (xA (fun v T2 O2 R2 => ∃ Y2 V2 q, PX Y2 V2 I J A w0 T2 O2 R2 ∧ v = .ref q ∧ xIt Y2 V2 q x 0 m ∧ xFr s50 Y V I J A Y2 V2 I J A)) := by
  refine xCtr.of (by decide +kernel) (Nat.le_of_ble_eq_true rfl) ?_
  intro Z B E hz hnm
  change xV Z (T, O, R) 0 [(0, .ref x)] [] 1 4
  refine x_new (kc := 0) (ks := 0) (t := 50) B P 50 0 (fun q => q) (by decide) rfl (by unfold okT; decide) tyJ20 rfl (fun k hk => tyJ20_ok k hk) q833 q834 q141 (fun q hq x => P.fresh hq _ _ (by unfold idR; decide)) (fun _ _ => rfl) dJ4_iterator_0 (fun q1 Y1 V1 T1 O1 hq1 le1 gr1 hf1 at1 hK1 hs1 hk1 P1 => ?_)
  refine g_dup B dJ4_iterator_3 rfl ?_
  have rdO21 : V1 r 0 0 = .int m := rdR hk1 (by omega) g2
  refine g_aload_n B 0 dJ4_iterator_4 rfl ?_
  have hr50 : r ≠ 50 := by omega
  refine g_callI (rest := [_]) B M_J20_init rfl q835 q836 (c_J20_init (r := r) (l := l) (rd := rd) (g0 := g0) P1 hr hx (le1.at g1) (rdO21) hr50 at1 (rdN hs1 rfl)) rfl rfl (Nat.le_of_ble_eq_true rfl) (Nat.le_of_ble_eq_true rfl) (Nat.le_of_ble_eq_true rfl) (Nat.le_refl _) (Nat.le_refl _) dJ4_iterator_5 (xkN (fun T2 O2 R2 le2 p2 => ?_))
  obtain ⟨V2, P2, it2, f2⟩ := p2
  refine g_aret B E rfl (Or.inl ⟨_, rfl⟩) (Or.inr ⟨_, rfl⟩) dJ4_iterator_8 ?_
  exact ⟨_, rfl, Y1, V2, q1, P2, rfl, it2, (xFr.nV (S := s50) (r := 50) (o := q1) rfl le1 gr1 hs1 hk1).tr f2⟩
theorem c_J20_hasNext {G : xG} {T : xT} {O R : xO} {Y : xY} {V : xVV} {I : xII} {J : xJJ} {A : xVV} {w0 : xW} {r rd x g0 : Nat} {l : List Nat} {q k : Nat} {m : Int32} (P : PX Y V I J A w0 T O R) (hr : r < 1000) (hx : r % 100 = 34) (L : xAl Y V A r rd x g0 l) (hm : V r 0 0 = .int m) (D : xIt Y V q x k m) (hk : k ≤ l.length) : xCtr G yJ20_hasNext cJ20_hasNext 1 (some Jvm.ClassFile.FieldType.boolean) 0 0 0 0 [.ref q] (T, O, R) (xA (fun v T2 O2 R2 => v = .int (bI (decide (k ≠ l.length))) ∧ T2 = T ∧ O2 = O ∧ R2 = R)) := by
  have hL := L
  obtain ⟨g1, -, g3, g4, g5⟩ := L
  obtain ⟨d0, d1, ⟨b, d2⟩, d3, d4⟩ := D
  refine xCtr.of (by decide +kernel) (Nat.le_of_ble_eq_true rfl) ?_
  intro Z B E hz hnm
  change xV Z (T, O, R) 0 [(0, .ref q)] [] 0 0
  refine g_aload_n B 0 dJ20_hasNext_0 rfl ?_
  refine x_get B P d0 (by decide) rfl F_J20_25_50 (by decide) d1 dJ20_hasNext_1 ?_
  refine g_aload_n B 0 dJ20_hasNext_4 rfl ?_
  refine x_get B P d0 (by decide) rfl F_J20_1_50 (by decide) d4 dJ20_hasNext_5 ?_
  refine x_get B P g1 hr (xrTv hx (by decide)) F_J20_28_34 (by decide) g3 dJ20_hasNext_8 ?_
  refine g_icmp_eqN (tgt := 18) B (by omega) (by omega) dJ20_hasNext_11 (by decide) (fun c1 => ?_) (fun c1 => ?_)
  · refine g_iconst (v := nI 0) B dJ20_hasNext_18 (by decide) ?_
    refine g_iret B E rfl rfl dJ20_hasNext_19 ?_
    exact ⟨_, rfl, congrArg Value.int (bI_f (by simp; omega)), rfl, rfl, rfl⟩
  · refine g_iconst (v := nI 1) B dJ20_hasNext_14 (by decide) ?_
    refine g_goto (tgt := 19) B dJ20_hasNext_15 (by decide) ?_
    refine g_iret B E rfl rfl dJ20_hasNext_19 ?_
    exact ⟨_, rfl, congrArg Value.int (bI_t (by simp; omega)), rfl, rfl, rfl⟩
theorem c_J20_check {G : xG} {T : xT} {O R : xO} {Y : xY} {V : xVV} {I : xII} {J : xJJ} {A : xVV} {w0 : xW} {r rd x g0 : Nat} {l : List Nat} {q k : Nat} {m : Int32} (P : PX Y V I J A w0 T O R) (hr : r < 1000) (hx : r % 100 = 34) (L : xAl Y V A r rd x g0 l) (hm : V r 0 0 = .int m) (D : xIt Y V q x k m) : xCtr G yJ20_checkForComodification cJ20_checkForComodification 1 none 0 0 0 0 [.ref q] (T, O, R) (xN (fun T2 O2 R2 => T2 = T ∧ O2 = O ∧ R2 = R)) := by
  have hL := L
  obtain ⟨g1, -, g3, g4, g5⟩ := L
  obtain ⟨d0, d1, ⟨b, d2⟩, d3, d4⟩ := D
  refine xCtr.of (by decide +kernel) (Nat.le_of_ble_eq_true rfl) ?_
  intro Z B E hz hnm
  change xV Z (T, O, R) 0 [(0, .ref q)] [] 0 0
  refine g_aload_n B 0 dJ20_checkForComodification_0 rfl ?_
  refine x_get B P d0 (by decide) rfl F_J20_1_50 (by decide) d4 dJ20_checkForComodification_1 ?_
  refine x_get B P g1 hr (xrTv hx (by decide)) F_J20_17_34 (by decide) hm dJ20_checkForComodification_4 ?_
  refine g_aload_n B 0 dJ20_checkForComodification_7 rfl ?_
  refine x_get B P d0 (by decide) rfl F_J20_22_50 (by decide) d3 dJ20_checkForComodification_8 ?_
  refine g_icmp_eq (tgt := 22) B dJ20_checkForComodification_11 (by decide) (fun _ => ?_) (fun e => absurd rfl e)
  refine g_vret B E rfl dJ20_checkForComodification_22 ?_
  exact ⟨rfl, rfl, rfl, rfl⟩
theorem c_J20_next {G : xG} {T : xT} {O R : xO} {Y : xY} {V : xVV} {I : xII} {J : xJJ} {A : xVV} {w0 : xW} {r rd x g0 : Nat} {l : List Nat} {q k : Nat} {m : Int32} (P : PX Y V I J A w0 T O R) (hr : r < 1000) (hx : r % 100 = 34) (L : xAl Y V A r rd x g0 l) (hm : V r 0 0 = .int m) (D : xIt Y V q x k m) (hd : rd / 1000 = 5) (hk : k < l.length) : xCtr G yJ20_next cJ20_next 3 (some (Jvm.ClassFile.FieldType.object "java/lang/Object")) 1 20 0 0 [.ref q] (T, O, R) (xA (fun v T2 O2 R2 => ∃ V2, v = .ref (l.getD k 0) ∧ PX Y V2 I J A w0 T2 O2 R2 ∧ xIt Y V2 q x (k + 1) m ∧ xFr s50 Y V I J A Y V2 I J A)) := by
  have hD := D
  have hL := L
  obtain ⟨g1, -, g3, g4, g5⟩ := L
  obtain ⟨d0, d1, ⟨b, d2⟩, d3, d4⟩ := D
  have hr50 : r ≠ 50 := by omega
  rcases g5 with ⟨h5, -⟩ | ⟨id, xd, k1, k2, k3, k4, k5, k6⟩
  · rw [h5] at hk; cases hk
  refine xCtr.of (by decide +kernel) (Nat.le_of_ble_eq_true rfl) ?_
  intro Z B E hz hnm
  change xV Z (T, O, R) 0 [(0, .ref q)] [] 0 0
  refine g_aload_n B 0 dJ20_next_0 rfl ?_
  obtain ⟨n1, u1, ty1⟩ := P.ty d0 (by decide) rfl
  refine g_callV (rest := []) B M_J20_checkForComodification q1194 q1195 q1196 ty1 rfl (c_J20_check P hr hx hL hm hD) rfl rfl (Nat.le_of_ble_eq_true rfl) (Nat.le_of_ble_eq_true rfl) (Nat.le_of_ble_eq_true rfl) (Nat.le_refl _) (Nat.le_refl _) dJ20_next_1 (xkN (fun T1 O1 R1 le1 p1 => ?_))
  obtain ⟨eT1, eO1, eR1⟩ := p1
  obtain rfl := eT1.symm
  obtain rfl := eO1.symm
  obtain rfl := eR1.symm
  refine g_aload_n B 0 dJ20_next_4 rfl ?_
  refine x_get B P d0 (by decide) rfl F_J20_25_50 (by decide) d1 dJ20_next_5 ?_
  refine g_istore_n (lv2 := [(1, _), (0, _)]) B dJ20_next_8 (by decide) rfl ?_
  refine g_iload_n B 0 dJ20_next_9 rfl ?_
  refine g_aload_n B 1 dJ20_next_10 rfl ?_
  refine x_get B P d0 (by decide) rfl F_J20_1_50 (by decide) d4 dJ20_next_11 ?_
  refine x_get B P g1 hr (xrTv hx (by decide)) F_J20_28_34 (by decide) g3 dJ20_next_14 ?_
  refine g_icmp_ltN (tgt := 28) B (by omega) (by omega) dJ20_next_17 (by decide) (fun _ => ?_) (fun e => absurd e (by omega))
  refine g_aload_n B 1 dJ20_next_28 rfl ?_
  refine x_get B P d0 (by decide) rfl F_J20_1_50 (by decide) d4 dJ20_next_29 ?_
  refine x_get B P g1 hr (xrTv hx (by decide)) F_J20_37_34 (by decide) k1 dJ20_next_32 ?_
  refine g_astore_n (lv2 := [(2, _), (1, _), (0, _)]) B dJ20_next_35 (by decide) rfl ?_
  refine g_iload_n B 1 dJ20_next_36 rfl ?_
  refine g_aload_n B 0 dJ20_next_37 rfl ?_
  refine x_alen B P k2 (by omega) (by rw [hd]; rfl) rfl dJ20_next_38 ?_
  refine g_icmp_ltN (tgt := 50) B (by omega) (by omega) dJ20_next_39 (by decide) (fun _ => ?_) (fun e => absurd e (by omega))
  refine g_aload_n B 2 dJ20_next_50 rfl ?_
  refine g_iload_n B 1 dJ20_next_51 rfl ?_
  refine g_iconst (v := nI 1) B dJ20_next_52 (by decide) ?_
  refine g_iaddN B dJ20_next_53 ?_
  refine x_put (q := (RJ20, TJ20, 4)) B P d0 (by decide) rfl F_J20_25_50 rfl rfl (tyJ20_ok 0 (by decide)) rfl rfl dJ20_next_54 (fun O2 V2 hs2 hk2 P2 => ?_)
  refine g_aload_n B 0 dJ20_next_57 rfl ?_
  refine g_aload_n B 2 dJ20_next_58 rfl ?_
  refine g_iload_n B 1 dJ20_next_59 rfl ?_
  refine g_dup_x1 B dJ20_next_60 rfl rfl ?_
  refine x_put (q := (RJ20, TJ20, 4)) B P2 d0 (by decide) rfl F_J20_13_50 rfl rfl (tyJ20_ok 1 (by decide)) rfl rfl dJ20_next_61 (fun O3 V3 hs3 hk3 P3 => ?_)
  refine x_ldA B P3 k2 (by omega) (by rw [hd]; rfl) rfl rfl rfl (by omega) (by omega) (k6 k hk) dJ20_next_64 ?_
  refine g_aret B E rfl (Or.inl ⟨_, rfl⟩) (Or.inr ⟨_, rfl⟩) dJ20_next_65 ?_
  exact ⟨_, rfl, _, rfl, P3, ⟨d0, (rdK hs3 (by decide) (rdS hs2)), ⟨_, (rdS hs3)⟩, (rdK hs3 (by decide) (rdK hs2 (by decide) d3)), (rdK hs3 (by decide) (rdK hs2 (by decide) d4))⟩, ((xFr.uV (S := s50) (r := 50) (o := q) rfl hs2 hk2).tr (xFr.uV (S := s50) (r := 50) (o := q) rfl hs3 hk3))⟩
