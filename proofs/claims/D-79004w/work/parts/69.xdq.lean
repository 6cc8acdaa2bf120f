set_option maxRecDepth 100000
/-- a deque's places: 17 of them -/
def md (n : Nat) : Nat := n % 17
theorem md_lt (n : Nat) : md n < 17 := Nat.mod_lt _ (by decide)
def qv (bs : List Nat) (j : Nat) : Value := if j < bs.length then .ref (bs.getD j 0) else .null
def xDq (Y : xY) (V : xVV) (A : xVV) (h x : Nat) (bs : List Nat) : Prop := yAt Y 41 h x ∧ bs.length ≤ 8 ∧ ∃ xe hd, yAt Y 5001 h xe ∧ V 41 h 0 = .ref xe ∧ yN Y 5001 h = 17 ∧ hd < 17 ∧ V 41 h 1 = .int (nI hd) ∧ V 41 h 2 = .int (nI (md (hd + bs.length))) ∧ ∀ j, j < 17 → A 5001 h (md (hd + j)) = qv bs j
def sDq (h : Nat) : Nat → Nat → Prop := fun r' o' => o' = h ∧ (r' = 41 ∨ r' = 5001)
theorem xDq.fr {S : Nat → Nat → Prop} {Y Y1 : xY} {V V1 : xVV} {I I1 : xII} {J J1 : xJJ} {A A1 : xVV} {h x : Nat} {bs : List Nat} (d : xDq Y V A h x bs) (f : xFr S Y V I J A Y1 V1 I1 J1 A1) (h1 : ¬ S 41 h) (h2 : ¬ S 5001 h) : xDq Y1 V1 A1 h x bs := by
  obtain ⟨g1, g2, xe, hd, g3, g4, g5, g6, g7, g8, g9⟩ := d
  have e1 := (f.2 41 h x g1 h1).1
  have e2 := (f.2 5001 h xe g3 h2).2.2.2
  exact ⟨f.1.at g1, g2, xe, hd, f.1.at g3, by rw [e1]; exact g4, f.1.n g3 g5, g6, by rw [e1]; exact g7, by rw [e1]; exact g8, fun j hj => by rw [e2]; exact g9 j hj⟩
theorem md_inj {h j k : Nat} (hj : j < 17) (hk : k < 17) (e : md (h + j) = md (h + k)) : j = k := by unfold md at e; omega
theorem qv_in {bs : List Nat} {j : Nat} (h : j < bs.length) : qv bs j = .ref (bs.getD j 0) := if_pos h
theorem qv_out {bs : List Nat} {j : Nat} (h : bs.length ≤ j) : qv bs j = .null := if_neg (by omega)
theorem asg_X11_5 : xAsg 11 5 := ⟨_, "java/lang/Object", _, rfl, rfl, rfl, rfl, q2957⟩
/-- behind addLast -/
theorem dq_add {V A A1 : xVV} {h hd : Nat} {bs : List Nat} {b : Nat} (hl : bs.length + 1 ≤ 8) (h9 : ∀ j, j < 17 → A 5001 h (md (hd + j)) = qv bs j) (hs : A1 5001 = va_up (A 5001) h (va_up (A 5001 h) (md (hd + bs.length)) (.ref b))) : ∀ j, j < 17 → A1 5001 h (md (hd + j)) = qv (bs ++ [b]) j := by
  intro j hj
  by_cases e : j = bs.length
  · subst e
    rw [qv_in (by simp), rdS hs]
    simp [List.getD_eq_getElem?_getD]
  · refine (rdK hs (fun q => e (md_inj hj (by omega) q)) (h9 j hj)).trans ?_
    rcases Nat.lt_or_ge j bs.length with q | q
    · rw [qv_in q, qv_in (by simp; omega)]
      simp [List.getD_eq_getElem?_getD, List.getElem?_append_left q]
    · rw [qv_out q, qv_out (by simp; omega)]
/-- behind pollFirst -/
theorem dq_poll {A A1 : xVV} {h hd b : Nat} {bs : List Nat} (hl : bs.length + 1 ≤ 8) (hhd : hd < 17) (h9 : ∀ j, j < 17 → A 5001 h (md (hd + j)) = qv (b :: bs) j) (hs : A1 5001 = va_up (A 5001) h (va_up (A 5001 h) hd .null)) : ∀ j, j < 17 → A1 5001 h (md (md (hd + 1) + j)) = qv bs j := by
  intro j hj
  have e0 : md (md (hd + 1) + j) = md (hd + (j + 1)) := by unfold md; omega
  rw [e0]
  by_cases e : j = 16
  · subst e
    rw [show md (hd + (16 + 1)) = hd from by unfold md; omega, rdS hs, qv_out (by omega)]
  · refine (rdK hs (fun q => by unfold md at q; omega) (h9 (j + 1) (by omega))).trans ?_
    unfold qv
    simp
theorem md_sub {i j : Nat} (hi : i < 17) (hj : j < 17) : (j ≤ i → nI i - nI j = nI (md (i + 17 - j))) ∧ (i < j → nI i - nI j + nI 17 = nI (md (i + 17 - j))) := by
  constructor
  · intro h
    rw [pk_sub h, show md (i + 17 - j) = i - j from by unfold md; omega]
  · intro h
    rw [show md (i + 17 - j) = i + 17 - j from by unfold md; omega, ← pk_sub (show j ≤ i + 17 by omega), ← nI_add]
    generalize nI i = a
    generalize nI j = b
    generalize nI 17 = c
    rw [Int32.sub_eq_add_neg, Int32.sub_eq_add_neg, Int32.add_assoc, Int32.add_comm (-b) c, ← Int32.add_assoc]
theorem c_J11_sub {G : xG} {T : xT} {O R : xO} {Y : xY} {V : xVV} {I : xII} {J : xJJ} {A : xVV} {w0 : xW} {i j : Nat} (P : PX Y V I J A w0 T O R) (hi : i < 17) (hj : j < 17) : xCtr G yJ11_sub cJ11_sub 3 (some Jvm.ClassFile.FieldType.int) 0 0 0 0 [.int (nI i), .int (nI j), .int (nI 17)] (T, O, R) (xA (fun v T2 O2 R2 => v = .int (nI (md (i + 17 - j))) ∧ T2 = T ∧ O2 = O ∧ R2 = R)) := by
  refine xCtr.of (by decide +kernel) (Nat.le_of_ble_eq_true rfl) ?_
  intro Z B E hz hnm
  change xV Z (T, O, R) 0 [(0, .int (nI i)), (1, .int (nI j)), (2, .int (nI 17))] [] 0 0
  refine g_iload_n B 0 dJ11_sub_0 rfl ?_
  refine g_iload_n B 1 dJ11_sub_1 rfl ?_
  refine g_isub B dJ11_sub_2 ?_
  refine g_dup B dJ11_sub_3 rfl ?_
  refine g_istore_n (lv2 := [(0, _), (1, _), (2, _)]) B dJ11_sub_4 (by decide) rfl ?_
  refine g_if_ge (tgt := 12) B dJ11_sub_5 (by decide) (fun c1 => ?_) (fun c1 => ?_)
  · refine g_iload_n B 0 dJ11_sub_12 rfl ?_
    refine g_iret B E rfl rfl dJ11_sub_13 ?_
    exact ⟨_, rfl, congrArg Value.int ((md_sub hi hj).1 (Nat.not_lt.mp fun q => absurd (pk_sneg (by omega) q) (Int32.not_lt.mpr c1))), rfl, rfl, rfl⟩
  · refine g_iload_n B 0 dJ11_sub_8 rfl ?_
    refine g_iload_n B 2 dJ11_sub_9 rfl ?_
    refine g_iadd B dJ11_sub_10 ?_
    refine g_istore_n (lv2 := [(0, _), (1, _), (2, _)]) B dJ11_sub_11 (by decide) rfl ?_
    refine g_iload_n B 0 dJ11_sub_12 rfl ?_
    refine g_iret B E rfl rfl dJ11_sub_13 ?_
    exact ⟨_, rfl, congrArg Value.int ((md_sub hi hj).2 (Nat.not_le.mp fun q => c1 (by rw [pk_sub q]; exact nI_pos' (by omega)))), rfl, rfl, rfl⟩
theorem c_J11_inc {G : xG} {T : xT} {O R : xO} {Y : xY} {V : xVV} {I : xII} {J : xJJ} {A : xVV} {w0 : xW} {i : Nat} (P : PX Y V I J A w0 T O R) (hi : i < 17) : xCtr G yJ11_inc cJ11_inc 2 (some Jvm.ClassFile.FieldType.int) 0 0 0 0 [.int (nI i), .int (nI 17)] (T, O, R) (xA (fun v T2 O2 R2 => v = .int (nI (md (i + 1))) ∧ T2 = T ∧ O2 = O ∧ R2 = R)) := by
  refine xCtr.of (by decide +kernel) (Nat.le_of_ble_eq_true rfl) ?_
  intro Z B E hz hnm
  change xV Z (T, O, R) 0 [(0, .int (nI i)), (1, .int (nI 17))] [] 0 0
  refine g_iinc (v := nI (i + 1)) (lv2 := [(0, _), (1, _)]) B 0 dJ11_inc_0 rfl (nI_1 _) (by decide) rfl ?_
  refine g_iload_n B 0 dJ11_inc_3 rfl ?_
  refine g_iload_n B 1 dJ11_inc_4 rfl ?_
  refine g_icmp_ltN (tgt := 10) B (by omega) (by omega) dJ11_inc_5 (by decide) (fun c1 => ?_) (fun c1 => ?_)
  · refine g_iload_n B 0 dJ11_inc_10 rfl ?_
    refine g_iret B E rfl rfl dJ11_inc_11 ?_
    exact ⟨_, rfl, congrArg (fun z => Value.int (nI z)) (by unfold md; omega), rfl, rfl, rfl⟩
  · refine g_iconst (v := nI 0) B dJ11_inc_8 (by decide) ?_
    refine g_istore_n (lv2 := [(0, _), (1, _)]) B dJ11_inc_9 (by decide) rfl ?_
    refine g_iload_n B 0 dJ11_inc_10 rfl ?_
    refine g_iret B E rfl rfl dJ11_inc_11 ?_
    exact ⟨_, rfl, congrArg (fun z => Value.int (nI z)) (by unfold md; omega), rfl, rfl, rfl⟩
theorem c_J11_size {G : xG} {T : xT} {O R : xO} {Y : xY} {V : xVV} {I : xII} {J : xJJ} {A : xVV} {w0 : xW} {h x : Nat} {bs : List Nat} (P : PX Y V I J A w0 T O R) (d : xDq Y V A h x bs) : xCtr G yJ11_size cJ11_size 1 (some Jvm.ClassFile.FieldType.int) 1 22 0 0 [.ref x] (T, O, R) (xA (fun v T2 O2 R2 => v = .int (nI bs.length) ∧ T2 = T ∧ O2 = O ∧ R2 = R)) := by
  have hd0 := d
  obtain ⟨g1, hlen, xe, hd, g3, g4, g5, g6, g7, g8, g9⟩ := d
  refine xCtr.of (by decide +kernel) (Nat.le_of_ble_eq_true rfl) ?_
  intro Z B E hz hnm
  change xV Z (T, O, R) 0 [(0, .ref x)] [] 0 0
  refine g_aload_n B 0 dJ11_size_0 rfl ?_
  refine x_get B P g1 (by decide) rfl F_J11_20_41 (by decide) g8 dJ11_size_1 ?_
  refine g_aload_n B 0 dJ11_size_4 rfl ?_
  refine x_get B P g1 (by decide) rfl F_J11_24_41 (by decide) g7 dJ11_size_5 ?_
  refine g_aload_n B 0 dJ11_size_8 rfl ?_
  refine x_get B P g1 (by decide) rfl F_J11_3_41 (by decide) g4 dJ11_size_9 ?_
  refine x_alen B P g3 (by decide) rfl g5 dJ11_size_12 ?_
  refine g_callS (rest := []) B M_J11_sub q615 q616 (c_J11_sub (i := md (hd + bs.length)) (j := hd) P (md_lt _) g6) rfl rfl (Nat.le_of_ble_eq_true rfl) (Nat.le_of_ble_eq_true rfl) (Nat.le_of_ble_eq_true rfl) (Nat.le_refl _) (Nat.le_refl _) dJ11_size_13 (xkA (fun v1 T1 O1 R1 le1 p1 => ?_))
  obtain ⟨rfl, eT1, eO1, eR1⟩ := p1
  obtain rfl := eT1.symm
  obtain rfl := eO1.symm
  obtain rfl := eR1.symm
  refine g_iret B E rfl rfl dJ11_size_16 ?_
  exact ⟨_, rfl, congrArg (fun z => Value.int (nI z)) (by unfold md; omega), rfl, rfl, rfl⟩
theorem c_J11_isEmpty {G : xG} {T : xT} {O R : xO} {Y : xY} {V : xVV} {I : xII} {J : xJJ} {A : xVV} {w0 : xW} {h x : Nat} {bs : List Nat} (P : PX Y V I J A w0 T O R) (d : xDq Y V A h x bs) : xCtr G yJ11_isEmpty cJ11_isEmpty 1 (some Jvm.ClassFile.FieldType.boolean) 0 0 0 0 [.ref x] (T, O, R) (xA (fun v T2 O2 R2 => v = .int (bI bs.isEmpty) ∧ T2 = T ∧ O2 = O ∧ R2 = R)) := by
  have hd0 := d
  obtain ⟨g1, hlen, xe, hd, g3, g4, g5, g6, g7, g8, g9⟩ := d
  refine xCtr.of (by decide +kernel) (Nat.le_of_ble_eq_true rfl) ?_
  intro Z B E hz hnm
  change xV Z (T, O, R) 0 [(0, .ref x)] [] 0 0
  refine g_aload_n B 0 dJ11_isEmpty_0 rfl ?_
  refine x_get B P g1 (by decide) rfl F_J11_24_41 (by decide) g7 dJ11_isEmpty_1 ?_
  refine g_aload_n B 0 dJ11_isEmpty_4 rfl ?_
  refine x_get B P g1 (by decide) rfl F_J11_20_41 (by decide) g8 dJ11_isEmpty_5 ?_
  refine g_icmp_neN (tgt := 15) B (by first | omega | exact Nat.lt_trans (md_lt _) (by decide)) (by first | omega | exact Nat.lt_trans (md_lt _) (by decide)) dJ11_isEmpty_8 (by decide) (fun c1 => ?_) (fun c1 => ?_)
  · refine g_iconst (v := nI 0) B dJ11_isEmpty_15 (by decide) ?_
    refine g_iret B E rfl rfl dJ11_isEmpty_16 ?_
    exact ⟨_, rfl, congrArg Value.int (by rw [show bs.isEmpty = false from by cases bs; exact absurd (by unfold md; simp; omega) c1; rfl]; rfl), rfl, rfl, rfl⟩
  · refine g_iconst (v := nI 1) B dJ11_isEmpty_11 (by decide) ?_
    refine g_goto (tgt := 16) B dJ11_isEmpty_12 (by decide) ?_
    refine g_iret B E rfl rfl dJ11_isEmpty_16 ?_
    exact ⟨_, rfl, congrArg Value.int (by rw [show bs.isEmpty = true from by cases bs; rfl; exfalso; have q := c1; simp at hlen q; unfold md at q; omega]; rfl), rfl, rfl, rfl⟩

theorem c_J11_elementAt {G : xG} {T : xT} {O R : xO} {Y : xY} {V : xVV} {I : xII} {J : xJJ} {A : xVV} {w0 : xW} {ra o xa i n : Nat} {vv : Value} (P : PX Y V I J A w0 T O R) (hra : ra / 1000 = 5) (ha : yAt Y ra o xa) (hn : yN Y ra o = n) (hi : i < n) (hl : n < 2 ^ 31) (hv : A ra o i = vv) (hq : vv = .null ∨ ∃ a, vv = .ref a) : xCtr G yJ11_elementAt cJ11_elementAt 2 (some (Jvm.ClassFile.FieldType.object "java/lang/Object")) 0 0 0 0 [.ref xa, .int (nI i)] (T, O, R) (xA (fun v T2 O2 R2 => v = vv ∧ T2 = T ∧ O2 = O ∧ R2 = R)) := by
  refine xCtr.of (by decide +kernel) (Nat.le_of_ble_eq_true rfl) ?_
  intro Z B E hz hnm
  change xV Z (T, O, R) 0 [(0, .ref xa), (1, .int (nI i))] [] 0 0
  refine g_aload_n B 0 dJ11_elementAt_0 rfl ?_
  refine g_iload_n B 1 dJ11_elementAt_1 rfl ?_
  refine x_ldA B P ha (by omega) (by rw [hra]; rfl) rfl rfl hn (by omega) (by omega) hv dJ11_elementAt_2 ?_
  refine g_aret B E rfl (Or.inl ⟨_, rfl⟩) hq dJ11_elementAt_3 ?_
  exact ⟨_, rfl, rfl, rfl, rfl, rfl⟩
theorem qv_ref (bs : List Nat) (j : Nat) : qv bs j = .null ∨ ∃ a, qv bs j = .ref a := by
  unfold qv
  split
  · exact Or.inr ⟨_, rfl⟩
  · exact Or.inl rfl
theorem md_hd {hd : Nat} (h : hd < 17) : md (hd + 0) = hd := by unfold md; omega
theorem c_J11_peekFirst {G : xG} {T : xT} {O R : xO} {Y : xY} {V : xVV} {I : xII} {J : xJJ} {A : xVV} {w0 : xW} {h x : Nat} {bs : List Nat} (P : PX Y V I J A w0 T O R) (d : xDq Y V A h x bs) : xCtr G yJ11_peekFirst cJ11_peekFirst 1 (some (Jvm.ClassFile.FieldType.object "java/lang/Object")) 1 21 0 0 [.ref x] (T, O, R) (xA (fun v T2 O2 R2 => v = qv bs 0 ∧ T2 = T ∧ O2 = O ∧ R2 = R)) := by
  have hd0 := d
  obtain ⟨g1, hlen, xe, hd, g3, g4, g5, g6, g7, g8, g9⟩ := d
  refine xCtr.of (by decide +kernel) (Nat.le_of_ble_eq_true rfl) ?_
  intro Z B E hz hnm
  change xV Z (T, O, R) 0 [(0, .ref x)] [] 0 0
  refine g_aload_n B 0 dJ11_peekFirst_0 rfl ?_
  refine x_get B P g1 (by decide) rfl F_J11_3_41 (by decide) g4 dJ11_peekFirst_1 ?_
  refine g_aload_n B 0 dJ11_peekFirst_4 rfl ?_
  refine x_get B P g1 (by decide) rfl F_J11_24_41 (by decide) g7 dJ11_peekFirst_5 ?_
  refine g_callS (rest := []) B M_J11_elementAt q1579 q1580 (c_J11_elementAt P rfl g3 g5 g6 (by decide) ((congrArg (A 5001 h) (md_hd g6)).symm.trans (g9 0 (by decide))) (qv_ref _ _)) rfl rfl (Nat.le_of_ble_eq_true rfl) (Nat.le_of_ble_eq_true rfl) (Nat.le_of_ble_eq_true rfl) (Nat.le_refl _) (Nat.le_refl _) dJ11_peekFirst_8 (xkA (fun v1 T1 O1 R1 le1 p1 => ?_))
  obtain ⟨rfl, eT1, eO1, eR1⟩ := p1
  obtain rfl := eT1.symm
  obtain rfl := eO1.symm
  obtain rfl := eR1.symm
  refine g_aret B E rfl (Or.inl ⟨_, rfl⟩) (qv_ref _ _) dJ11_peekFirst_11 ?_
  exact ⟨_, rfl, rfl, rfl, rfl, rfl⟩
theorem c_J11_addLast {G : xG} {T : xT} {O R : xO} {Y : xY} {V : xVV} {I : xII} {J : xJJ} {A : xVV} {w0 : xW} {h x : Nat} {bs : List Nat} {b y : Nat} (P : PX Y V I J A w0 T O R) (d : xDq Y V A h x bs) (hl : bs.length + 1 ≤ 8) (hb : yAt Y 11 b y) : xCtr G yJ11_addLast cJ11_addLast 3 none 1 21 0 0 [.ref x, .ref y] (T, O, R) (xN (xPN w0 (fun Y2 V2 I2 J2 A2 => Y = Y2 ∧ I = I2 ∧ J = J2 ∧ xDq Y V2 A2 h x (bs ++ [y]) ∧ xFr (sDq h) Y V I J A Y2 V2 I2 J2 A2))) := by
  have hd0 := d
  obtain ⟨g1, hlen, xe, hd, g3, g4, g5, g6, g7, g8, g9⟩ := d
  refine xCtr.of (by decide +kernel) (Nat.le_of_ble_eq_true rfl) ?_
  intro Z B E hz hnm
  change xV Z (T, O, R) 0 [(0, .ref x), (1, .ref y)] [] 0 0
  refine g_aload_n B 1 dJ11_addLast_0 rfl ?_
  refine g_ifnonnull (tgt := 12) B dJ11_addLast_1 (by decide) ?_
  refine g_aload_n B 0 dJ11_addLast_12 rfl ?_
  refine x_get B P g1 (by decide) rfl F_J11_3_41 (by decide) g4 dJ11_addLast_13 ?_
  refine g_astore_n (lv2 := [(2, _), (0, _), (1, _)]) B dJ11_addLast_16 (by decide) rfl ?_
  refine g_aload_n B 0 dJ11_addLast_17 rfl ?_
  refine g_aload_n B 1 dJ11_addLast_18 rfl ?_
  refine x_get B P g1 (by decide) rfl F_J11_20_41 (by decide) g8 dJ11_addLast_19 ?_
  refine g_aload_n B 2 dJ11_addLast_22 rfl ?_
  obtain ⟨n1, u1, ty1⟩ := P.ty hb (by decide) rfl
  refine x_stA B P g3 (by decide) ty1 asg_X11_5 rfl g5 (md_lt _) (by first | omega | exact Nat.lt_trans (md_lt _) (by decide)) dJ11_addLast_23 (fun R1 A1 hs1 hk1 P1 => ?_)
  refine g_aload_n B 1 dJ11_addLast_24 rfl ?_
  refine x_get B P1 g1 (by decide) rfl F_J11_24_41 (by decide) g7 dJ11_addLast_25 ?_
  refine g_aload_n B 1 dJ11_addLast_28 rfl ?_
  refine g_aload_n B 1 dJ11_addLast_29 rfl ?_
  refine x_get B P1 g1 (by decide) rfl F_J11_20_41 (by decide) g8 dJ11_addLast_30 ?_
  refine g_aload_n B 0 dJ11_addLast_33 rfl ?_
  refine x_alen B P1 g3 (by decide) rfl g5 dJ11_addLast_34 ?_
  refine g_callS (rest := [_, _]) B M_J11_inc q1300 q1187 (c_J11_inc (i := (md (hd + bs.length))) P1 (md_lt _)) rfl rfl (Nat.le_of_ble_eq_true rfl) (Nat.le_of_ble_eq_true rfl) (Nat.le_of_ble_eq_true rfl) (Nat.le_refl _) (Nat.le_refl _) dJ11_addLast_35 (xkA (fun v2 T2 O2 R2 le2 p2 => ?_))
  obtain ⟨rfl, eT2, eO2, eR2⟩ := p2
  obtain rfl := eT2.symm
  obtain rfl := eO2.symm
  obtain rfl := eR2.symm
  refine g_dup_x1 B dJ11_addLast_38 rfl rfl ?_
  refine x_put (q := (RJ11, TJ11, 3)) B P1 g1 (by decide) rfl F_J11_20_41 rfl rfl (tyJ11_ok 2 (by decide)) rfl rfl dJ11_addLast_39 (fun O3 V3 hs3 hk3 P3 => ?_)
  refine g_icmp_neN (tgt := 50) B (by omega) (Nat.lt_trans (md_lt _) (by decide)) dJ11_addLast_42 (by decide) (fun _ => ?_) (fun q => absurd q (by unfold md; omega))
  refine g_vret B E rfl dJ11_addLast_50 ?_
  exact ⟨rfl, _, _, _, _, _, P3, rfl, rfl, rfl, ⟨g1, by simp; omega, xe, hd, g3, rdK hs3 (by decide) g4, g5, g6, rdK hs3 (by decide) g7, (rdS hs3).trans (congrArg (fun z => Value.int (nI z)) (by unfold md; simp; omega)), dq_add (V := V) hl g9 hs1⟩, (xFr.uA (r := 5001) (o := h) ⟨rfl, Or.inr rfl⟩ hs1 hk1).tr (xFr.uV (r := 41) (o := h) ⟨rfl, Or.inl rfl⟩ hs3 hk3)⟩
theorem c_J11_pollFirst {G : xG} {T : xT} {O R : xO} {Y : xY} {V : xVV} {I : xII} {J : xJJ} {A : xVV} {w0 : xW} {h x : Nat} {bs : List Nat} {b : Nat} (P : PX Y V I J A w0 T O R) (d : xDq Y V A h x (b :: bs)) : xCtr G yJ11_pollFirst cJ11_pollFirst 4 (some (Jvm.ClassFile.FieldType.object "java/lang/Object")) 1 21 0 0 [.ref x] (T, O, R) (xA (xP w0 (fun v Y2 V2 I2 J2 A2 => v = .ref b ∧ Y = Y2 ∧ I = I2 ∧ J = J2 ∧ xDq Y V2 A2 h x bs ∧ xFr (sDq h) Y V I J A Y2 V2 I2 J2 A2))) := by
  have hd0 := d
  obtain ⟨g1, hlen, xe, hd, g3, g4, g5, g6, g7, g8, g9⟩ := d
  refine xCtr.of (by decide +kernel) (Nat.le_of_ble_eq_true rfl) ?_
  intro Z B E hz hnm
  change xV Z (T, O, R) 0 [(0, .ref x)] [] 0 0
  refine g_aload_n B 0 dJ11_pollFirst_0 rfl ?_
  refine x_get B P g1 (by decide) rfl F_J11_3_41 (by decide) g4 dJ11_pollFirst_1 ?_
  refine g_dup B dJ11_pollFirst_4 rfl ?_
  refine g_astore_n (lv2 := [(1, _), (0, _)]) B dJ11_pollFirst_5 (by decide) rfl ?_
  refine g_aload_n B 1 dJ11_pollFirst_6 rfl ?_
  refine x_get B P g1 (by decide) rfl F_J11_24_41 (by decide) g7 dJ11_pollFirst_7 ?_
  refine g_dup B dJ11_pollFirst_10 rfl ?_
  refine g_istore_n (lv2 := [(2, _), (1, _), (0, _)]) B dJ11_pollFirst_11 (by decide) rfl ?_
  refine g_callS (rest := []) B M_J11_elementAt q1579 q1580 (c_J11_elementAt (vv := .ref b) P rfl g3 g5 g6 (by decide) ((congrArg (A 5001 h) (md_hd g6)).symm.trans ((g9 0 (by decide)).trans rfl)) (Or.inr ⟨_, rfl⟩)) rfl rfl (Nat.le_of_ble_eq_true rfl) (Nat.le_of_ble_eq_true rfl) (Nat.le_of_ble_eq_true rfl) (Nat.le_refl _) (Nat.le_refl _) dJ11_pollFirst_12 (xkA (fun v1 T1 O1 R1 le1 p1 => ?_))
  obtain ⟨rfl, eT1, eO1, eR1⟩ := p1
  obtain rfl := eT1.symm
  obtain rfl := eO1.symm
  obtain rfl := eR1.symm
  refine g_astore_n (lv2 := [(3, _), (2, _), (1, _), (0, _)]) B dJ11_pollFirst_15 (by decide) rfl ?_
  refine g_aload_n B 0 dJ11_pollFirst_16 rfl ?_
  refine g_ifnull B dJ11_pollFirst_17 ?_
  refine g_aload_n B 2 dJ11_pollFirst_20 rfl ?_
  refine g_iload_n B 1 dJ11_pollFirst_21 rfl ?_
  refine g_null B dJ11_pollFirst_22 ?_
  refine x_stAN B P g3 (by decide) rfl rfl g5 (by omega) (by omega) dJ11_pollFirst_23 (fun R2 A2 hs2 hk2 P2 => ?_)
  refine g_aload_n B 3 dJ11_pollFirst_24 rfl ?_
  refine g_iload_n B 1 dJ11_pollFirst_25 rfl ?_
  refine g_aload_n B 2 dJ11_pollFirst_26 rfl ?_
  refine x_alen B P2 g3 (by decide) rfl g5 dJ11_pollFirst_27 ?_
  refine g_callS (rest := [_]) B M_J11_inc q1300 q1187 (c_J11_inc (i := hd) P2 g6) rfl rfl (Nat.le_of_ble_eq_true rfl) (Nat.le_of_ble_eq_true rfl) (Nat.le_of_ble_eq_true rfl) (Nat.le_refl _) (Nat.le_refl _) dJ11_pollFirst_28 (xkA (fun v3 T3 O3 R3 le3 p3 => ?_))
  obtain ⟨rfl, eT3, eO3, eR3⟩ := p3
  obtain rfl := eT3.symm
  obtain rfl := eO3.symm
  obtain rfl := eR3.symm
  refine x_put (q := (RJ11, TJ11, 3)) B P2 g1 (by decide) rfl F_J11_24_41 rfl rfl (tyJ11_ok 1 (by decide)) rfl rfl dJ11_pollFirst_31 (fun O4 V4 hs4 hk4 P4 => ?_)
  refine g_aload_n B 0 dJ11_pollFirst_34 rfl ?_
  refine g_aret B E rfl (Or.inl ⟨_, rfl⟩) (Or.inr ⟨_, rfl⟩) dJ11_pollFirst_35 ?_
  have hlen2 : bs.length + 1 ≤ 8 := by simpa using hlen
  exact ⟨_, rfl, _, _, _, _, _, P4, rfl, rfl, rfl, rfl, ⟨g1, by omega, xe, md (hd + 1), g3, rdK hs4 (by decide) g4, g5, md_lt _, rdS hs4, (rdK hs4 (by decide) g8).trans (congrArg (fun z => Value.int (nI z)) (by unfold md; simp; omega)), dq_poll hlen2 g6 g9 hs2⟩, (xFr.uA (r := 5001) (o := h) ⟨rfl, Or.inr rfl⟩ hs2 hk2).tr (xFr.uV (r := 41) (o := h) ⟨rfl, Or.inl rfl⟩ hs4 hk4)⟩
theorem c_J11_removeFirst {G : xG} {T : xT} {O R : xO} {Y : xY} {V : xVV} {I : xII} {J : xJJ} {A : xVV} {w0 : xW} {h x : Nat} {bs : List Nat} {b : Nat} (P : PX Y V I J A w0 T O R) (d : xDq Y V A h x (b :: bs)) : xCtr G yJ11_removeFirst cJ11_removeFirst 2 (some (Jvm.ClassFile.FieldType.object "java/lang/Object")) 2 44 0 0 [.ref x] (T, O, R) (xA (xP w0 (fun v Y2 V2 I2 J2 A2 => v = .ref b ∧ Y = Y2 ∧ I = I2 ∧ J = J2 ∧ xDq Y V2 A2 h x bs ∧ xFr (sDq h) Y V I J A Y2 V2 I2 J2 A2))) := by
  have hd0 := d
  obtain ⟨g1, hlen, xe, hd, g3, g4, g5, g6, g7, g8, g9⟩ := d
  refine xCtr.of (by decide +kernel) (Nat.le_of_ble_eq_true rfl) ?_
  intro Z B E hz hnm
  change xV Z (T, O, R) 0 [(0, .ref x)] [] 0 0
  refine g_aload_n B 0 dJ11_removeFirst_0 rfl ?_
  obtain ⟨n1, u1, ty1⟩ := P.ty g1 (by decide) rfl
  refine g_callV (rest := []) B M_J11_pollFirst q1591 q1592 q1593 ty1 rfl (c_J11_pollFirst P hd0) rfl rfl (Nat.le_of_ble_eq_true rfl) (Nat.le_of_ble_eq_true rfl) (Nat.le_of_ble_eq_true rfl) (Nat.le_refl _) (Nat.le_refl _) dJ11_removeFirst_1 (xkA (fun v1 T1 O1 R1 le1 p1 => ?_))
  obtain ⟨Y1, V1, I1, J1, A1, P1, rfl, rfl, rfl, rfl, d1, f1⟩ := p1
  refine g_astore_n (lv2 := [(1, _), (0, _)]) B dJ11_removeFirst_4 (by decide) rfl ?_
  refine g_aload_n B 0 dJ11_removeFirst_5 rfl ?_
  refine g_ifnonnull (tgt := 17) B dJ11_removeFirst_6 (by decide) ?_
  refine g_aload_n B 0 dJ11_removeFirst_17 rfl ?_
  refine g_aret B E rfl (Or.inl ⟨_, rfl⟩) (Or.inr ⟨_, rfl⟩) dJ11_removeFirst_18 ?_
  exact ⟨_, rfl, _, _, _, _, _, P1, rfl, rfl, rfl, rfl, d1, f1⟩
theorem c_J0_init {G : xG} {T : xT} {O R : xO} {Y : xY} {V : xVV} {I : xII} {J : xJJ} {A : xVV} {w0 : xW} {x : Nat} (P : PX Y V I J A w0 T O R)  : xCtr G yJ0_init cJ0_init 1 none 1 20 0 0 [.ref x] (T, O, R) (xN (fun T2 O2 R2 => T2 = T ∧ O2 = O ∧ R2 = R)) := by
  refine xCtr.of (by decide +kernel) (Nat.le_of_ble_eq_true rfl) ?_
  intro Z B E hz hnm
  change xV Z (T, O, R) 0 [(0, .ref x)] [] 0 0
  refine g_aload_n B 0 dJ0_init_0 rfl ?_
  refine g_objInit B q177 q161 q162 (by decide) (by decide) dJ0_init_1 ?_
  refine g_vret B E rfl dJ0_init_4 ?_
  exact ⟨rfl, rfl, rfl, rfl⟩
theorem c_J11_init {G : xG} {T : xT} {O R : xO} {Y : xY} {V : xVV} {I : xII} {J : xJJ} {A : xVV} {w0 : xW} {h x : Nat} (P : PX Y V I J A w0 T O R) (hat : yAt Y 41 h x) (h1 : V 41 h 1 = .int (nI 0)) (h2 : V 41 h 2 = .int (nI 0)) (hf : yNo Y 5001 h) : xCtr G yJ11_init cJ11_init 1 none 2 40 1 17 [.ref x] (T, O, R) (xN (xPN w0 (fun Y2 V2 I2 J2 A2 => I = I2 ∧ J = J2 ∧ xDq Y2 V2 A2 h x [] ∧ xFr (sDq h) Y V I J A Y2 V2 I2 J2 A2))) := by
  refine xCtr.of (by decide +kernel) (Nat.le_of_ble_eq_true rfl) ?_
  intro Z B E hz hnm
  change xV Z (T, O, R) 0 [(0, .ref x)] [] 1 17
  refine g_aload_n B 0 dJ11_init_0 rfl ?_
  refine g_callI (rest := []) B M_J0_init rfl q585 q175 (c_J0_init P) rfl rfl (Nat.le_of_ble_eq_true rfl) (Nat.le_of_ble_eq_true rfl) (Nat.le_of_ble_eq_true rfl) (Nat.le_refl _) (Nat.le_refl _) dJ11_init_1 (xkN (fun T1 O1 R1 le1 p1 => ?_))
  obtain ⟨eT1, eO1, eR1⟩ := p1
  obtain rfl := eT1.symm
  obtain rfl := eO1.symm
  obtain rfl := eR1.symm
  refine g_aload_n B 0 dJ11_init_4 rfl ?_
  refine g_bipush (v := nI 17) B dJ11_init_5 (by decide) ?_
  refine x_newq (N := 17) (kc := 0) (ks := 0) B P 5001 (fun _ => h) (by unfold okA; decide) (by decide) rfl q586 q465 rfl (by decide) (fun _ _ => hf) (fun hi => by unfold idR at hi; omega) dJ11_init_7 (fun q2 Y2 A2 T2 R2 hq2 le2 gr2 hf2 at2 hN2 hs2 hk2 P2 => ?_)
  refine x_put (q := (RJ11, TJ11, 3)) B P2 (le2.at hat) (by decide) rfl F_J11_3_41 rfl rfl (tyJ11_ok 0 (by decide)) rfl rfl dJ11_init_10 (fun O3 V3 hs3 hk3 P3 => ?_)
  refine g_vret B E rfl dJ11_init_13 ?_
  exact ⟨rfl, _, _, _, _, _, P3, rfl, rfl, ⟨le2.at hat, by decide, q2, 0, at2, rdS hs3, hN2, by decide, rdK hs3 (by decide) h1, rdK hs3 (by decide) h2, fun j hj => (rdN hs2 rfl).trans (qv_out (Nat.zero_le _)).symm⟩, (xFr.nA (r := 5001) (o := h) ⟨rfl, Or.inr rfl⟩ le2 gr2 hs2 hk2).tr (xFr.uV (r := 41) (o := h) ⟨rfl, Or.inl rfl⟩ hs3 hk3)⟩
