set_option maxRecDepth 100000
def lsh (x : Int64) (k : Nat) : Int64 := (x.toUInt64 >>> ((nI k).toInt64.toUInt64 &&& Int64.toUInt64 63)).toInt64
def bc1 (x : Int64) : Int64 := x - (lsh x 1 &&& (6148914691236517205 : Int64))
def bc2 (x : Int64) : Int64 := (x &&& (3689348814741910323 : Int64)) + (lsh x 2 &&& (3689348814741910323 : Int64))
def bc3 (x : Int64) : Int64 := (x + lsh x 4) &&& (1085102592571150095 : Int64)
def bc4 (x : Int64) : Int64 := x + lsh x 8
def bc5 (x : Int64) : Int64 := x + lsh x 16
def bc6 (x : Int64) : Int64 := x + lsh x 32
def pc3 (w : Nat) : Nat := w % 2 + w / 2 % 2 + w / 4
theorem bc_lem {w : Nat} (h : w < 8) : (bc6 (bc5 (bc4 (bc3 (bc2 (bc1 (lN w))))))).toInt32 &&& nI 127 = nI (pc3 w) := by
  rcases (show w = 0 ∨ w = 1 ∨ w = 2 ∨ w = 3 ∨ w = 4 ∨ w = 5 ∨ w = 6 ∨ w = 7 by omega) with rfl | rfl | rfl | rfl | rfl | rfl | rfl | rfl <;> decide
theorem c_J24_bitCount {G : xG} {T : xT} {O R : xO} {Y : xY} {V : xVV} {I : xII} {J : xJJ} {A : xVV} {w0 : xW} {w : Nat} (P : PX Y V I J A w0 T O R) (h8 : w < 8) : xCtr G yJ24_bitCount cJ24_bitCount 2 (some Jvm.ClassFile.FieldType.int) 0 0 0 0 [.long (lN w)] (T, O, R) (xA (fun v T2 O2 R2 => v = .int (nI (pc3 w)) ∧ T2 = T ∧ O2 = O ∧ R2 = R)) := by
  refine xCtr.of (by decide +kernel) (Nat.le_of_ble_eq_true rfl) ?_
  intro Z B E hz hnm
  change xV Z (T, O, R) 0 [(0, .long (lN w))] [] 0 0
  refine g_lload_n B 0 dJ24_bitCount_0 rfl ?_
  refine g_lload_n B 0 dJ24_bitCount_1 rfl ?_
  refine g_iconst (v := nI 1) B dJ24_bitCount_2 (by decide) ?_
  refine g_lushr B dJ24_bitCount_3 rfl ?_
  refine g_ldc2 (v := 6148914691236517205) B q1632 dJ24_bitCount_4 ?_
  refine g_land B dJ24_bitCount_7 ?_
  refine g_lsub B dJ24_bitCount_8 ?_
  refine g_top (show Value.long ((lN w) - ((lsh (lN w) 1) &&& (6148914691236517205 : Int64))) = .long (bc1 (lN w)) from rfl) ?_
  refine g_lstore_n (lv2 := [(0, _)]) B dJ24_bitCount_9 (by decide) rfl ?_
  refine g_lload_n B 0 dJ24_bitCount_10 rfl ?_
  refine g_ldc2 (v := 3689348814741910323) B q1633 dJ24_bitCount_11 ?_
  refine g_land B dJ24_bitCount_14 ?_
  refine g_lload_n B 0 dJ24_bitCount_15 rfl ?_
  refine g_iconst (v := nI 2) B dJ24_bitCount_16 (by decide) ?_
  refine g_lushr B dJ24_bitCount_17 rfl ?_
  refine g_ldc2 (v := 3689348814741910323) B q1633 dJ24_bitCount_18 ?_
  refine g_land B dJ24_bitCount_21 ?_
  refine g_ladd B dJ24_bitCount_22 ?_
  refine g_top (show Value.long (((bc1 (lN w)) &&& (3689348814741910323 : Int64)) + ((lsh (bc1 (lN w)) 2) &&& (3689348814741910323 : Int64))) = .long (bc2 (bc1 (lN w))) from rfl) ?_
  refine g_lstore_n (lv2 := [(0, _)]) B dJ24_bitCount_23 (by decide) rfl ?_
  refine g_lload_n B 0 dJ24_bitCount_24 rfl ?_
  refine g_lload_n B 0 dJ24_bitCount_25 rfl ?_
  refine g_iconst (v := nI 4) B dJ24_bitCount_26 (by decide) ?_
  refine g_lushr B dJ24_bitCount_27 rfl ?_
  refine g_ladd B dJ24_bitCount_28 ?_
  refine g_ldc2 (v := 1085102592571150095) B q1634 dJ24_bitCount_29 ?_
  refine g_land B dJ24_bitCount_32 ?_
  refine g_top (show Value.long (((bc2 (bc1 (lN w))) + (lsh (bc2 (bc1 (lN w))) 4)) &&& (1085102592571150095 : Int64)) = .long (bc3 (bc2 (bc1 (lN w)))) from rfl) ?_
  refine g_lstore_n (lv2 := [(0, _)]) B dJ24_bitCount_33 (by decide) rfl ?_
  refine g_lload_n B 0 dJ24_bitCount_34 rfl ?_
  refine g_lload_n B 0 dJ24_bitCount_35 rfl ?_
  refine g_bipush (v := nI 8) B dJ24_bitCount_36 (by decide) ?_
  refine g_lushr B dJ24_bitCount_38 rfl ?_
  refine g_ladd B dJ24_bitCount_39 ?_
  refine g_top (show Value.long ((bc3 (bc2 (bc1 (lN w)))) + (lsh (bc3 (bc2 (bc1 (lN w)))) 8)) = .long (bc4 (bc3 (bc2 (bc1 (lN w))))) from rfl) ?_
  refine g_lstore_n (lv2 := [(0, _)]) B dJ24_bitCount_40 (by decide) rfl ?_
  refine g_lload_n B 0 dJ24_bitCount_41 rfl ?_
  refine g_lload_n B 0 dJ24_bitCount_42 rfl ?_
  refine g_bipush (v := nI 16) B dJ24_bitCount_43 (by decide) ?_
  refine g_lushr B dJ24_bitCount_45 rfl ?_
  refine g_ladd B dJ24_bitCount_46 ?_
  refine g_top (show Value.long ((bc4 (bc3 (bc2 (bc1 (lN w))))) + (lsh (bc4 (bc3 (bc2 (bc1 (lN w))))) 16)) = .long (bc5 (bc4 (bc3 (bc2 (bc1 (lN w)))))) from rfl) ?_
  refine g_lstore_n (lv2 := [(0, _)]) B dJ24_bitCount_47 (by decide) rfl ?_
  refine g_lload_n B 0 dJ24_bitCount_48 rfl ?_
  refine g_lload_n B 0 dJ24_bitCount_49 rfl ?_
  refine g_bipush (v := nI 32) B dJ24_bitCount_50 (by decide) ?_
  refine g_lushr B dJ24_bitCount_52 rfl ?_
  refine g_ladd B dJ24_bitCount_53 ?_
  refine g_top (show Value.long ((bc5 (bc4 (bc3 (bc2 (bc1 (lN w)))))) + (lsh (bc5 (bc4 (bc3 (bc2 (bc1 (lN w)))))) 32)) = .long (bc6 (bc5 (bc4 (bc3 (bc2 (bc1 (lN w))))))) from rfl) ?_
  refine g_lstore_n (lv2 := [(0, _)]) B dJ24_bitCount_54 (by decide) rfl ?_
  refine g_lload_n B 0 dJ24_bitCount_55 rfl ?_
  refine g_l2i B dJ24_bitCount_56 rfl ?_
  refine g_bipush (v := nI 127) B dJ24_bitCount_57 (by decide) ?_
  refine g_iand B dJ24_bitCount_59 ?_
  refine g_iret B E rfl rfl dJ24_bitCount_60 ?_
  exact ⟨_, rfl, congrArg Value.int (bc_lem h8), rfl, rfl, rfl⟩
theorem c_J5_cardinality {G : xG} {T : xT} {O R : xO} {Y : xY} {V : xVV} {I : xII} {J : xJJ} {A : xVV} {w0 : xW} {r rw o x w : Nat} (P : PX Y V I J A w0 T O R) (hr : r < 1000) (hx : r % 100 = 35) (hw : rw / 1000 = 4) (S : xBs Y V J r rw o x w) (h8 : w < 8) : xCtr G yJ5_cardinality cJ5_cardinality 3 (some Jvm.ClassFile.FieldType.int) 1 21 0 0 [.ref x] (T, O, R) (xA (fun v T2 O2 R2 => v = .int (nI (pc3 w)) ∧ T2 = T ∧ O2 = O ∧ R2 = R)) := by
  have hS := S
  obtain ⟨hat, hlt, ⟨xw, hxw, hv0⟩, hn, hj, hv1, b2, hv2⟩ := S
  refine xCtr.of (by decide +kernel) (Nat.le_of_ble_eq_true rfl) ?_
  intro Z B E hz hnm
  change xV Z (T, O, R) 0 [(0, .ref x)] [] 0 0
  rcases Nat.eq_zero_or_pos w with hw0 | hw0
  · subst hw0
    refine g_iconst (v := nI 0) B dJ5_cardinality_0 (by decide) ?_
    refine g_istore_n (lv2 := [(1, _), (0, _)]) B dJ5_cardinality_1 (by decide) rfl ?_
    refine g_iconst (v := nI 0) B dJ5_cardinality_2 (by decide) ?_
    refine g_istore_n (lv2 := [(2, _), (1, _), (0, _)]) B dJ5_cardinality_3 (by decide) rfl ?_
    refine g_iload_n B 0 dJ5_cardinality_4 rfl ?_
    refine g_aload_n B 2 dJ5_cardinality_5 rfl ?_
    refine x_get B P hat hr (xrTv hx (by decide)) F_J5_7_35 (by decide) (hv1.trans (congrArg (fun z => Value.int (nI z)) bUse_0)) dJ5_cardinality_6 ?_
    refine g_icmp_geN (tgt := 30) B (by omega) (by omega) dJ5_cardinality_9 (by decide) (fun _ => ?_) (fun e => absurd e (by decide))
    refine g_iload_n B 1 dJ5_cardinality_30 rfl ?_
    refine g_iret B E rfl rfl dJ5_cardinality_31 ?_
    exact ⟨_, rfl, congrArg (fun z => Value.int (nI z)) (show 0 = pc3 0 by rfl), rfl, rfl, rfl⟩
  · have hw1 : w ≠ 0 := by omega
    refine g_iconst (v := nI 0) B dJ5_cardinality_0 (by decide) ?_
    refine g_istore_n (lv2 := [(1, _), (0, _)]) B dJ5_cardinality_1 (by decide) rfl ?_
    refine g_iconst (v := nI 0) B dJ5_cardinality_2 (by decide) ?_
    refine g_istore_n (lv2 := [(2, _), (1, _), (0, _)]) B dJ5_cardinality_3 (by decide) rfl ?_
    refine g_iload_n B 0 dJ5_cardinality_4 rfl ?_
    refine g_aload_n B 2 dJ5_cardinality_5 rfl ?_
    refine x_get B P hat hr (xrTv hx (by decide)) F_J5_7_35 (by decide) (hv1.trans (congrArg (fun z => Value.int (nI z)) (bUse_p hw1))) dJ5_cardinality_6 ?_
    refine g_icmp_geN (tgt := 30) B (by omega) (by omega) dJ5_cardinality_9 (by decide) (fun e => absurd e (by decide)) (fun _ => ?_)
    refine g_iload_n B 1 dJ5_cardinality_12 rfl ?_
    refine g_aload_n B 2 dJ5_cardinality_13 rfl ?_
    refine x_get B P hat hr (xrTv hx (by decide)) F_J5_11_35 (by decide) hv0 dJ5_cardinality_14 ?_
    refine g_iload_n B 0 dJ5_cardinality_17 rfl ?_
    refine x_ldJ B P hxw hw rfl hn (by omega) (by omega) hj dJ5_cardinality_18 ?_
    refine g_callS (rest := [_]) B M_J24_bitCount q1629 q1630 (c_J24_bitCount P h8) rfl rfl (Nat.le_of_ble_eq_true rfl) (Nat.le_of_ble_eq_true rfl) (Nat.le_of_ble_eq_true rfl) (Nat.le_refl _) (Nat.le_refl _) dJ5_cardinality_19 (xkA (fun v3 T3 O3 R3 le3 p3 => ?_))
    obtain ⟨rfl, eT3, eO3, eR3⟩ := p3
    obtain rfl := eT3.symm
    obtain rfl := eO3.symm
    obtain rfl := eR3.symm
    refine g_iaddN B dJ5_cardinality_22 ?_
    refine g_istore_n (lv2 := [(1, _), (2, _), (0, _)]) B dJ5_cardinality_23 (by decide) rfl ?_
    refine g_iinc (v := nI 1) (lv2 := [(2, _), (1, _), (0, _)]) B 1 dJ5_cardinality_24 rfl (nI_1 _) (by decide) rfl ?_
    refine g_goto (tgt := 4) B dJ5_cardinality_27 (by decide) ?_
    refine g_iload_n B 0 dJ5_cardinality_4 rfl ?_
    refine g_aload_n B 2 dJ5_cardinality_5 rfl ?_
    refine x_get B P hat hr (xrTv hx (by decide)) F_J5_7_35 (by decide) (hv1.trans (congrArg (fun z => Value.int (nI z)) (bUse_p hw1))) dJ5_cardinality_6 ?_
    refine g_icmp_geN (tgt := 30) B (by omega) (by omega) dJ5_cardinality_9 (by decide) (fun _ => ?_) (fun e => absurd e (by decide))
    refine g_iload_n B 1 dJ5_cardinality_30 rfl ?_
    refine g_iret B E rfl rfl dJ5_cardinality_31 ?_
    exact ⟨_, rfl, congrArg (fun z => Value.int (nI z)) (show (0 + (pc3 w)) = pc3 w by omega), rfl, rfl, rfl⟩
