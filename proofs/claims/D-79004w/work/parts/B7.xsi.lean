set_option maxRecDepth 100000
theorem nn_all : ∀ k, k < 100 → (((k ≤ 9 → ¬ (-(nI k) ≤ (-10 : Int32)) ∧ ¬ (-(nI k) < (-9 : Int32))) ∧ (9 < k → -(nI k) ≤ (-10 : Int32) ∧ -(nI k) < (-9 : Int32)) ∧ ¬ (-(nI k) ≤ (-100 : Int32))) ∧ -(-(nI k)) = nI k ∧ (0 < k → -(nI k) < (0 : Int32)) ∧ (-(nI k)).toInt = -(k : Int)) := by decide
theorem nn9 {k : Nat} (h : k ≤ 9) : ¬ (-(nI k) ≤ (-10 : Int32)) := ((nn_all k (by omega)).1.1 h).1
theorem nn9b {k : Nat} (h : k ≤ 9) : ¬ (-(nI k) < (-9 : Int32)) := ((nn_all k (by omega)).1.1 h).2
theorem nn10 {k : Nat} (h : 9 < k) (h2 : k < 100) : -(nI k) ≤ (-10 : Int32) := ((nn_all k h2).1.2.1 h).1
theorem nn10b {k : Nat} (h : 9 < k) (h2 : k < 100) : -(nI k) < (-9 : Int32) := ((nn_all k h2).1.2.1 h).2
theorem nn100 {k : Nat} (h2 : k < 100) : ¬ (-(nI k) ≤ (-100 : Int32)) := (nn_all k h2).1.2.2
theorem nn100b {k : Nat} (h2 : k < 100) : (-100 : Int32) < -(nI k) := Int32.not_le.mp (nn100 h2)
theorem nn_nn {k : Nat} (h2 : k < 100) : -(-(nI k)) = nI k := (nn_all k h2).2.1
theorem nn_lt {k : Nat} (h : 0 < k) (h2 : k < 100) : -(nI k) < (0 : Int32) := (nn_all k h2).2.2.1 h
theorem nI_dec {p : Nat} (h : 0 < p) : nI p + Int32.ofInt (-1) = nI (p - 1) := by
  rw [← pk_sub h, show Int32.ofInt (-1) = -(nI 1) from rfl, Int32.sub_eq_add_neg]
theorem wDig_9 {k : Nat} (h : k ≤ 9) : wDig k = [48 + k % 10] := by unfold wDig; rw [if_neg (by omega)]; rfl
theorem wDig_10 {k : Nat} (h : 9 < k) : wDig k = [48 + k / 10, 48 + k % 10] := by unfold wDig; rw [if_pos h]; rfl
theorem wDig_pos (k : Nat) : 1 ≤ (wDig k).length := by
  unfold wDig
  rw [List.length_append, List.length_singleton]
  omega
theorem wNum_p {k : Nat} (h : k < 100) : wNum (nI k) = wDig k := by
  have e : (nI k).toInt = (k : Int) := nI_toInt (by omega)
  unfold wNum
  rw [e, Int.natAbs_natCast, if_neg (fun q => by have q := Int32.lt_iff_toInt_lt.mp q; rw [e, show (0 : Int32).toInt = 0 from rfl] at q; omega)]
  rfl
theorem wNum_m {k : Nat} (h0 : 0 < k) (h : k < 100) : wNum (-(nI k)) = 45 :: wDig k := by
  have e : (-(nI k)).toInt = -(k : Int) := (nn_all k h).2.2.2
  unfold wNum
  rw [e, Int.natAbs_neg, Int.natAbs_natCast, if_pos (nn_lt h0 h)]
  rfl
/-- the bytes ahead of place p -/
def gcI (f : Nat → Int32) (p : Nat) (L : List Nat) : Nat → Int32 := fun j => if p - L.length ≤ j ∧ j < p then nI (L.getD (j - (p - L.length)) 0) else f j
theorem gcI_1 (f : Nat → Int32) {p a : Nat} (hp : 1 ≤ p) : va_up f (p - 1) (nI a) = gcI f p [a] := by
  funext j
  unfold gcI
  by_cases e : j = p - 1
  · rw [e, va_ups, if_pos (by simp only [List.length_cons, List.length_nil]; omega), show p - 1 - (p - [a].length) = 0 by simp only [List.length_cons, List.length_nil]; omega]; rfl
  · rw [va_upe e, if_neg (by simp only [List.length_cons, List.length_nil]; omega)]
theorem gcI_c (f : Nat → Int32) {p a : Nat} {L : List Nat} (hp : L.length < p) : va_up (gcI f p L) (p - L.length - 1) (nI a) = gcI f p (a :: L) := by
  funext j
  unfold gcI
  rw [List.length_cons]
  by_cases e : j = p - L.length - 1
  · rw [e, va_ups, if_pos (by omega), show p - L.length - 1 - (p - (L.length + 1)) = 0 by omega]; rfl
  · rw [va_upe e]
    by_cases h : p - L.length ≤ j ∧ j < p
    · rw [if_pos h, if_pos (by omega), show j - (p - (L.length + 1)) = (j - (p - L.length)) + 1 by omega]; rfl
    · rw [if_neg h, if_neg (by omega)]
theorem gcI_fit {f : Nat → Int32} {p n : Nat} {L : List Nat} (hL : ∀ c, c ∈ L → c < 128) (hf : ∀ j, j < n → fits .byte (.int (f j)) = true) {j : Nat} (hj : j < n) : fits .byte (.int (gcI f p L j)) = true := by
  unfold gcI
  split
  · rename_i h
    refine nI_fits ?_
    rw [List.getD_eq_getElem?_getD]
    cases e : L[j - (p - L.length)]? with
    | none => decide
    | some c => exact hL c (List.mem_of_getElem? e)
  · exact hf j hj
theorem gcI_val {f : Nat → Int32} {l L : List Nat} (hf : ∀ j, j < l.length → f j = nI (l.getD j 0)) {j : Nat} (hj : j < (l ++ L).length) : gcI f (l.length + L.length) L j = nI ((l ++ L).getD j 0) := by
  rw [List.length_append] at hj
  unfold gcI
  by_cases h : j < l.length
  · rw [if_neg (by omega), hf j h]
    simp [List.getD_eq_getElem?_getD, List.getElem?_append_left h]
  · rw [if_pos (by omega), show j - (l.length + L.length - L.length) = j - l.length by omega]
    simp [List.getD_eq_getElem?_getD, List.getElem?_append_right (Nat.le_of_not_lt h)]
theorem wDig_lt {k c : Nat} (hk : k < 100) (h : c ∈ wDig k) : c < 128 := by
  unfold wDig at h
  split at h
  · simp only [List.cons_append, List.nil_append, List.mem_cons, List.not_mem_nil, or_false] at h; omega
  · simp only [List.nil_append, List.mem_cons, List.not_mem_nil, or_false] at h; omega
theorem c_J29_stringSizeP {G : xG} {T : xT} {O R : xO} {Y : xY} {V : xVV} {I : xII} {J : xJJ} {A : xVV} {w0 : xW} {k : Nat} (P : PX Y V I J A w0 T O R) (hk : k < 100) : xCtr G yJ29_stringSize cJ29_stringSize 4 (some Jvm.ClassFile.FieldType.int) 0 0 0 0 [.int (nI k)] (T, O, R) (xA (fun v T2 O2 R2 => v = .int (nI (wDig k).length) ∧ T2 = T ∧ O2 = O ∧ R2 = R)) := by
  refine xCtr.of (by decide +kernel) (Nat.le_of_ble_eq_true rfl) ?_
  intro Z B E hz hnm
  change xV Z (T, O, R) 0 [(0, .int (nI k))] [] 0 0
  refine g_iconst (v := nI 1) B dJ29_stringSize_0 (by decide) ?_
  refine g_istore_n (lv2 := [(1, _), (0, _)]) B dJ29_stringSize_1 (by decide) rfl ?_
  refine g_iload_n B 1 dJ29_stringSize_2 rfl ?_
  refine g_if_ltN (tgt := 11) B (by omega) dJ29_stringSize_3 (by decide) ?_
  refine g_iconst (v := nI 0) B dJ29_stringSize_6 (by decide) ?_
  refine g_istore_n (lv2 := [(1, _), (0, _)]) B dJ29_stringSize_7 (by decide) rfl ?_
  refine g_iload_n B 1 dJ29_stringSize_8 rfl ?_
  refine g_ineg B dJ29_stringSize_9 ?_
  refine g_top (show Value.int (-(nI k)) = Value.int (-(nI k)) from rfl) ?_
  refine g_istore_n (lv2 := [(0, _), (1, _)]) B dJ29_stringSize_10 (by decide) rfl ?_
  refine g_bipush (v := (-10)) B dJ29_stringSize_11 (by decide) ?_
  refine g_istore_n (lv2 := [(2, _), (0, _), (1, _)]) B dJ29_stringSize_13 (by decide) rfl ?_
  refine g_iconst (v := nI 1) B dJ29_stringSize_14 (by decide) ?_
  refine g_istore_n (lv2 := [(3, _), (2, _), (0, _), (1, _)]) B dJ29_stringSize_15 (by decide) rfl ?_
  by_cases hb : 9 < k
  · refine g_iload_n B 0 dJ29_stringSize_16 rfl ?_
    refine g_bipush (v := nI 10) B dJ29_stringSize_17 (by decide) ?_
    refine g_icmp_geN (tgt := 42) B (by omega) (by omega) dJ29_stringSize_19 (by decide) (fun e => absurd e (by decide)) (fun _ => ?_)
    refine g_iload_n B 2 dJ29_stringSize_22 rfl ?_
    refine g_iload_n B 1 dJ29_stringSize_23 rfl ?_
    refine g_icmp_le (tgt := 31) B dJ29_stringSize_24 (by decide) (fun _ => ?_) (fun e => absurd (nn10 hb hk) e)
    refine g_bipush (v := nI 10) B dJ29_stringSize_31 (by decide) ?_
    refine g_iload_n B 1 dJ29_stringSize_33 rfl ?_
    refine g_imul B dJ29_stringSize_34 ?_
    refine g_top (show Value.int ((nI 10) * (-10)) = Value.int (-100) from rfl) ?_
    refine g_istore_n (lv2 := [(2, _), (3, _), (0, _), (1, _)]) B dJ29_stringSize_35 (by decide) rfl ?_
    refine g_iinc (v := nI (1 + 1)) (lv2 := [(3, _), (2, _), (0, _), (1, _)]) B 1 dJ29_stringSize_36 rfl (nI_1 _) (by decide) rfl ?_
    refine g_goto (tgt := 16) B dJ29_stringSize_39 (by decide) ?_
    refine g_iload_n B 0 dJ29_stringSize_16 rfl ?_
    refine g_bipush (v := nI 10) B dJ29_stringSize_17 (by decide) ?_
    refine g_icmp_geN (tgt := 42) B (by omega) (by omega) dJ29_stringSize_19 (by decide) (fun e => absurd e (by decide)) (fun _ => ?_)
    refine g_iload_n B 2 dJ29_stringSize_22 rfl ?_
    refine g_iload_n B 1 dJ29_stringSize_23 rfl ?_
    refine g_icmp_le (tgt := 31) B dJ29_stringSize_24 (by decide) (fun e => absurd e (nn100 hk)) (fun _ => ?_)
    refine g_iload_n B 0 dJ29_stringSize_27 rfl ?_
    refine g_iload_n B 3 dJ29_stringSize_28 rfl ?_
    refine g_iaddN B dJ29_stringSize_29 ?_
    refine g_iret B E rfl rfl dJ29_stringSize_30 ?_
    exact ⟨_, rfl, by rw [wDig_10 hb]; rfl, rfl, rfl, rfl⟩
  · refine g_iload_n B 0 dJ29_stringSize_16 rfl ?_
    refine g_bipush (v := nI 10) B dJ29_stringSize_17 (by decide) ?_
    refine g_icmp_geN (tgt := 42) B (by omega) (by omega) dJ29_stringSize_19 (by decide) (fun e => absurd e (by decide)) (fun _ => ?_)
    refine g_iload_n B 2 dJ29_stringSize_22 rfl ?_
    refine g_iload_n B 1 dJ29_stringSize_23 rfl ?_
    refine g_icmp_le (tgt := 31) B dJ29_stringSize_24 (by decide) (fun e => absurd e (nn9 (by omega))) (fun _ => ?_)
    refine g_iload_n B 0 dJ29_stringSize_27 rfl ?_
    refine g_iload_n B 3 dJ29_stringSize_28 rfl ?_
    refine g_iaddN B dJ29_stringSize_29 ?_
    refine g_iret B E rfl rfl dJ29_stringSize_30 ?_
    exact ⟨_, rfl, by rw [wDig_9 (by omega)]; rfl, rfl, rfl, rfl⟩
def sRv (rv : Nat) : Nat → Nat → Prop := fun r _ => r = rv
theorem c_J29_getCharsP {G : xG} {T : xT} {O R : xO} {Y : xY} {V : xVV} {I : xII} {J : xJJ} {A : xVV} {w0 : xW} {r rv id xv k p : Nat} (P : PX Y V I J A w0 T O R) (hR : sbR r rv) (g2 : yAt Y rv id xv) (hk : k < 100) (hp : (wDig k).length ≤ p ∧ p ≤ yN Y rv id) (hcl : yN Y rv id ≤ 300) : xCtr G yJ29_getChars cJ29_getChars 7 (some Jvm.ClassFile.FieldType.int) 0 0 0 0 [.int (nI k), .int (nI p), .ref xv] (T, O, R) (xA (xP w0 (fun v Y2 V2 I2 J2 A2 => (∃ z, v = .int z) ∧ V2 = V ∧ (J2 = J ∧ A2 = A) ∧ Y2 = Y ∧ I2 rv id = gcI (I rv id) p (wDig k) ∧ xFr (sRv rv) Y V I J A Y2 V2 I2 J2 A2))) := by
  have hR2 := hR.2.2.1
  refine xCtr.of (by decide +kernel) (Nat.le_of_ble_eq_true rfl) ?_
  intro Z B E hz hnm
  have hSt := by have h := B.st.2.2.2; rw [B.g] at h; exact h
  change xV Z (T, O, R) 0 [(0, .int (nI k)), (1, .int (nI p)), (2, .ref xv)] [] 0 0
  obtain ⟨cp, hcp⟩ : ∃ cp, yN Y rv id = cp := ⟨_, rfl⟩
  rw [hcp] at hp hcl
  have hp0 : (wDig k).length + 0 ≤ p := hp.1
  have hwp := wDig_pos k
  have hp1 := hp.2
  refine g_iload_n B 1 dJ29_getChars_0 rfl ?_
  refine g_istore (lv2 := [(5, _), (0, _), (1, _), (2, _)]) B dJ29_getChars_1 (by decide) rfl ?_
  refine g_iload_n B 1 dJ29_getChars_3 rfl ?_
  refine g_if_geN (tgt := 11) B (by omega) dJ29_getChars_4 (by decide) ?_
  refine g_iconst (v := nI 0) B dJ29_getChars_11 (by decide) ?_
  refine g_istore (lv2 := [(6, _), (5, _), (0, _), (1, _), (2, _)]) B dJ29_getChars_12 (by decide) rfl ?_
  refine g_iload B 0 dJ29_getChars_14 rfl ?_
  refine g_if_neN (tgt := 22) B (by omega) dJ29_getChars_16 (by decide) (fun e => absurd e (by decide)) (fun _ => ?_)
  refine g_iload_n B 2 dJ29_getChars_19 rfl ?_
  refine g_ineg B dJ29_getChars_20 ?_
  refine g_top (show Value.int (-(nI k)) = Value.int (-(nI k)) from rfl) ?_
  refine g_istore_n (lv2 := [(0, _), (6, _), (5, _), (1, _), (2, _)]) B dJ29_getChars_21 (by decide) rfl ?_
  refine g_iload_n B 0 dJ29_getChars_22 rfl ?_
  refine g_bipush (v := (-100)) B dJ29_getChars_23 (by decide) ?_
  refine g_icmp_gt (tgt := 72) B dJ29_getChars_25 (by decide) (fun _ => ?_) (fun e => absurd (nn100b hk) e)
  refine g_aload_n B 4 dJ29_getChars_72 rfl ?_
  refine g_iinc (v := nI (p - 1)) (lv2 := [(5, _), (0, _), (6, _), (1, _), (2, _)]) B 2 dJ29_getChars_73 rfl (nI_dec (by omega)) (by decide) rfl ?_
  refine g_iload B 0 dJ29_getChars_76 rfl ?_
  refine g_gets B hSt.2.1.1 q2373 dJ29_getChars_78 ?_
  refine g_iload_n B 1 dJ29_getChars_81 rfl ?_
  refine g_ineg B dJ29_getChars_82 ?_
  refine g_top (show Value.int (-(-(nI k))) = Value.int (nI k) from congrArg Value.int (nn_nn hk)) ?_
  refine g_sbald (v := .int (nI (48 + k % 10))) B hSt.2.1.2 (vp_in_nI (by omega) (by decide)) (by rw [nI_clamp (by omega)]) dJ29_getChars_83 ?_
  refine x_stB B P g2 hR.2.2.1 rfl hcp (by omega) (by omega) (nI_byte (by omega)) dJ29_getChars_84 (fun R3 I3 hs3 hk3 P3 => ?_)
  by_cases hb : 9 < k
  · have hwl : (wDig k).length = 2 := by rw [wDig_10 hb]; rfl
    refine g_iload_n B 1 dJ29_getChars_85 rfl ?_
    refine g_bipush (v := (-9)) B dJ29_getChars_86 (by decide) ?_
    refine g_icmp_ge (tgt := 104) B dJ29_getChars_88 (by decide) (fun e => absurd e (fun q => absurd (nn10b hb hk) (Int32.not_lt.mpr q))) (fun _ => ?_)
    refine g_aload_n B 4 dJ29_getChars_91 rfl ?_
    refine g_iinc (v := nI (p - 1 - 1)) (lv2 := [(5, _), (0, _), (6, _), (1, _), (2, _)]) B 0 dJ29_getChars_92 rfl (nI_dec (by omega)) (by decide) rfl ?_
    refine g_iload B 0 dJ29_getChars_95 rfl ?_
    refine g_gets B hSt.2.2.1.1 q2375 dJ29_getChars_97 ?_
    refine g_iload_n B 1 dJ29_getChars_100 rfl ?_
    refine g_ineg B dJ29_getChars_101 ?_
    refine g_top (show Value.int (-(-(nI k))) = Value.int (nI k) from congrArg Value.int (nn_nn hk)) ?_
    refine g_sbald (v := .int (nI (48 + k / 10))) B hSt.2.2.1.2 (vp_in_nI (by omega) (by decide)) (by rw [nI_clamp (by omega)]) dJ29_getChars_102 ?_
    refine x_stB B P3 g2 hR.2.2.1 rfl hcp (by omega) (by omega) (nI_byte (by omega)) dJ29_getChars_103 (fun R4 I4 hs4 hk4 P4 => ?_)
    refine g_iload B 2 dJ29_getChars_104 rfl ?_
    refine g_if_eqN (tgt := 118) B (by omega) dJ29_getChars_106 (by decide) (fun _ => ?_) (fun e => absurd e (by decide))
    refine g_iload B 0 dJ29_getChars_118 rfl ?_
    refine g_iret B E rfl rfl dJ29_getChars_120 ?_
    refine ⟨_, rfl, _, _, _, _, _, P4, ⟨_, rfl⟩, rfl, ⟨rfl, rfl⟩, rfl, ?_, ((xFr.uI (S := (sRv rv)) (r := rv) (o := id) rfl hs3 hk3).tr (xFr.uI (S := (sRv rv)) (r := rv) (o := id) rfl hs4 hk4))⟩
    rw [hs4, va_ups, hs3, va_ups]
    rw [wDig_10 hb]
    exact ((congrArg (fun g => va_up g (p - 1 - 1) (nI (48 + k / 10))) (gcI_1 (p := p) (a := 48 + k % 10) (I rv id) (by omega))).trans (gcI_c (p := p) (a := 48 + k / 10) (L := [48 + k % 10]) (I rv id) (by simp only [List.length_cons, List.length_nil]; omega)))
  · have hwl : (wDig k).length = 1 := by rw [wDig_9 (by omega)]; rfl
    refine g_iload_n B 1 dJ29_getChars_85 rfl ?_
    refine g_bipush (v := (-9)) B dJ29_getChars_86 (by decide) ?_
    refine g_icmp_ge (tgt := 104) B dJ29_getChars_88 (by decide) (fun _ => ?_) (fun e => absurd (Int32.not_lt.mp (nn9b (by omega))) e)
    refine g_iload B 2 dJ29_getChars_104 rfl ?_
    refine g_if_eqN (tgt := 118) B (by omega) dJ29_getChars_106 (by decide) (fun _ => ?_) (fun e => absurd e (by decide))
    refine g_iload B 0 dJ29_getChars_118 rfl ?_
    refine g_iret B E rfl rfl dJ29_getChars_120 ?_
    refine ⟨_, rfl, _, _, _, _, _, P3, ⟨_, rfl⟩, rfl, ⟨rfl, rfl⟩, rfl, ?_, (xFr.uI (S := (sRv rv)) (r := rv) (o := id) rfl hs3 hk3)⟩
    rw [hs3, va_ups]
    rw [wDig_9 (by omega)]
    exact (gcI_1 (p := p) (a := 48 + k % 10) (I rv id) (by omega))
theorem c_J29_stringSizeM {G : xG} {T : xT} {O R : xO} {Y : xY} {V : xVV} {I : xII} {J : xJJ} {A : xVV} {w0 : xW} {k : Nat} (P : PX Y V I J A w0 T O R) (hk0 : 0 < k) (hk : k < 100) : xCtr G yJ29_stringSize cJ29_stringSize 4 (some Jvm.ClassFile.FieldType.int) 0 0 0 0 [.int (-(nI k))] (T, O, R) (xA (fun v T2 O2 R2 => v = .int (nI (45 :: wDig k).length) ∧ T2 = T ∧ O2 = O ∧ R2 = R)) := by
  refine xCtr.of (by decide +kernel) (Nat.le_of_ble_eq_true rfl) ?_
  intro Z B E hz hnm
  change xV Z (T, O, R) 0 [(0, .int (-(nI k)))] [] 0 0
  refine g_iconst (v := nI 1) B dJ29_stringSize_0 (by decide) ?_
  refine g_istore_n (lv2 := [(1, _), (0, _)]) B dJ29_stringSize_1 (by decide) rfl ?_
  refine g_iload_n B 1 dJ29_stringSize_2 rfl ?_
  refine g_if_lt (tgt := 11) B dJ29_stringSize_3 (by decide) (fun _ => ?_) (fun e => absurd (nn_lt hk0 hk) e)
  refine g_bipush (v := (-10)) B dJ29_stringSize_11 (by decide) ?_
  refine g_istore_n (lv2 := [(2, _), (1, _), (0, _)]) B dJ29_stringSize_13 (by decide) rfl ?_
  refine g_iconst (v := nI 1) B dJ29_stringSize_14 (by decide) ?_
  refine g_istore_n (lv2 := [(3, _), (2, _), (1, _), (0, _)]) B dJ29_stringSize_15 (by decide) rfl ?_
  by_cases hb : 9 < k
  · refine g_iload_n B 0 dJ29_stringSize_16 rfl ?_
    refine g_bipush (v := nI 10) B dJ29_stringSize_17 (by decide) ?_
    refine g_icmp_geN (tgt := 42) B (by omega) (by omega) dJ29_stringSize_19 (by decide) (fun e => absurd e (by decide)) (fun _ => ?_)
    refine g_iload_n B 3 dJ29_stringSize_22 rfl ?_
    refine g_iload_n B 1 dJ29_stringSize_23 rfl ?_
    refine g_icmp_le (tgt := 31) B dJ29_stringSize_24 (by decide) (fun _ => ?_) (fun e => absurd (nn10 hb hk) e)
    refine g_bipush (v := nI 10) B dJ29_stringSize_31 (by decide) ?_
    refine g_iload_n B 1 dJ29_stringSize_33 rfl ?_
    refine g_imul B dJ29_stringSize_34 ?_
    refine g_top (show Value.int ((nI 10) * (-10)) = Value.int (-100) from rfl) ?_
    refine g_istore_n (lv2 := [(2, _), (3, _), (1, _), (0, _)]) B dJ29_stringSize_35 (by decide) rfl ?_
    refine g_iinc (v := nI (1 + 1)) (lv2 := [(3, _), (2, _), (1, _), (0, _)]) B 1 dJ29_stringSize_36 rfl (nI_1 _) (by decide) rfl ?_
    refine g_goto (tgt := 16) B dJ29_stringSize_39 (by decide) ?_
    refine g_iload_n B 0 dJ29_stringSize_16 rfl ?_
    refine g_bipush (v := nI 10) B dJ29_stringSize_17 (by decide) ?_
    refine g_icmp_geN (tgt := 42) B (by omega) (by omega) dJ29_stringSize_19 (by decide) (fun e => absurd e (by decide)) (fun _ => ?_)
    refine g_iload_n B 3 dJ29_stringSize_22 rfl ?_
    refine g_iload_n B 1 dJ29_stringSize_23 rfl ?_
    refine g_icmp_le (tgt := 31) B dJ29_stringSize_24 (by decide) (fun e => absurd e (nn100 hk)) (fun _ => ?_)
    refine g_iload_n B 0 dJ29_stringSize_27 rfl ?_
    refine g_iload_n B 2 dJ29_stringSize_28 rfl ?_
    refine g_iaddN B dJ29_stringSize_29 ?_
    refine g_iret B E rfl rfl dJ29_stringSize_30 ?_
    exact ⟨_, rfl, by rw [wDig_10 hb]; rfl, rfl, rfl, rfl⟩
  · refine g_iload_n B 0 dJ29_stringSize_16 rfl ?_
    refine g_bipush (v := nI 10) B dJ29_stringSize_17 (by decide) ?_
    refine g_icmp_geN (tgt := 42) B (by omega) (by omega) dJ29_stringSize_19 (by decide) (fun e => absurd e (by decide)) (fun _ => ?_)
    refine g_iload_n B 3 dJ29_stringSize_22 rfl ?_
    refine g_iload_n B 1 dJ29_stringSize_23 rfl ?_
    refine g_icmp_le (tgt := 31) B dJ29_stringSize_24 (by decide) (fun e => absurd e (nn9 (by omega))) (fun _ => ?_)
    refine g_iload_n B 0 dJ29_stringSize_27 rfl ?_
    refine g_iload_n B 2 dJ29_stringSize_28 rfl ?_
    refine g_iaddN B dJ29_stringSize_29 ?_
    refine g_iret B E rfl rfl dJ29_stringSize_30 ?_
    exact ⟨_, rfl, by rw [wDig_9 (by omega)]; rfl, rfl, rfl, rfl⟩
theorem c_J29_getCharsM {G : xG} {T : xT} {O R : xO} {Y : xY} {V : xVV} {I : xII} {J : xJJ} {A : xVV} {w0 : xW} {r rv id xv k p : Nat} (P : PX Y V I J A w0 T O R) (hR : sbR r rv) (g2 : yAt Y rv id xv) (hk0 : 0 < k) (hk : k < 100) (hp : (45 :: wDig k).length ≤ p ∧ p ≤ yN Y rv id) (hcl : yN Y rv id ≤ 300) : xCtr G yJ29_getChars cJ29_getChars 7 (some Jvm.ClassFile.FieldType.int) 0 0 0 0 [.int (-(nI k)), .int (nI p), .ref xv] (T, O, R) (xA (xP w0 (fun v Y2 V2 I2 J2 A2 => (∃ z, v = .int z) ∧ V2 = V ∧ (J2 = J ∧ A2 = A) ∧ Y2 = Y ∧ I2 rv id = gcI (I rv id) p (45 :: wDig k) ∧ xFr (sRv rv) Y V I J A Y2 V2 I2 J2 A2))) := by
  have hR2 := hR.2.2.1
  refine xCtr.of (by decide +kernel) (Nat.le_of_ble_eq_true rfl) ?_
  intro Z B E hz hnm
  have hSt := by have h := B.st.2.2.2; rw [B.g] at h; exact h
  change xV Z (T, O, R) 0 [(0, .int (-(nI k))), (1, .int (nI p)), (2, .ref xv)] [] 0 0
  obtain ⟨cp, hcp⟩ : ∃ cp, yN Y rv id = cp := ⟨_, rfl⟩
  rw [hcp] at hp hcl
  have hp0 : (wDig k).length + 1 ≤ p := hp.1
  have hwp := wDig_pos k
  have hp1 := hp.2
  refine g_iload_n B 1 dJ29_getChars_0 rfl ?_
  refine g_istore (lv2 := [(5, _), (0, _), (1, _), (2, _)]) B dJ29_getChars_1 (by decide) rfl ?_
  refine g_iload_n B 1 dJ29_getChars_3 rfl ?_
  refine g_if_ge (tgt := 11) B dJ29_getChars_4 (by decide) (fun e => absurd e (Int32.not_le.mpr (nn_lt hk0 hk))) (fun _ => ?_)
  refine g_iconst (v := nI 1) B dJ29_getChars_7 (by decide) ?_
  refine g_goto (tgt := 12) B dJ29_getChars_8 (by decide) ?_
  refine g_istore (lv2 := [(6, _), (5, _), (0, _), (1, _), (2, _)]) B dJ29_getChars_12 (by decide) rfl ?_
  refine g_iload B 0 dJ29_getChars_14 rfl ?_
  refine g_if_neN (tgt := 22) B (by omega) dJ29_getChars_16 (by decide) (fun _ => ?_) (fun e => absurd e (by decide))
  refine g_iload_n B 2 dJ29_getChars_22 rfl ?_
  refine g_bipush (v := (-100)) B dJ29_getChars_23 (by decide) ?_
  refine g_icmp_gt (tgt := 72) B dJ29_getChars_25 (by decide) (fun _ => ?_) (fun e => absurd (nn100b hk) e)
  refine g_aload_n B 4 dJ29_getChars_72 rfl ?_
  refine g_iinc (v := nI (p - 1)) (lv2 := [(5, _), (6, _), (0, _), (1, _), (2, _)]) B 1 dJ29_getChars_73 rfl (nI_dec (by omega)) (by decide) rfl ?_
  refine g_iload B 0 dJ29_getChars_76 rfl ?_
  refine g_gets B hSt.2.1.1 q2373 dJ29_getChars_78 ?_
  refine g_iload_n B 2 dJ29_getChars_81 rfl ?_
  refine g_ineg B dJ29_getChars_82 ?_
  refine g_top (show Value.int (-(-(nI k))) = Value.int (nI k) from congrArg Value.int (nn_nn hk)) ?_
  refine g_sbald (v := .int (nI (48 + k % 10))) B hSt.2.1.2 (vp_in_nI (by omega) (by decide)) (by rw [nI_clamp (by omega)]) dJ29_getChars_83 ?_
  refine x_stB B P g2 hR.2.2.1 rfl hcp (by omega) (by omega) (nI_byte (by omega)) dJ29_getChars_84 (fun R2 I2 hs2 hk2 P2 => ?_)
  by_cases hb : 9 < k
  · have hwl : (wDig k).length = 2 := by rw [wDig_10 hb]; rfl
    refine g_iload_n B 2 dJ29_getChars_85 rfl ?_
    refine g_bipush (v := (-9)) B dJ29_getChars_86 (by decide) ?_
    refine g_icmp_ge (tgt := 104) B dJ29_getChars_88 (by decide) (fun e => absurd e (fun q => absurd (nn10b hb hk) (Int32.not_lt.mpr q))) (fun _ => ?_)
    refine g_aload_n B 4 dJ29_getChars_91 rfl ?_
    refine g_iinc (v := nI (p - 1 - 1)) (lv2 := [(5, _), (6, _), (0, _), (1, _), (2, _)]) B 0 dJ29_getChars_92 rfl (nI_dec (by omega)) (by decide) rfl ?_
    refine g_iload B 0 dJ29_getChars_95 rfl ?_
    refine g_gets B hSt.2.2.1.1 q2375 dJ29_getChars_97 ?_
    refine g_iload_n B 2 dJ29_getChars_100 rfl ?_
    refine g_ineg B dJ29_getChars_101 ?_
    refine g_top (show Value.int (-(-(nI k))) = Value.int (nI k) from congrArg Value.int (nn_nn hk)) ?_
    refine g_sbald (v := .int (nI (48 + k / 10))) B hSt.2.2.1.2 (vp_in_nI (by omega) (by decide)) (by rw [nI_clamp (by omega)]) dJ29_getChars_102 ?_
    refine x_stB B P2 g2 hR.2.2.1 rfl hcp (by omega) (by omega) (nI_byte (by omega)) dJ29_getChars_103 (fun R3 I3 hs3 hk3 P3 => ?_)
    refine g_iload B 1 dJ29_getChars_104 rfl ?_
    refine g_if_eqN (tgt := 118) B (by omega) dJ29_getChars_106 (by decide) (fun e => absurd e (by decide)) (fun _ => ?_)
    refine g_aload_n B 4 dJ29_getChars_109 rfl ?_
    refine g_iinc (v := nI (p - 1 - 1 - 1)) (lv2 := [(5, _), (6, _), (0, _), (1, _), (2, _)]) B 0 dJ29_getChars_110 rfl (nI_dec (by omega)) (by decide) rfl ?_
    refine g_iload B 0 dJ29_getChars_113 rfl ?_
    refine g_bipush (v := nI 45) B dJ29_getChars_115 (by decide) ?_
    refine x_stB B P3 g2 hR.2.2.1 rfl hcp (by omega) (by omega) (nI_byte (by decide)) dJ29_getChars_117 (fun R5 I5 hs5 hk5 P5 => ?_)
    refine g_iload B 0 dJ29_getChars_118 rfl ?_
    refine g_iret B E rfl rfl dJ29_getChars_120 ?_
    refine ⟨_, rfl, _, _, _, _, _, P5, ⟨_, rfl⟩, rfl, ⟨rfl, rfl⟩, rfl, ?_, (((xFr.uI (S := (sRv rv)) (r := rv) (o := id) rfl hs2 hk2).tr (xFr.uI (S := (sRv rv)) (r := rv) (o := id) rfl hs3 hk3)).tr (xFr.uI (S := (sRv rv)) (r := rv) (o := id) rfl hs5 hk5))⟩
    rw [hs5, va_ups, hs3, va_ups, hs2, va_ups]
    rw [wDig_10 hb]
    exact ((congrArg (fun g => va_up g (p - 1 - 1 - 1) (nI (45))) ((congrArg (fun g => va_up g (p - 1 - 1) (nI (48 + k / 10))) (gcI_1 (p := p) (a := 48 + k % 10) (I rv id) (by omega))).trans (gcI_c (p := p) (a := 48 + k / 10) (L := [48 + k % 10]) (I rv id) (by simp only [List.length_cons, List.length_nil]; omega)))).trans (gcI_c (p := p) (a := 45) (L := [48 + k / 10, 48 + k % 10]) (I rv id) (by simp only [List.length_cons, List.length_nil]; omega)))
  · have hwl : (wDig k).length = 1 := by rw [wDig_9 (by omega)]; rfl
    refine g_iload_n B 2 dJ29_getChars_85 rfl ?_
    refine g_bipush (v := (-9)) B dJ29_getChars_86 (by decide) ?_
    refine g_icmp_ge (tgt := 104) B dJ29_getChars_88 (by decide) (fun _ => ?_) (fun e => absurd (Int32.not_lt.mp (nn9b (by omega))) e)
    refine g_iload B 1 dJ29_getChars_104 rfl ?_
    refine g_if_eqN (tgt := 118) B (by omega) dJ29_getChars_106 (by decide) (fun e => absurd e (by decide)) (fun _ => ?_)
    refine g_aload_n B 4 dJ29_getChars_109 rfl ?_
    refine g_iinc (v := nI (p - 1 - 1)) (lv2 := [(5, _), (6, _), (0, _), (1, _), (2, _)]) B 0 dJ29_getChars_110 rfl (nI_dec (by omega)) (by decide) rfl ?_
    refine g_iload B 0 dJ29_getChars_113 rfl ?_
    refine g_bipush (v := nI 45) B dJ29_getChars_115 (by decide) ?_
    refine x_stB B P2 g2 hR.2.2.1 rfl hcp (by omega) (by omega) (nI_byte (by decide)) dJ29_getChars_117 (fun R7 I7 hs7 hk7 P7 => ?_)
    refine g_iload B 0 dJ29_getChars_118 rfl ?_
    refine g_iret B E rfl rfl dJ29_getChars_120 ?_
    refine ⟨_, rfl, _, _, _, _, _, P7, ⟨_, rfl⟩, rfl, ⟨rfl, rfl⟩, rfl, ?_, ((xFr.uI (S := (sRv rv)) (r := rv) (o := id) rfl hs2 hk2).tr (xFr.uI (S := (sRv rv)) (r := rv) (o := id) rfl hs7 hk7))⟩
    rw [hs7, va_ups, hs2, va_ups]
    rw [wDig_9 (by omega)]
    exact ((congrArg (fun g => va_up g (p - 1 - 1) (nI (45))) (gcI_1 (p := p) (a := 48 + k % 10) (I rv id) (by omega))).trans (gcI_c (p := p) (a := 45) (L := [48 + k % 10]) (I rv id) (by simp only [List.length_cons, List.length_nil]; omega)))
