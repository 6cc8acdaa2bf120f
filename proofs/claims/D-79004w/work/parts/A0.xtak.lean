set_option maxRecDepth 100000
/-- a barrier that is taken and the last one of its instance: what the completion needs -/
theorem aBits_or {s : Nat → Bool} {f : Nat} (hf : f < 3) : aBits s ||| 2 ^ f = aBits (up1 s f true) := by
  rcases (show f = 0 ∨ f = 1 ∨ f = 2 by omega) with rfl | rfl | rfl
  · unfold aBits; rw [up1_s, up1_n (by decide), up1_n (by decide)]
    generalize s 0 = x; generalize s 1 = y; generalize s 2 = z
    revert x y z; decide
  · unfold aBits; rw [up1_s, up1_n (by decide), up1_n (by decide)]
    generalize s 0 = x; generalize s 1 = y; generalize s 2 = z
    revert x y z; decide
  · unfold aBits; rw [up1_s, up1_n (by decide), up1_n (by decide)]
    generalize s 0 = x; generalize s 1 = y; generalize s 2 = z
    revert x y z; decide
theorem pc3_full {s : Nat → Bool} {p : Nat} (h1 : 1 ≤ p) (h3 : p ≤ 3) (h : ∀ f, p ≤ f → s f = false) : pc3 (aBits s) = p ↔ (List.range p).all s = true := by
  have a1 := h 1; have a2 := h 2
  rcases (show p = 1 ∨ p = 2 ∨ p = 3 by omega) with rfl | rfl | rfl
  · rw [show List.range 1 = [0] from rfl]
    unfold aBits
    rw [a1 (by decide), a2 (by decide)]
    simp only [List.all_cons, List.all_nil]
    generalize s 0 = x
    revert x; decide
  · rw [show List.range 2 = [0, 1] from rfl]
    unfold aBits
    rw [a2 (by decide)]
    simp only [List.all_cons, List.all_nil]
    generalize s 0 = x; generalize s 1 = y
    revert x y; decide
  · rw [show List.range 3 = [0, 1, 2] from rfl]
    unfold aBits
    simp only [List.all_cons, List.all_nil]
    generalize s 0 = x; generalize s 1 = y; generalize s 2 = z
    revert x y z; decide
theorem c_X9_takeItem {G : xG} {T : xT} {O R : xO} {Y : xY} {V : xVV} {I : xII} {J : xJJ} {A : xVV} {w0 : xW} {a : aA} {tk x0 g0 fi ps : Nat} {Bd : Nat} {o i x : Nat} (P : PX Y V I J A w0 T O R) (H : RepX a tk x0 g0 fi ps Y V I J A) (W : WF Bd a) (ho : o + 1 < a.n) (hi : i < a.p (o + 1)) (hx : yAt Y 9 (3 * (o + 1) + i) x) (hB : Bd < 2000000) (hbg : a.nm 4 ≠ 0) (hls0 : a.ls (o + 1) i = []) (htke : tk = a.tk - 1) (htk : tk ≤ 5000) (htk2 : tOk a (o + 1) i) : xCtrL G yX9_takeItem cX9_takeItem 7 (some Jvm.ClassFile.FieldType.boolean) 11 237 (4 * fi + ps + 2) (18 * fi + ps + 7) [.ref x] (T, O, R) (xAL (xRLB w0 Y (a.take (o + 1) i) tk x0 g0)) := by
  refine xCtrL.of (by decide +kernel) (Nat.le_of_ble_eq_true rfl) ?_
  intro Z B E hz hnm
  change xV Z (T, O, R) 0 [(0, .ref x)] [] (4 * fi + ps + 2) (18 * fi + ps + 7)
  have hp3 : ∀ o, o < a.n → a.p o ≤ 3 := fun o ho => (W.p1 o ho).2
  have hp1 := W.p1 o (by omega)
  have hp1i := W.p1 (o + 1) ho
  have hcf := W.cf
  refine g_aload_n B 0 dX9_takeItem_0 rfl ?_
  obtain ⟨n1, u1, ty1⟩ := P.ty hx (by decide) rfl
  refine g_callV (kc2 := (4 * fi + ps + 2)) (ks2 := (18 * fi + ps + 7)) (rest := []) B M_X9_input q1562 q1564 qs36 ty1 rfl (c_X9_input P H W ho hi hx) rfl rfl (Nat.le_of_ble_eq_true rfl) (Nat.le_of_ble_eq_true rfl) (Nat.le_of_ble_eq_true rfl) (Nat.le_refl _) (Nat.le_refl _) dX9_takeItem_1 (xkA (fun v1 T1 O1 R1 le1 p1 => ?_))
  obtain ⟨rfl, eT1, eO1, eR1⟩ := p1
  obtain rfl := eT1.symm
  obtain rfl := eO1.symm
  obtain rfl := eR1.symm
  refine g_istore_n (lv2 := [(1, _), (0, _)]) B dX9_takeItem_4 (by decide) rfl ?_
  refine g_iload_n B 0 dX9_takeItem_5 rfl ?_
  refine g_ldc (v := (-1000000001)) B q1382 dX9_takeItem_6 ?_
  refine g_icmp_ne (tgt := 13) B dX9_takeItem_8 (by decide) (fun c2 => ?_) (fun c2 => ?_)
  · obtain ⟨f, hrdy⟩ : ∃ f, a.ready (o + 1) i = some f := by
      cases hq : a.ready (o + 1) i with
      | none => exact absurd (by rw [hq]; rfl) c2
      | some f => exact ⟨f, rfl⟩
    obtain ⟨hfl, hsf, hne⟩ := aA.ready_some (o := o + 1) hrdy (show 0 < a.p o by omega)
    have hfl : f < a.p o := hfl
    have hne : (a.ch o f i).1 ≠ [] := hne
    rw [hrdy]
    change xV Z (T, O, R) 13 [(1, .int (nI f)), (0, .ref x)] [] (4 * fi + ps + 2) (18 * fi + ps + 7)
    obtain ⟨h0, ⟨⟨pa0, pb0, pc0⟩, ⟨pa5, pb5, pc5⟩, ⟨pa6, pb6, pc6⟩, ⟨pa8, pb8, pc8⟩, ⟨pa9, pb9, pc9⟩, ⟨pa10, pb10, pc10⟩, ⟨pa11, pb11, pc11⟩, ⟨pa12, pb12, pc12⟩, ⟨pa13, pb13, pc13⟩, ⟨pa20, pb20, pc20⟩, ⟨pa21, pb21, pc21⟩, ⟨pa22, pb22, pc22⟩⟩, ⟨nq1, nq2, nq3, nq4⟩, nq7, nq14, nq15, nq16, nq17, nq18, nq19⟩ := H.Si
    obtain ⟨xi, ki⟩ := H.In (o + 1) ho i hi
    have ei : xi = x := P.fn ki.1 hx
    rw [ei] at ki
    have ⟨i0, ⟨i1, i2⟩, ⟨⟨y1, i3, i4⟩, i5⟩, ⟨⟨y2, i6, i7⟩, i8⟩, ⟨⟨y3, i9, i10⟩, i11⟩, ⟨fm, i12, i13, i14, i15⟩, ⟨bt, i16⟩, i17, ⟨yb, i18, i19⟩, i20, ⟨yv, i21, i22⟩, yz, i23, i24⟩ := ki
    have i25 : V 9 (3 * (o + 1) + i) 12 = .ref x0 := i23.trans (congrArg Value.ref (P.fn i24 h0))
    refine g_aload_n B 1 dX9_takeItem_13 rfl ?_
    refine g_iload_n B 0 dX9_takeItem_14 rfl ?_
    refine g_iconst (v := nI 1) B dX9_takeItem_15 (by decide) ?_
    refine g_iaddN B dX9_takeItem_16 ?_
    refine g_aload_n B 1 dX9_takeItem_17 rfl ?_
    obtain ⟨n3, u3, ty3⟩ := P.ty hx (by decide) rfl
    refine g_callV (kc2 := (4 * fi + ps + 2)) (ks2 := (18 * fi + ps + 7)) (rest := [_, _]) B M_X9_inputs q1566 q1568 qs37 ty3 rfl (c_X9_inputs1 P H ho hi hx) rfl rfl (Nat.le_of_ble_eq_true rfl) (Nat.le_of_ble_eq_true rfl) (Nat.le_of_ble_eq_true rfl) (Nat.le_refl _) (Nat.le_refl _) dX9_takeItem_18 (xkA (fun v3 T3 O3 R3 le3 p3 => ?_))
    obtain ⟨rfl, eT3, eO3, eR3⟩ := p3
    obtain rfl := eT3.symm
    obtain rfl := eO3.symm
    obtain rfl := eR3.symm
    refine g_iremN B (by omega) (by omega) (by omega) dX9_takeItem_21 ?_
    refine x_put (q := (RX9, TX9, 13)) B P hx (by decide) rfl F_X9_135_9 rfl rfl (tyX9_ok 10 (by decide)) rfl rfl dX9_takeItem_22 (fun O4 V4 hs4 hk4 P4 => ?_)
    have fz : xFr (s1 9 (3 * (o + 1) + i)) Y V I J A Y V4 I J A := xFr.uV ⟨rfl, rfl⟩ hs4 hk4
    have kn : xIs Y V4 I J (o + 1) i x (a.ls (o + 1) i) (a.sp (o + 1) i) ((f + 1) % a.p o) (a.hd (o + 1) i) := ⟨i0, ⟨(rdK hs4 (by decide) i1), (rdK hs4 (by decide) i2)⟩, ⟨⟨y1, i3, (rdK hs4 (by decide) i4)⟩, i5⟩, ⟨⟨y2, i6, (rdK hs4 (by decide) i7)⟩, i8⟩, ⟨⟨y3, i9, (rdK hs4 (by decide) i10)⟩, i11⟩, ⟨fm, (rdK hs4 (by decide) i12), (rdK hs4 (by decide) i13), i14, i15⟩, ⟨_, (rdK hs4 (by decide) i16)⟩, (rdK hs4 (by decide) i17), ⟨yb, (rdK hs4 (by decide) i18), i19.fr fz (fun e => by unfold s1 at e; omega) (fun e => by unfold s1 at e; omega)⟩, (rdS hs4), ⟨yv, (rdK hs4 (by decide) i21), i22⟩, x0, (rdK hs4 (by decide) i25), h0⟩
    have H1 : RepX (a.w_pt (up2 a.pt (o + 1) i ((f + 1) % a.p o))) tk x0 g0 fi ps Y V4 I J A := H.w_pt (q := up2 a.pt (o + 1) i ((f + 1) % a.p o)) fz (fun r o e => by unfold s1 at e; unfold gIn; omega) (H.In.one (o := o + 1) (i := i) fz (fun r c e _ => e.2) hp3 (by omega) (fun x y hn => ⟨rfl, rfl, up2_n hn, rfl⟩) ⟨x, by rw [up2_s]; exact kn⟩)
    have hml := Nat.mod_lt (f + 1) (show 0 < a.p o by omega)
    have W1 : WF Bd (a.w_pt (up2 a.pt (o + 1) i ((f + 1) % a.p o))) := W.w_pt (by omega)
    obtain ⟨b, hb⟩ : ∃ b, b = a.w_pt (up2 a.pt (o + 1) i ((f + 1) % a.p o)) := ⟨_, rfl⟩
    rw [← hb] at H1 W1
    have b_n : b.n = a.n := by rw [hb]; rfl
    have b_p : b.p = a.p := by rw [hb]; rfl
    have b_ch : b.ch = a.ch := by rw [hb]; rfl
    have b_sp : b.sp = a.sp := by rw [hb]; rfl
    have b_ls : b.ls = a.ls := by rw [hb]; rfl
    have b_al : b.al = a.al := by rw [hb]; rfl
    have b_nm : b.nm = a.nm := by rw [hb]; rfl
    have b_cf : b.cf = a.cf := by rw [hb]; rfl
    have b_tk : b.tk = a.tk := by rw [hb]; rfl
    have hob : o + 1 < b.n := by rw [b_n]; exact ho
    have hib : i < b.p (o + 1) := by rw [b_p]; exact hi
    have hfb : f < b.p o := by rw [b_p]; exact hfl
    obtain ⟨h0b, ⟨⟨pa0b, pb0b, pc0b⟩, ⟨pa5b, pb5b, pc5b⟩, ⟨pa6b, pb6b, pc6b⟩, ⟨pa8b, pb8b, pc8b⟩, ⟨pa9b, pb9b, pc9b⟩, ⟨pa10b, pb10b, pc10b⟩, ⟨pa11b, pb11b, pc11b⟩, ⟨pa12b, pb12b, pc12b⟩, ⟨pa13b, pb13b, pc13b⟩, ⟨pa20b, pb20b, pc20b⟩, ⟨pa21b, pb21b, pc21b⟩, ⟨pa22b, pb22b, pc22b⟩⟩, ⟨nq1b, nq2b, nq3b, nq4b⟩, nq7b, nq14b, nq15b, nq16b, nq17b, nq18b, nq19b⟩ := H1.Si
    obtain ⟨xib, kib⟩ := H1.In (o + 1) hob i hib
    have eib : xib = x := P4.fn kib.1 hx
    rw [eib] at kib
    have ⟨i0b, ⟨i1b, i2b⟩, ⟨⟨y1b, i3b, i4b⟩, i5b⟩, ⟨⟨y2b, i6b, i7b⟩, i8b⟩, ⟨⟨y3b, i9b, i10b⟩, i11b⟩, ⟨fmb, i12b, i13b, i14b, i15b⟩, ⟨btb, i16b⟩, i17b, ⟨ybb, i18b, i19b⟩, i20b, ⟨yvb, i21b, i22b⟩, yzb, i23b, i24b⟩ := kib
    have i25b : V4 9 (3 * (o + 1) + i) 12 = .ref x0 := i23b.trans (congrArg Value.ref (P4.fn i24b h0b))
    obtain ⟨h0, ⟨⟨pa0, pb0, pc0⟩, ⟨pa5, pb5, pc5⟩, ⟨pa6, pb6, pc6⟩, ⟨pa8, pb8, pc8⟩, ⟨pa9, pb9, pc9⟩, ⟨pa10, pb10, pc10⟩, ⟨pa11, pb11, pc11⟩, ⟨pa12, pb12, pc12⟩, ⟨pa13, pb13, pc13⟩, ⟨pa20, pb20, pc20⟩, ⟨pa21, pb21, pc21⟩, ⟨pa22, pb22, pc22⟩⟩, ⟨nq1, nq2, nq3, nq4⟩, nq7, nq14, nq15, nq16, nq17, nq18, nq19⟩ := H1.Si
    obtain ⟨bo, bq, sp, lc, xl, HC, dsp, dsb, hls, hfi⟩ := H1.Ch
    have hpl : pa0 = xl := P4.fn pc0 dsp.1
    have hsm : xSm Y V4 x0 xl (b.cf 0) (b.cf 1) (b.cf 2) := ⟨h0, pb0.trans (congrArg Value.ref hpl), nq1, nq2, nq3⟩
    obtain ⟨⟨xh, Cg⟩, nd, lch⟩ := HC o f i hob hfb hib
    have hxh := Cg.1
    have hbl := xQs.len _ _ Cg.2.2.2.2.2.2
    have hsum := usum_le (ch := b.ch) (fun o i j => by have := (W1.ch o i j).1; have := W1.cf; omega)
    obtain ⟨⟨cq, op, ag⟩, hc⟩ : ∃ c : aCh, a.ch o f i = c := ⟨_, rfl⟩
    have hcb : b.ch o f i = (cq, op, ag) := by rw [b_ch]; exact hc
    rw [hc] at hne
    rw [hcb] at Cg hbl
    obtain ⟨q0, qs, hq⟩ : ∃ q0 qs, cq = q0 :: qs := by
      cases cq with
      | nil => exact absurd rfl hne
      | cons q0 qs => exact ⟨q0, qs, rfl⟩
    subst hq
    obtain ⟨bt, bs, hbq⟩ : ∃ bt bs, bq (mLn o f i) = bt :: bs := by
      cases hq : bq (mLn o f i) with
      | nil => rw [hq] at hbl; cases hbl
      | cons bt bs => exact ⟨bt, bs, rfl⟩
    rw [hbq] at Cg nd
    have hqi : xQi Y V4 I bt q0 := Cg.2.2.2.2.2.2.1
    refine g_aload_n B 1 dX9_takeItem_25 rfl ?_
    refine x_get B P4 hx (by decide) rfl F_X9_3_9 (by decide) i25b dX9_takeItem_26 ?_
    refine g_aload_n B 1 dX9_takeItem_29 rfl ?_
    refine x_get B P4 hx (by decide) rfl F_X9_41_9 (by decide) i1b dX9_takeItem_30 ?_
    refine g_iconst (v := nI 1) B dX9_takeItem_33 (by decide) ?_
    refine g_isubN B (by omega) dX9_takeItem_34 ?_
    refine g_top (show Value.int (nI (o + 1 - 1)) = .int (nI o) from rfl) ?_
    refine g_iload_n B 0 dX9_takeItem_35 rfl ?_
    refine g_aload_n B 1 dX9_takeItem_36 rfl ?_
    refine x_get B P4 hx (by decide) rfl F_X9_45_9 (by decide) i2b dX9_takeItem_37 ?_
    obtain ⟨n5, u5, ty5⟩ := P4.ty h0b (by decide) rfl
    refine g_callVN (kc2 := (4 * fi + ps + 2)) (ks2 := (18 * fi + ps + 7)) (rest := []) B M_X0_channel q1354 q1356 qs22 ty5 rfl (c_X0_channel (o := o) (i := f) (j := i) P4 H1 W1.n6 (fun o ho => (W1.p1 o ho).2) h0b hob hfb hib hxh) rfl rfl (Nat.le_of_ble_eq_true rfl) (Nat.le_of_ble_eq_true rfl) (Nat.le_of_ble_eq_true rfl) (Nat.le_refl _) (Nat.le_refl _) dX9_takeItem_40 (xkA (fun v5 T5 O5 R5 le5 p5 => ?_))
    obtain ⟨rfl, eT5, eO5, eR5⟩ := p5
    obtain rfl := eT5.symm
    obtain rfl := eO5.symm
    obtain rfl := eR5.symm
    refine g_astore_n (lv2 := [(2, _), (1, _), (0, _)]) B dX9_takeItem_43 (by decide) rfl ?_
    refine g_aload_n B 0 dX9_takeItem_44 rfl ?_
    obtain ⟨n6, u6, ty6⟩ := P4.ty hxh (by decide) rfl
    refine g_callV (kc2 := (4 * fi + ps + 2)) (ks2 := (18 * fi + ps + 7)) (rest := []) B M_X10_first q1571 q1572 q1573 ty6 rfl (c_X10_first P4 Cg.cr) rfl rfl (Nat.le_of_ble_eq_true rfl) (Nat.le_of_ble_eq_true rfl) (Nat.le_of_ble_eq_true rfl) (Nat.le_refl _) (Nat.le_refl _) dX9_takeItem_45 (xkA (fun v6 T6 O6 R6 le6 p6 => ?_))
    obtain ⟨rfl, eT6, eO6, eR6⟩ := p6
    obtain rfl := eT6.symm
    obtain rfl := eO6.symm
    obtain rfl := eR6.symm
    refine g_astore_n (lv2 := [(3, _), (2, _), (1, _), (0, _)]) B dX9_takeItem_48 (by decide) rfl ?_
    rcases q0 with _ | l
    · have hb11 := hqi.1.1
      refine g_aload_n B 0 dX9_takeItem_49 rfl ?_
      refine x_get B P4 hb11 (by decide) rfl F_X9_172_11 (by decide) hqi.2.2.2.2.1 dX9_takeItem_50 ?_
      refine g_if_eqB (tgt := 88) B dX9_takeItem_53 (by decide) (fun e => absurd e (by decide)) (fun _ => ?_)
      refine g_aload_n B 1 dX9_takeItem_56 rfl ?_
      obtain ⟨n7, u7, ty7⟩ := P4.ty hxh (by decide) rfl
      refine g_callV (kc2 := 4 * fi + ps + 1) (ks2 := 18 * fi + ps + 4) (rest := []) B M_X10_removeFirst q1583 q1584 q1585 ty7 rfl (c_X10_removeFirst P4 hsm Cg.cr dsp dsb nd (by omega)) rfl rfl (Nat.le_of_ble_eq_true rfl) (Nat.le_of_ble_eq_true rfl) (Nat.le_of_ble_eq_true rfl) (by omega) (by omega) dX9_takeItem_57 (xkN (fun T7 O7 R7 le7 p7 => ?_))
      obtain ⟨Y7, V7, I7, J7, A7, P7, rfl, rfl, nn7, C7, ds7, sb7, lo7, f7⟩ := p7
      have C27 : xCh Y7 V7 I A7 (mLn o f i) xh ((qs, op, ag) : aCh) (bo (mLn o f i)) bs := C7.ch (by unfold cRecs qLen; simp)
      have n2 := XCh.one HC hls hfi W1.n6 (fun o ho => (W1.p1 o ho).2) hob hfb hib C27 ds7 sb7 (by rw [hbq]; exact lo7) (by rw [hbq]; exact f7) (fi2 := fi) (by rw [hcb]; show _ + (sp.length + 1) + qs.length = _ + (qs.length + 1); omega)
      have H2 : RepX (b.w_ch (up3 b.ch o f i (qs, op, ag))) tk x0 g0 fi ps Y7 V7 I J A7 := H1.w_ch f7 gChS n2
      obtain ⟨g, hg⟩ : ∃ g, g = b.w_ch (up3 b.ch o f i (qs, op, ag)) := ⟨_, rfl⟩
      rw [← hg] at H2
      have g_n : g.n = a.n := by rw [hg]; exact b_n
      have g_p : g.p = a.p := by rw [hg]; exact b_p
      have g_sp : g.sp = a.sp := by rw [hg]; exact b_sp
      have g_ls : g.ls = a.ls := by rw [hg]; exact b_ls
      have g_al : g.al = a.al := by rw [hg]; exact b_al
      have g_nm : g.nm = a.nm := by rw [hg]; exact b_nm
      have g_cf : g.cf = a.cf := by rw [hg]; exact b_cf
      have g_tk : g.tk = a.tk := by rw [hg]; exact b_tk
      have hog : o + 1 < g.n := by rw [g_n]; exact ho
      have hig : i < g.p (o + 1) := by rw [g_p]; exact hi
      have hxg := f7.1.1.at hx
      have W2 : WF Bd g := by rw [hg]; exact W1.w_chq (by rw [b_nm]; exact hbg) (by rw [hcb]; exact fun e => by cases e) (by have k := (W1.ch o f i); rw [hcb] at k; exact k.tail rfl)
      obtain ⟨h0g, ⟨⟨pa0g, pb0g, pc0g⟩, ⟨pa5g, pb5g, pc5g⟩, ⟨pa6g, pb6g, pc6g⟩, ⟨pa8g, pb8g, pc8g⟩, ⟨pa9g, pb9g, pc9g⟩, ⟨pa10g, pb10g, pc10g⟩, ⟨pa11g, pb11g, pc11g⟩, ⟨pa12g, pb12g, pc12g⟩, ⟨pa13g, pb13g, pc13g⟩, ⟨pa20g, pb20g, pc20g⟩, ⟨pa21g, pb21g, pc21g⟩, ⟨pa22g, pb22g, pc22g⟩⟩, ⟨nq1g, nq2g, nq3g, nq4g⟩, nq7g, nq14g, nq15g, nq16g, nq17g, nq18g, nq19g⟩ := H2.Si
      obtain ⟨xig, kig⟩ := H2.In (o + 1) hog i hig
      have eig : xig = x := P7.fn kig.1 hxg
      rw [eig] at kig
      have ⟨i0g, ⟨i1g, i2g⟩, ⟨⟨y1g, i3g, i4g⟩, i5g⟩, ⟨⟨y2g, i6g, i7g⟩, i8g⟩, ⟨⟨y3g, i9g, i10g⟩, i11g⟩, ⟨fmg, i12g, i13g, i14g, i15g⟩, ⟨btg, i16g⟩, i17g, ⟨ybg, i18g, i19g⟩, i20g, ⟨yvg, i21g, i22g⟩, yzg, i23g, i24g⟩ := kig
      have i25g : V7 9 (3 * (o + 1) + i) 12 = .ref x0 := i23g.trans (congrArg Value.ref (P7.fn i24g h0g))
      rw [g_sp] at i19g
      refine g_aload_n B 3 dX9_takeItem_60 rfl ?_
      refine x_get B P7 hxg (by decide) rfl F_X9_30_9 (by decide) i18g dX9_takeItem_61 ?_
      refine g_iload_n B 2 dX9_takeItem_64 rfl ?_
      obtain ⟨n8, u8, ty8⟩ := P7.ty i19g.1 (by decide) rfl
      refine g_callV (kc2 := (4 * fi + ps + 1)) (ks2 := (18 * fi + ps + 4)) (rest := []) B M_J5_set q1624 q1449 q1450 ty8 rfl (c_J5_set P7 (by decide) (by decide) (by decide) i19g (by omega)) rfl rfl (Nat.le_of_ble_eq_true rfl) (Nat.le_of_ble_eq_true rfl) (Nat.le_of_ble_eq_true rfl) (Nat.le_refl _) (Nat.le_refl _) dX9_takeItem_65 (xkN (fun T8 O8 R8 le8 p8 => ?_))
      obtain ⟨Y8, V8, I8, J8, A8, P8, rfl, rfl, rfl, S8, f8⟩ := p8
      rw [aBits_or (by omega)] at S8
      have esp : (up3 a.sp (o + 1) i f true) (o + 1) i = up1 (a.sp (o + 1) i) f true := by funext j; unfold up3 up1; by_cases e : j = f; rw [if_pos ⟨rfl, rfl, e⟩, if_pos e]; rw [if_neg (fun q => e q.2.2), if_neg e]
      have kn : xIs Y7 V8 I J8 (o + 1) i x (g.ls (o + 1) i) (up1 (a.sp (o + 1) i) f true) (g.pt (o + 1) i) (g.hd (o + 1) i) := ⟨i0g, ⟨((congrFun (f8.2 _ _ _ i0g (fun e => by unfold sBs at e; omega)).1 0).trans i1g), ((congrFun (f8.2 _ _ _ i0g (fun e => by unfold sBs at e; omega)).1 1).trans i2g)⟩, ⟨⟨y1g, i3g, ((congrFun (f8.2 _ _ _ i0g (fun e => by unfold sBs at e; omega)).1 2).trans i4g)⟩, i5g⟩, ⟨⟨y2g, i6g, ((congrFun (f8.2 _ _ _ i0g (fun e => by unfold sBs at e; omega)).1 3).trans i7g)⟩, i8g⟩, ⟨⟨y3g, i9g, ((congrFun (f8.2 _ _ _ i0g (fun e => by unfold sBs at e; omega)).1 4).trans i10g)⟩, i11g⟩, ⟨fmg, ((congrFun (f8.2 _ _ _ i0g (fun e => by unfold sBs at e; omega)).1 5).trans i12g), ((congrFun (f8.2 _ _ _ i0g (fun e => by unfold sBs at e; omega)).1 6).trans i13g), i14g, i15g⟩, ⟨_, ((congrFun (f8.2 _ _ _ i0g (fun e => by unfold sBs at e; omega)).1 7).trans i16g)⟩, ((congrFun (f8.2 _ _ _ i0g (fun e => by unfold sBs at e; omega)).1 8).trans i17g), ⟨ybg, ((congrFun (f8.2 _ _ _ i0g (fun e => by unfold sBs at e; omega)).1 9).trans i18g), S8⟩, ((congrFun (f8.2 _ _ _ i0g (fun e => by unfold sBs at e; omega)).1 10).trans i20g), ⟨yvg, ((congrFun (f8.2 _ _ _ i0g (fun e => by unfold sBs at e; omega)).1 11).trans i21g), i22g⟩, x0, ((congrFun (f8.2 _ _ _ i0g (fun e => by unfold sBs at e; omega)).1 12).trans i25g), h0g⟩
      have H3 : RepX (g.w_sp (up3 a.sp (o + 1) i f true)) tk x0 g0 fi ps Y7 V8 I J8 A7 := H2.w_sp (q := (up3 a.sp (o + 1) i f true)) f8 (fun r o e => by unfold sBs at e; unfold gIn; omega) (H2.In.one (o := o + 1) (i := i) f8 (fun r c e _ => by unfold sBs at e; exact e.1) (by rw [g_n, g_p]; exact hp3) (by omega) (fun x y hn => ⟨rfl, by rw [g_sp]; funext j; exact up3_n (fun q => hn ⟨q.1, q.2.1⟩), rfl, rfl⟩) ⟨x, by rw [esp]; exact kn⟩)
      have W3 : WF Bd (g.w_sp (up3 a.sp (o + 1) i f true)) := W2.w_sp _ (up3_P (P := fun x y z b => ¬ (0 < x ∧ x < g.n ∧ y < g.p x ∧ z < g.p (x - 1)) → b = false) (by rw [← g_sp]; exact W2.spu) (fun c => absurd ⟨Nat.succ_pos o, hog, hig, by show f < g.p o; rw [g_p]; exact hfl⟩ c))
      obtain ⟨d, hd⟩ : ∃ d, d = g.w_sp (up3 a.sp (o + 1) i f true) := ⟨_, rfl⟩
      rw [← hd] at H3 W3
      have d_n : d.n = a.n := by rw [hd]; exact g_n
      have d_p : d.p = a.p := by rw [hd]; exact g_p
      have d_al : d.al = a.al := by rw [hd]; exact g_al
      have d_nm : d.nm = a.nm := by rw [hd]; exact g_nm
      have d_sp : d.sp (o + 1) i = up1 (a.sp (o + 1) i) f true := by rw [hd]; exact esp
      have hod : o + 1 < d.n := by rw [d_n]; exact ho
      have hid : i < d.p (o + 1) := by rw [d_p]; exact hi
      have hti : a.takeItem (o + 1) i f = if d.full (o + 1) i = true then d.align (o + 1) i else d := takeItem_n1 hc (b := g) (by rw [hg, hb]; rfl) (by rw [hd, g_sp])
      have hful : d.full (o + 1) i = (List.range (a.p o)).all (up1 (a.sp (o + 1) i) f true) := by show (List.range (d.p o)).all (fun q => d.sp (o + 1) i q) = _; rw [d_p, d_sp]
      have hb8 : aBits (up1 (a.sp (o + 1) i) f true) < 8 := Nat.lt_succ_of_le (aBits_le _)
      have hpf := pc3_full (s := up1 (a.sp (o + 1) i) f true) hp1.1 hp1.2 (fun j hj => by rw [up1_n (by omega)]; exact W.spu _ _ _ (fun q => by have : j < a.p o := q.2.2.2; omega))
      obtain ⟨h0d, ⟨⟨pa0d, pb0d, pc0d⟩, ⟨pa5d, pb5d, pc5d⟩, ⟨pa6d, pb6d, pc6d⟩, ⟨pa8d, pb8d, pc8d⟩, ⟨pa9d, pb9d, pc9d⟩, ⟨pa10d, pb10d, pc10d⟩, ⟨pa11d, pb11d, pc11d⟩, ⟨pa12d, pb12d, pc12d⟩, ⟨pa13d, pb13d, pc13d⟩, ⟨pa20d, pb20d, pc20d⟩, ⟨pa21d, pb21d, pc21d⟩, ⟨pa22d, pb22d, pc22d⟩⟩, ⟨nq1d, nq2d, nq3d, nq4d⟩, nq7d, nq14d, nq15d, nq16d, nq17d, nq18d, nq19d⟩ := H3.Si
      obtain ⟨xid, kid⟩ := H3.In (o + 1) hod i hid
      have eid : xid = x := P8.fn kid.1 hxg
      rw [eid] at kid
      have ⟨i0d, ⟨i1d, i2d⟩, ⟨⟨y1d, i3d, i4d⟩, i5d⟩, ⟨⟨y2d, i6d, i7d⟩, i8d⟩, ⟨⟨y3d, i9d, i10d⟩, i11d⟩, ⟨fmd, i12d, i13d, i14d, i15d⟩, ⟨btd, i16d⟩, i17d, ⟨ybd, i18d, i19d⟩, i20d, ⟨yvd, i21d, i22d⟩, yzd, i23d, i24d⟩ := kid
      have i25d : V8 9 (3 * (o + 1) + i) 12 = .ref x0 := i23d.trans (congrArg Value.ref (P8.fn i24d h0d))
      rw [d_sp] at i19d
      refine g_aload_n B 3 dX9_takeItem_68 rfl ?_
      refine x_get B P8 hxg (by decide) rfl F_X9_30_9 (by decide) i18d dX9_takeItem_69 ?_
      obtain ⟨n9, u9, ty9⟩ := P8.ty i19d.1 (by decide) rfl
      refine g_callV (kc2 := (4 * fi + ps + 1)) (ks2 := (18 * fi + ps + 4)) (rest := []) B M_J5_cardinality q1625 q1626 q1627 ty9 rfl (c_J5_cardinality P8 (by decide) (by decide) (by decide) i19d hb8) rfl rfl (Nat.le_of_ble_eq_true rfl) (Nat.le_of_ble_eq_true rfl) (Nat.le_of_ble_eq_true rfl) (Nat.le_refl _) (Nat.le_refl _) dX9_takeItem_72 (xkA (fun v9 T9 O9 R9 le9 p9 => ?_))
      obtain ⟨rfl, eT9, eO9, eR9⟩ := p9
      obtain rfl := eT9.symm
      obtain rfl := eO9.symm
      obtain rfl := eR9.symm
      refine g_aload_n B 3 dX9_takeItem_75 rfl ?_
      obtain ⟨n10, u10, ty10⟩ := P8.ty hxg (by decide) rfl
      refine g_callV (kc2 := (4 * fi + ps + 1)) (ks2 := (18 * fi + ps + 4)) (rest := [_]) B M_X9_inputs q1566 q1568 qs37 ty10 rfl (c_X9_inputs1 P8 H3 hod hid hxg) rfl rfl (Nat.le_of_ble_eq_true rfl) (Nat.le_of_ble_eq_true rfl) (Nat.le_of_ble_eq_true rfl) (Nat.le_refl _) (Nat.le_refl _) dX9_takeItem_76 (xkA (fun v10 T10 O10 R10 le10 p10 => ?_))
      obtain ⟨rfl, eT10, eO10, eR10⟩ := p10
      obtain rfl := eT10.symm
      obtain rfl := eO10.symm
      obtain rfl := eR10.symm
      rw [d_p]
      have hpcb : pc3 (aBits (up1 (a.sp (o + 1) i) f true)) ≤ 3 := by unfold pc3; omega
      refine g_icmp_neN (tgt := 86) B (by omega) (by omega) dX9_takeItem_79 (by decide) (fun c11 => ?_) (fun c11 => ?_)
      · refine g_iconst (v := nI 1) B dX9_takeItem_86 (by decide) ?_
        refine g_iretL B E rfl rfl dX9_takeItem_87 ?_
        have hta : (a.take (o + 1) i) = (true, d) := by rw [take_s1 hrdy, hti, if_neg (by rw [hful]; exact fun e => c11 (hpf.mpr e))]
        exact ⟨_, rfl, by rw [hta]; rfl, _, _, _, _, _, fi, ps, P8, f7.1.1, by rw [hta]; exact H3, by omega, by omega⟩
      · refine g_aload_n B 3 dX9_takeItem_82 rfl ?_
        obtain ⟨n12, u12, ty12⟩ := P8.ty hxg (by decide) rfl
        have hfu : d.full (o + 1) i = true := by rw [hful]; exact hpf.mp c11
        obtain ⟨hrn, hfin⟩ := htk2 f qs hfl (by show (a.ch o f i).1 = _; rw [hc]) (by show (List.range (a.p o)).all (fun q => up3 a.sp (o + 1) i f true (o + 1) i q) = true; rw [show (fun q => up3 a.sp (o + 1) i f true (o + 1) i q) = up1 (a.sp (o + 1) i) f true from esp]; exact hpf.mp c11)
        refine g_callV (kc2 := 4 * fi + ps) (ks2 := 18 * fi + ps) (rest := []) B M_X9_align q1635 q1637 qs38 ty12 rfl (c_X9_align P8 H3 W3 hod hid hxg hB (by show 0 < d.nm 2; rw [d_nm]; exact hrn) (by rw [show d.sk = a.sk from congrFun d_nm 3, d_n, d_p, d_al]; exact hfin)) rfl rfl (Nat.le_of_ble_eq_true rfl) (Nat.le_of_ble_eq_true rfl) (Nat.le_of_ble_eq_true rfl) (Nat.le_refl _) (Nat.le_refl _) dX9_takeItem_83 (xkN (fun T12 O12 R12 le12 p12 => ?_))
        obtain ⟨Y12, V12, I12, J12, A12, P12, l12, H12⟩ := p12
        refine g_iconst (v := nI 1) B dX9_takeItem_86 (by decide) ?_
        refine g_iretL B E rfl rfl dX9_takeItem_87 ?_
        have hta : (a.take (o + 1) i) = (true, d.align (o + 1) i) := by rw [take_s1 hrdy, hti, if_pos hfu]
        exact ⟨_, rfl, by rw [hta]; rfl, _, _, _, _, _, fi, ps, P12, f7.1.1.tr l12, by rw [hta]; exact H12, by omega, by omega⟩
    · obtain ⟨r, rs, hl⟩ : ∃ r rs, l = r :: rs := by
        have hl1 := ((W.ch o f i).2.2.2.2.1 l (by rw [hc]; exact List.mem_cons_self)).1
        cases l with
        | nil => exact absurd hl1 (by decide)
        | cons r rs => exact ⟨r, rs, rfl⟩
      subst hl
      have hrok : rOk a.tk r := ((W.ch o f i).2.2.2.2.1 (r :: rs) (by rw [hc]; exact List.mem_cons_self)).2.2 r List.mem_cons_self
      obtain ⟨tn, hbt⟩ := hqi
      have hb11 := hbt.1.1
      refine g_aload_n B 0 dX9_takeItem_49 rfl ?_
      refine x_get B P4 hb11 (by decide) rfl F_X9_172_11 (by decide) hbt.2.2.2.2.1 dX9_takeItem_50 ?_
      refine g_if_eqB (tgt := 88) B dX9_takeItem_53 (by decide) (fun _ => ?_) (fun e => absurd e (by decide))
      refine g_aload_n B 0 dX9_takeItem_88 rfl ?_
      obtain ⟨n13, u13, ty13⟩ := P4.ty hb11 (by decide) rfl
      refine g_callV (kc2 := (4 * fi + ps + 2)) (ks2 := (18 * fi + ps + 7)) (rest := []) B M_X11_key q1789 q1790 q1791 ty13 rfl (c_X11_key P4 hbt) rfl rfl (Nat.le_of_ble_eq_true rfl) (Nat.le_of_ble_eq_true rfl) (Nat.le_of_ble_eq_true rfl) (Nat.le_refl _) (Nat.le_refl _) dX9_takeItem_89 (xkA (fun v13 T13 O13 R13 le13 p13 => ?_))
      obtain ⟨rfl, eT13, eO13, eR13⟩ := p13
      obtain rfl := eT13.symm
      obtain rfl := eO13.symm
      obtain rfl := eR13.symm
      refine g_istore (lv2 := [(4, _), (3, _), (2, _), (1, _), (0, _)]) B dX9_takeItem_92 (by decide) rfl ?_
      refine g_aload_n B 1 dX9_takeItem_94 rfl ?_
      obtain ⟨n14, u14, ty14⟩ := P4.ty hb11 (by decide) rfl
      refine g_callV (kc2 := (4 * fi + ps + 2)) (ks2 := (18 * fi + ps + 7)) (rest := []) B M_X11_value q1793 q1794 q1795 ty14 rfl (c_X11_value P4 hbt) rfl rfl (Nat.le_of_ble_eq_true rfl) (Nat.le_of_ble_eq_true rfl) (Nat.le_of_ble_eq_true rfl) (Nat.le_refl _) (Nat.le_refl _) dX9_takeItem_95 (xkA (fun v14 T14 O14 R14 le14 p14 => ?_))
      obtain ⟨rfl, eT14, eO14, eR14⟩ := p14
      obtain rfl := eT14.symm
      obtain rfl := eO14.symm
      obtain rfl := eR14.symm
      refine g_istore (lv2 := [(5, _), (4, _), (3, _), (2, _), (1, _), (0, _)]) B dX9_takeItem_98 (by decide) rfl ?_
      refine g_aload_n B 2 dX9_takeItem_100 rfl ?_
      obtain ⟨n15, u15, ty15⟩ := P4.ty hb11 (by decide) rfl
      refine g_callV (kc2 := (4 * fi + ps + 2)) (ks2 := (18 * fi + ps + 7)) (rest := []) B M_X11_birth q1797 q1798 q1799 ty15 rfl (c_X11_birth P4 hbt) rfl rfl (Nat.le_of_ble_eq_true rfl) (Nat.le_of_ble_eq_true rfl) (Nat.le_of_ble_eq_true rfl) (Nat.le_refl _) (Nat.le_refl _) dX9_takeItem_101 (xkA (fun v15 T15 O15 R15 le15 p15 => ?_))
      obtain ⟨rfl, eT15, eO15, eR15⟩ := p15
      obtain rfl := eT15.symm
      obtain rfl := eO15.symm
      obtain rfl := eR15.symm
      refine g_istore (lv2 := [(6, _), (5, _), (4, _), (3, _), (2, _), (1, _), (0, _)]) B dX9_takeItem_104 (by decide) rfl ?_
      refine g_aload_n B 4 dX9_takeItem_106 rfl ?_
      obtain ⟨n16, u16, ty16⟩ := P4.ty hxh (by decide) rfl
      refine g_callV (kc2 := 4 * fi + ps + 1) (ks2 := 18 * fi + ps + 4) (rest := []) B M_X10_takeRecord q1801 q1802 q1803 ty16 rfl (c_X10_takeRecord P4 hsm Cg dsp dsb nd (by omega)) rfl rfl (Nat.le_of_ble_eq_true rfl) (Nat.le_of_ble_eq_true rfl) (Nat.le_of_ble_eq_true rfl) (by omega) (by omega) dX9_takeItem_107 (xkN (fun T16 O16 R16 le16 p16 => ?_))
      obtain ⟨Y16, V16, I16, J16, A16, P16, rfl, bs216, sp216, C216, ds16, sb16, hn16, lo16, f16⟩ := p16
      have n2 := XCh.one HC hls hfi W1.n6 (fun o ho => (W1.p1 o ho).2) hob hfb hib C216 ds16 sb16 (by rw [hbq]; exact lo16) (by rw [hbq]; exact f16) (fi2 := fi) (by rw [hcb]; show _ + _ + (if rs.isEmpty = true then qs else some rs :: qs).length = _ + (qs.length + 1); split at hn16 <;> rename_i he <;> simp [he] <;> omega)
      have H2 : RepX (b.w_ch (up3 b.ch o f i (if rs.isEmpty = true then qs else some rs :: qs, op, ag))) tk x0 g0 fi ps Y16 V16 I16 J A16 := H1.w_ch f16 gChS n2
      obtain ⟨g, hg⟩ : ∃ g, g = b.w_ch (up3 b.ch o f i (if rs.isEmpty = true then qs else some rs :: qs, op, ag)) := ⟨_, rfl⟩
      rw [← hg] at H2
      have g_n : g.n = a.n := by rw [hg]; exact b_n
      have g_p : g.p = a.p := by rw [hg]; exact b_p
      have g_sp : g.sp = a.sp := by rw [hg]; exact b_sp
      have g_ls : g.ls = a.ls := by rw [hg]; exact b_ls
      have g_al : g.al = a.al := by rw [hg]; exact b_al
      have g_nm : g.nm = a.nm := by rw [hg]; exact b_nm
      have g_cf : g.cf = a.cf := by rw [hg]; exact b_cf
      have g_tk : g.tk = a.tk := by rw [hg]; exact b_tk
      have hog : o + 1 < g.n := by rw [g_n]; exact ho
      have hig : i < g.p (o + 1) := by rw [g_p]; exact hi
      have hxg := f16.1.1.at hx
      have W2 : WF Bd g := by
        rw [hg]
        refine W1.w_chq (by rw [b_nm]; exact hbg) (by rw [hcb]; exact fun e => by cases e) ?_
        have k := W1.ch o f i
        rw [hcb] at k
        show chOk _ _ _ _ ((if rs.isEmpty = true then qs else some rs :: qs), op, ag)
        split
        · exact k.tail rfl
        · rename_i e; exact k.eat rfl (fun c => by rw [c] at e; exact e rfl)
      have hti : a.takeItem (o + 1) i f = g.takeIn (o + 1) i r := takeItem_s1 hc (b := g) (by rw [hg, hb]; rfl)
      refine g_aload_n B 6 dX9_takeItem_110 rfl ?_
      refine g_iload B 2 dX9_takeItem_111 rfl ?_
      refine g_iload B 1 dX9_takeItem_113 rfl ?_
      refine g_iload B 0 dX9_takeItem_115 rfl ?_
      obtain ⟨n17, u17, ty17⟩ := P16.ty hxg (by decide) rfl
      refine g_callVL (kc2 := 1) (ks2 := 4) (rest := []) B M_X9_process q1403 q1405 qs29 ty17 rfl (c_X9_process P16 H2 W2 hog hig hxg hrok.1 (by rw [g_ls]; exact hls0) (by have := hrok.2; omega) htk) rfl rfl (Nat.le_of_ble_eq_true rfl) (Nat.le_of_ble_eq_true rfl) (Nat.le_of_ble_eq_true rfl) (Nat.le_of_eq (Nat.add_comm _ _)) (by omega) dX9_takeItem_117 (xkNL (fun T17 O17 R17 kl17 sl17 le17 p17 => ?_))
      obtain ⟨Y17, V17, I17, J17, A17, fi17, ps17, P17, le217, H17, kle17, sle17⟩ := p17
      refine xV.room (kc' := 4 * fi17 + ps17) (ks' := 18 * fi17 + ps17) (by omega) (by omega) ?_
      refine g_iconst (v := nI 1) B dX9_takeItem_120 (by decide) ?_
      refine g_iretL B E rfl rfl dX9_takeItem_121 ?_
      have hta : (a.take (o + 1) i) = (true, g.takeIn (o + 1) i r) := by rw [take_s1 hrdy, hti]
      exact ⟨_, rfl, by rw [hta]; rfl, _, _, _, _, _, fi17, ps17, P17, f16.1.1.tr le217, by rw [hta]; exact H17, by omega, by omega⟩
  · refine g_iconst (v := nI 0) B dX9_takeItem_11 (by decide) ?_
    refine g_iretL B E rfl rfl dX9_takeItem_12 ?_
    have hno : a.ready (o + 1) i = none := barI_n c2 (fun j hj => by have := (aA.ready_some (o := o + 1) hj (show 0 < a.p o by omega)).1; have : j < a.p o := this; omega)
    exact ⟨_, rfl, by rw [take_n1 hno]; rfl, _, _, _, _, _, fi, ps, P, yLe.rf, by rw [take_n1 hno]; exact H, by omega, by omega⟩
