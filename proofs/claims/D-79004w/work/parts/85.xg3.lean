set_option maxRecDepth 100000
theorem xVc.set0 {Y : xY} {V V1 : xVV} {rv rc o x : Nat} {q : Nat → Int32} {z : Int32} (h : xVc Y V rv rc o x q) (hs : V1 rc = va_up (V rc) (3 * o + 0) (va_up (V rc (3 * o + 0)) 0 (.int z))) (hk : ∀ i, i ≠ rc → V1 i = V i) (hne : rv ≠ rc) : xVc Y V1 rv rc o x (up1 q 0 z) := by
  refine ⟨h.1, fun v hv => ?_⟩
  obtain ⟨xc, h1, h2, h3⟩ := h.2 v hv
  refine ⟨xc, rdR hk hne h1, h2, ?_⟩
  by_cases e : v = 0
  · subst e; rw [up1_s]; exact rdS hs
  · rw [up1_n e]; exact rdO hs (by omega) h3
theorem cPut_len {bz cr : Nat} {c : aCh} {r : aRec} : ∃ k, k ≤ 2 ∧ (cPut bz cr c r).1.length = c.1.length + k := by
  by_cases hf : c.2.1.length = bz
  · by_cases hB : 1 = bz ∧ c.1.length + 1 < cr
    · exact ⟨2, by decide, by rw [cPut_a hf hB]; simp⟩
    · exact ⟨1, by decide, by rw [cPut_b hf hB]; simp⟩
  · by_cases hB : c.2.1.length + 1 = bz ∧ c.1.length < cr
    · exact ⟨1, by decide, by rw [cPut_c hf hB]; simp⟩
    · exact ⟨0, by decide, by rw [cPut_d hf hB]; simp⟩
theorem mRecs_tail {r : aRec} {l : List aRec} {f : Nat} {a b c : Nat → Int32} (h : mRecs (r :: l) f a b c) : mRecs l (f + 1) a b c := fun k hk => by
  have q := h (k + 1) (by simp; omega)
  rw [show f + (k + 1) = f + 1 + k by omega] at q
  simpa [List.getD_eq_getElem?_getD] using q
/-- the state with the counter moved -/
theorem RepX.cnt {a : aA} {tk x0 g0 fi ps o i yv : Nat} {Y : xY} {V V1 : xVV} {I : xII} {J : xJJ} {A : xVV} {q : Nat → Int32} (H : RepX a tk x0 g0 fi ps Y V I J A) (hk : a.ky (o + 1) = false) (hp : ∀ o, o < a.n → a.p o ≤ 3) (hi : i < 3) (h : xVc Y V 101 2 (3 * o + i) yv q) (h2 : q 2 = nI (a.ct 2 o i)) (h1 : a.al o i = true → q 1 = nI (a.ct 1 o i)) (hs : V1 2 = va_up (V 2) (3 * (3 * o + i) + 0) (va_up (V 2 (3 * (3 * o + i) + 0)) 0 (.int (nI (a.ct 0 o i + 1))))) (hkk : ∀ i, i ≠ 2 → V1 i = V i) : RepX (a.cnt o i) tk x0 g0 fi ps Y V1 I J A := by
  have f : xFr (s1 2 (3 * (3 * o + i) + 0)) Y V I J A Y V1 I J A := xFr.uV ⟨rfl, rfl⟩ hs hkk
  have e : a.cnt o i = a.w_ct (up3 a.ct 0 o i (a.ct 0 o i + 1)) := by unfold aA.cnt; rw [hk]; rfl
  rw [e]
  refine H.w_ct f (fun r o e => Or.inr e.1) (H.Ct.one (o := o) (i := i) f (fun c e => by unfold s1 at e; omega) (fun c e => by unfold s1 at e; omega) hp hi (fun v x y hn => ⟨up3_n (fun q => hn q.2), rfl⟩) ⟨yv, up1 q 0 (nI (a.ct 0 o i + 1)), xVc.set0 h hs hkk (by decide), ?_, ?_, fun ha => ?_⟩)
  · rw [up1_s, up3_s]
  · rw [up1_n (by decide), up3_n (by omega)]; exact h2
  · rw [up1_n (by decide), up3_n (by omega)]; exact h1 ha
theorem RepX.cnt0 {a : aA} {tk x0 g0 fi ps o i : Nat} {Y : xY} {V : xVV} {I : xII} {J : xJJ} {A : xVV} (H : RepX a tk x0 g0 fi ps Y V I J A) (hk : a.ky (o + 1) = true) : RepX (a.cnt o i) tk x0 g0 fi ps Y V I J A := by
  have e : a.cnt o i = a.w_ct a.ct := by unfold aA.cnt; rw [if_pos hk]
  rw [e]
  exact H.w_ct (S := fun _ _ => False) xFr.rf (fun _ _ e => e.elim) H.Ct
theorem c_X9_send {G : xG} {T : xT} {O R : xO} {Y : xY} {V : xVV} {I : xII} {J : xJJ} {A : xVV} {w0 : xW} {a : aA} {tk x0 g0 fi ps : Nat} {Bd : Nat} {o i x : Nat} {r : aRec} {rest : List aRec} (P : PX Y V I J A w0 T O R) (H : RepX a tk x0 g0 fi ps Y V I J A) (W : WF Bd a) (hB : Bd < 2000000) (ho : o < a.n) (hi : i < a.p o) (hx : yAt Y 9 (3 * o + i) x) (hon : o + 1 < a.n) (hl : a.ls o i = r :: rest) (hfit : cFit (a.cf 0) (a.cf 2) (a.ch o i (a.goal o i r)) = true) : xCtrL G yX9_send cX9_send 2 none 5 107 (4 * fi + ps) (18 * fi + ps) [.ref x] (T, O, R) (xNL (xRL w0 Y (a.send o i r rest) tk x0 g0)) := by
  refine xCtrL.of (by decide +kernel) (Nat.le_of_ble_eq_true rfl) ?_
  intro Z B E hz hnm
  change xV Z (T, O, R) 0 [(0, .ref x)] [] (4 * fi + ps) (18 * fi + ps)
  have hp3 : ∀ o, o < a.n → a.p o ≤ 3 := fun o ho => (W.p1 o ho).2
  have hn6 := W.n6
  have hg := W.goal (i := i) (r := r) hon
  obtain ⟨h0, ⟨⟨pa0, pb0, pc0⟩, ⟨pa5, pb5, pc5⟩, ⟨pa6, pb6, pc6⟩, ⟨pa8, pb8, pc8⟩, ⟨pa9, pb9, pc9⟩, ⟨pa10, pb10, pc10⟩, ⟨pa11, pb11, pc11⟩, ⟨pa12, pb12, pc12⟩, ⟨pa13, pb13, pc13⟩, ⟨pa20, pb20, pc20⟩, ⟨pa21, pb21, pc21⟩, ⟨pa22, pb22, pc22⟩⟩, ⟨nq1, nq2, nq3, nq4⟩, nq7, nq14, nq15, nq16, nq17, nq18, nq19⟩ := H.Si
  obtain ⟨xi, ki⟩ := H.In o ho i hi
  have ei : xi = x := P.fn ki.1 hx
  rw [ei] at ki
  have ⟨i0, ⟨i1, i2⟩, ⟨⟨y1, i3, i4⟩, i5⟩, ⟨⟨y2, i6, i7⟩, i8⟩, ⟨⟨y3, i9, i10⟩, i11⟩, ⟨fm, i12, i13, i14, i15⟩, ⟨bt, i16⟩, i17, ⟨yb, i18, i19⟩, i20, ⟨yv, i21, i22⟩, yz, i23, i24⟩ := ki
  have i25 : V 9 (3 * o + i) 12 = .ref x0 := i23.trans (congrArg Value.ref (P.fn i24 h0))
  obtain ⟨xon, kon⟩ := H.Op (o + 1) hon
  have ⟨k0n, k1n, k2n, k3n, k4n, k5n, ⟨xkn, k6n, k7n⟩, k8n, k9n, k10n, k11n⟩ := kon
  have k1n : yK Y 4 (o + 1) = a.kd (o + 1) := k1n
  have k2n : V 4 (o + 1) 0 = .int (nI (a.kd (o + 1))) := k2n
  have k3n : V 4 (o + 1) 1 = .int (a.pa (o + 1)) := k3n
  have k4n : V 4 (o + 1) 2 = .int (a.pb (o + 1)) := k4n
  have k5n : V 4 (o + 1) 3 = .int (nI (a.p (o + 1))) := k5n
  obtain ⟨xc, qc, kc, kc0, kc2, kc1⟩ := H.Ct o ho i hi
  obtain rfl : yv = xc := P.fn i22 kc.1
  obtain ⟨xc0, kd0, ke0⟩ := kc.2 0 (by decide)
  obtain ⟨xc1, kd1, ke1⟩ := kc.2 1 (by decide)
  obtain ⟨xc2, kd2, ke2⟩ := kc.2 2 (by decide)
  refine g_aload_n B 0 dX9_send_0 rfl ?_
  obtain ⟨n1, u1, ty1⟩ := P.ty hx (by decide) rfl
  refine g_callV (kc2 := (4 * fi + ps)) (ks2 := (18 * fi + ps)) (rest := []) B M_X9_target q1325 q1327 qs20 ty1 rfl (c_X9_target P H W hB ho hi hx hon hl) rfl rfl (Nat.le_of_ble_eq_true rfl) (Nat.le_of_ble_eq_true rfl) (Nat.le_of_ble_eq_true rfl) (Nat.le_refl _) (Nat.le_refl _) dX9_send_1 (xkA (fun v1 T1 O1 R1 le1 p1 => ?_))
  obtain ⟨rfl, eT1, eO1, eR1⟩ := p1
  obtain rfl := eT1.symm
  obtain rfl := eO1.symm
  obtain rfl := eR1.symm
  refine g_istore_n (lv2 := [(1, _), (0, _)]) B dX9_send_4 (by decide) rfl ?_
  refine g_aload_n B 1 dX9_send_5 rfl ?_
  obtain ⟨n2, u2, ty2⟩ := P.ty hx (by decide) rfl
  refine g_callV (kc2 := (4 * fi + ps)) (ks2 := (18 * fi + ps)) (rest := []) B M_X9_next q1329 q1331 qs21 ty2 rfl (c_X9_next P H ho hi hx hon k0n) rfl rfl (Nat.le_of_ble_eq_true rfl) (Nat.le_of_ble_eq_true rfl) (Nat.le_of_ble_eq_true rfl) (Nat.le_refl _) (Nat.le_refl _) dX9_send_6 (xkA (fun v2 T2 O2 R2 le2 p2 => ?_))
  obtain ⟨rfl, eT2, eO2, eR2⟩ := p2
  obtain rfl := eT2.symm
  obtain rfl := eO2.symm
  obtain rfl := eR2.symm
  refine g_isKeyed B P k0n k1n (W.kd8 hon) q1335 (by decide) (Nat.le_of_ble_eq_true rfl) (Nat.le_of_ble_eq_true rfl) dX9_send_9 ?_
  refine g_top (show Value.int (bI (kKey (a.kd (o + 1)))) = .int (bI (a.ky (o + 1))) from rfl) ?_
  refine g_if_neB (tgt := 34) B dX9_send_12 (by decide) (fun c3 => ?_) (fun c3 => ?_)
  · have H1 : RepX (a.cnt o i) tk x0 g0 fi ps Y V I J A := H.cnt0 c3
    obtain ⟨b, hb⟩ : ∃ b, b = a.cnt o i := ⟨_, rfl⟩
    rw [← hb] at H1
    have bn : b.n = a.n := by rw [hb]; rfl
    have bp : b.p = a.p := by rw [hb]; rfl
    have bch : b.ch = a.ch := by rw [hb]; rfl
    have bcf : b.cf = a.cf := by rw [hb]; rfl
    have bls : b.ls = a.ls := by rw [hb]; rfl
    obtain ⟨h0b, ⟨⟨pa0b, pb0b, pc0b⟩, ⟨pa5b, pb5b, pc5b⟩, ⟨pa6b, pb6b, pc6b⟩, ⟨pa8b, pb8b, pc8b⟩, ⟨pa9b, pb9b, pc9b⟩, ⟨pa10b, pb10b, pc10b⟩, ⟨pa11b, pb11b, pc11b⟩, ⟨pa12b, pb12b, pc12b⟩, ⟨pa13b, pb13b, pc13b⟩, ⟨pa20b, pb20b, pc20b⟩, ⟨pa21b, pb21b, pc21b⟩, ⟨pa22b, pb22b, pc22b⟩⟩, ⟨nq1b, nq2b, nq3b, nq4b⟩, nq7b, nq14b, nq15b, nq16b, nq17b, nq18b, nq19b⟩ := H1.Si
    obtain ⟨xib, kib⟩ := H1.In o (by rw [bn]; exact ho) i (by rw [bp]; exact hi)
    have eib : xib = x := P.fn kib.1 hx
    rw [eib] at kib
    have ⟨i0b, ⟨i1b, i2b⟩, ⟨⟨y1b, i3b, i4b⟩, i5b⟩, ⟨⟨y2b, i6b, i7b⟩, i8b⟩, ⟨⟨y3b, i9b, i10b⟩, i11b⟩, ⟨fmb, i12b, i13b, i14b, i15b⟩, ⟨btb, i16b⟩, i17b, ⟨ybb, i18b, i19b⟩, i20b, ⟨yvb, i21b, i22b⟩, yzb, i23b, i24b⟩ := kib
    have i25b : V 9 (3 * o + i) 12 = .ref x0 := i23b.trans (congrArg Value.ref (P.fn i24b h0b))
    rw [bls, hl] at i13b i14b i15b
    obtain ⟨bob, bqb, spb, lcb, xlb, HCb, dspb, dsbb, hlsb, hfib⟩ := H1.Ch
    have hplb : pa0b = xlb := P.fn pc0b dspb.1
    have hsmb : xSm Y V x0 xlb (b.cf 0) (b.cf 1) (b.cf 2) := ⟨h0b, pb0b.trans (congrArg Value.ref hplb), nq1b, nq2b, nq3b⟩
    rw [bn, bp, bch] at HCb
    rw [bch] at hfib
    rw [bcf] at hsmb
    obtain ⟨⟨xh, Cg⟩, nd, lch⟩ := HCb o i (a.goal o i r) hon hi hg
    have hxhb := Cg.1
    obtain ⟨q1, q2, q3⟩ := i15b 0 (by simp)
    simp only [List.length_cons] at i14b
    refine g_aload_n B 1 dX9_send_34 rfl ?_
    refine x_get B P hx (by decide) rfl F_X9_3_9 (by decide) i25b dX9_send_35 ?_
    refine g_aload_n B 1 dX9_send_38 rfl ?_
    refine x_get B P hx (by decide) rfl F_X9_41_9 (by decide) i1b dX9_send_39 ?_
    refine g_aload_n B 1 dX9_send_42 rfl ?_
    refine x_get B P hx (by decide) rfl F_X9_45_9 (by decide) i2b dX9_send_43 ?_
    refine g_iload_n B 0 dX9_send_46 rfl ?_
    obtain ⟨n4, u4, ty4⟩ := P.ty h0b (by decide) rfl
    refine g_callVN (kc2 := (4 * fi + ps)) (ks2 := (18 * fi + ps)) (rest := []) B M_X0_channel q1354 q1356 qs22 ty4 rfl (c_X0_channel (o := o) (i := i) (j := a.goal o i r) P H1 (by rw [bn]; exact hn6) (by rw [bn, bp]; exact hp3) h0b (by rw [bn]; exact hon) (by rw [bp]; exact hi) (by rw [bp]; exact hg) hxhb) rfl rfl (Nat.le_of_ble_eq_true rfl) (Nat.le_of_ble_eq_true rfl) (Nat.le_of_ble_eq_true rfl) (Nat.le_refl _) (Nat.le_refl _) dX9_send_47 (xkA (fun v4 T4 O4 R4 le4 p4 => ?_))
    obtain ⟨rfl, eT4, eO4, eR4⟩ := p4
    obtain rfl := eT4.symm
    obtain rfl := eO4.symm
    obtain rfl := eR4.symm
    refine g_aload_n B 1 dX9_send_50 rfl ?_
    refine x_get B P hx (by decide) rfl F_X9_15_9 (by decide) i4b dX9_send_51 ?_
    refine g_aload_n B 1 dX9_send_54 rfl ?_
    refine x_get B P hx (by decide) rfl F_X9_67_9 (by decide) i12b dX9_send_55 ?_
    refine x_ldI B P i3b (by decide) rfl i5b (by omega) (by omega) q1 dX9_send_58 ?_
    refine g_aload_n B 1 dX9_send_59 rfl ?_
    refine x_get B P hx (by decide) rfl F_X9_19_9 (by decide) i7b dX9_send_60 ?_
    refine g_aload_n B 1 dX9_send_63 rfl ?_
    refine x_get B P hx (by decide) rfl F_X9_67_9 (by decide) i12b dX9_send_64 ?_
    refine x_ldI B P i6b (by decide) rfl i8b (by omega) (by omega) q2 dX9_send_67 ?_
    refine g_aload_n B 1 dX9_send_68 rfl ?_
    refine x_get B P hx (by decide) rfl F_X9_22_9 (by decide) i10b dX9_send_69 ?_
    refine g_aload_n B 1 dX9_send_72 rfl ?_
    refine x_get B P hx (by decide) rfl F_X9_67_9 (by decide) i12b dX9_send_73 ?_
    refine x_ldI B P i9b (by decide) rfl i11b (by omega) (by omega) q3 dX9_send_76 ?_
    obtain ⟨n5, u5, ty5⟩ := P.ty Cg.1 (by decide) rfl
    have hchk := W.ch o i (a.goal o i r)
    have hcf := W.cf
    obtain ⟨k, hk2, hk⟩ := cPut_len (bz := a.cf 0) (cr := a.cf 2) (c := a.ch o i (a.goal o i r)) (r := r)
    have hus := usum_le (ch := a.ch) (fun o i j => by have := (W.ch o i j).1; omega)
    refine g_callV (kc2 := 4 * (fi - (k - spb.length)) + ps) (ks2 := 18 * (fi - (k - spb.length)) + ps) (rest := []) B M_X10_put q1366 q1367 q1368 ty5 rfl (c_X10_put (c2 := cPut (a.cf 0) (a.cf 2) (a.ch o i (a.goal o i r)) r) (k := k) P hsmb Cg dspb dsbb nd (by omega) (by omega) hchk.2.1 (by have := hchk.1; omega) hfit rfl hk) rfl rfl (Nat.le_of_ble_eq_true rfl) (Nat.le_of_ble_eq_true rfl) (Nat.le_of_ble_eq_true rfl) (by unfold cB; omega) (by unfold cB; omega) dX9_send_77 (xkN (fun T5 O5 R5 le5 p5 => ?_))
    obtain ⟨Y5, V5, I5, J5, A5, P5, rfl, ob25, bs25, sp25, C5, ds5, sb5, hn5, lo5, f5⟩ := p5
    have n2 := XCh.one HCb hlsb hfib hn6 hp3 hon hi hg C5 ds5 sb5 lo5 f5 (fi2 := fi - (k - spb.length)) (by rw [hn5, hk]; omega)
    have H2 : RepX (b.w_ch (up3 b.ch o i (a.goal o i r) (cPut (a.cf 0) (a.cf 2) (a.ch o i (a.goal o i r)) r))) tk x0 g0 (fi - (k - spb.length)) ps Y5 V5 I5 J A5 := H1.w_ch f5 (fun r o e => by rcases e with e | e | e; unfold gCh; omega; unfold gCh; omega; have := e.1; unfold rB at this; unfold gCh; omega) (by rw [bn, bp, bch]; exact n2)
    obtain ⟨c, hc⟩ : ∃ c, c = b.w_ch (up3 b.ch o i (a.goal o i r) (cPut (a.cf 0) (a.cf 2) (a.ch o i (a.goal o i r)) r)) := ⟨_, rfl⟩
    rw [← hc] at H2
    have cn : c.n = a.n := by rw [hc]; exact bn
    have cp : c.p = a.p := by rw [hc]; exact bp
    have cls : c.ls = a.ls := by rw [hc]; exact bls
    have hx2 := f5.1.at hx
    obtain ⟨h0c, ⟨⟨pa0c, pb0c, pc0c⟩, ⟨pa5c, pb5c, pc5c⟩, ⟨pa6c, pb6c, pc6c⟩, ⟨pa8c, pb8c, pc8c⟩, ⟨pa9c, pb9c, pc9c⟩, ⟨pa10c, pb10c, pc10c⟩, ⟨pa11c, pb11c, pc11c⟩, ⟨pa12c, pb12c, pc12c⟩, ⟨pa13c, pb13c, pc13c⟩, ⟨pa20c, pb20c, pc20c⟩, ⟨pa21c, pb21c, pc21c⟩, ⟨pa22c, pb22c, pc22c⟩⟩, ⟨nq1c, nq2c, nq3c, nq4c⟩, nq7c, nq14c, nq15c, nq16c, nq17c, nq18c, nq19c⟩ := H2.Si
    obtain ⟨xic, kic⟩ := H2.In o (by rw [cn]; exact ho) i (by rw [cp]; exact hi)
    have eic : xic = x := P5.fn kic.1 hx2
    rw [eic] at kic
    have ⟨i0c, ⟨i1c, i2c⟩, ⟨⟨y1c, i3c, i4c⟩, i5c⟩, ⟨⟨y2c, i6c, i7c⟩, i8c⟩, ⟨⟨y3c, i9c, i10c⟩, i11c⟩, ⟨fmc, i12c, i13c, i14c, i15c⟩, ⟨btc, i16c⟩, i17c, ⟨ybc, i18c, i19c⟩, i20c, ⟨yvc, i21c, i22c⟩, yzc, i23c, i24c⟩ := kic
    have i25c : V5 9 (3 * o + i) 12 = .ref x0 := i23c.trans (congrArg Value.ref (P5.fn i24c h0c))
    rw [cls, hl] at i13c i14c i15c
    refine g_aload_n B 1 dX9_send_80 rfl ?_
    refine g_dup B dX9_send_81 rfl ?_
    refine x_get B P5 hx2 (by decide) rfl F_X9_67_9 (by decide) i12c dX9_send_82 ?_
    refine g_iconst (v := nI 1) B dX9_send_85 (by decide) ?_
    refine g_iaddN B dX9_send_86 ?_
    refine x_put (q := (RX9, TX9, 13)) B P5 hx2 (by decide) rfl F_X9_67_9 rfl rfl (tyX9_ok 5 (by decide)) rfl rfl dX9_send_87 (fun O6 V6 hs6 hk6 P6 => ?_)
    refine g_vretL B E rfl dX9_send_90 ?_
    have fz : xFr (s1 9 (3 * o + i)) Y5 V5 I5 J A5 Y5 V6 I5 J A5 := xFr.uV ⟨rfl, rfl⟩ hs6 hk6
    have H3 := H2.w_ls (q := up2 c.ls o i rest) fz (fun r o e => Or.inl e.1) (H2.In.one (o := o) (i := i) fz (fun r c e _ => e.2) (by rw [cn, cp]; exact hp3) (by have := hp3 o ho; omega) (fun x y hn => ⟨up2_n hn, rfl, rfl, rfl⟩) ⟨x, ?_⟩)
    · refine ⟨rfl, _, _, _, _, _, _, _, P6, f5.1.1, ?_, Nat.le_refl _, Nat.le_refl _⟩
      have e : a.send o i r rest = c.w_ls (up2 c.ls o i rest) := by rw [hc, hb]; rfl
      rw [e]; exact H3
    · rw [up2_s]; exact ⟨i0c, ⟨(rdK hs6 (by decide) i1c), (rdK hs6 (by decide) i2c)⟩, ⟨⟨y1c, i3c, (rdK hs6 (by decide) i4c)⟩, i5c⟩, ⟨⟨y2c, i6c, (rdK hs6 (by decide) i7c)⟩, i8c⟩, ⟨⟨y3c, i9c, (rdK hs6 (by decide) i10c)⟩, i11c⟩, ⟨fmc + 1, (rdS hs6), ((rdK hs6 (by decide) i13c)).trans (congrArg (fun z => Value.int (nI z)) (by simp; omega)), by simp at i14c; omega, mRecs_tail i15c⟩, ⟨_, (rdK hs6 (by decide) i16c)⟩, (rdK hs6 (by decide) i17c), ⟨ybc, (rdK hs6 (by decide) i18c), i19c.fr fz (fun e => by unfold s1 at e; omega) (fun e => by unfold s1 at e; omega)⟩, (rdK hs6 (by decide) i20c), ⟨yvc, (rdK hs6 (by decide) i21c), i22c⟩, x0, (rdK hs6 (by decide) i25c), h0c⟩
  · refine g_aload_n B 1 dX9_send_15 rfl ?_
    refine x_get B P hx (by decide) rfl F_X9_38_9 (by decide) i21 dX9_send_16 ?_
    refine x_get B P i22 (by decide) rfl F_X9_94_1 (by decide) kd0 dX9_send_19 ?_
    obtain ⟨n7, u7, ty7⟩ := P.ty ke0.1 (by decide) rfl
    refine g_castS (q := (RX2, TX2, 1)) B ty7 rfl q1353 dX9_send_22 ?_
    refine g_dup B dX9_send_25 rfl ?_
    refine x_get B P ke0.1 (by decide) rfl F_X9_102_2 (by decide) (ke0.2.trans (congrArg Value.int kc0)) dX9_send_26 ?_
    refine g_iconst (v := nI 1) B dX9_send_29 (by decide) ?_
    refine g_iaddN B dX9_send_30 ?_
    refine x_put (q := (RX2, TX2, 1)) B P ke0.1 (by decide) rfl F_X9_102_2 rfl rfl (tyX2_ok 0 (by decide)) rfl rfl dX9_send_31 (fun O8 V8 hs8 hk8 P8 => ?_)
    have H1 : RepX (a.cnt o i) tk x0 g0 fi ps Y V8 I J A := H.cnt c3 hp3 (by have := hp3 o ho; omega) kc kc2 kc1 hs8 hk8
    obtain ⟨b, hb⟩ : ∃ b, b = a.cnt o i := ⟨_, rfl⟩
    rw [← hb] at H1
    have bn : b.n = a.n := by rw [hb]; rfl
    have bp : b.p = a.p := by rw [hb]; rfl
    have bch : b.ch = a.ch := by rw [hb]; rfl
    have bcf : b.cf = a.cf := by rw [hb]; rfl
    have bls : b.ls = a.ls := by rw [hb]; rfl
    obtain ⟨h0b, ⟨⟨pa0b, pb0b, pc0b⟩, ⟨pa5b, pb5b, pc5b⟩, ⟨pa6b, pb6b, pc6b⟩, ⟨pa8b, pb8b, pc8b⟩, ⟨pa9b, pb9b, pc9b⟩, ⟨pa10b, pb10b, pc10b⟩, ⟨pa11b, pb11b, pc11b⟩, ⟨pa12b, pb12b, pc12b⟩, ⟨pa13b, pb13b, pc13b⟩, ⟨pa20b, pb20b, pc20b⟩, ⟨pa21b, pb21b, pc21b⟩, ⟨pa22b, pb22b, pc22b⟩⟩, ⟨nq1b, nq2b, nq3b, nq4b⟩, nq7b, nq14b, nq15b, nq16b, nq17b, nq18b, nq19b⟩ := H1.Si
    obtain ⟨xib, kib⟩ := H1.In o (by rw [bn]; exact ho) i (by rw [bp]; exact hi)
    have eib : xib = x := P8.fn kib.1 hx
    rw [eib] at kib
    have ⟨i0b, ⟨i1b, i2b⟩, ⟨⟨y1b, i3b, i4b⟩, i5b⟩, ⟨⟨y2b, i6b, i7b⟩, i8b⟩, ⟨⟨y3b, i9b, i10b⟩, i11b⟩, ⟨fmb, i12b, i13b, i14b, i15b⟩, ⟨btb, i16b⟩, i17b, ⟨ybb, i18b, i19b⟩, i20b, ⟨yvb, i21b, i22b⟩, yzb, i23b, i24b⟩ := kib
    have i25b : V8 9 (3 * o + i) 12 = .ref x0 := i23b.trans (congrArg Value.ref (P8.fn i24b h0b))
    rw [bls, hl] at i13b i14b i15b
    obtain ⟨bob, bqb, spb, lcb, xlb, HCb, dspb, dsbb, hlsb, hfib⟩ := H1.Ch
    have hplb : pa0b = xlb := P8.fn pc0b dspb.1
    have hsmb : xSm Y V8 x0 xlb (b.cf 0) (b.cf 1) (b.cf 2) := ⟨h0b, pb0b.trans (congrArg Value.ref hplb), nq1b, nq2b, nq3b⟩
    rw [bn, bp, bch] at HCb
    rw [bch] at hfib
    rw [bcf] at hsmb
    obtain ⟨⟨xh, Cg⟩, nd, lch⟩ := HCb o i (a.goal o i r) hon hi hg
    have hxhb := Cg.1
    obtain ⟨q1, q2, q3⟩ := i15b 0 (by simp)
    simp only [List.length_cons] at i14b
    refine g_aload_n B 1 dX9_send_34 rfl ?_
    refine x_get B P8 hx (by decide) rfl F_X9_3_9 (by decide) i25b dX9_send_35 ?_
    refine g_aload_n B 1 dX9_send_38 rfl ?_
    refine x_get B P8 hx (by decide) rfl F_X9_41_9 (by decide) i1b dX9_send_39 ?_
    refine g_aload_n B 1 dX9_send_42 rfl ?_
    refine x_get B P8 hx (by decide) rfl F_X9_45_9 (by decide) i2b dX9_send_43 ?_
    refine g_iload_n B 0 dX9_send_46 rfl ?_
    obtain ⟨n9, u9, ty9⟩ := P8.ty h0b (by decide) rfl
    refine g_callVN (kc2 := (4 * fi + ps)) (ks2 := (18 * fi + ps)) (rest := []) B M_X0_channel q1354 q1356 qs22 ty9 rfl (c_X0_channel (o := o) (i := i) (j := a.goal o i r) P8 H1 (by rw [bn]; exact hn6) (by rw [bn, bp]; exact hp3) h0b (by rw [bn]; exact hon) (by rw [bp]; exact hi) (by rw [bp]; exact hg) hxhb) rfl rfl (Nat.le_of_ble_eq_true rfl) (Nat.le_of_ble_eq_true rfl) (Nat.le_of_ble_eq_true rfl) (Nat.le_refl _) (Nat.le_refl _) dX9_send_47 (xkA (fun v9 T9 O9 R9 le9 p9 => ?_))
    obtain ⟨rfl, eT9, eO9, eR9⟩ := p9
    obtain rfl := eT9.symm
    obtain rfl := eO9.symm
    obtain rfl := eR9.symm
    refine g_aload_n B 1 dX9_send_50 rfl ?_
    refine x_get B P8 hx (by decide) rfl F_X9_15_9 (by decide) i4b dX9_send_51 ?_
    refine g_aload_n B 1 dX9_send_54 rfl ?_
    refine x_get B P8 hx (by decide) rfl F_X9_67_9 (by decide) i12b dX9_send_55 ?_
    refine x_ldI B P8 i3b (by decide) rfl i5b (by omega) (by omega) q1 dX9_send_58 ?_
    refine g_aload_n B 1 dX9_send_59 rfl ?_
    refine x_get B P8 hx (by decide) rfl F_X9_19_9 (by decide) i7b dX9_send_60 ?_
    refine g_aload_n B 1 dX9_send_63 rfl ?_
    refine x_get B P8 hx (by decide) rfl F_X9_67_9 (by decide) i12b dX9_send_64 ?_
    refine x_ldI B P8 i6b (by decide) rfl i8b (by omega) (by omega) q2 dX9_send_67 ?_
    refine g_aload_n B 1 dX9_send_68 rfl ?_
    refine x_get B P8 hx (by decide) rfl F_X9_22_9 (by decide) i10b dX9_send_69 ?_
    refine g_aload_n B 1 dX9_send_72 rfl ?_
    refine x_get B P8 hx (by decide) rfl F_X9_67_9 (by decide) i12b dX9_send_73 ?_
    refine x_ldI B P8 i9b (by decide) rfl i11b (by omega) (by omega) q3 dX9_send_76 ?_
    obtain ⟨n10, u10, ty10⟩ := P8.ty Cg.1 (by decide) rfl
    have hchk := W.ch o i (a.goal o i r)
    have hcf := W.cf
    obtain ⟨k, hk2, hk⟩ := cPut_len (bz := a.cf 0) (cr := a.cf 2) (c := a.ch o i (a.goal o i r)) (r := r)
    have hus := usum_le (ch := a.ch) (fun o i j => by have := (W.ch o i j).1; omega)
    refine g_callV (kc2 := 4 * (fi - (k - spb.length)) + ps) (ks2 := 18 * (fi - (k - spb.length)) + ps) (rest := []) B M_X10_put q1366 q1367 q1368 ty10 rfl (c_X10_put (c2 := cPut (a.cf 0) (a.cf 2) (a.ch o i (a.goal o i r)) r) (k := k) P8 hsmb Cg dspb dsbb nd (by omega) (by omega) hchk.2.1 (by have := hchk.1; omega) hfit rfl hk) rfl rfl (Nat.le_of_ble_eq_true rfl) (Nat.le_of_ble_eq_true rfl) (Nat.le_of_ble_eq_true rfl) (by unfold cB; omega) (by unfold cB; omega) dX9_send_77 (xkN (fun T10 O10 R10 le10 p10 => ?_))
    obtain ⟨Y10, V10, I10, J10, A10, P10, rfl, ob210, bs210, sp210, C10, ds10, sb10, hn10, lo10, f10⟩ := p10
    have n2 := XCh.one HCb hlsb hfib hn6 hp3 hon hi hg C10 ds10 sb10 lo10 f10 (fi2 := fi - (k - spb.length)) (by rw [hn10, hk]; omega)
    have H2 : RepX (b.w_ch (up3 b.ch o i (a.goal o i r) (cPut (a.cf 0) (a.cf 2) (a.ch o i (a.goal o i r)) r))) tk x0 g0 (fi - (k - spb.length)) ps Y10 V10 I10 J A10 := H1.w_ch f10 (fun r o e => by rcases e with e | e | e; unfold gCh; omega; unfold gCh; omega; have := e.1; unfold rB at this; unfold gCh; omega) (by rw [bn, bp, bch]; exact n2)
    obtain ⟨c, hc⟩ : ∃ c, c = b.w_ch (up3 b.ch o i (a.goal o i r) (cPut (a.cf 0) (a.cf 2) (a.ch o i (a.goal o i r)) r)) := ⟨_, rfl⟩
    rw [← hc] at H2
    have cn : c.n = a.n := by rw [hc]; exact bn
    have cp : c.p = a.p := by rw [hc]; exact bp
    have cls : c.ls = a.ls := by rw [hc]; exact bls
    have hx2 := f10.1.at hx
    obtain ⟨h0c, ⟨⟨pa0c, pb0c, pc0c⟩, ⟨pa5c, pb5c, pc5c⟩, ⟨pa6c, pb6c, pc6c⟩, ⟨pa8c, pb8c, pc8c⟩, ⟨pa9c, pb9c, pc9c⟩, ⟨pa10c, pb10c, pc10c⟩, ⟨pa11c, pb11c, pc11c⟩, ⟨pa12c, pb12c, pc12c⟩, ⟨pa13c, pb13c, pc13c⟩, ⟨pa20c, pb20c, pc20c⟩, ⟨pa21c, pb21c, pc21c⟩, ⟨pa22c, pb22c, pc22c⟩⟩, ⟨nq1c, nq2c, nq3c, nq4c⟩, nq7c, nq14c, nq15c, nq16c, nq17c, nq18c, nq19c⟩ := H2.Si
    obtain ⟨xic, kic⟩ := H2.In o (by rw [cn]; exact ho) i (by rw [cp]; exact hi)
    have eic : xic = x := P10.fn kic.1 hx2
    rw [eic] at kic
    have ⟨i0c, ⟨i1c, i2c⟩, ⟨⟨y1c, i3c, i4c⟩, i5c⟩, ⟨⟨y2c, i6c, i7c⟩, i8c⟩, ⟨⟨y3c, i9c, i10c⟩, i11c⟩, ⟨fmc, i12c, i13c, i14c, i15c⟩, ⟨btc, i16c⟩, i17c, ⟨ybc, i18c, i19c⟩, i20c, ⟨yvc, i21c, i22c⟩, yzc, i23c, i24c⟩ := kic
    have i25c : V10 9 (3 * o + i) 12 = .ref x0 := i23c.trans (congrArg Value.ref (P10.fn i24c h0c))
    rw [cls, hl] at i13c i14c i15c
    refine g_aload_n B 1 dX9_send_80 rfl ?_
    refine g_dup B dX9_send_81 rfl ?_
    refine x_get B P10 hx2 (by decide) rfl F_X9_67_9 (by decide) i12c dX9_send_82 ?_
    refine g_iconst (v := nI 1) B dX9_send_85 (by decide) ?_
    refine g_iaddN B dX9_send_86 ?_
    refine x_put (q := (RX9, TX9, 13)) B P10 hx2 (by decide) rfl F_X9_67_9 rfl rfl (tyX9_ok 5 (by decide)) rfl rfl dX9_send_87 (fun O11 V11 hs11 hk11 P11 => ?_)
    refine g_vretL B E rfl dX9_send_90 ?_
    have fz : xFr (s1 9 (3 * o + i)) Y10 V10 I10 J A10 Y10 V11 I10 J A10 := xFr.uV ⟨rfl, rfl⟩ hs11 hk11
    have H3 := H2.w_ls (q := up2 c.ls o i rest) fz (fun r o e => Or.inl e.1) (H2.In.one (o := o) (i := i) fz (fun r c e _ => e.2) (by rw [cn, cp]; exact hp3) (by have := hp3 o ho; omega) (fun x y hn => ⟨up2_n hn, rfl, rfl, rfl⟩) ⟨x, ?_⟩)
    · refine ⟨rfl, _, _, _, _, _, _, _, P11, f10.1.1, ?_, Nat.le_refl _, Nat.le_refl _⟩
      have e : a.send o i r rest = c.w_ls (up2 c.ls o i rest) := by rw [hc, hb]; rfl
      rw [e]; exact H3
    · rw [up2_s]; exact ⟨i0c, ⟨(rdK hs11 (by decide) i1c), (rdK hs11 (by decide) i2c)⟩, ⟨⟨y1c, i3c, (rdK hs11 (by decide) i4c)⟩, i5c⟩, ⟨⟨y2c, i6c, (rdK hs11 (by decide) i7c)⟩, i8c⟩, ⟨⟨y3c, i9c, (rdK hs11 (by decide) i10c)⟩, i11c⟩, ⟨fmc + 1, (rdS hs11), ((rdK hs11 (by decide) i13c)).trans (congrArg (fun z => Value.int (nI z)) (by simp; omega)), by simp at i14c; omega, mRecs_tail i15c⟩, ⟨_, (rdK hs11 (by decide) i16c)⟩, (rdK hs11 (by decide) i17c), ⟨ybc, (rdK hs11 (by decide) i18c), i19c.fr fz (fun e => by unfold s1 at e; omega) (fun e => by unfold s1 at e; omega)⟩, (rdK hs11 (by decide) i20c), ⟨yvc, (rdK hs11 (by decide) i21c), i22c⟩, x0, (rdK hs11 (by decide) i25c), h0c⟩
