set_option maxRecDepth 100000
theorem alK {b : aA} {tk x0 g0 fi ps o i x xk1 : Nat} {q : Nat → Nat → Option (Int32 × Int32)} {Y : xY} {V V1 : xVV} {I I1 : xII} {J J1 : xJJ} {A : xVV} (H : RepX b tk x0 g0 fi ps Y V I J A) (ho : o < b.n) (hno : ∀ v key, kKey (b.kd o) = false → b.st v o key = none) (hv : xVk Y V I J 1 6 35 4001 1021 1022 o x q) (hk1 : V 1 o 1 = .ref xk1)
    (k1 : ∀ key, key < 16 → q 0 key = b.st 0 o key ∧ q 2 key = b.st 2 o key) (k2 : ∀ key, key < 16 → alz b.al o (aHome key (b.p o)) = true → q 1 key = b.st 1 o key)
    (f : xFr (sKs 35 4001 1021 1022 (3 * o + 1)) Y V I J A Y V1 I1 J1 A) (S : xKs Y V1 I1 J1 6 35 4001 1021 1022 (3 * o + 1) xk1 (fun key => if aHome key (b.p o) = i then q 0 key else q 1 key)) :
    XKs Y V1 I1 J1 b.n b.p (fun v x key => if v = 1 ∧ x = o ∧ b.ky o = true ∧ key < 16 ∧ aHome key (b.p o) = i then b.st 0 o key else b.st v x key) (alz b.al) ∧ XKs Y V1 I1 J1 b.n b.p (fun v x key => if v = 1 ∧ x = o ∧ b.ky o = true ∧ key < 16 ∧ aHome key (b.p o) = i then b.st 0 o key else b.st v x key) (alz (up2 b.al o i true)) := by
  obtain ⟨j0, j1⟩ := hv
  have ev : V1 1 o = V 1 o := (f.2 1 o x j0 (fun e => by unfold sKs at e; omega)).1
  have kid : xVk Y V1 I1 J1 1 6 35 4001 1021 1022 o x (up1 q 1 (fun key => if aHome key (b.p o) = i then q 0 key else q 1 key)) := by
    refine ⟨j0, fun v hv => ?_⟩
    obtain ⟨xk, g1, g2⟩ := j1 v hv
    by_cases e : v = 1
    · subst e
      have exk : xk = xk1 := by have z := g1.symm.trans hk1; injection z
      refine ⟨xk, by rw [ev]; exact g1, ?_⟩
      rw [up1_s, exk]
      exact S
    · refine ⟨xk, by rw [ev]; exact g1, ?_⟩
      rw [up1_n e]
      exact g2.fr f (fun r _ z => by unfold sKs at z; omega)
  have st0 : ∀ key, key < 16 → up1 q 1 (fun key => if aHome key (b.p o) = i then q 0 key else q 1 key) 0 key = (if 0 = 1 ∧ o = o ∧ b.ky o = true ∧ key < 16 ∧ aHome key (b.p o) = i then b.st 0 o key else b.st 0 o key) ∧ up1 q 1 (fun key => if aHome key (b.p o) = i then q 0 key else q 1 key) 2 key = (if 2 = 1 ∧ o = o ∧ b.ky o = true ∧ key < 16 ∧ aHome key (b.p o) = i then b.st 0 o key else b.st 2 o key) := fun key hk => by
    rw [up1_n (by decide), up1_n (by decide), if_neg (fun z => absurd z.1 (by decide)), if_neg (fun z => absurd z.1 (by decide))]
    exact k1 key hk
  have st1 : ∀ key, key < 16 → (aHome key (b.p o) ≠ i → alz b.al o (aHome key (b.p o)) = true) → up1 q 1 (fun key => if aHome key (b.p o) = i then q 0 key else q 1 key) 1 key = (if 1 = 1 ∧ o = o ∧ b.ky o = true ∧ key < 16 ∧ aHome key (b.p o) = i then b.st 0 o key else b.st 1 o key) := fun key hk ha => by
    rw [up1_s]
    by_cases e : aHome key (b.p o) = i
    · show (if aHome key (b.p o) = i then q 0 key else q 1 key) = _
      rw [if_pos e, (k1 key hk).1]
      by_cases hky : b.ky o = true
      · rw [if_pos ⟨rfl, rfl, hky, hk, e⟩]
      · have hf : kKey (b.kd o) = false := by simpa [aA.ky] using hky
        rw [if_neg (fun z => hky z.2.2.1), hno 0 key hf, hno 1 key hf]
    · show (if aHome key (b.p o) = i then q 0 key else q 1 key) = _
      rw [if_neg e, if_neg (fun z => e z.2.2.2.2)]
      exact k2 key hk (ha e)
  have oth : ∀ al', (∀ x y, x ≠ o → al' x y = alz b.al x y) → (∀ key, key < 16 → al' o (aHome key (b.p o)) = true → aHome key (b.p o) ≠ i → alz b.al o (aHome key (b.p o)) = true) → XKs Y V1 I1 J1 b.n b.p (fun v x key => if v = 1 ∧ x = o ∧ b.ky o = true ∧ key < 16 ∧ aHome key (b.p o) = i then b.st 0 o key else b.st v x key) al' := fun al' h1 h2 x' hx' => by
    by_cases e : x' = o
    · subst e
      exact ⟨x, _, kid, st0, fun key hk ha => st1 key hk (h2 key hk ha)⟩
    · obtain ⟨z, w, g, g0, g1⟩ := H.Ks x' hx'
      refine ⟨z, w, g.fr f (fun s => by unfold sKs at s; omega) (fun r v hv hr s => e (by unfold sKs at s; omega)), fun key hk => ?_, fun key hk ha => ?_⟩
      · show w 0 key = (if 0 = 1 ∧ x' = o ∧ _ then _ else _) ∧ w 2 key = (if 2 = 1 ∧ x' = o ∧ _ then _ else _)
        rw [if_neg (fun q => e q.2.1), if_neg (fun q => e q.2.1)]
        exact g0 key hk
      · show w 1 key = (if 1 = 1 ∧ x' = o ∧ _ then _ else _)
        rw [if_neg (fun q => e q.2.1)]
        exact g1 key hk (by rw [← h1 _ _ e]; exact ha)
  refine ⟨oth _ (fun _ _ _ => rfl) (fun key hk ha _ => ha), oth _ (fun x y h => by unfold alz; rw [up2_n (fun q => h q.1)]) (fun key hk ha hne => ?_)⟩
  unfold alz at ha ⊢
  rw [up2_n (fun q => hne q.2)] at ha
  exact ha
theorem alC {b : aA} {tk x0 g0 fi ps o i x : Nat} {xc1 : Nat} {q : Nat → Int32} {Y : xY} {V V1 : xVV} {I : xII} {J : xJJ} {A : xVV} (H : RepX b tk x0 g0 fi ps Y V I J A) (hp : ∀ o, o < b.n → b.p o ≤ 3) (ho : o < b.n) (hi : i < b.p o) (hv : xVc Y V 101 2 (3 * o + i) x q) (hc1 : V 101 (3 * o + i) 1 = .ref xc1)
    (g0' : q 0 = nI (b.ct 0 o i)) (g2 : q 2 = nI (b.ct 2 o i)) (f : xFr (s1 2 (3 * (3 * o + i) + 1)) Y V I J A Y V1 I J A) (S : xCn Y V1 2 (3 * (3 * o + i) + 1) xc1 (q 0)) :
    XCt Y V1 b.n b.p (up3 b.ct 1 o i (b.ct 0 o i)) (up2 b.al o i true) := by
  obtain ⟨j0, j1⟩ := hv
  have ev : V1 101 (3 * o + i) = V 101 (3 * o + i) := (f.2 101 _ x j0 (fun e => by unfold s1 at e; omega)).1
  refine H.Ct.one (o := o) (i := i) f (fun c e => by unfold s1 at e; omega) (fun c e => by unfold s1 at e; omega) hp (by have := hp o ho; omega) (fun v x' y' hne => ⟨up3_n (fun q => hne q.2), up2_n hne⟩) ⟨x, up1 q 1 (q 0), ⟨j0, fun v hv => ?_⟩, ?_, ?_, fun _ => ?_⟩
  · obtain ⟨xc, h1, h2⟩ := j1 v hv
    by_cases e : v = 1
    · subst e
      have exc : xc = xc1 := by have z := h1.symm.trans hc1; injection z
      refine ⟨xc, by rw [ev]; exact h1, ?_⟩
      rw [up1_s, exc]
      exact S
    · refine ⟨xc, by rw [ev]; exact h1, ?_⟩
      rw [up1_n e]
      exact h2.fr f (fun z => by unfold s1 at z; omega)
  · rw [up1_n (by decide), up3_n (fun q => absurd q.1 (by decide))]; exact g0'
  · rw [up1_n (by decide), up3_n (fun q => absurd q.1 (by decide))]; exact g2
  · rw [up1_s, up3_s]; exact g0'
theorem aA.c_ctal (b : aA) (x : Nat → Nat → Nat → Nat) (y : Nat → Nat → Bool) : (b.w_ct x).w_al y = (b.w_al y).w_ct x := rfl
theorem alAll {b : aA} {tk x0 g0 fi ps : Nat} {Y : xY} {V : xVV} {I : xII} {J : xJJ} {A : xVV} {ct : Nat → Nat → Nat → Nat} {al : Nat → Nat → Bool} (H : RepX b tk x0 g0 fi ps Y V I J A) (k : XKs Y V I J b.n b.p b.st (alz al)) (c : XCt Y V b.n b.p ct al) : RepX ((b.w_ct ct).w_al al) tk x0 g0 fi ps Y V I J A :=
  ⟨H.Si, H.Ol, H.Op, k, H.In, c, H.Of, H.Ch, H.Ar, H.Ve, H.Ip, H.Tx, H.Wr, H.Ex, H.La⟩
theorem c_X9_align {G : xG} {T : xT} {O R : xO} {Y : xY} {V : xVV} {I : xII} {J : xJJ} {A : xVV} {w0 : xW} {a : aA} {tk x0 g0 fi ps : Nat} {Bd : Nat} {o i x : Nat} (P : PX Y V I J A w0 T O R) (H : RepX a tk x0 g0 fi ps Y V I J A) (W : WF Bd a) (ho : o < a.n) (hi : i < a.p o) (hx : yAt Y 9 (3 * o + i) x) (hB : Bd < 2000000) (hrn : 0 < a.rn) (hfin : o + 1 = a.n → a.sk + 1 = a.p o → ∀ x, x < a.n → ∀ y, y < a.p x → up2 a.al o i true x y = true) : xCtr G yX9_align cX9_align 1 none 10 217 1 4 [.ref x] (T, O, R) (xN (xR w0 Y (a.align o i) tk x0 g0 fi ps)) := by
  refine xCtr.of (by decide +kernel) (Nat.le_of_ble_eq_true rfl) ?_
  intro Z B E hz hnm
  change xV Z (T, O, R) 0 [(0, .ref x)] [] 1 4
  have hp3 : ∀ o, o < a.n → a.p o ≤ 3 := fun o ho => (W.p1 o ho).2
  have hpo := W.p1 o ho
  have hnmsk : a.nm 3 = a.sk := rfl
  have hsb := W.nms.2.2.2.1
  obtain ⟨h0, ⟨⟨pa0, pb0, pc0⟩, ⟨pa5, pb5, pc5⟩, ⟨pa6, pb6, pc6⟩, ⟨pa8, pb8, pc8⟩, ⟨pa9, pb9, pc9⟩, ⟨pa10, pb10, pc10⟩, ⟨pa11, pb11, pc11⟩, ⟨pa12, pb12, pc12⟩, ⟨pa13, pb13, pc13⟩, ⟨pa20, pb20, pc20⟩, ⟨pa21, pb21, pc21⟩, ⟨pa22, pb22, pc22⟩⟩, ⟨nq1, nq2, nq3, nq4⟩, nq7, nq14, nq15, nq16, nq17, nq18, nq19⟩ := H.Si
  obtain ⟨xi, ki⟩ := H.In o ho i hi
  have ei : xi = x := P.fn ki.1 hx
  rw [ei] at ki
  have ⟨i0, ⟨i1, i2⟩, ⟨⟨y1, i3, i4⟩, i5⟩, ⟨⟨y2, i6, i7⟩, i8⟩, ⟨⟨y3, i9, i10⟩, i11⟩, ⟨fm, i12, i13, i14, i15⟩, ⟨bt, i16⟩, i17, ⟨yb, i18, i19⟩, i20, ⟨yv, i21, i22⟩, yz, i23, i24⟩ := ki
  have i25 : V 9 (3 * o + i) 12 = .ref x0 := i23.trans (congrArg Value.ref (P.fn i24 h0))
  refine g_aload_n B 0 dX9_align_0 rfl ?_
  refine x_get B P hx (by decide) rfl F_X9_30_9 (by decide) i18 dX9_align_1 ?_
  obtain ⟨n1, u1, ty1⟩ := P.ty i19.1 (by decide) rfl
  refine g_callV (rest := []) B M_J5_clear q1639 q1233 q1234 ty1 rfl (c_J5_clear P (by decide) (by decide) (by decide) i19) rfl rfl (Nat.le_of_ble_eq_true rfl) (Nat.le_of_ble_eq_true rfl) (Nat.le_of_ble_eq_true rfl) (Nat.le_refl _) (Nat.le_refl _) dX9_align_4 (xkN (fun T1 O1 R1 le1 p1 => ?_))
  obtain ⟨Y1, V1, I1, J1, A1, P1, rfl, rfl, rfl, S1, f1⟩ := p1
  have kn : xIs Y V1 I J1 o i x (a.ls o i) (fun _ => false) (a.pt o i) (a.hd o i) := ⟨i0, ⟨((congrFun (f1.2 _ _ _ i0 (fun e => by unfold sBs at e; omega)).1 0).trans i1), ((congrFun (f1.2 _ _ _ i0 (fun e => by unfold sBs at e; omega)).1 1).trans i2)⟩, ⟨⟨y1, i3, ((congrFun (f1.2 _ _ _ i0 (fun e => by unfold sBs at e; omega)).1 2).trans i4)⟩, i5⟩, ⟨⟨y2, i6, ((congrFun (f1.2 _ _ _ i0 (fun e => by unfold sBs at e; omega)).1 3).trans i7)⟩, i8⟩, ⟨⟨y3, i9, ((congrFun (f1.2 _ _ _ i0 (fun e => by unfold sBs at e; omega)).1 4).trans i10)⟩, i11⟩, ⟨fm, ((congrFun (f1.2 _ _ _ i0 (fun e => by unfold sBs at e; omega)).1 5).trans i12), ((congrFun (f1.2 _ _ _ i0 (fun e => by unfold sBs at e; omega)).1 6).trans i13), i14, i15⟩, ⟨_, ((congrFun (f1.2 _ _ _ i0 (fun e => by unfold sBs at e; omega)).1 7).trans i16)⟩, ((congrFun (f1.2 _ _ _ i0 (fun e => by unfold sBs at e; omega)).1 8).trans i17), ⟨yb, ((congrFun (f1.2 _ _ _ i0 (fun e => by unfold sBs at e; omega)).1 9).trans i18), S1⟩, ((congrFun (f1.2 _ _ _ i0 (fun e => by unfold sBs at e; omega)).1 10).trans i20), ⟨yv, ((congrFun (f1.2 _ _ _ i0 (fun e => by unfold sBs at e; omega)).1 11).trans i21), i22⟩, x0, ((congrFun (f1.2 _ _ _ i0 (fun e => by unfold sBs at e; omega)).1 12).trans i25), h0⟩
  have esp : (fun f => if o = o ∧ i = i then false else a.sp o i f) = fun _ => false := by funext f; exact if_pos ⟨rfl, rfl⟩
  have H1 : RepX (a.w_sp (fun x y f => if x = o ∧ y = i then false else a.sp x y f)) tk x0 g0 fi ps Y V1 I J1 A := H.w_sp (q := (fun x y f => if x = o ∧ y = i then false else a.sp x y f)) f1 (fun r o e => by unfold sBs at e; unfold gIn; omega) (H.In.one (o := o) (i := i) f1 (fun r c e _ => by unfold sBs at e; exact e.1) hp3 (by omega) (fun x y hn => ⟨rfl, by funext f; exact if_neg hn, rfl, rfl⟩) ⟨x, by rw [esp]; exact kn⟩)
  obtain ⟨b, hb⟩ : ∃ b, b = a.w_sp (fun x y f => if x = o ∧ y = i then false else a.sp x y f) := ⟨_, rfl⟩
  rw [← hb] at H1
  have b_n : b.n = a.n := by rw [hb]; rfl
  have b_p : b.p = a.p := by rw [hb]; rfl
  have b_st : b.st = a.st := by rw [hb]; rfl
  have b_ct : b.ct = a.ct := by rw [hb]; rfl
  have b_al : b.al = a.al := by rw [hb]; rfl
  have b_hd : b.hd = a.hd := by rw [hb]; rfl
  have b_nm : b.nm = a.nm := by rw [hb]; rfl
  have b_op : b.op = a.op := by rw [hb]; rfl
  have b_cf : b.cf = a.cf := by rw [hb]; rfl
  have b_kd : b.kd = a.kd := by rw [hb]; rfl
  have b_ky : b.ky = a.ky := by rw [hb]; rfl
  have hob : o < b.n := by rw [b_n]; exact ho
  have hib : i < b.p o := by rw [b_p]; exact hi
  obtain ⟨h0b, ⟨⟨pa0b, pb0b, pc0b⟩, ⟨pa5b, pb5b, pc5b⟩, ⟨pa6b, pb6b, pc6b⟩, ⟨pa8b, pb8b, pc8b⟩, ⟨pa9b, pb9b, pc9b⟩, ⟨pa10b, pb10b, pc10b⟩, ⟨pa11b, pb11b, pc11b⟩, ⟨pa12b, pb12b, pc12b⟩, ⟨pa13b, pb13b, pc13b⟩, ⟨pa20b, pb20b, pc20b⟩, ⟨pa21b, pb21b, pc21b⟩, ⟨pa22b, pb22b, pc22b⟩⟩, ⟨nq1b, nq2b, nq3b, nq4b⟩, nq7b, nq14b, nq15b, nq16b, nq17b, nq18b, nq19b⟩ := H1.Si
  obtain ⟨xib, kib⟩ := H1.In o hob i hib
  have eib : xib = x := P1.fn kib.1 hx
  rw [eib] at kib
  have ⟨i0b, ⟨i1b, i2b⟩, ⟨⟨y1b, i3b, i4b⟩, i5b⟩, ⟨⟨y2b, i6b, i7b⟩, i8b⟩, ⟨⟨y3b, i9b, i10b⟩, i11b⟩, ⟨fmb, i12b, i13b, i14b, i15b⟩, ⟨btb, i16b⟩, i17b, ⟨ybb, i18b, i19b⟩, i20b, ⟨yvb, i21b, i22b⟩, yzb, i23b, i24b⟩ := kib
  have i25b : V1 9 (3 * o + i) 12 = .ref x0 := i23b.trans (congrArg Value.ref (P1.fn i24b h0b))
  obtain ⟨xoo, koo⟩ := H1.Op o hob
  have ⟨k0o, k1o, k2o, k3o, k4o, k5o, ⟨xko, k6o, k7o⟩, k8o, k9o, k10o, k11o⟩ := koo
  have k1o : yK Y 4 o = b.kd o := k1o
  have k2o : V1 4 o 0 = .int (nI (b.kd o)) := k2o
  have k3o : V1 4 o 1 = .int (b.pa o) := k3o
  have k4o : V1 4 o 2 = .int (b.pb o) := k4o
  have k5o : V1 4 o 3 = .int (nI (b.p o)) := k5o
  rw [b_p] at k5o
  obtain ⟨xvk, qk, kv, kq1, kq2⟩ := H1.Ks o hob
  obtain rfl : xko = xvk := P1.fn k7o kv.1
  obtain ⟨xk0, pk0, sk0⟩ := kv.2 0 (by decide)
  obtain ⟨xk1, pk1, sk1⟩ := kv.2 1 (by decide)
  refine g_aload_n B 0 dX9_align_7 rfl ?_
  obtain ⟨n2, u2, ty2⟩ := P1.ty hx (by decide) rfl
  refine g_callV (rest := []) B M_X9_self q1391 q1393 qs26 ty2 rfl (c_X9_self P1 H1 hob hib hx k0o) rfl rfl (Nat.le_of_ble_eq_true rfl) (Nat.le_of_ble_eq_true rfl) (Nat.le_of_ble_eq_true rfl) (Nat.le_refl _) (Nat.le_refl _) dX9_align_8 (xkA (fun v2 T2 O2 R2 le2 p2 => ?_))
  obtain ⟨rfl, eT2, eO2, eR2⟩ := p2
  obtain rfl := eT2.symm
  obtain rfl := eO2.symm
  obtain rfl := eR2.symm
  refine x_get B P1 k0o (by decide) rfl (FO_X9_214 _) (by decide) k6o dX9_align_11 ?_
  refine x_get B P1 k7o (by decide) rfl F_X9_94_1 (by decide) pk0 dX9_align_14 ?_
  obtain ⟨n3, u3, ty3⟩ := P1.ty sk0.1 (by decide) rfl
  refine g_castS (q := (RX6, TX6, 3)) B ty3 rfl q1418 dX9_align_17 ?_
  refine g_aload_n B 0 dX9_align_20 rfl ?_
  obtain ⟨n4, u4, ty4⟩ := P1.ty hx (by decide) rfl
  refine g_callV (rest := [_]) B M_X9_self q1391 q1393 qs26 ty4 rfl (c_X9_self P1 H1 hob hib hx k0o) rfl rfl (Nat.le_of_ble_eq_true rfl) (Nat.le_of_ble_eq_true rfl) (Nat.le_of_ble_eq_true rfl) (Nat.le_refl _) (Nat.le_refl _) dX9_align_21 (xkA (fun v4 T4 O4 R4 le4 p4 => ?_))
  obtain ⟨rfl, eT4, eO4, eR4⟩ := p4
  obtain rfl := eT4.symm
  obtain rfl := eO4.symm
  obtain rfl := eR4.symm
  refine x_get B P1 k0o (by decide) rfl (FO_X9_214 _) (by decide) k6o dX9_align_24 ?_
  refine x_get B P1 k7o (by decide) rfl F_X9_225_1 (by decide) pk1 dX9_align_27 ?_
  obtain ⟨n5, u5, ty5⟩ := P1.ty sk1.1 (by decide) rfl
  refine g_castS (q := (RX6, TX6, 3)) B ty5 rfl q1418 dX9_align_30 ?_
  refine g_aload_n B 0 dX9_align_33 rfl ?_
  refine x_get B P1 hx (by decide) rfl F_X9_45_9 (by decide) i2b dX9_align_34 ?_
  refine g_aload_n B 0 dX9_align_37 rfl ?_
  obtain ⟨n6, u6, ty6⟩ := P1.ty hx (by decide) rfl
  refine g_callV (rest := [_, _, _]) B M_X9_self q1391 q1393 qs26 ty6 rfl (c_X9_self P1 H1 hob hib hx k0o) rfl rfl (Nat.le_of_ble_eq_true rfl) (Nat.le_of_ble_eq_true rfl) (Nat.le_of_ble_eq_true rfl) (Nat.le_refl _) (Nat.le_refl _) dX9_align_38 (xkA (fun v6 T6 O6 R6 le6 p6 => ?_))
  obtain ⟨rfl, eT6, eO6, eR6⟩ := p6
  obtain rfl := eT6.symm
  obtain rfl := eO6.symm
  obtain rfl := eR6.symm
  refine x_get B P1 k0o (by decide) rfl (FO_X9_87 _) (by decide) k5o dX9_align_41 ?_
  obtain ⟨n7, u7, ty7⟩ := P1.ty sk0.1 (by decide) rfl
  refine g_callV (rest := []) B M_X6_copyKeys q1640 q1641 q1642 ty7 rfl (c_X6_copyKeys (p := a.p o) (i := i) P1 ksRp sk0 sk1 (by omega) (by omega) (by omega) (by omega)) rfl rfl (Nat.le_of_ble_eq_true rfl) (Nat.le_of_ble_eq_true rfl) (Nat.le_of_ble_eq_true rfl) (Nat.le_refl _) (Nat.le_refl _) dX9_align_44 (xkN (fun T7 O7 R7 le7 p7 => ?_))
  obtain ⟨Y7, V7, I7, J7, A7, P7, rfl, rfl, S7, f7⟩ := p7
  have aK := alK H1 hob (fun v key h => by rw [b_st]; rw [b_kd] at h; exact (W.st v o key).1 h) kv pk1 kq1 kq2 f7 (by rw [b_p]; exact S7)
  obtain ⟨d, hd⟩ : ∃ d, d = b.w_st (fun v x key => if v = 1 ∧ x = o ∧ b.ky o = true ∧ key < 16 ∧ aHome key (b.p o) = i then b.st 0 o key else b.st v x key) := ⟨_, rfl⟩
  have H2 : RepX d tk x0 g0 fi ps Y V7 I7 J7 A := by rw [hd]; exact H1.w_st f7 (fun r o e => by unfold sKs at e; unfold gKs; omega) aK.1
  have d_n : d.n = a.n := by rw [hd]; exact b_n
  have d_p : d.p = a.p := by rw [hd]; exact b_p
  have d_ct : d.ct = a.ct := by rw [hd]; exact b_ct
  have d_al : d.al = a.al := by rw [hd]; exact b_al
  have d_hd : d.hd = a.hd := by rw [hd]; exact b_hd
  have d_nm : d.nm = a.nm := by rw [hd]; exact b_nm
  have d_op : d.op = a.op := by rw [hd]; exact b_op
  have d_cf : d.cf = a.cf := by rw [hd]; exact b_cf
  have hod : o < d.n := by rw [d_n]; exact ho
  have hid : i < d.p o := by rw [d_p]; exact hi
  have aK2 : XKs Y V7 I7 J7 d.n d.p d.st (alz (up2 d.al o i true)) := by rw [hd]; exact aK.2
  obtain ⟨h0d, ⟨⟨pa0d, pb0d, pc0d⟩, ⟨pa5d, pb5d, pc5d⟩, ⟨pa6d, pb6d, pc6d⟩, ⟨pa8d, pb8d, pc8d⟩, ⟨pa9d, pb9d, pc9d⟩, ⟨pa10d, pb10d, pc10d⟩, ⟨pa11d, pb11d, pc11d⟩, ⟨pa12d, pb12d, pc12d⟩, ⟨pa13d, pb13d, pc13d⟩, ⟨pa20d, pb20d, pc20d⟩, ⟨pa21d, pb21d, pc21d⟩, ⟨pa22d, pb22d, pc22d⟩⟩, ⟨nq1d, nq2d, nq3d, nq4d⟩, nq7d, nq14d, nq15d, nq16d, nq17d, nq18d, nq19d⟩ := H2.Si
  obtain ⟨xid, kid⟩ := H2.In o hod i hid
  have eid : xid = x := P7.fn kid.1 hx
  rw [eid] at kid
  have ⟨i0d, ⟨i1d, i2d⟩, ⟨⟨y1d, i3d, i4d⟩, i5d⟩, ⟨⟨y2d, i6d, i7d⟩, i8d⟩, ⟨⟨y3d, i9d, i10d⟩, i11d⟩, ⟨fmd, i12d, i13d, i14d, i15d⟩, ⟨btd, i16d⟩, i17d, ⟨ybd, i18d, i19d⟩, i20d, ⟨yvd, i21d, i22d⟩, yzd, i23d, i24d⟩ := kid
  have i25d : V7 9 (3 * o + i) 12 = .ref x0 := i23d.trans (congrArg Value.ref (P7.fn i24d h0d))
  obtain ⟨xvc, qc, kc, cq0, cq2, cq1⟩ := H2.Ct o hod i hid
  obtain rfl : yvd = xvc := P7.fn i22d kc.1
  obtain ⟨xc0, pc0_, sc0⟩ := kc.2 0 (by decide)
  obtain ⟨xc1, pc1_, sc1⟩ := kc.2 1 (by decide)
  refine g_aload_n B 0 dX9_align_47 rfl ?_
  refine x_get B P7 hx (by decide) rfl F_X9_38_9 (by decide) i21d dX9_align_48 ?_
  refine x_get B P7 i22d (by decide) rfl F_X9_94_1 (by decide) pc0_ dX9_align_51 ?_
  obtain ⟨n8, u8, ty8⟩ := P7.ty sc0.1 (by decide) rfl
  refine g_castS (q := (RX2, TX2, 1)) B ty8 rfl q1353 dX9_align_54 ?_
  refine g_aload_n B 0 dX9_align_57 rfl ?_
  refine x_get B P7 hx (by decide) rfl F_X9_38_9 (by decide) i21d dX9_align_58 ?_
  refine x_get B P7 i22d (by decide) rfl F_X9_225_1 (by decide) pc1_ dX9_align_61 ?_
  obtain ⟨n9, u9, ty9⟩ := P7.ty sc1.1 (by decide) rfl
  refine g_castS (q := (RX2, TX2, 1)) B ty9 rfl q1353 dX9_align_64 ?_
  obtain ⟨n10, u10, ty10⟩ := P7.ty sc0.1 (by decide) rfl
  refine g_callV (rest := []) B M_X2_copyTo q1647 q1648 q1649 ty10 rfl (c_X2_copyTo2 P7 (by decide) rfl sc0 sc1) rfl rfl (Nat.le_of_ble_eq_true rfl) (Nat.le_of_ble_eq_true rfl) (Nat.le_of_ble_eq_true rfl) (Nat.le_refl _) (Nat.le_refl _) dX9_align_67 (xkN (fun T10 O10 R10 le10 p10 => ?_))
  obtain ⟨Y10, V10, I10, J10, A10, P10, rfl, rfl, rfl, rfl, S10, f10⟩ := p10
  have aC := alC H2 (by rw [d_n, d_p]; exact hp3) hod hid kc pc1_ cq0 cq2 f10 S10
  have H3 : RepX ((d.w_ct (up3 d.ct 1 o i (d.ct 0 o i))).w_al (up2 d.al o i true)) tk x0 g0 fi ps Y V10 I7 J7 A := by
    have g : ∀ r c, s1 2 (3 * (3 * o + i) + 1) r c → r = 2 := fun r c e => e.1
    exact ⟨H2.Si.fr f10 (fun r c e q => by have h := g r c e; unfold gSi at q; omega), H2.Ol.fr f10 (fun r c e q => by have h := g r c e; unfold gOl at q; omega), H2.Op.fr f10 (fun r c e q => by have h := g r c e; unfold gOp at q; omega), aK2.fr f10 (fun r c e q => by have h := g r c e; unfold gKs at q; omega), H2.In.fr f10 (fun r c e q => by have h := g r c e; unfold gIn at q; omega), aC, H2.Of.fr f10 (fun r c e q => by have h := g r c e; unfold gOf at q; omega), H2.Ch.fr f10 (fun r c e q => by have h := g r c e; unfold gCh at q; omega), H2.Ar.fr f10 (fun r c e q => by have h := g r c e; unfold gAr at q; omega), H2.Ve.fr f10 (fun r c e q => by have h := g r c e; unfold gVe at q; omega), H2.Ip.fr f10 (fun r c e q => by have h := g r c e; unfold gIp at q; omega), H2.Tx.fr f10 (fun r c e q => by have h := g r c e; unfold gTx at q; omega), H2.Wr.fr f10 (fun r c e q => by have h := g r c e; unfold gWr at q; omega), H2.Ex.fr f10 (fun r c e q => by have h := g r c e; unfold gEx at q; omega), H2.La.fr f10 (fun r c e q => by have h := g r c e; unfold gLa at q; omega)⟩
  have e0 : (d.w_ct (up3 d.ct 1 o i (d.ct 0 o i))).w_al (up2 d.al o i true) = a.align0 o i := by rw [d_ct, d_al, hd, hb]; rfl
  rw [e0] at H3
  obtain ⟨g, hg⟩ : ∃ g, g = a.align0 o i := ⟨_, rfl⟩
  rw [← hg] at H3
  have g_n : g.n = a.n := by rw [hg]; rfl
  have g_p : g.p = a.p := by rw [hg]; rfl
  have g_hd : g.hd = a.hd := by rw [hg]; rfl
  have g_nm : g.nm = a.nm := by rw [hg]; rfl
  have g_op : g.op = a.op := by rw [hg]; rfl
  have g_cf : g.cf = a.cf := by rw [hg]; rfl
  have g_al : g.al = up2 a.al o i true := by rw [hg]; rfl
  have hog : o < g.n := by rw [g_n]; exact ho
  have hig : i < g.p o := by rw [g_p]; exact hi
  have hpg : ∀ o, o < g.n → g.p o ≤ 3 := by rw [g_n, g_p]; exact hp3
  obtain ⟨h0g, ⟨⟨pa0g, pb0g, pc0g⟩, ⟨pa5g, pb5g, pc5g⟩, ⟨pa6g, pb6g, pc6g⟩, ⟨pa8g, pb8g, pc8g⟩, ⟨pa9g, pb9g, pc9g⟩, ⟨pa10g, pb10g, pc10g⟩, ⟨pa11g, pb11g, pc11g⟩, ⟨pa12g, pb12g, pc12g⟩, ⟨pa13g, pb13g, pc13g⟩, ⟨pa20g, pb20g, pc20g⟩, ⟨pa21g, pb21g, pc21g⟩, ⟨pa22g, pb22g, pc22g⟩⟩, ⟨nq1g, nq2g, nq3g, nq4g⟩, nq7g, nq14g, nq15g, nq16g, nq17g, nq18g, nq19g⟩ := H3.Si
  obtain ⟨xig, kig⟩ := H3.In o hog i hig
  have eig : xig = x := P10.fn kig.1 hx
  rw [eig] at kig
  have ⟨i0g, ⟨i1g, i2g⟩, ⟨⟨y1g, i3g, i4g⟩, i5g⟩, ⟨⟨y2g, i6g, i7g⟩, i8g⟩, ⟨⟨y3g, i9g, i10g⟩, i11g⟩, ⟨fmg, i12g, i13g, i14g, i15g⟩, ⟨btg, i16g⟩, i17g, ⟨ybg, i18g, i19g⟩, i20g, ⟨yvg, i21g, i22g⟩, yzg, i23g, i24g⟩ := kig
  have i25g : V10 9 (3 * o + i) 12 = .ref x0 := i23g.trans (congrArg Value.ref (P10.fn i24g h0g))
  obtain ⟨xoh, koh⟩ := H3.Op o hog
  have ⟨k0h, k1h, k2h, k3h, k4h, k5h, ⟨xkh, k6h, k7h⟩, k8h, k9h, k10h, k11h⟩ := koh
  have k1h : yK Y 4 o = g.kd o := k1h
  have k2h : V10 4 o 0 = .int (nI (g.kd o)) := k2h
  have k3h : V10 4 o 1 = .int (g.pa o) := k3h
  have k4h : V10 4 o 2 = .int (g.pb o) := k4h
  have k5h : V10 4 o 3 = .int (nI (g.p o)) := k5h
  rw [g_p] at k5h
  rw [g_nm] at nq17g
  have nq17g := nq17g hrn
  refine g_aload_n B 0 dX9_align_70 rfl ?_
  obtain ⟨n11, u11, ty11⟩ := P10.ty hx (by decide) rfl
  refine g_callV (rest := []) B M_X9_isLast q1407 q1409 qs30 ty11 rfl (c_X9_isLast P10 H3 hog hig hx (by rw [g_n]; exact W.n6)) rfl rfl (Nat.le_of_ble_eq_true rfl) (Nat.le_of_ble_eq_true rfl) (Nat.le_of_ble_eq_true rfl) (Nat.le_refl _) (Nat.le_refl _) dX9_align_71 (xkA (fun v11 T11 O11 R11 le11 p11 => ?_))
  obtain ⟨rfl, eT11, eO11, eR11⟩ := p11
  obtain rfl := eT11.symm
  obtain rfl := eO11.symm
  obtain rfl := eR11.symm
  refine g_if_eqB (tgt := 117) B dX9_align_74 (by decide) (fun c12 => ?_) (fun c12 => ?_)
  · refine g_aload_n B 0 dX9_align_117 rfl ?_
    refine g_iconst (v := nI 1) B dX9_align_118 (by decide) ?_
    refine x_put (q := (RX9, TX9, 13)) B P10 hx (by decide) rfl F_X9_128_9 rfl rfl (tyX9_ok 8 (by decide)) rfl rfl dX9_align_119 (fun O13 V13 hs13 hk13 P13 => ?_)
    refine g_vret B E rfl dX9_align_122 ?_
    rw [aA.align_eq, ← hg]
    have hl2 : o + 1 < a.n := by have := c12; simp at this; rw [g_n] at this; omega
    rw [if_pos hl2]
    have fz : xFr (s1 9 (3 * o + i)) Y V10 I7 J7 A Y V13 I7 J7 A := xFr.uV ⟨rfl, rfl⟩ hs13 hk13
    have kn : xIs Y V13 I7 J7 o i x (g.ls o i) (g.sp o i) (g.pt o i) true := ⟨i0g, ⟨(rdK hs13 (by decide) i1g), (rdK hs13 (by decide) i2g)⟩, ⟨⟨y1g, i3g, (rdK hs13 (by decide) i4g)⟩, i5g⟩, ⟨⟨y2g, i6g, (rdK hs13 (by decide) i7g)⟩, i8g⟩, ⟨⟨y3g, i9g, (rdK hs13 (by decide) i10g)⟩, i11g⟩, ⟨fmg, (rdK hs13 (by decide) i12g), (rdK hs13 (by decide) i13g), i14g, i15g⟩, ⟨_, (rdK hs13 (by decide) i16g)⟩, (rdS hs13), ⟨ybg, (rdK hs13 (by decide) i18g), i19g.fr fz (fun e => by unfold s1 at e; omega) (fun e => by unfold s1 at e; omega)⟩, (rdK hs13 (by decide) i20g), ⟨yvg, (rdK hs13 (by decide) i21g), i22g⟩, x0, (rdK hs13 (by decide) i25g), h0g⟩
    exact ⟨rfl, _, _, _, _, _, P13, yLe.rf, H3.w_hd (q := up2 a.hd o i true) fz (fun r o e => by unfold s1 at e; unfold gIn; omega) (H3.In.one (o := o) (i := i) fz (fun r c e _ => e.2) hpg (by omega) (fun x y hn => ⟨rfl, rfl, rfl, by rw [g_hd]; exact up2_n hn⟩) ⟨x, by rw [up2_s]; exact kn⟩)⟩
  · refine g_aload_n B 0 dX9_align_77 rfl ?_
    refine x_get B P10 hx (by decide) rfl F_X9_3_9 (by decide) i25g dX9_align_78 ?_
    refine g_dup B dX9_align_81 rfl ?_
    refine x_get B P10 h0g (by decide) rfl F_X9_236_0 (by decide) nq17g dX9_align_82 ?_
    refine g_iconst (v := nI 1) B dX9_align_85 (by decide) ?_
    refine g_iaddN B dX9_align_86 ?_
    refine x_put (q := (RX0, TX0, 23)) B P10 h0g (by decide) rfl F_X9_236_0 rfl rfl (tyX0_ok 17 (by decide)) rfl rfl dX9_align_87 (fun O14 V14 hs14 hk14 P14 => ?_)
    have hl1 : o + 1 = a.n := by have := c12; simp at this; rw [← g_n]; exact this
    have fz : xFr (s1 0 0) Y V10 I7 J7 A Y V14 I7 J7 A := (xFr.uV (S := s1 0 0) (r := 0) (o := 0) ⟨rfl, rfl⟩ hs14 hk14)
    have hX : XSi Y V14 x0 g.cf (up1 g.nm 3 (a.sk + 1)) g.fl tk g.inp.length := ⟨h0g, ⟨⟨pa0g, (rdK hs14 (by decide) pb0g), pc0g⟩, ⟨pa5g, (rdK hs14 (by decide) pb5g), pc5g⟩, ⟨pa6g, (rdK hs14 (by decide) pb6g), pc6g⟩, ⟨pa8g, (rdK hs14 (by decide) pb8g), pc8g⟩, ⟨pa9g, (rdK hs14 (by decide) pb9g), pc9g⟩, ⟨pa10g, (rdK hs14 (by decide) pb10g), pc10g⟩, ⟨pa11g, (rdK hs14 (by decide) pb11g), pc11g⟩, ⟨pa12g, (rdK hs14 (by decide) pb12g), pc12g⟩, ⟨pa13g, (rdK hs14 (by decide) pb13g), pc13g⟩, ⟨pa20g, (rdK hs14 (by decide) pb20g), pc20g⟩, ⟨pa21g, (rdK hs14 (by decide) pb21g), pc21g⟩, ⟨pa22g, (rdK hs14 (by decide) pb22g), pc22g⟩⟩, ⟨(rdK hs14 (by decide) nq1g), (rdK hs14 (by decide) nq2g), (rdK hs14 (by decide) nq3g), (rdK hs14 (by decide) nq4g)⟩, (rdK hs14 (by decide) nq7g), (rdK hs14 (by decide) nq14g), (rdK hs14 (by decide) nq15g), (rdK hs14 (by decide) nq16g), (fun hr17 => (rdS hs14)), (rdK hs14 (by decide) nq18g), (rdK hs14 (by decide) nq19g)⟩
    have H4 : RepX (g.w_nm (up1 g.nm 3 (a.sk + 1))) tk x0 g0 fi ps Y V14 I7 J7 A := H3.w_nm (q := up1 g.nm 3 (a.sk + 1)) fz (fun r o e => e.1) rfl hX H3.Of
    rw [g_nm] at H4
    have hno : ¬ o + 1 < a.n := by omega
    refine g_aload_n B 0 dX9_align_90 rfl ?_
    refine x_get B P14 hx (by decide) rfl F_X9_3_9 (by decide) (rdR hk14 (by decide) i25g) dX9_align_91 ?_
    refine x_get B P14 h0g (by decide) rfl F_X9_236_0 (by decide) (rdS hs14) dX9_align_94 ?_
    refine g_aload_n B 0 dX9_align_97 rfl ?_
    obtain ⟨n15, u15, ty15⟩ := P14.ty hx (by decide) rfl
    refine g_callV (rest := [_]) B M_X9_self q1391 q1393 qs26 ty15 rfl (c_X9_self P14 H4 (show o < (g.w_nm (up1 a.nm 3 (a.sk + 1))).n from ho) hig hx k0h) rfl rfl (Nat.le_of_ble_eq_true rfl) (Nat.le_of_ble_eq_true rfl) (Nat.le_of_ble_eq_true rfl) (Nat.le_refl _) (Nat.le_refl _) dX9_align_98 (xkA (fun v15 T15 O15 R15 le15 p15 => ?_))
    obtain ⟨rfl, eT15, eO15, eR15⟩ := p15
    obtain rfl := eT15.symm
    obtain rfl := eO15.symm
    obtain rfl := eR15.symm
    refine x_get B P14 k0h (by decide) rfl (FO_X9_87 _) (by decide) (rdR hk14 (by decide) k5h) dX9_align_101 ?_
    refine g_icmp_neN (tgt := 122) B (by omega) (by omega) dX9_align_104 (by decide) (fun c16 => ?_) (fun c16 => ?_)
    · refine g_vret B E rfl dX9_align_122 ?_
      rw [aA.align_eq, ← hg]
      rw [if_neg hno, if_neg (show ¬ a.sk + 1 = a.p o from c16)]
      exact ⟨rfl, _, _, _, _, _, P14, yLe.rf, H4⟩
    · refine g_aload_n B 0 dX9_align_107 rfl ?_
      refine x_get B P14 hx (by decide) rfl F_X9_3_9 (by decide) (rdR hk14 (by decide) i25g) dX9_align_108 ?_
      obtain ⟨n17, u17, ty17⟩ := P14.ty h0g (by decide) rfl
      have hsk : a.sk + 1 = a.p o := c16
      have hv4 : vOk (g.w_nm (up1 a.nm 3 (a.sk + 1))) 2 1 := Or.inl ⟨rfl, rfl, (show 0 < a.rn from hrn), fun x hx y hy => by show g.al x y = true; rw [g_al]; exact hfin hl1 hsk x hx y (by rw [← g_p]; exact hy)⟩
      refine g_callVN (kc2 := 0) (ks2 := 0) (rest := []) B M_X0_complete q1651 q1653 qs39 ty17 rfl (c_X0_complete P14 H4 h0g hv4 (by show ∀ o, o < a.n → 1 ≤ g.p o ∧ g.p o ≤ 3; rw [g_p]; exact W.p1)) rfl rfl (Nat.le_of_ble_eq_true rfl) (Nat.le_of_ble_eq_true rfl) (Nat.le_of_ble_eq_true rfl) (by decide) (by decide) dX9_align_111 (xkN (fun T17 O17 R17 le17 p17 => ?_))
      obtain ⟨Y17, V17, I17, J17, A17, P17, l17, H17⟩ := p17
      refine g_goto (tgt := 122) B dX9_align_114 (by decide) ?_
      refine g_vret B E rfl dX9_align_122 ?_
      rw [aA.align_eq, ← hg]
      rw [if_neg hno, if_pos hsk]
      exact ⟨rfl, _, _, _, _, _, P17, l17, H17⟩
