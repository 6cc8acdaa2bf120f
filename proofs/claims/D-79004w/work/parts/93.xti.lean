set_option maxRecDepth 100000
/-- the offset's present value is set anew -/
theorem RepX.ofUp {a : aA} {tk x0 g0 fi ps k : Nat} {Y : xY} {V V1 : xVV} {I : xII} {J : xJJ} {A : xVV} (H : RepX a tk x0 g0 fi ps Y V I J A) (hs : V1 102 = va_up (V 102) (3 * 0 + 0) (va_up (V 102 (3 * 0 + 0)) 0 (.int (nI k)))) (hk : ∀ i, i ≠ 102 → V1 i = V i) : RepX (a.w_of (up1 a.of 0 k)) tk x0 g0 fi ps Y V1 I J A := by
  have f : xFr (s1 102 (3 * 0 + 0)) Y V I J A Y V1 I J A := xFr.uV ⟨rfl, rfl⟩ hs hk
  refine H.w_of (q := up1 a.of 0 k) f (fun r o e => by unfold s1 at e; unfold gOf; omega) ?_
  obtain ⟨x, q, ⟨k0, k1⟩, k2, k3, k4⟩ := H.Of
  refine ⟨x, fun v => if v = 0 then nI k else q v, ⟨k0, fun v hv => ?_⟩, rfl, (by show q 2 = nI (up1 a.of 0 k 2); rw [up1_n (by decide)]; exact k3), fun hr => (by show q 1 = nI (up1 a.of 0 k 1); rw [up1_n (by decide)]; exact k4 hr)⟩
  obtain ⟨xc, g1, g2, g3⟩ := k1 v hv
  refine ⟨xc, by rw [hk 201 (by decide)]; exact g1, g2, ?_⟩
  by_cases e : v = 0
  · subst e
    show V1 102 (3 * 0 + 0) 0 = .int (nI k)
    rw [hs, va_ups, va_ups]
  · show V1 102 (3 * 0 + v) 0 = .int (if v = 0 then nI k else q v)
    rw [if_neg e, hs, va_upe (by omega)]
    exact g3
theorem aA.take_in0 {a : aA} (h : a.of 0 = a.inp.length) : a.take 0 0 = (false, a) := by
  unfold aA.take
  rw [if_pos rfl, if_pos h]
theorem aA.take_in1 {a : aA} (h : ¬ a.of 0 = a.inp.length) : a.take 0 0 = (true, a.takeInput) := by
  unfold aA.take
  rw [if_pos rfl, if_neg h]
theorem WF.of1 {B : Nat} {a : aA} (h : WF B a) (hof : a.of 0 ≠ a.inp.length) : WF B (a.w_of (up1 a.of 0 (a.of 0 + 1))) := ⟨h.n2, h.n6, h.p1, h.p0, h.k0, h.kl, h.km, h.k3, h.kr, h.cf, h.inp, h.inpk, up1_P (P := fun _ c => c ≤ a.inp.length) h.ofs (by have := h.ofs 0; omega), h.nms, h.ls, h.lsu, h.ch, h.chu, h.ct, h.ctl, h.st, h.stu, h.pt, h.hdu, h.spu, h.bg⟩
theorem c_X9_takeInput {G : xG} {T : xT} {O R : xO} {Y : xY} {V : xVV} {I : xII} {J : xJJ} {A : xVV} {w0 : xW} {a : aA} {tk x0 g0 fi ps : Nat} {Bd : Nat} {x : Nat} (P : PX Y V I J A w0 T O R) (H : RepX a tk x0 g0 fi ps Y V I J A) (W : WF Bd a) (hx : yAt Y 9 (3 * 0 + 0) x) (hls : a.ls 0 0 = []) (hte : tk = a.tk - 1) (htk : tk ≤ 5000) : xCtrL G yX9_takeInput cX9_takeInput 2 (some Jvm.ClassFile.FieldType.boolean) 7 163 (4 * fi + ps) (18 * fi + ps) [.ref x] (T, O, R) (xAL (xRLB w0 Y (a.take 0 0) tk x0 g0)) := by
  refine xCtrL.of (by decide +kernel) (Nat.le_of_ble_eq_true rfl) ?_
  intro Z B E hz hnm
  change xV Z (T, O, R) 0 [(0, .ref x)] [] (4 * fi + ps) (18 * fi + ps)
  have ho : 0 < a.n := by have := W.n2; omega
  have hi : 0 < a.p 0 := by have := W.p0; omega
  have hofl := W.ofs 0
  have hinp := W.inp
  obtain ⟨h0, ⟨⟨pa0, pb0, pc0⟩, ⟨pa5, pb5, pc5⟩, ⟨pa6, pb6, pc6⟩, ⟨pa8, pb8, pc8⟩, ⟨pa9, pb9, pc9⟩, ⟨pa10, pb10, pc10⟩, ⟨pa11, pb11, pc11⟩, ⟨pa12, pb12, pc12⟩, ⟨pa13, pb13, pc13⟩, ⟨pa20, pb20, pc20⟩, ⟨pa21, pb21, pc21⟩, ⟨pa22, pb22, pc22⟩⟩, ⟨nq1, nq2, nq3, nq4⟩, nq7, nq14, nq15, nq16, nq17, nq18, nq19⟩ := H.Si
  obtain ⟨xi, ki⟩ := H.In 0 ho 0 hi
  have ei : xi = x := P.fn ki.1 hx
  rw [ei] at ki
  have ⟨i0, ⟨i1, i2⟩, ⟨⟨y1, i3, i4⟩, i5⟩, ⟨⟨y2, i6, i7⟩, i8⟩, ⟨⟨y3, i9, i10⟩, i11⟩, ⟨fm, i12, i13, i14, i15⟩, ⟨bt, i16⟩, i17, ⟨yb, i18, i19⟩, i20, ⟨yv, i21, i22⟩, yz, i23, i24⟩ := ki
  have i25 : V 9 (3 * 0 + 0) 12 = .ref x0 := i23.trans (congrArg Value.ref (P.fn i24 h0))
  obtain ⟨xv2, qo, ⟨ko0, ko1⟩, kq0, -, -⟩ := H.Of
  obtain rfl : pa9 = xv2 := P.fn pc9 ko0
  obtain ⟨xof, ko2, ko3⟩ := ko1 0 (by decide)
  have ko4 : V 102 (3 * 0 + 0) 0 = .int (nI (a.of 0)) := ko3.2.trans (congrArg Value.int kq0)
  obtain ⟨⟨z1, ip1⟩, ⟨z2, ip2⟩, ip3, ip4, ip5⟩ := H.Ip
  obtain rfl : pa5 = z1 := P.fn pc5 ip1
  obtain rfl : pa6 = z2 := P.fn pc6 ip2
  refine g_aload_n B 0 dX9_takeInput_0 rfl ?_
  refine x_get B P hx (by decide) rfl F_X9_3_9 (by decide) i25 dX9_takeInput_1 ?_
  refine x_get B P h0 (by decide) rfl F_X9_151_0 (by decide) pb9 dX9_takeInput_4 ?_
  refine x_get B P pc9 (by decide) rfl F_X9_94_1 (by decide) ko2 dX9_takeInput_7 ?_
  obtain ⟨n1, u1, ty1⟩ := P.ty ko3.1 (by decide) rfl
  refine g_castS (q := (RX2, TX2, 1)) B ty1 rfl q1353 dX9_takeInput_10 ?_
  refine x_get B P ko3.1 (by decide) rfl F_X9_102_2 (by decide) ko4 dX9_takeInput_13 ?_
  refine g_aload_n B 0 dX9_takeInput_16 rfl ?_
  refine x_get B P hx (by decide) rfl F_X9_3_9 (by decide) i25 dX9_takeInput_17 ?_
  refine x_get B P h0 (by decide) rfl F_X9_154_0 (by decide) nq7 dX9_takeInput_20 ?_
  refine g_icmp_neN (tgt := 28) B (by omega) (by omega) dX9_takeInput_23 (by decide) (fun c2 => ?_) (fun c2 => ?_)
  · have hlt : a.of 0 < a.inp.length := by omega
    obtain ⟨ipa, ipb⟩ := ip5 (a.of 0) hlt
    have hkey : (a.inp.getD (a.of 0) (0, 0)).1 < 16 := by rw [List.getD_eq_getElem?_getD, List.getElem?_eq_getElem hlt]; exact W.inpk _ (List.getElem_mem hlt)
    refine g_aload_n B 0 dX9_takeInput_28 rfl ?_
    refine x_get B P hx (by decide) rfl F_X9_3_9 (by decide) i25 dX9_takeInput_29 ?_
    refine x_get B P h0 (by decide) rfl F_X9_151_0 (by decide) pb9 dX9_takeInput_32 ?_
    refine x_get B P pc9 (by decide) rfl F_X9_94_1 (by decide) ko2 dX9_takeInput_35 ?_
    obtain ⟨n3, u3, ty3⟩ := P.ty ko3.1 (by decide) rfl
    refine g_castS (q := (RX2, TX2, 1)) B ty3 rfl q1353 dX9_takeInput_38 ?_
    refine x_get B P ko3.1 (by decide) rfl F_X9_102_2 (by decide) ko4 dX9_takeInput_41 ?_
    refine g_istore_n (lv2 := [(1, _), (0, _)]) B dX9_takeInput_44 (by decide) rfl ?_
    refine g_aload_n B 1 dX9_takeInput_45 rfl ?_
    refine x_get B P hx (by decide) rfl F_X9_3_9 (by decide) i25 dX9_takeInput_46 ?_
    refine x_get B P h0 (by decide) rfl F_X9_151_0 (by decide) pb9 dX9_takeInput_49 ?_
    refine x_get B P pc9 (by decide) rfl F_X9_94_1 (by decide) ko2 dX9_takeInput_52 ?_
    obtain ⟨n4, u4, ty4⟩ := P.ty ko3.1 (by decide) rfl
    refine g_castS (q := (RX2, TX2, 1)) B ty4 rfl q1353 dX9_takeInput_55 ?_
    refine g_dup B dX9_takeInput_58 rfl ?_
    refine x_get B P ko3.1 (by decide) rfl F_X9_102_2 (by decide) ko4 dX9_takeInput_59 ?_
    refine g_iconst (v := nI 1) B dX9_takeInput_62 (by decide) ?_
    refine g_iaddN B dX9_takeInput_63 ?_
    refine x_put (q := (RX2, TX2, 1)) B P ko3.1 (by decide) rfl F_X9_102_2 rfl rfl (tyX2_ok 0 (by decide)) rfl rfl dX9_takeInput_64 (fun O5 V5 hs5 hk5 P5 => ?_)
    refine g_aload_n B 1 dX9_takeInput_67 rfl ?_
    refine g_aload_n B 1 dX9_takeInput_68 rfl ?_
    refine x_get B P5 hx (by decide) rfl F_X9_3_9 (by decide) (rdR hk5 (by decide) i25) dX9_takeInput_69 ?_
    refine x_get B P5 h0 (by decide) rfl F_X9_157_0 (by decide) (rdR hk5 (by decide) pb5) dX9_takeInput_72 ?_
    refine g_iload_n B 0 dX9_takeInput_75 rfl ?_
    refine x_ldI B P5 pc5 (by decide) rfl ip3 (by omega) (by omega) ipa dX9_takeInput_76 ?_
    refine g_aload_n B 1 dX9_takeInput_77 rfl ?_
    refine x_get B P5 hx (by decide) rfl F_X9_3_9 (by decide) (rdR hk5 (by decide) i25) dX9_takeInput_78 ?_
    refine x_get B P5 h0 (by decide) rfl F_X9_160_0 (by decide) (rdR hk5 (by decide) pb6) dX9_takeInput_81 ?_
    refine g_iload_n B 0 dX9_takeInput_84 rfl ?_
    refine x_ldI B P5 pc6 (by decide) rfl ip4 (by omega) (by omega) ipb dX9_takeInput_85 ?_
    refine g_aload_n B 1 dX9_takeInput_86 rfl ?_
    refine x_get B P5 hx (by decide) rfl F_X9_3_9 (by decide) (rdR hk5 (by decide) i25) dX9_takeInput_87 ?_
    refine x_get B P5 h0 (by decide) rfl F_X9_163_0 (by decide) (rdR hk5 (by decide) nq14) dX9_takeInput_90 ?_
    obtain ⟨n6, u6, ty6⟩ := P5.ty hx (by decide) rfl
    have Ho : RepX (a.w_of (up1 a.of 0 (a.of 0 + 1))) tk x0 g0 fi ps Y V5 I J A := H.ofUp hs5 hk5
    have Wo := W.of1 (by omega)
    refine g_callVL (kc2 := 0) (ks2 := 0) (rest := []) B M_X9_process q1403 q1405 qs29 ty6 rfl (c_X9_process P5 Ho Wo ho hi hx hkey hls (Nat.le_refl _) htk) rfl rfl (Nat.le_of_ble_eq_true rfl) (Nat.le_of_ble_eq_true rfl) (Nat.le_of_ble_eq_true rfl) (Nat.le_of_eq (Nat.zero_add _)) (Nat.le_of_eq (Nat.zero_add _)) dX9_takeInput_93 (xkNL (fun T6 O6 R6 kl6 sl6 le6 p6 => ?_))
    obtain ⟨Y6, V6, I6, J6, A6, fi6, ps6, P6, le26, H6, kle6, sle6⟩ := p6
    refine xV.room (kc' := 4 * fi6 + ps6) (ks' := 18 * fi6 + ps6) (by omega) (by omega) ?_
    refine g_iconst (v := nI 1) B dX9_takeInput_96 (by decide) ?_
    refine g_iretL B E rfl rfl dX9_takeInput_97 ?_
    have hin : a.take 0 0 = (true, (a.w_of (up1 a.of 0 (a.of 0 + 1))).takeIn 0 0 ((a.inp.getD (a.of 0) (0, 0)).1, (a.inp.getD (a.of 0) (0, 0)).2, tk)) := by rw [aA.take_in1 (by omega), hte]; rfl
    exact ⟨_, rfl, by rw [hin]; rfl, _, _, _, _, _, fi6, ps6, P6, le26, by rw [hin]; exact H6, Nat.le_refl _, Nat.le_refl _⟩
  · refine g_iconst (v := nI 0) B dX9_takeInput_26 (by decide) ?_
    refine g_iretL B E rfl rfl dX9_takeInput_27 ?_
    exact ⟨_, rfl, by rw [aA.take_in0 (by omega)]; rfl, _, _, _, _, _, fi, ps, P, yLe.rf, by rw [aA.take_in0 (by omega)]; exact H, Nat.le_refl _, Nat.le_refl _⟩
