set_option maxRecDepth 100000
def sCk : Nat → Nat → Prop := fun r o => r = 0 ∨ (r = 102 ∧ o = 3 * 0 + 1) ∨ (r = 2 ∧ o = 3 * (3 * 0 + 0) + 1) ∨ (r = 9 ∧ o = 3 * 0 + 0)
theorem c_X0_checkpoint {G : xG} {T : xT} {O R : xO} {Y : xY} {V : xVV} {I : xII} {J : xJJ} {A : xVV} {w0 : xW} {a : aA} {tk x0 g0 fi ps : Nat} {Bd : Nat} (P : PX Y V I J A w0 T O R) (H : RepX a tk x0 g0 fi ps Y V I J A) (W : WF Bd a) (hB : Bd < 2000000) (h0q : yAt Y 0 0 x0) : xCtr G yX0_checkpoint cX0_checkpoint 1 (some Jvm.ClassFile.FieldType.int) 1 21 0 0 [.ref x0] (T, O, R) (xA (fun v T2 O2 R2 => v = .int a.chkF.1 ∧ xR w0 Y a.chkF.2 tk x0 g0 fi ps T2 O2 R2)) := by
  refine xCtr.of (by decide +kernel) (Nat.le_of_ble_eq_true rfl) ?_
  intro Z B E hz hnm
  change xV Z (T, O, R) 0 [(0, .ref x0)] [] 0 0
  have ho : 0 < a.n := by have := W.n2; omega
  have hi : 0 < a.p 0 := by have := W.p0; omega
  have hnm := W.nms
  have hpp0 := W.p0
  have hp3 : ∀ o, o < a.n → a.p o ≤ 3 := fun o ho => (W.p1 o ho).2
  obtain ⟨h0, ⟨⟨pa0, pb0, pc0⟩, ⟨pa5, pb5, pc5⟩, ⟨pa6, pb6, pc6⟩, ⟨pa8, pb8, pc8⟩, ⟨pa9, pb9, pc9⟩, ⟨pa10, pb10, pc10⟩, ⟨pa11, pb11, pc11⟩, ⟨pa12, pb12, pc12⟩, ⟨pa13, pb13, pc13⟩, ⟨pa20, pb20, pc20⟩, ⟨pa21, pb21, pc21⟩, ⟨pa22, pb22, pc22⟩⟩, ⟨nq1, nq2, nq3, nq4⟩, nq7, nq14, nq15, nq16, nq17, nq18, nq19⟩ := H.Si
  obtain ⟨xv2, qo, ⟨ko0, ko1⟩, kq0, -, -⟩ := H.Of
  obtain rfl : pa9 = xv2 := P.fn pc9 ko0
  obtain ⟨xof, ko2, ko3⟩ := ko1 0 (by decide)
  have ko4 : V 102 (3 * 0 + 0) 0 = .int (nI (a.of 0)) := ko3.2.trans (congrArg Value.int kq0)
  obtain ⟨xor, kr2, kr3⟩ := ko1 1 (by decide)
  obtain ⟨⟨xi, e1, e2, e3⟩, -⟩ := H.Ar
  obtain rfl : pa11 = xi := P.fn pc11 e1
  obtain ⟨xr, cr1, cr2, cr3, cr4⟩ := e3 0 ho
  obtain ⟨xw, dr1, dr2⟩ := cr4 0 hi
  obtain ⟨xi, ki⟩ := H.In 0 ho 0 hi
  have ei : xi = xw := P.fn ki.1 dr2
  rw [ei] at ki
  have ⟨i0, ⟨i1, i2⟩, ⟨⟨y1, i3, i4⟩, i5⟩, ⟨⟨y2, i6, i7⟩, i8⟩, ⟨⟨y3, i9, i10⟩, i11⟩, ⟨fm, i12, i13, i14, i15⟩, ⟨bt, i16⟩, i17, ⟨yb, i18, i19⟩, i20, ⟨yv, i21, i22⟩, yz, i23, i24⟩ := ki
  have i25 : V 9 (3 * 0 + 0) 12 = .ref x0 := i23.trans (congrArg Value.ref (P.fn i24 h0))
  obtain ⟨xcv, qc, kc, cq0, cq2, cq1⟩ := H.Ct 0 ho 0 hi
  obtain rfl : yv = xcv := P.fn i22 kc.1
  obtain ⟨xc0, pc0_, sc0⟩ := kc.2 0 (by decide)
  obtain ⟨xc1, pc1_, sc1⟩ := kc.2 1 (by decide)
  have sc02 : V 2 (3 * (3 * 0 + 0) + 0) 0 = .int (nI (a.ct 0 0 0)) := sc0.2.trans (congrArg Value.int cq0)
  refine g_aload_n B 0 dX0_checkpoint_0 rfl ?_
  refine x_get B P h0q (by decide) rfl F_X0_213_0 (by decide) nq16 dX0_checkpoint_1 ?_
  refine g_if_leN (tgt := 11) B (by omega) dX0_checkpoint_4 (by decide) (fun c1 => ?_) (fun c1 => ?_)
  · refine g_aload_n B 0 dX0_checkpoint_11 rfl ?_
    refine g_iconst (v := nI 1) B dX0_checkpoint_12 (by decide) ?_
    refine x_put (q := (RX0, TX0, 23)) B P h0q (by decide) rfl F_X0_222_0 rfl rfl (tyX0_ok 19 (by decide)) rfl rfl dX0_checkpoint_13 (fun O2 V2 hs2 hk2 P2 => ?_)
    refine g_aload_n B 0 dX0_checkpoint_16 rfl ?_
    refine g_aload_n B 0 dX0_checkpoint_17 rfl ?_
    refine x_get B P2 h0q (by decide) rfl F_X0_210_0 (by decide) (rdK hs2 (by decide) nq15) dX0_checkpoint_18 ?_
    refine g_iconst (v := nI 1) B dX0_checkpoint_21 (by decide) ?_
    refine g_iaddN B dX0_checkpoint_22 ?_
    refine x_put (q := (RX0, TX0, 23)) B P2 h0q (by decide) rfl F_X0_213_0 rfl rfl (tyX0_ok 16 (by decide)) rfl rfl dX0_checkpoint_23 (fun O3 V3 hs3 hk3 P3 => ?_)
    refine g_aload_n B 0 dX0_checkpoint_26 rfl ?_
    refine g_iconst (v := nI 0) B dX0_checkpoint_27 (by decide) ?_
    refine x_put (q := (RX0, TX0, 23)) B P3 h0q (by decide) rfl F_X0_216_0 rfl rfl (tyX0_ok 17 (by decide)) rfl rfl dX0_checkpoint_28 (fun O4 V4 hs4 hk4 P4 => ?_)
    refine g_aload_n B 0 dX0_checkpoint_31 rfl ?_
    refine x_get B P4 h0q (by decide) rfl F_X0_123_0 (by decide) (rdK hs4 (by decide) (rdK hs3 (by decide) (rdK hs2 (by decide) pb9))) dX0_checkpoint_32 ?_
    refine x_get B P4 pc9 (by decide) rfl F_X0_260_1 (by decide) (rdR hk4 (by decide) (rdR hk3 (by decide) (rdR hk2 (by decide) ko2))) dX0_checkpoint_35 ?_
    obtain ⟨n5, u5, ty5⟩ := P4.ty ko3.1 (by decide) rfl
    refine g_castS (q := (RX2, TX2, 1)) B ty5 rfl q223 dX0_checkpoint_38 ?_
    refine g_aload_n B 0 dX0_checkpoint_41 rfl ?_
    refine x_get B P4 h0q (by decide) rfl F_X0_123_0 (by decide) (rdK hs4 (by decide) (rdK hs3 (by decide) (rdK hs2 (by decide) pb9))) dX0_checkpoint_42 ?_
    refine x_get B P4 pc9 (by decide) rfl F_X0_288_1 (by decide) (rdR hk4 (by decide) (rdR hk3 (by decide) (rdR hk2 (by decide) kr2))) dX0_checkpoint_45 ?_
    obtain ⟨n6, u6, ty6⟩ := P4.ty kr3.1 (by decide) rfl
    refine g_castS (q := (RX2, TX2, 1)) B ty6 rfl q223 dX0_checkpoint_48 ?_
    obtain ⟨n7, u7, ty7⟩ := P4.ty ko3.1 (by decide) rfl
    have gA : xFr sCk Y V I J A Y V4 I J A := (((xFr.uV (S := sCk) (r := 0) (o := 0) (by unfold sCk; omega) hs2 hk2).tr (xFr.uV (S := sCk) (r := 0) (o := 0) (by unfold sCk; omega) hs3 hk3)).tr (xFr.uV (S := sCk) (r := 0) (o := 0) (by unfold sCk; omega) hs4 hk4))
    refine g_callV (rest := []) B M_X2_copyTo q1824 q1648 q1649 ty7 rfl (c_X2_copyTo2 P4 (by decide) rfl ⟨ko3.1, (rdR hk4 (by decide) (rdR hk3 (by decide) (rdR hk2 (by decide) ko4)))⟩ ⟨kr3.1, (rdR hk4 (by decide) (rdR hk3 (by decide) (rdR hk2 (by decide) kr3.2)))⟩) rfl rfl (Nat.le_of_ble_eq_true rfl) (Nat.le_of_ble_eq_true rfl) (Nat.le_of_ble_eq_true rfl) (Nat.le_refl _) (Nat.le_refl _) dX0_checkpoint_51 (xkN (fun T7 O7 R7 le7 p7 => ?_))
    obtain ⟨Y7, V7, I7, J7, A7, P7, rfl, rfl, rfl, rfl, S7, f7⟩ := p7
    have gA2 : xFr sCk Y V I J A Y V7 I J A := gA.tr (f7.mono (fun r o e => by unfold s1 at e; unfold sCk; omega))
    refine g_aload_n B 0 dX0_checkpoint_54 rfl ?_
    refine x_get B P7 h0q (by decide) rfl F_X0_132_0 (by decide) ((congrFun (f7.2 _ _ _ h0 (fun e => by unfold s1 at e; omega)).1 11).trans (rdK hs4 (by decide) (rdK hs3 (by decide) (rdK hs2 (by decide) pb11)))) dX0_checkpoint_55 ?_
    refine g_iconst (v := nI 0) B dX0_checkpoint_58 (by decide) ?_
    refine x_ldA B P7 pc11 (by decide) rfl rfl rfl e2 (by omega) (by omega) ((congrFun (f7.2 _ _ _ e1 (fun e => by unfold s1 at e; omega)).2.2.2 0).trans cr1) dX0_checkpoint_59 ?_
    refine g_iconst (v := nI 0) B dX0_checkpoint_60 (by decide) ?_
    refine x_ldA B P7 cr2 (by decide) rfl rfl rfl cr3 (by omega) (by omega) ((congrFun (f7.2 _ _ _ cr2 (fun e => by unfold s1 at e; omega)).2.2.2 0).trans dr1) dX0_checkpoint_61 ?_
    refine x_get B P7 dr2 (by decide) rfl F_X0_193_9 (by decide) ((congrFun (f7.2 _ _ _ i0 (fun e => by unfold s1 at e; omega)).1 11).trans (rdR hk4 (by decide) (rdR hk3 (by decide) (rdR hk2 (by decide) i21)))) dX0_checkpoint_62 ?_
    refine x_get B P7 i22 (by decide) rfl F_X0_260_1 (by decide) ((congrFun (f7.2 _ _ _ kc.1 (fun e => by unfold s1 at e; omega)).1 0).trans (rdR hk4 (by decide) (rdR hk3 (by decide) (rdR hk2 (by decide) pc0_)))) dX0_checkpoint_65 ?_
    obtain ⟨n8, u8, ty8⟩ := P7.ty sc0.1 (by decide) rfl
    refine g_castS (q := (RX2, TX2, 1)) B ty8 rfl q223 dX0_checkpoint_68 ?_
    refine g_aload_n B 0 dX0_checkpoint_71 rfl ?_
    refine x_get B P7 h0q (by decide) rfl F_X0_132_0 (by decide) ((congrFun (f7.2 _ _ _ h0 (fun e => by unfold s1 at e; omega)).1 11).trans (rdK hs4 (by decide) (rdK hs3 (by decide) (rdK hs2 (by decide) pb11)))) dX0_checkpoint_72 ?_
    refine g_iconst (v := nI 0) B dX0_checkpoint_75 (by decide) ?_
    refine x_ldA B P7 pc11 (by decide) rfl rfl rfl e2 (by omega) (by omega) ((congrFun (f7.2 _ _ _ e1 (fun e => by unfold s1 at e; omega)).2.2.2 0).trans cr1) dX0_checkpoint_76 ?_
    refine g_iconst (v := nI 0) B dX0_checkpoint_77 (by decide) ?_
    refine x_ldA B P7 cr2 (by decide) rfl rfl rfl cr3 (by omega) (by omega) ((congrFun (f7.2 _ _ _ cr2 (fun e => by unfold s1 at e; omega)).2.2.2 0).trans dr1) dX0_checkpoint_78 ?_
    refine x_get B P7 dr2 (by decide) rfl F_X0_193_9 (by decide) ((congrFun (f7.2 _ _ _ i0 (fun e => by unfold s1 at e; omega)).1 11).trans (rdR hk4 (by decide) (rdR hk3 (by decide) (rdR hk2 (by decide) i21)))) dX0_checkpoint_79 ?_
    refine x_get B P7 i22 (by decide) rfl F_X0_288_1 (by decide) ((congrFun (f7.2 _ _ _ kc.1 (fun e => by unfold s1 at e; omega)).1 1).trans (rdR hk4 (by decide) (rdR hk3 (by decide) (rdR hk2 (by decide) pc1_)))) dX0_checkpoint_82 ?_
    obtain ⟨n9, u9, ty9⟩ := P7.ty sc1.1 (by decide) rfl
    refine g_castS (q := (RX2, TX2, 1)) B ty9 rfl q223 dX0_checkpoint_85 ?_
    obtain ⟨n10, u10, ty10⟩ := P7.ty sc0.1 (by decide) rfl
    have gB := gA2
    refine g_callV (rest := []) B M_X2_copyTo q1824 q1648 q1649 ty10 rfl (c_X2_copyTo2 P7 (by decide) rfl ⟨sc0.1, ((congrFun (f7.2 _ _ _ sc0.1 (fun e => by unfold s1 at e; omega)).1 0).trans (rdR hk4 (by decide) (rdR hk3 (by decide) (rdR hk2 (by decide) sc02))))⟩ ⟨sc1.1, ((congrFun (f7.2 _ _ _ sc1.1 (fun e => by unfold s1 at e; omega)).1 0).trans (rdR hk4 (by decide) (rdR hk3 (by decide) (rdR hk2 (by decide) sc1.2))))⟩) rfl rfl (Nat.le_of_ble_eq_true rfl) (Nat.le_of_ble_eq_true rfl) (Nat.le_of_ble_eq_true rfl) (Nat.le_refl _) (Nat.le_refl _) dX0_checkpoint_88 (xkN (fun T10 O10 R10 le10 p10 => ?_))
    obtain ⟨Y10, V10, I10, J10, A10, P10, rfl, rfl, rfl, rfl, S10, f10⟩ := p10
    have gB2 : xFr sCk Y V I J A Y V10 I J A := gB.tr (f10.mono (fun r o e => by unfold s1 at e; unfold sCk; omega))
    refine g_aload_n B 0 dX0_checkpoint_91 rfl ?_
    refine x_get B P10 h0q (by decide) rfl F_X0_132_0 (by decide) ((congrFun (f10.2 _ _ _ h0 (fun e => by unfold s1 at e; omega)).1 11).trans ((congrFun (f7.2 _ _ _ h0 (fun e => by unfold s1 at e; omega)).1 11).trans (rdK hs4 (by decide) (rdK hs3 (by decide) (rdK hs2 (by decide) pb11))))) dX0_checkpoint_92 ?_
    refine g_iconst (v := nI 0) B dX0_checkpoint_95 (by decide) ?_
    refine x_ldA B P10 pc11 (by decide) rfl rfl rfl e2 (by omega) (by omega) ((congrFun (f10.2 _ _ _ e1 (fun e => by unfold s1 at e; omega)).2.2.2 0).trans ((congrFun (f7.2 _ _ _ e1 (fun e => by unfold s1 at e; omega)).2.2.2 0).trans cr1)) dX0_checkpoint_96 ?_
    refine g_iconst (v := nI 0) B dX0_checkpoint_97 (by decide) ?_
    refine x_ldA B P10 cr2 (by decide) rfl rfl rfl cr3 (by omega) (by omega) ((congrFun (f10.2 _ _ _ cr2 (fun e => by unfold s1 at e; omega)).2.2.2 0).trans ((congrFun (f7.2 _ _ _ cr2 (fun e => by unfold s1 at e; omega)).2.2.2 0).trans dr1)) dX0_checkpoint_98 ?_
    refine g_iconst (v := nI 1) B dX0_checkpoint_99 (by decide) ?_
    refine x_put (q := (RX9, TX9, 13)) B P10 dr2 (by decide) rfl F_X0_294_9 rfl rfl (tyX9_ok 8 (by decide)) rfl rfl dX0_checkpoint_100 (fun O11 V11 hs11 hk11 P11 => ?_)
    refine g_aload_n B 0 dX0_checkpoint_103 rfl ?_
    refine x_get B P11 h0q (by decide) rfl F_X0_213_0 (by decide) (rdR hk11 (by decide) ((congrFun (f10.2 _ _ _ h0 (fun e => by unfold s1 at e; omega)).1 16).trans ((congrFun (f7.2 _ _ _ h0 (fun e => by unfold s1 at e; omega)).1 16).trans (rdK hs4 (by decide) (rdS hs3))))) dX0_checkpoint_104 ?_
    refine g_iret B E rfl rfl dX0_checkpoint_107 ?_
    have hF : a.chkF = (nI (a.nm 1 + 1), a.chk) := by unfold aA.chkF; exact if_neg (by omega)
    have gz : xFr sCk Y V I J A Y V11 I J A := gB2.tr (xFr.uV (r := 9) (o := (3 * 0 + 0)) (by unfold sCk; omega) hs11 hk11)
    have nSi : XSi Y V11 x0 a.cf (up1 (up1 (up1 a.nm 2 (a.nm 1 + 1)) 4 1) 3 0) a.fl tk a.inp.length := ⟨h0, ⟨⟨pa0, (rdR hk11 (by decide) ((congrFun (f10.2 _ _ _ h0 (fun e => by unfold s1 at e; omega)).1 0).trans ((congrFun (f7.2 _ _ _ h0 (fun e => by unfold s1 at e; omega)).1 0).trans (rdK hs4 (by decide) (rdK hs3 (by decide) (rdK hs2 (by decide) pb0)))))), pc0⟩, ⟨pa5, (rdR hk11 (by decide) ((congrFun (f10.2 _ _ _ h0 (fun e => by unfold s1 at e; omega)).1 5).trans ((congrFun (f7.2 _ _ _ h0 (fun e => by unfold s1 at e; omega)).1 5).trans (rdK hs4 (by decide) (rdK hs3 (by decide) (rdK hs2 (by decide) pb5)))))), pc5⟩, ⟨pa6, (rdR hk11 (by decide) ((congrFun (f10.2 _ _ _ h0 (fun e => by unfold s1 at e; omega)).1 6).trans ((congrFun (f7.2 _ _ _ h0 (fun e => by unfold s1 at e; omega)).1 6).trans (rdK hs4 (by decide) (rdK hs3 (by decide) (rdK hs2 (by decide) pb6)))))), pc6⟩, ⟨pa8, (rdR hk11 (by decide) ((congrFun (f10.2 _ _ _ h0 (fun e => by unfold s1 at e; omega)).1 8).trans ((congrFun (f7.2 _ _ _ h0 (fun e => by unfold s1 at e; omega)).1 8).trans (rdK hs4 (by decide) (rdK hs3 (by decide) (rdK hs2 (by decide) pb8)))))), pc8⟩, ⟨pa9, (rdR hk11 (by decide) ((congrFun (f10.2 _ _ _ h0 (fun e => by unfold s1 at e; omega)).1 9).trans ((congrFun (f7.2 _ _ _ h0 (fun e => by unfold s1 at e; omega)).1 9).trans (rdK hs4 (by decide) (rdK hs3 (by decide) (rdK hs2 (by decide) pb9)))))), pc9⟩, ⟨pa10, (rdR hk11 (by decide) ((congrFun (f10.2 _ _ _ h0 (fun e => by unfold s1 at e; omega)).1 10).trans ((congrFun (f7.2 _ _ _ h0 (fun e => by unfold s1 at e; omega)).1 10).trans (rdK hs4 (by decide) (rdK hs3 (by decide) (rdK hs2 (by decide) pb10)))))), pc10⟩, ⟨pa11, (rdR hk11 (by decide) ((congrFun (f10.2 _ _ _ h0 (fun e => by unfold s1 at e; omega)).1 11).trans ((congrFun (f7.2 _ _ _ h0 (fun e => by unfold s1 at e; omega)).1 11).trans (rdK hs4 (by decide) (rdK hs3 (by decide) (rdK hs2 (by decide) pb11)))))), pc11⟩, ⟨pa12, (rdR hk11 (by decide) ((congrFun (f10.2 _ _ _ h0 (fun e => by unfold s1 at e; omega)).1 12).trans ((congrFun (f7.2 _ _ _ h0 (fun e => by unfold s1 at e; omega)).1 12).trans (rdK hs4 (by decide) (rdK hs3 (by decide) (rdK hs2 (by decide) pb12)))))), pc12⟩, ⟨pa13, (rdR hk11 (by decide) ((congrFun (f10.2 _ _ _ h0 (fun e => by unfold s1 at e; omega)).1 13).trans ((congrFun (f7.2 _ _ _ h0 (fun e => by unfold s1 at e; omega)).1 13).trans (rdK hs4 (by decide) (rdK hs3 (by decide) (rdK hs2 (by decide) pb13)))))), pc13⟩, ⟨pa20, (rdR hk11 (by decide) ((congrFun (f10.2 _ _ _ h0 (fun e => by unfold s1 at e; omega)).1 20).trans ((congrFun (f7.2 _ _ _ h0 (fun e => by unfold s1 at e; omega)).1 20).trans (rdK hs4 (by decide) (rdK hs3 (by decide) (rdK hs2 (by decide) pb20)))))), pc20⟩, ⟨pa21, (rdR hk11 (by decide) ((congrFun (f10.2 _ _ _ h0 (fun e => by unfold s1 at e; omega)).1 21).trans ((congrFun (f7.2 _ _ _ h0 (fun e => by unfold s1 at e; omega)).1 21).trans (rdK hs4 (by decide) (rdK hs3 (by decide) (rdK hs2 (by decide) pb21)))))), pc21⟩, ⟨pa22, (rdR hk11 (by decide) ((congrFun (f10.2 _ _ _ h0 (fun e => by unfold s1 at e; omega)).1 22).trans ((congrFun (f7.2 _ _ _ h0 (fun e => by unfold s1 at e; omega)).1 22).trans (rdK hs4 (by decide) (rdK hs3 (by decide) (rdK hs2 (by decide) pb22)))))), pc22⟩⟩, ⟨(rdR hk11 (by decide) ((congrFun (f10.2 _ _ _ h0 (fun e => by unfold s1 at e; omega)).1 1).trans ((congrFun (f7.2 _ _ _ h0 (fun e => by unfold s1 at e; omega)).1 1).trans (rdK hs4 (by decide) (rdK hs3 (by decide) (rdK hs2 (by decide) nq1)))))), (rdR hk11 (by decide) ((congrFun (f10.2 _ _ _ h0 (fun e => by unfold s1 at e; omega)).1 2).trans ((congrFun (f7.2 _ _ _ h0 (fun e => by unfold s1 at e; omega)).1 2).trans (rdK hs4 (by decide) (rdK hs3 (by decide) (rdK hs2 (by decide) nq2)))))), (rdR hk11 (by decide) ((congrFun (f10.2 _ _ _ h0 (fun e => by unfold s1 at e; omega)).1 3).trans ((congrFun (f7.2 _ _ _ h0 (fun e => by unfold s1 at e; omega)).1 3).trans (rdK hs4 (by decide) (rdK hs3 (by decide) (rdK hs2 (by decide) nq3)))))), (rdR hk11 (by decide) ((congrFun (f10.2 _ _ _ h0 (fun e => by unfold s1 at e; omega)).1 4).trans ((congrFun (f7.2 _ _ _ h0 (fun e => by unfold s1 at e; omega)).1 4).trans (rdK hs4 (by decide) (rdK hs3 (by decide) (rdK hs2 (by decide) nq4))))))⟩, (rdR hk11 (by decide) ((congrFun (f10.2 _ _ _ h0 (fun e => by unfold s1 at e; omega)).1 7).trans ((congrFun (f7.2 _ _ _ h0 (fun e => by unfold s1 at e; omega)).1 7).trans (rdK hs4 (by decide) (rdK hs3 (by decide) (rdK hs2 (by decide) nq7)))))), (rdR hk11 (by decide) ((congrFun (f10.2 _ _ _ h0 (fun e => by unfold s1 at e; omega)).1 14).trans ((congrFun (f7.2 _ _ _ h0 (fun e => by unfold s1 at e; omega)).1 14).trans (rdK hs4 (by decide) (rdK hs3 (by decide) (rdK hs2 (by decide) nq14)))))), (rdR hk11 (by decide) ((congrFun (f10.2 _ _ _ h0 (fun e => by unfold s1 at e; omega)).1 15).trans ((congrFun (f7.2 _ _ _ h0 (fun e => by unfold s1 at e; omega)).1 15).trans (rdK hs4 (by decide) (rdK hs3 (by decide) (rdK hs2 (by decide) nq15)))))), (rdR hk11 (by decide) ((congrFun (f10.2 _ _ _ h0 (fun e => by unfold s1 at e; omega)).1 16).trans ((congrFun (f7.2 _ _ _ h0 (fun e => by unfold s1 at e; omega)).1 16).trans (rdK hs4 (by decide) (rdS hs3))))), (fun hr17 => (rdR hk11 (by decide) ((congrFun (f10.2 _ _ _ h0 (fun e => by unfold s1 at e; omega)).1 17).trans ((congrFun (f7.2 _ _ _ h0 (fun e => by unfold s1 at e; omega)).1 17).trans (rdS hs4))))), (rdR hk11 (by decide) ((congrFun (f10.2 _ _ _ h0 (fun e => by unfold s1 at e; omega)).1 18).trans ((congrFun (f7.2 _ _ _ h0 (fun e => by unfold s1 at e; omega)).1 18).trans (rdK hs4 (by decide) (rdK hs3 (by decide) (rdK hs2 (by decide) nq18)))))), (rdR hk11 (by decide) ((congrFun (f10.2 _ _ _ h0 (fun e => by unfold s1 at e; omega)).1 19).trans ((congrFun (f7.2 _ _ _ h0 (fun e => by unfold s1 at e; omega)).1 19).trans (rdK hs4 (by decide) (rdK hs3 (by decide) (rdS hs2))))))⟩
    have nKs : XKs Y V11 I J a.n a.p (fun v => if v = 1 then (fun _ _ => none) else a.st v) (alz (up2 (fun _ _ => false) 0 0 true)) := fun o ho => by
      obtain ⟨x, q, k, k1, k2⟩ := H.Ks o ho
      refine ⟨x, q, k.fr gz (fun e => by unfold sCk at e; omega) (fun r v hv hr e => by unfold sCk at e; omega), k1, fun key hk ha => ?_⟩
      have h0 : o = 0 := by
        unfold alz up2 at ha
        by_cases e : o = 0
        · exact e
        · rw [if_neg (fun q => e q.1)] at ha; simp at ha; exact ha
      subst h0
      rw [k2 key hk (by unfold alz; simp)]
      exact (W.st 1 0 key).1 (by rw [W.k0]; rfl)
    have kn : xIs Y V11 I J 0 0 xw (a.ls 0 0) (a.sp 0 0) (a.pt 0 0) true := ⟨i0, ⟨(rdK hs11 (by decide) ((congrFun (f10.2 _ _ _ i0 (fun e => by unfold s1 at e; omega)).1 0).trans ((congrFun (f7.2 _ _ _ i0 (fun e => by unfold s1 at e; omega)).1 0).trans (rdR hk4 (by decide) (rdR hk3 (by decide) (rdR hk2 (by decide) i1)))))), (rdK hs11 (by decide) ((congrFun (f10.2 _ _ _ i0 (fun e => by unfold s1 at e; omega)).1 1).trans ((congrFun (f7.2 _ _ _ i0 (fun e => by unfold s1 at e; omega)).1 1).trans (rdR hk4 (by decide) (rdR hk3 (by decide) (rdR hk2 (by decide) i2))))))⟩, ⟨⟨y1, i3, (rdK hs11 (by decide) ((congrFun (f10.2 _ _ _ i0 (fun e => by unfold s1 at e; omega)).1 2).trans ((congrFun (f7.2 _ _ _ i0 (fun e => by unfold s1 at e; omega)).1 2).trans (rdR hk4 (by decide) (rdR hk3 (by decide) (rdR hk2 (by decide) i4))))))⟩, i5⟩, ⟨⟨y2, i6, (rdK hs11 (by decide) ((congrFun (f10.2 _ _ _ i0 (fun e => by unfold s1 at e; omega)).1 3).trans ((congrFun (f7.2 _ _ _ i0 (fun e => by unfold s1 at e; omega)).1 3).trans (rdR hk4 (by decide) (rdR hk3 (by decide) (rdR hk2 (by decide) i7))))))⟩, i8⟩, ⟨⟨y3, i9, (rdK hs11 (by decide) ((congrFun (f10.2 _ _ _ i0 (fun e => by unfold s1 at e; omega)).1 4).trans ((congrFun (f7.2 _ _ _ i0 (fun e => by unfold s1 at e; omega)).1 4).trans (rdR hk4 (by decide) (rdR hk3 (by decide) (rdR hk2 (by decide) i10))))))⟩, i11⟩, ⟨fm, (rdK hs11 (by decide) ((congrFun (f10.2 _ _ _ i0 (fun e => by unfold s1 at e; omega)).1 5).trans ((congrFun (f7.2 _ _ _ i0 (fun e => by unfold s1 at e; omega)).1 5).trans (rdR hk4 (by decide) (rdR hk3 (by decide) (rdR hk2 (by decide) i12)))))), (rdK hs11 (by decide) ((congrFun (f10.2 _ _ _ i0 (fun e => by unfold s1 at e; omega)).1 6).trans ((congrFun (f7.2 _ _ _ i0 (fun e => by unfold s1 at e; omega)).1 6).trans (rdR hk4 (by decide) (rdR hk3 (by decide) (rdR hk2 (by decide) i13)))))), i14, i15⟩, ⟨_, (rdK hs11 (by decide) ((congrFun (f10.2 _ _ _ i0 (fun e => by unfold s1 at e; omega)).1 7).trans ((congrFun (f7.2 _ _ _ i0 (fun e => by unfold s1 at e; omega)).1 7).trans (rdR hk4 (by decide) (rdR hk3 (by decide) (rdR hk2 (by decide) i16))))))⟩, (rdS hs11), ⟨yb, (rdK hs11 (by decide) ((congrFun (f10.2 _ _ _ i0 (fun e => by unfold s1 at e; omega)).1 9).trans ((congrFun (f7.2 _ _ _ i0 (fun e => by unfold s1 at e; omega)).1 9).trans (rdR hk4 (by decide) (rdR hk3 (by decide) (rdR hk2 (by decide) i18)))))), i19.fr gz (fun e => by unfold sCk at e; omega) (fun e => by unfold sCk at e; omega)⟩, (rdK hs11 (by decide) ((congrFun (f10.2 _ _ _ i0 (fun e => by unfold s1 at e; omega)).1 10).trans ((congrFun (f7.2 _ _ _ i0 (fun e => by unfold s1 at e; omega)).1 10).trans (rdR hk4 (by decide) (rdR hk3 (by decide) (rdR hk2 (by decide) i20)))))), ⟨yv, (rdK hs11 (by decide) ((congrFun (f10.2 _ _ _ i0 (fun e => by unfold s1 at e; omega)).1 11).trans ((congrFun (f7.2 _ _ _ i0 (fun e => by unfold s1 at e; omega)).1 11).trans (rdR hk4 (by decide) (rdR hk3 (by decide) (rdR hk2 (by decide) i21)))))), i22⟩, x0, (rdK hs11 (by decide) ((congrFun (f10.2 _ _ _ i0 (fun e => by unfold s1 at e; omega)).1 12).trans ((congrFun (f7.2 _ _ _ i0 (fun e => by unfold s1 at e; omega)).1 12).trans (rdR hk4 (by decide) (rdR hk3 (by decide) (rdR hk2 (by decide) i25)))))), h0⟩
    have nIn : XIn Y V11 I J a.n a.p a.ls a.sp a.pt (up2 a.hd 0 0 true) := H.In.one (o := 0) (i := 0) gz (fun r c e q => by unfold sCk at e; unfold gIn at q; omega) hp3 (by decide) (fun x y hn => ⟨rfl, rfl, rfl, up2_n hn⟩) ⟨xw, by rw [up2_s]; exact kn⟩
    have nCt : XCt Y V11 a.n a.p (fun v => if v = 1 then up2 (fun _ _ => 0) 0 0 (a.ct 0 0 0) else a.ct v) (up2 (fun _ _ => false) 0 0 true) := fun o ho i hi => by
      obtain ⟨x, q, k, h0, h2, h1⟩ := H.Ct o ho i hi
      by_cases e : o = 0 ∧ i = 0
      · obtain ⟨rfl, rfl⟩ := e
        have ex : x = yv := P.fn k.1 kc.1
        refine ⟨x, up1 q 1 (nI (a.ct 0 0 0)), ⟨k.1, fun v hv => ?_⟩, h0, h2, fun _ => by rw [up1_s]; show nI (a.ct 0 0 0) = nI (up2 (fun _ _ => 0) 0 0 (a.ct 0 0 0) 0 0); rw [up2_s]⟩
        obtain ⟨xc, j1, j2⟩ := k.2 v hv
        have ev : V11 101 (3 * 0 + 0) = V 101 (3 * 0 + 0) := (gz.2 101 _ x k.1 (fun e => by unfold sCk at e; omega)).1
        refine ⟨xc, (congrFun ev v).trans j1, ?_⟩
        by_cases e1 : v = 1
        · subst e1; have exc : xc = xc1 := by have q := j1.symm.trans pc1_; injection q
          rw [up1_s, exc]; exact ⟨sc1.1, (rdR hk11 (by decide) S10.2)⟩
        · rw [up1_n e1]; exact j2.fr gz (fun q => by unfold sCk at q; omega)
      · refine ⟨x, q, k.fr gz (fun q => by unfold sCk at q; omega) (fun v hv q => by unfold sCk at q; have := hp3 o ho; omega), h0, h2, fun ha => ?_⟩
        rw [up2_n e] at ha; cases ha
    have nOf : XOf Y V11 (fun v => if v = 1 then a.of 0 else a.of v) (a.nm 1 + 1) := by
      obtain ⟨x, q, k, h0, h2, h1⟩ := H.Of
      refine ⟨x, up1 q 1 (nI (a.of 0)), ⟨k.1, fun v hv => ?_⟩, h0, h2, fun _ => rfl⟩
      obtain ⟨xc, j1, j2⟩ := k.2 v hv
      have ev : V11 201 0 = V 201 0 := (gz.2 201 _ x k.1 (fun e => by unfold sCk at e; omega)).1
      refine ⟨xc, (congrFun ev v).trans j1, ?_⟩
      by_cases e1 : v = 1
      · subst e1; have exc : xc = xor := by have q := j1.symm.trans kr2; injection q
        rw [up1_s, exc]; exact ⟨kr3.1, (rdR hk11 (by decide) ((congrFun (f10.2 _ _ _ kr3.1 (fun e => by unfold s1 at e; omega)).1 0).trans S7.2))⟩
      · rw [up1_n e1]; exact j2.fr gz (fun q => by unfold sCk at q; omega)
    have Hn : RepX a.chk tk x0 g0 fi ps Y V11 I J A := ⟨nSi, H.Ol.fr gz (fun r o e q => by unfold sCk at e; unfold gOl at q; omega), H.Op.fr gz (fun r o e q => by unfold sCk at e; unfold gOp at q; omega), nKs, nIn, nCt, nOf, H.Ch.fr gz (fun r o e q => by unfold sCk at e; unfold gCh at q; omega), H.Ar.fr gz (fun r o e q => by unfold sCk at e; unfold gAr at q; omega), H.Ve.fr gz (fun r o e q => by unfold sCk at e; unfold gVe at q; omega), H.Ip.fr gz (fun r o e q => by unfold sCk at e; unfold gIp at q; omega), H.Tx.fr gz (fun r o e q => by unfold sCk at e; unfold gTx at q; omega), H.Wr.fr gz (fun r o e q => by unfold sCk at e; unfold gWr at q; omega), H.Ex.fr gz (fun r o e q => by unfold sCk at e; unfold gEx at q; omega), H.La.fr gz (fun r o e q => by unfold sCk at e; unfold gLa at q; omega)⟩
    exact ⟨_, rfl, by rw [hF], _, _, _, _, _, P11, yLe.rf, by rw [hF]; exact Hn⟩
  · refine g_ldcw (v := (-1000000005)) B q1823 dX0_checkpoint_7 ?_
    refine g_iret B E rfl rfl dX0_checkpoint_10 ?_
    have hF : a.chkF = (-1000000005, a) := by unfold aA.chkF; exact if_pos (by omega)
    exact ⟨_, rfl, by rw [hF], _, _, _, _, _, P, yLe.rf, by rw [hF]; exact H⟩
