set_option maxRecDepth 100000
def sR1 : Nat → Nat → Prop := fun r _ => r = 50 ∨ r = 102 ∨ r = 2 ∨ r = 35 ∨ r = 4001 ∨ r = 1021 ∨ r = 1022
def sR2 : Nat → Nat → Prop := fun r _ => r = 50 ∨ r = 4 ∨ r = 35 ∨ r = 4001 ∨ r = 1021 ∨ r = 1022
theorem begins_eq (a : aA) : (a.begins.cf = a.cf ∧ a.begins.op = a.op ∧ a.begins.inp = a.inp ∧ a.begins.txt = a.txt ∧ a.begins.ex = a.ex ∧ a.begins.wr = a.wr ∧ a.begins.n = a.n ∧ a.begins.p = a.p) ∧ (a.begins.nm 1 = 0 ∧ a.begins.nm 2 = 0 ∧ a.begins.nm 4 = 0 ∧ a.begins.fl = 0 ∧ a.begins.nm 0 = 0) ∧ (a.begins.ls = (fun _ _ => []) ∧ a.begins.sp = (fun _ _ _ => false) ∧ a.begins.pt = (fun _ _ => 0) ∧ a.begins.hd = (fun _ _ => false) ∧ a.begins.ch = (fun _ _ _ => c0) ∧ a.begins.al = (fun _ _ => false)) ∧ (a.begins.ct 0 = (fun _ _ => 0) ∧ a.begins.ct 2 = (fun _ _ => 0) ∧ a.begins.of 0 = 0 ∧ a.begins.of 2 = 0 ∧ a.begins.stt = (fun _ _ => 0)) ∧ ∀ v, v < 3 → a.begins.st v = (fun _ _ => none) := by
  refine ⟨⟨rfl, rfl, rfl, rfl, rfl, rfl, rfl, rfl⟩, ⟨rfl, rfl, rfl, rfl, rfl⟩, ⟨rfl, rfl, rfl, rfl, rfl, rfl⟩, ⟨rfl, rfl, rfl, rfl, rfl⟩, fun v hv => ?_⟩
  rcases (show v = 0 ∨ v = 1 ∨ v = 2 by omega) with rfl | rfl | rfl <;> rfl
/-- the relation of the state set back, from its groups -/
theorem RepX.beg {a : aA} {x0 g0 fi ps tk : Nat} {Y : xY} {V : xVV} {I : xII} {J : xJJ} {A : xVV} {nm : Nat → Nat} (hSi : XSi Y V x0 a.cf a.begins.nm 0 0 a.inp.length) (hOl : XOl Y V A g0 a.n) (hO : rsO Y V I J a.n a.op a.n) (hIn : XIn Y V I J a.n a.p (fun _ _ => []) (fun _ _ _ => false) (fun _ _ => 0) (fun _ _ => false)) (hV : rsV Y V I J a.n a.p 1) (hCh : XCh Y V I A a.n a.p (fun _ _ _ => ([], [], 0)) fi) (hAr : XAr Y A a.n a.p) (hVe : XVe Y V A g0 a.n a.p) (hIp : XIp Y I a.inp) (hTx : XTx Y V I a.txt) (hWr : XWr Y V I a.wr) (hEx : XEx Y V A g0 a.ex) (hLa : XLa Y V ps) : RepX a.begins 0 x0 g0 fi ps Y V I J A := by
  obtain ⟨⟨e1, e2, e3, e4, e5, e6, e7, e8⟩, ⟨-, f2, -, f4, -⟩, ⟨i1, i2, i3, i4, i5, i6⟩, ⟨c1, c2, c3, c4, c5⟩, st⟩ := begins_eq a
  generalize a.begins = b at *
  unfold RepX
  have er : b.rn = 0 := f2
  rw [e1, e2, e3, e4, e5, e6, e7, e8, i1, i2, i3, i4, i5, i6, c5, f4]
  obtain ⟨⟨xo, qo, ho, hz⟩, -, hC⟩ := hV
  refine ⟨hSi, hOl, fun o ho => ?_, fun o ho => ?_, hIn, fun o ho i hi => ?_, ⟨xo, qo, ho, by rw [hz (by decide), c3]; rfl, by rw [hz (by decide), c4]; rfl, fun q => absurd q (by rw [er]; exact Nat.lt_irrefl 0)⟩, hCh, hAr, hVe, hIp, hTx, hWr, hEx, hLa⟩
  · obtain ⟨x, xk, st4, q, k1, -, -, k4⟩ := hO o ho
    obtain ⟨z1, -⟩ := k4 ho
    obtain ⟨g0, g1, g2, g3, g4, g5, g6, g7, g8, g9, g10⟩ := k1
    exact ⟨x, g0, g1, g2, g3, g4, g5, g6, by rw [g7, z1 0 (by decide)], by rw [g8, z1 1 (by decide)], by rw [g9, z1 2 (by decide)], by rw [g10, z1 3 (by decide)]⟩
  · obtain ⟨x, xk, st4, q, -, -, k3, k4⟩ := hO o ho
    obtain ⟨-, z2⟩ := k4 ho
    refine ⟨xk, q, k3, fun key hk => ?_, fun key hk ha => ?_⟩
    · rw [z2, st 0 (by decide), st 2 (by decide)]; exact ⟨rfl, rfl⟩
    · rw [z2, st 1 (by decide)]
  · obtain ⟨x, k⟩ := hC o ho i hi
    exact ⟨x, _, k, by rw [c1]; rfl, by rw [c2]; rfl, fun ha => absurd ha Bool.false_ne_true⟩
theorem c_X0_restart {G : xG} {T : xT} {O R : xO} {Y : xY} {V : xVV} {I : xII} {J : xJJ} {A : xVV} {w0 : xW} {a : aA} {tk x0 g0 fi ps : Nat} (P : PX Y V I J A w0 T O R) (H : RepX a tk x0 g0 fi ps Y V I J A) (W : sOk a) (hg : g0 = G.2.2.2.2 0) (h0q : yAt Y 0 0 x0) : xCtr G yX0_restart cX0_restart 3 none 8 214 549 6411 [.ref x0] (T, O, R) (xN (xPN w0 (fun Y2 V2 I2 J2 A2 => ∃ fi2, RepX a.begins 0 x0 g0 fi2 19872 Y2 V2 I2 J2 A2))) := by
  refine xCtr.of (by decide +kernel) (Nat.le_of_ble_eq_true rfl) ?_
  intro Z B E hz hnm
  change xV Z (T, O, R) 0 [(0, .ref x0)] [] 549 6411
  have hn2 := W.n2
  have hn6 := W.n6
  subst hg
  obtain ⟨pl, pv, po, p7, p10, ll, lv, xl, sp, hBo, Lv, hsm, hSp, hs3⟩ := RepX.bo P H W
  have hp3 : ∀ o, (fun o => min (a.p o) 3) o ≤ 3 := fun o => Nat.min_le_right _ _
  have hpp : ∀ o, o < a.n → (fun o => min (a.p o) 3) o = a.p o := fun o ho => Nat.min_eq_left (W.p1 o ho).2
  refine g_aload_n B 0 dX0_restart_0 rfl ?_
  obtain ⟨n1, u1, ty1⟩ := P.ty h0q (by decide) rfl
  refine g_callV (kc2 := 3) (ks2 := 72) (rest := []) B M_X0_build q494 q496 qs4 ty1 rfl (c_X0_build P.dr hBo Lv rfl hsm hSp hs3 (bN1_dr Y) (bN2_dr Y) hn2 hn6 hp3) rfl rfl (Nat.le_of_ble_eq_true rfl) (Nat.le_of_ble_eq_true rfl) (Nat.le_of_ble_eq_true rfl) (by decide) (by decide) dX0_restart_1 (xkN (fun T1 O1 R1 le1 p1 => ?_))
  obtain ⟨Y1, V1, I1, J1, A1, P1, f1, in1, ct1, ch1, ar1, ve1⟩ := p1
  have hSi := H.Si.dr.fr f1 (fun r o e q => by unfold sBd gIn gCh at e; unfold gSi at q; omega)
  have hOl := H.Ol.dr.fr f1 (fun r o e q => by unfold sBd gIn gCh at e; unfold gOl at q; omega)
  have hOp := H.Op.dr.fr f1 (fun r o e q => by unfold sBd gIn gCh at e; unfold gOp at q; omega)
  have hKs := H.Ks.dr.fr f1 (fun r o e q => by unfold sBd gIn gCh at e; unfold gKs at q; omega)
  have hOf := H.Of.dr.fr f1 (fun r o e q => by unfold sBd gIn gCh at e; unfold gOf at q; omega)
  have hIp := H.Ip.dr.fr f1 (fun r o e q => by unfold sBd gIn gCh at e; unfold gIp at q; omega)
  have hTx := H.Tx.dr.fr f1 (fun r o e q => by unfold sBd gIn gCh at e; unfold gTx at q; omega)
  have hWr := H.Wr.dr.fr f1 (fun r o e q => by unfold sBd gIn gCh at e; unfold gWr at q; omega)
  have hEx := H.Ex.dr.fr f1 (fun r o e q => by unfold sBd gIn gCh at e; unfold gEx at q; omega)
  have hLa := H.La.dr.fr f1 (fun r o e q => by unfold sBd gIn gCh at e; unfold gLa at q; omega)
  have hIn := in1.pc hpp
  have hAr := ar1.pc hpp
  have hVe := ve1.pc hpp
  obtain ⟨fi2, hCh0⟩ := ch1
  have hCh := hCh0.pc hpp
  have hCt : ∀ o, o < a.n → ∀ i, i < a.p o → ∃ x, xVc Y1 V1 101 2 (3 * o + i) x (fun _ => 0) := fun o ho i hi => ct1 o ho i (by show i < min (a.p o) 3; rw [Nat.min_eq_left (W.p1 o ho).2]; exact hi)
  have h01 : yAt Y1 0 0 x0 := f1.1.at (by rw [yDr_at Y (show ¬ dR 0 by unfold dR gIn; omega)]; exact h0q)
  obtain ⟨xv, lb, Lb, lbn, lbA⟩ := hVe
  have hVe : XVe Y1 V1 A1 (G.2.2.2.2 0) a.n a.p := ⟨xv, lb, Lb, lbn, lbA⟩
  have hSi0 := hSi
  obtain ⟨h0b, ⟨⟨pa0b, pb0b, pc0b⟩, ⟨pa5b, pb5b, pc5b⟩, ⟨pa6b, pb6b, pc6b⟩, ⟨pa8b, pb8b, pc8b⟩, ⟨pa9b, pb9b, pc9b⟩, ⟨pa10b, pb10b, pc10b⟩, ⟨pa11b, pb11b, pc11b⟩, ⟨pa12b, pb12b, pc12b⟩, ⟨pa13b, pb13b, pc13b⟩, ⟨pa20b, pb20b, pc20b⟩, ⟨pa21b, pb21b, pc21b⟩, ⟨pa22b, pb22b, pc22b⟩⟩, ⟨nq1b, nq2b, nq3b, nq4b⟩, nq7b, nq14b, nq15b, nq16b, nq17b, nq18b, nq19b⟩ := hSi0
  obtain rfl : pa10b = xv := P1.fn pc10b Lb.1
  obtain ⟨mv, hmv⟩ := Lb.2.1
  refine g_aload_n B 0 dX0_restart_4 rfl ?_
  refine x_get B P1 h01 (by decide) rfl F_X0_127_0 (by decide) pb10b dX0_restart_5 ?_
  obtain ⟨n2, u2, ty2⟩ := P1.ty pc10b (by decide) rfl
  refine g_callV (kc2 := 2) (ks2 := 68) (rest := []) B M_J4_iterator q829 q830 q831 ty2 rfl (c_J4_iterator (rd := 5003) (g0 := G.2.2.2.2 0) (l := lb) P1 (by decide) rfl Lb.1 hmv) rfl rfl (Nat.le_of_ble_eq_true rfl) (Nat.le_of_ble_eq_true rfl) (Nat.le_of_ble_eq_true rfl) (by decide) (by decide) dX0_restart_8 (xkA (fun v2 T2 O2 R2 le2 p2 => ?_))
  obtain ⟨Y2, V2, q2, P2, e2, it2, f2⟩ := p2
  obtain rfl := e2
  refine g_astore_n (lv2 := [(1, _), (0, _)]) B dX0_restart_11 (by decide) rfl ?_
  have L0 := Lb.fr f2 (fun e => by unfold s50 at e; omega) (fun o e => by unfold s50 at e; omega)
  have mv0 : V2 134 0 0 = .int mv := (congrFun (f2.2 134 0 pa10b Lb.1 (fun e => by unfold s50 at e; omega)).1 0).trans hmv
  have RS0 : rsV Y2 V2 I1 J1 a.n a.p 0 := by
    refine rsV.fr ⟨?_, fun o ho => ?_, hCt⟩ f2 (fun r o e => e)
    · obtain ⟨x, q, k, -⟩ := hOf; exact ⟨x, q, k, fun h => absurd h (Nat.lt_irrefl 0)⟩
    · obtain ⟨x, q, k, -⟩ := hKs o ho; exact ⟨x, q, k⟩
  have cq := f2.1.1.at Lb.1
  have itq := it2.1
  have h0z := f2.1.1.at h01
  have hAt : ∀ j, j < lb.length → yAt Y2 ((vl a.n a.p).getD j (0, 0)).1 ((vl a.n a.p).getD j (0, 0)).2 (lb.getD j 0) := fun j hj => f2.1.1.at (lbA j hj)
  have Lv : ∀ (dv : Nat) (k : Nat) (V1v : xVV) (I1v : xII) (J1v : xJJ) (T1v : xT) (O1v R1v : xO), dv = lb.length - k → PX Y2 V1v I1v J1v A1 w0 T1v O1v R1v → (k ≤ lb.length) → (xFr sR1 Y2 V2 I1 J1 A1 Y2 V1v I1v J1v A1) → (rsV Y2 V1v I1v J1v a.n a.p k) → (xIt Y2 V1v q2 pa10b k mv) → xV Z (T1v, O1v, R1v) 12 [(1, .ref q2), (0, .ref x0)] [] 2 68 := by
    intro dv
    induction dv using Nat.strongRecOn with
    | _ dv ihv =>
      intro k V1v I1v J1v T1v O1v R1v hdv P1v hkl_ F1 RS itk
      have L1 := L0.fr F1 (fun e => by unfold sR1 at e; omega) (fun o e => by unfold sR1 at e; omega)
      have mv1 : V1v 134 0 0 = .int mv := (congrFun (F1.2 134 0 pa10b cq (fun e => by unfold sR1 at e; omega)).1 0).trans mv0
      refine g_aload_n B 0 dX0_restart_12 rfl ?_
      obtain ⟨n101, u101, ty101⟩ := P1v.ty itq (by decide) rfl
      refine g_callF (rest := []) B (q := (RJ20, TJ20, 4)) M_J20_hasNext ⟨by decide +kernel, by decide +kernel, by decide +kernel⟩ q855 q877 q875 q857 q856 q878 q876 q874 ty101 rfl (c_J20_hasNext (m := mv) P1v (by decide) rfl L1 mv1 itk (by omega)) rfl rfl (Nat.le_of_ble_eq_true rfl) (Nat.le_of_ble_eq_true rfl) (Nat.le_of_ble_eq_true rfl) (Nat.le_refl _) (Nat.le_refl _) dX0_restart_13 (xkA (fun v101 T101 O101 R101 le101 p101 => ?_))
      obtain ⟨rfl, eT101, eO101, eR101⟩ := p101
      obtain rfl := eT101.symm
      obtain rfl := eO101.symm
      obtain rfl := eR101.symm
      refine g_if_eqB (tgt := 38) B dX0_restart_18 (by decide) (fun c102 => ?_) (fun c102 => ?_)
      · have hk1 : 1 ≤ k := by have q : (vl a.n a.p).length = lb.length := lbn.symm; have hc := c102; simp at hc; have q2 : 1 ≤ (vl a.n a.p).length := (by unfold vl; exact Nat.succ_le_succ (Nat.zero_le _)); omega
        have RSe : rsV Y2 V1v I1v J1v a.n a.p 1 := ⟨by obtain ⟨x, q, k, hz⟩ := RS.1; exact ⟨x, q, k, fun _ => hz (by omega)⟩, RS.2⟩
        have kSi := (hSi.fr f2 (fun r o e q => by unfold s50 at e; unfold gSi at q; omega)).fr F1 (fun r o e q => by unfold sR1 at e; unfold gSi at q; omega)
        have kOl := (hOl.fr f2 (fun r o e q => by unfold s50 at e; unfold gOl at q; omega)).fr F1 (fun r o e q => by unfold sR1 at e; unfold gOl at q; omega)
        have kIp := (hIp.fr f2 (fun r o e q => by unfold s50 at e; unfold gIp at q; omega)).fr F1 (fun r o e q => by unfold sR1 at e; unfold gIp at q; omega)
        have kTx := (hTx.fr f2 (fun r o e q => by unfold s50 at e; unfold gTx at q; omega)).fr F1 (fun r o e q => by unfold sR1 at e; unfold gTx at q; omega)
        have kWr := (hWr.fr f2 (fun r o e q => by unfold s50 at e; unfold gWr at q; omega)).fr F1 (fun r o e q => by unfold sR1 at e; unfold gWr at q; omega)
        have kEx := (hEx.fr f2 (fun r o e q => by unfold s50 at e; unfold gEx at q; omega)).fr F1 (fun r o e q => by unfold sR1 at e; unfold gEx at q; omega)
        have kLa := (hLa.fr f2 (fun r o e q => by unfold s50 at e; unfold gLa at q; omega)).fr F1 (fun r o e q => by unfold sR1 at e; unfold gLa at q; omega)
        have kIn := (hIn.fr f2 (fun r o e q => by unfold s50 at e; unfold gIn at q; omega)).fr F1 (fun r o e q => by unfold sR1 at e; unfold gIn at q; omega)
        have kCh := (hCh.fr f2 (fun r o e q => by unfold s50 at e; unfold gCh at q; omega)).fr F1 (fun r o e q => by unfold sR1 at e; unfold gCh at q; omega)
        have kAr := (hAr.fr f2 (fun r o e q => by unfold s50 at e; unfold gAr at q; omega)).fr F1 (fun r o e q => by unfold sR1 at e; unfold gAr at q; omega)
        have kVe := (hVe.fr f2 (fun r o e q => by unfold s50 at e; unfold gVe at q; omega)).fr F1 (fun r o e q => by unfold sR1 at e; unfold gVe at q; omega)
        have kOp := (hOp.fr f2 (fun r o e q => by unfold s50 at e; unfold gOp at q; omega)).fr F1 (fun r o e q => by unfold sR1 at e; unfold gOp at q; omega)
        have kSi0 := kSi
        obtain ⟨h0c, ⟨⟨pa0c, pb0c, pc0c⟩, ⟨pa5c, pb5c, pc5c⟩, ⟨pa6c, pb6c, pc6c⟩, ⟨pa8c, pb8c, pc8c⟩, ⟨pa9c, pb9c, pc9c⟩, ⟨pa10c, pb10c, pc10c⟩, ⟨pa11c, pb11c, pc11c⟩, ⟨pa12c, pb12c, pc12c⟩, ⟨pa13c, pb13c, pc13c⟩, ⟨pa20c, pb20c, pc20c⟩, ⟨pa21c, pb21c, pc21c⟩, ⟨pa22c, pb22c, pc22c⟩⟩, ⟨nq1c, nq2c, nq3c, nq4c⟩, nq7c, nq14c, nq15c, nq16c, nq17c, nq18c, nq19c⟩ := kSi0
        obtain ⟨xol, lo, Lo, lon, loo⟩ := kOl
        have kOl : XOl Y2 V1v A1 (G.2.2.2.2 0) a.n := ⟨xol, lo, Lo, lon, loo⟩
        obtain rfl : pa8c = xol := P1v.fn pc8c Lo.1
        obtain ⟨mo, hmo⟩ := Lo.2.1
        refine g_aload_n B 1 dX0_restart_38 rfl ?_
        refine x_get B P1v h0c (by decide) rfl F_X0_115_0 (by decide) pb8c dX0_restart_39 ?_
        obtain ⟨n103, u103, ty103⟩ := P1v.ty pc8c (by decide) rfl
        refine g_callV (kc2 := 1) (ks2 := 64) (rest := []) B M_J4_iterator q829 q830 q831 ty103 rfl (c_J4_iterator (rd := 5002) (g0 := G.2.2.2.2 0) (l := lo) P1v (by decide) rfl Lo.1 hmo) rfl rfl (Nat.le_of_ble_eq_true rfl) (Nat.le_of_ble_eq_true rfl) (Nat.le_of_ble_eq_true rfl) (by decide) (by decide) dX0_restart_42 (xkA (fun v103 T103 O103 R103 le103 p103 => ?_))
        obtain ⟨Y103, V103, q103, P103, e103, it103, f103⟩ := p103
        obtain rfl := e103
        refine g_astore_n (lv2 := [(1, _), (0, _)]) B dX0_restart_45 (by decide) rfl ?_
        have O0 := Lo.fr f103 (fun e => by unfold s50 at e; omega) (fun o e => by unfold s50 at e; omega)
        have mo0 : V103 34 0 0 = .int mo := (congrFun (f103.2 34 0 pa8c Lo.1 (fun e => by unfold s50 at e; omega)).1 0).trans hmo
        have RO0 : rsO Y103 V103 I1v J1v a.n a.op 0 := by
          refine rsO.fr (fun o ho => ?_) f103 (fun r o e => e)
          obtain ⟨x, q, k⟩ := RSe.2.1 o ho
          obtain ⟨xo, ko⟩ := kOp o ho
          obtain ⟨xk, k6, k7⟩ := ko.2.2.2.2.2.2.1
          obtain rfl : x = xk := P1v.fn k.1 k7
          exact ⟨xo, x, _, q, ko, k6, k, fun h => absurd h (Nat.not_lt_zero o)⟩
        have co := f103.1.1.at Lo.1
        have ito := it103.1
        have h0y := f103.1.1.at h0c
        have hAo : ∀ j, j < a.n → yAt Y103 4 j (lo.getD j 0) := fun j hj => f103.1.1.at (loo j hj)
        have Lw : ∀ (dw : Nat) (k : Nat) (V1w : xVV) (I1w : xII) (J1w : xJJ) (T1w : xT) (O1w R1w : xO), dw = lo.length - k → PX Y103 V1w I1w J1w A1 w0 T1w O1w R1w → (k ≤ lo.length) → (xFr sR2 Y103 V103 I1v J1v A1 Y103 V1w I1w J1w A1) → (rsO Y103 V1w I1w J1w a.n a.op k) → (xIt Y103 V1w q103 pa8c k mo) → xV Z (T1w, O1w, R1w) 46 [(1, .ref q103), (0, .ref x0)] [] 1 64 := by
          intro dw
          induction dw using Nat.strongRecOn with
          | _ dw ihw =>
            intro k V1w I1w J1w T1w O1w R1w hdw P1w hkl_ G1 RO itk
            have O1 := O0.fr G1 (fun e => by unfold sR2 at e; omega) (fun o e => by unfold sR2 at e; omega)
            have mo1 : V1w 34 0 0 = .int mo := (congrFun (G1.2 34 0 pa8c co (fun e => by unfold sR2 at e; omega)).1 0).trans mo0
            refine g_aload_n B 0 dX0_restart_46 rfl ?_
            obtain ⟨n101, u101, ty101⟩ := P1w.ty ito (by decide) rfl
            refine g_callF (rest := []) B (q := (RJ20, TJ20, 4)) M_J20_hasNext ⟨by decide +kernel, by decide +kernel, by decide +kernel⟩ q855 q877 q875 q857 q856 q878 q876 q874 ty101 rfl (c_J20_hasNext (m := mo) P1w (by decide) rfl O1 mo1 itk (by omega)) rfl rfl (Nat.le_of_ble_eq_true rfl) (Nat.le_of_ble_eq_true rfl) (Nat.le_of_ble_eq_true rfl) (Nat.le_refl _) (Nat.le_refl _) dX0_restart_47 (xkA (fun v101 T101 O101 R101 le101 p101 => ?_))
            obtain ⟨rfl, eT101, eO101, eR101⟩ := p101
            obtain rfl := eT101.symm
            obtain rfl := eO101.symm
            obtain rfl := eR101.symm
            refine g_if_eqB (tgt := 72) B dX0_restart_52 (by decide) (fun c102 => ?_) (fun c102 => ?_)
            · have ek : k = a.n := by have := c102; simp at this; omega
              rw [ek] at RO
              have nSi := (kSi.fr f103 (fun r o e q => by unfold s50 at e; unfold gSi at q; omega)).fr G1 (fun r o e q => by unfold sR2 at e; unfold gSi at q; omega)
              have nOl := (kOl.fr f103 (fun r o e q => by unfold s50 at e; unfold gOl at q; omega)).fr G1 (fun r o e q => by unfold sR2 at e; unfold gOl at q; omega)
              have nIp := (kIp.fr f103 (fun r o e q => by unfold s50 at e; unfold gIp at q; omega)).fr G1 (fun r o e q => by unfold sR2 at e; unfold gIp at q; omega)
              have nTx := (kTx.fr f103 (fun r o e q => by unfold s50 at e; unfold gTx at q; omega)).fr G1 (fun r o e q => by unfold sR2 at e; unfold gTx at q; omega)
              have nWr := (kWr.fr f103 (fun r o e q => by unfold s50 at e; unfold gWr at q; omega)).fr G1 (fun r o e q => by unfold sR2 at e; unfold gWr at q; omega)
              have nEx := (kEx.fr f103 (fun r o e q => by unfold s50 at e; unfold gEx at q; omega)).fr G1 (fun r o e q => by unfold sR2 at e; unfold gEx at q; omega)
              have nLa := (kLa.fr f103 (fun r o e q => by unfold s50 at e; unfold gLa at q; omega)).fr G1 (fun r o e q => by unfold sR2 at e; unfold gLa at q; omega)
              have nIn := (kIn.fr f103 (fun r o e q => by unfold s50 at e; unfold gIn at q; omega)).fr G1 (fun r o e q => by unfold sR2 at e; unfold gIn at q; omega)
              have nCh := (kCh.fr f103 (fun r o e q => by unfold s50 at e; unfold gCh at q; omega)).fr G1 (fun r o e q => by unfold sR2 at e; unfold gCh at q; omega)
              have nAr := (kAr.fr f103 (fun r o e q => by unfold s50 at e; unfold gAr at q; omega)).fr G1 (fun r o e q => by unfold sR2 at e; unfold gAr at q; omega)
              have nVe := (kVe.fr f103 (fun r o e q => by unfold s50 at e; unfold gVe at q; omega)).fr G1 (fun r o e q => by unfold sR2 at e; unfold gVe at q; omega)
              have nV : rsV Y103 V1w I1w J1w a.n a.p 1 := by
                have RSf := RSe.fr f103 (fun r o e => e)
                refine ⟨?_, fun o ho => ?_, fun o ho i hi => ?_⟩
                · obtain ⟨x, q, k, hz⟩ := RSf.1; exact ⟨x, q, k.fr G1 (fun e => by unfold sR2 at e; omega) (fun v _ e => by unfold sR2 at e; omega), hz⟩
                · obtain ⟨x, xk, st4, q, -, -, k3, -⟩ := RO o ho; exact ⟨xk, q, k3⟩
                · obtain ⟨x, k⟩ := RSf.2.2 o ho i hi; exact ⟨x, k.fr G1 (fun e => by unfold sR2 at e; omega) (fun v _ e => by unfold sR2 at e; omega)⟩
              have nSi0 := nSi
              obtain ⟨h0d, ⟨⟨pa0d, pb0d, pc0d⟩, ⟨pa5d, pb5d, pc5d⟩, ⟨pa6d, pb6d, pc6d⟩, ⟨pa8d, pb8d, pc8d⟩, ⟨pa9d, pb9d, pc9d⟩, ⟨pa10d, pb10d, pc10d⟩, ⟨pa11d, pb11d, pc11d⟩, ⟨pa12d, pb12d, pc12d⟩, ⟨pa13d, pb13d, pc13d⟩, ⟨pa20d, pb20d, pc20d⟩, ⟨pa21d, pb21d, pc21d⟩, ⟨pa22d, pb22d, pc22d⟩⟩, ⟨nq1d, nq2d, nq3d, nq4d⟩, nq7d, nq14d, nq15d, nq16d, nq17d, nq18d, nq19d⟩ := nSi0
              refine g_aload_n B 1 dX0_restart_72 rfl ?_
              refine g_iconst (v := nI 0) B dX0_restart_73 (by decide) ?_
              refine x_put (q := (RX0, TX0, 23)) B P1w h0d (by decide) rfl F_X0_207_0 rfl rfl (tyX0_ok 14 (by decide)) rfl rfl dX0_restart_74 (fun O103 V103 hs103 hk103 P103 => ?_)
              refine g_aload_n B 1 dX0_restart_77 rfl ?_
              refine g_iconst (v := nI 0) B dX0_restart_78 (by decide) ?_
              refine x_put (q := (RX0, TX0, 23)) B P103 h0d (by decide) rfl F_X0_210_0 rfl rfl (tyX0_ok 15 (by decide)) rfl rfl dX0_restart_79 (fun O104 V104 hs104 hk104 P104 => ?_)
              refine g_aload_n B 1 dX0_restart_82 rfl ?_
              refine g_iconst (v := nI 0) B dX0_restart_83 (by decide) ?_
              refine x_put (q := (RX0, TX0, 23)) B P104 h0d (by decide) rfl F_X0_213_0 rfl rfl (tyX0_ok 16 (by decide)) rfl rfl dX0_restart_84 (fun O105 V105 hs105 hk105 P105 => ?_)
              refine g_aload_n B 1 dX0_restart_87 rfl ?_
              refine g_iconst (v := nI 0) B dX0_restart_88 (by decide) ?_
              refine x_put (q := (RX0, TX0, 23)) B P105 h0d (by decide) rfl F_X0_216_0 rfl rfl (tyX0_ok 17 (by decide)) rfl rfl dX0_restart_89 (fun O106 V106 hs106 hk106 P106 => ?_)
              refine g_aload_n B 1 dX0_restart_92 rfl ?_
              refine g_iconst (v := nI 0) B dX0_restart_93 (by decide) ?_
              refine x_put (q := (RX0, TX0, 23)) B P106 h0d (by decide) rfl F_X0_219_0 rfl rfl (tyX0_ok 18 (by decide)) rfl rfl dX0_restart_94 (fun O107 V107 hs107 hk107 P107 => ?_)
              refine g_aload_n B 1 dX0_restart_97 rfl ?_
              refine g_iconst (v := nI 0) B dX0_restart_98 (by decide) ?_
              refine x_put (q := (RX0, TX0, 23)) B P107 h0d (by decide) rfl F_X0_222_0 rfl rfl (tyX0_ok 19 (by decide)) rfl rfl dX0_restart_99 (fun O108 V108 hs108 hk108 P108 => ?_)
              refine g_aload_n B 1 dX0_restart_102 rfl ?_
              refine x_get B P108 h0d (by decide) rfl F_X0_145_0 (by decide) (rdK hs108 (by decide) (rdK hs107 (by decide) (rdK hs106 (by decide) (rdK hs105 (by decide) (rdK hs104 (by decide) (rdK hs103 (by decide) pb13d)))))) dX0_restart_103 ?_
              obtain ⟨n109, u109, ty109⟩ := P108.ty pc13d (by decide) rfl
              have fP : xFr (s1 0 0) Y103 V1w I1w J1w A1 Y103 V108 I1w J1w A1 := ((((((xFr.uV (S := s1 0 0) (r := 0) (o := 0) ⟨rfl, rfl⟩ hs103 hk103).tr (xFr.uV (S := s1 0 0) (r := 0) (o := 0) ⟨rfl, rfl⟩ hs104 hk104)).tr (xFr.uV (S := s1 0 0) (r := 0) (o := 0) ⟨rfl, rfl⟩ hs105 hk105)).tr (xFr.uV (S := s1 0 0) (r := 0) (o := 0) ⟨rfl, rfl⟩ hs106 hk106)).tr (xFr.uV (S := s1 0 0) (r := 0) (o := 0) ⟨rfl, rfl⟩ hs107 hk107)).tr (xFr.uV (S := s1 0 0) (r := 0) (o := 0) ⟨rfl, rfl⟩ hs108 hk108))
              have hLaP := nLa.fr fP (fun r o e q => by unfold s1 at e; unfold gLa at q; omega)
              refine g_callV (kc2 := 0) (ks2 := 0) (rest := []) B M_X3_reset q1250 q1251 q1252 ty109 rfl (c_X3_reset P108 pc13d hLaP) rfl rfl (Nat.le_of_ble_eq_true rfl) (Nat.le_of_ble_eq_true rfl) (Nat.le_of_ble_eq_true rfl) (by decide) (by decide) dX0_restart_106 (xkN (fun T109 O109 R109 le109 p109 => ?_))
              obtain ⟨Y109, V109, I109, J109, A109, P109, eJ109, eA109, la109, f109⟩ := p109
              obtain rfl := eJ109.symm
              obtain rfl := eA109.symm
              refine g_vret B E rfl dX0_restart_109 ?_
              have mSi : XSi Y103 V108 x0 a.cf a.begins.nm 0 0 a.inp.length := ⟨h0d, ⟨⟨pa0d, (rdK hs108 (by decide) (rdK hs107 (by decide) (rdK hs106 (by decide) (rdK hs105 (by decide) (rdK hs104 (by decide) (rdK hs103 (by decide) pb0d)))))), pc0d⟩, ⟨pa5d, (rdK hs108 (by decide) (rdK hs107 (by decide) (rdK hs106 (by decide) (rdK hs105 (by decide) (rdK hs104 (by decide) (rdK hs103 (by decide) pb5d)))))), pc5d⟩, ⟨pa6d, (rdK hs108 (by decide) (rdK hs107 (by decide) (rdK hs106 (by decide) (rdK hs105 (by decide) (rdK hs104 (by decide) (rdK hs103 (by decide) pb6d)))))), pc6d⟩, ⟨pa8d, (rdK hs108 (by decide) (rdK hs107 (by decide) (rdK hs106 (by decide) (rdK hs105 (by decide) (rdK hs104 (by decide) (rdK hs103 (by decide) pb8d)))))), pc8d⟩, ⟨pa9d, (rdK hs108 (by decide) (rdK hs107 (by decide) (rdK hs106 (by decide) (rdK hs105 (by decide) (rdK hs104 (by decide) (rdK hs103 (by decide) pb9d)))))), pc9d⟩, ⟨pa10d, (rdK hs108 (by decide) (rdK hs107 (by decide) (rdK hs106 (by decide) (rdK hs105 (by decide) (rdK hs104 (by decide) (rdK hs103 (by decide) pb10d)))))), pc10d⟩, ⟨pa11d, (rdK hs108 (by decide) (rdK hs107 (by decide) (rdK hs106 (by decide) (rdK hs105 (by decide) (rdK hs104 (by decide) (rdK hs103 (by decide) pb11d)))))), pc11d⟩, ⟨pa12d, (rdK hs108 (by decide) (rdK hs107 (by decide) (rdK hs106 (by decide) (rdK hs105 (by decide) (rdK hs104 (by decide) (rdK hs103 (by decide) pb12d)))))), pc12d⟩, ⟨pa13d, (rdK hs108 (by decide) (rdK hs107 (by decide) (rdK hs106 (by decide) (rdK hs105 (by decide) (rdK hs104 (by decide) (rdK hs103 (by decide) pb13d)))))), pc13d⟩, ⟨pa20d, (rdK hs108 (by decide) (rdK hs107 (by decide) (rdK hs106 (by decide) (rdK hs105 (by decide) (rdK hs104 (by decide) (rdK hs103 (by decide) pb20d)))))), pc20d⟩, ⟨pa21d, (rdK hs108 (by decide) (rdK hs107 (by decide) (rdK hs106 (by decide) (rdK hs105 (by decide) (rdK hs104 (by decide) (rdK hs103 (by decide) pb21d)))))), pc21d⟩, ⟨pa22d, (rdK hs108 (by decide) (rdK hs107 (by decide) (rdK hs106 (by decide) (rdK hs105 (by decide) (rdK hs104 (by decide) (rdK hs103 (by decide) pb22d)))))), pc22d⟩⟩, ⟨(rdK hs108 (by decide) (rdK hs107 (by decide) (rdK hs106 (by decide) (rdK hs105 (by decide) (rdK hs104 (by decide) (rdK hs103 (by decide) nq1d)))))), (rdK hs108 (by decide) (rdK hs107 (by decide) (rdK hs106 (by decide) (rdK hs105 (by decide) (rdK hs104 (by decide) (rdK hs103 (by decide) nq2d)))))), (rdK hs108 (by decide) (rdK hs107 (by decide) (rdK hs106 (by decide) (rdK hs105 (by decide) (rdK hs104 (by decide) (rdK hs103 (by decide) nq3d)))))), (rdK hs108 (by decide) (rdK hs107 (by decide) (rdK hs106 (by decide) (rdK hs105 (by decide) (rdK hs104 (by decide) (rdK hs103 (by decide) nq4d))))))⟩, (rdK hs108 (by decide) (rdK hs107 (by decide) (rdK hs106 (by decide) (rdK hs105 (by decide) (rdK hs104 (by decide) (rdK hs103 (by decide) nq7d)))))), (rdK hs108 (by decide) (rdK hs107 (by decide) (rdK hs106 (by decide) (rdK hs105 (by decide) (rdK hs104 (by decide) (rdS hs103)))))), (rdK hs108 (by decide) (rdK hs107 (by decide) (rdK hs106 (by decide) (rdK hs105 (by decide) (rdS hs104))))), (rdK hs108 (by decide) (rdK hs107 (by decide) (rdK hs106 (by decide) (rdS hs105)))), (fun hr17 => absurd (show 0 < 0 from hr17) (Nat.lt_irrefl 0)), (rdK hs108 (by decide) (rdS hs107)), (rdS hs108)⟩
              have qOl := (nOl.fr fP (fun r o e q => by unfold s1 at e; unfold gOl at q; omega)).fr f109 (fun r o e q => by unfold sLa gLa at e; unfold gOl at q; omega)
              have qIn := (nIn.fr fP (fun r o e q => by unfold s1 at e; unfold gIn at q; omega)).fr f109 (fun r o e q => by unfold sLa gLa at e; unfold gIn at q; omega)
              have qCh := (nCh.fr fP (fun r o e q => by unfold s1 at e; unfold gCh at q; omega)).fr f109 (fun r o e q => by unfold sLa gLa at e; unfold gCh at q; omega)
              have qAr := (nAr.fr fP (fun r o e q => by unfold s1 at e; unfold gAr at q; omega)).fr f109 (fun r o e q => by unfold sLa gLa at e; unfold gAr at q; omega)
              have qVe := (nVe.fr fP (fun r o e q => by unfold s1 at e; unfold gVe at q; omega)).fr f109 (fun r o e q => by unfold sLa gLa at e; unfold gVe at q; omega)
              have qIp := (nIp.fr fP (fun r o e q => by unfold s1 at e; unfold gIp at q; omega)).fr f109 (fun r o e q => by unfold sLa gLa at e; unfold gIp at q; omega)
              have qTx := (nTx.fr fP (fun r o e q => by unfold s1 at e; unfold gTx at q; omega)).fr f109 (fun r o e q => by unfold sLa gLa at e; unfold gTx at q; omega)
              have qWr := (nWr.fr fP (fun r o e q => by unfold s1 at e; unfold gWr at q; omega)).fr f109 (fun r o e q => by unfold sLa gLa at e; unfold gWr at q; omega)
              have qEx := (nEx.fr fP (fun r o e q => by unfold s1 at e; unfold gEx at q; omega)).fr f109 (fun r o e q => by unfold sLa gLa at e; unfold gEx at q; omega)
              have qSi := mSi.fr f109 (fun r o e q => by unfold sLa gLa at e; unfold gSi at q; omega)
              have qV : rsV Y109 V109 I109 J1w a.n a.p 1 := by
                obtain ⟨⟨x, q, h1, h2⟩, h3, h4⟩ := nV
                refine ⟨⟨x, q, (h1.fr fP (fun e => by unfold s1 at e; omega) (fun v _ e => by unfold s1 at e; omega)).fr f109 (fun e => by unfold sLa gLa at e; omega) (fun v _ e => by unfold sLa gLa at e; omega), h2⟩, fun o ho => ?_, fun o ho i hi => ?_⟩
                · obtain ⟨x, q, k⟩ := h3 o ho; exact ⟨x, q, (k.fr fP (fun e => by unfold s1 at e; omega) (fun r v _ hr e => by unfold s1 at e; omega)).fr f109 (fun e => by unfold sLa gLa at e; omega) (fun r v _ hr e => by unfold sLa gLa at e; omega)⟩
                · obtain ⟨x, k⟩ := h4 o ho i hi; exact ⟨x, (k.fr fP (fun e => by unfold s1 at e; omega) (fun v _ e => by unfold s1 at e; omega)).fr f109 (fun e => by unfold sLa gLa at e; omega) (fun v _ e => by unfold sLa gLa at e; omega)⟩
              have qO : rsO Y109 V109 I109 J1w a.n a.op a.n := fun o ho => by
                obtain ⟨x, xk, st4, q, h1, h2, h3, h4⟩ := RO o ho
                have e1 := (fP.2 4 o x h1.1 (fun e => by unfold s1 at e; omega)).1
                have g1 := h1.fr fP (fun e => by unfold s1 at e; omega)
                have e2 := (f109.2 4 o x g1.1 (fun e => by unfold sLa gLa at e; omega)).1
                exact ⟨x, xk, st4, q, g1.fr f109 (fun e => by unfold sLa gLa at e; omega), by rw [e2, e1]; exact h2, (h3.fr fP (fun e => by unfold s1 at e; omega) (fun r v _ hr e => by unfold s1 at e; omega)).fr f109 (fun e => by unfold sLa gLa at e; omega) (fun r v _ hr e => by unfold sLa gLa at e; omega), h4⟩
              exact ⟨rfl, _, _, _, _, _, P109, fi2, RepX.beg (tk := 0) (nm := fun _ => 0) qSi qOl qO qIn qV qCh qAr qVe qIp qTx qWr qEx la109⟩
            · have hkl : k < lo.length := by have := c102; simp at this; omega
              refine g_aload_n B 0 dX0_restart_55 rfl ?_
              obtain ⟨n110, u110, ty110⟩ := P1w.ty ito (by decide) rfl
              refine g_callF (rest := []) B (q := (RJ20, TJ20, 4)) M_J20_next ⟨by decide +kernel, by decide +kernel, by decide +kernel⟩ q890 q1191 q1189 q892 q891 q1192 q1190 q874 ty110 rfl (c_J20_next (m := mo) P1w (by decide) rfl O1 mo1 itk (by decide) (by omega)) rfl rfl (Nat.le_of_ble_eq_true rfl) (Nat.le_of_ble_eq_true rfl) (Nat.le_of_ble_eq_true rfl) (Nat.le_refl _) (Nat.le_refl _) dX0_restart_56 (xkA (fun v110 T110 O110 R110 le110 p110 => ?_))
              obtain ⟨V110, e110, P110, it110, f110⟩ := p110
              obtain rfl := e110
              have ROn := RO.fr f110 (fun r o e => e)
              have Gn := G1.tr (f110.mono (fun r o e => Or.inl e))
              obtain ⟨n111, u111, ty111⟩ := P110.ty (hAo k (by omega)) (by decide) rfl
              refine g_cast B ty111 (opNa _) q520 (opCast_X4 _) dX0_restart_61 ?_
              refine g_astore_n (lv2 := [(2, _), (1, _), (0, _)]) B dX0_restart_64 (by decide) rfl ?_
              refine g_aload_n B 0 dX0_restart_65 rfl ?_
              obtain ⟨xo, xk, st4, qk, kp, k6, kk, -⟩ := ROn k (by omega)
              obtain rfl : xo = lo.getD k 0 := P110.fn kp.1 (hAo k (by omega))
              refine g_reset (kc2 := 1) (ks2 := 64) B P110 kp.1 kp.2.1 (W.kd8 (by omega)) q1236 (c_X4_reset P110 kp.1 k6 kk) (Nat.le_of_ble_eq_true rfl) (Nat.le_of_ble_eq_true rfl) (Nat.le_of_ble_eq_true rfl) (by decide) (by decide) dX0_restart_66 (xkN (fun T112 O112 R112 le112 p112 => ?_))
              obtain ⟨Y112, V112, I112, J112, A112, P112, eY112, eA112, ho112, ⟨z5112, z6112, z7112, z8112⟩, S112, f112⟩ := p112
              obtain rfl := eY112.symm
              obtain rfl := eA112.symm
              have RO2 : rsO Y103 V112 I112 J112 a.n a.op (k + 1) := by
                obtain ⟨g0_, g1, g2, g3, g4, g5, ⟨xk2, g6, g7⟩, -⟩ := kp
                exact ROn.step (S := fun _ _ => False) f112 (st4 := fun _ => nI 0) ⟨g0_, g1, (ho112 0 (by decide)).trans g2, (ho112 1 (by decide)).trans g3, (ho112 2 (by decide)).trans g4, (ho112 3 (by decide)).trans g5, ⟨xk2, (ho112 4 (by decide)).trans g6, g7⟩, z5112, z6112, z7112, z8112⟩ ((ho112 4 (by decide)).trans k6) S112 ⟨fun _ _ => rfl, rfl⟩
              have G2 := Gn.tr (f112.mono (fun r o e => by unfold sOR sVk at e; unfold sR2; omega))
              have it2 := it110.fr f112 (fun e => by unfold sOR sVk at e; omega)
              refine g_goto (tgt := 46) B dX0_restart_69 (by decide) ?_
              refine g_pick [1, 2] rfl ?_
              exact ihw (lo.length - (k + 1)) ((by omega)) (k + 1) _ _ _ _ _ _ rfl P112 (by omega) G2 RO2 it2
        exact Lw _ 0 _ _ _ _ _ _ rfl P103 (Nat.zero_le _) xFr.rf RO0 it103
      · have hkl : k < lb.length := by have := c102; simp at this; omega
        refine g_aload_n B 0 dX0_restart_21 rfl ?_
        obtain ⟨n104, u104, ty104⟩ := P1v.ty itq (by decide) rfl
        refine g_callF (rest := []) B (q := (RJ20, TJ20, 4)) M_J20_next ⟨by decide +kernel, by decide +kernel, by decide +kernel⟩ q890 q1191 q1189 q892 q891 q1192 q1190 q874 ty104 rfl (c_J20_next (m := mv) P1v (by decide) rfl L1 mv1 itk (by decide) (by omega)) rfl rfl (Nat.le_of_ble_eq_true rfl) (Nat.le_of_ble_eq_true rfl) (Nat.le_of_ble_eq_true rfl) (Nat.le_refl _) (Nat.le_refl _) dX0_restart_22 (xkA (fun v104 T104 O104 R104 le104 p104 => ?_))
        obtain ⟨V104, e104, P104, it104, f104⟩ := p104
        obtain rfl := e104
        have RSn := RS.fr f104 (fun r o e => e)
        have Fn := F1.tr (f104.mono (fun r o e => Or.inl e))
        have hkv : k < (vl a.n a.p).length := by omega
        have hem := hAt k hkl
        have hmem : (vl a.n a.p).getD k (0, 0) ∈ vl a.n a.p := getD_mem (0, 0) hkv
        rcases vl_mem hmem with he | ⟨o, ho, he⟩ | ⟨o, i, ho, hi, he⟩
        · rw [he] at hem
          have hem : yAt Y2 201 0 (lb.getD k 0) := hem
          obtain ⟨xq, qq, kk, -⟩ := RSn.1
          obtain rfl : xq = lb.getD k 0 := P104.fn kk.1 hem
          obtain ⟨n105, u105, ty105⟩ := P104.ty hem (by decide) rfl
          refine g_castS (q := (RX1, TX1, 3)) B ty105 rfl q221 dX0_restart_27 ?_
          refine g_astore_n (lv2 := [(2, _), (1, _), (0, _)]) B dX0_restart_30 (by decide) rfl ?_
          refine g_aload_n B 0 dX0_restart_31 rfl ?_
          obtain ⟨n106, u106, ty106⟩ := P104.ty hem (by decide) rfl
          refine g_callV (rest := []) B M_X1_reset q1212 q1213 q1214 ty106 rfl (c_X1_resetC P104 (by decide) rfl (by decide) rfl kk) rfl rfl (Nat.le_of_ble_eq_true rfl) (Nat.le_of_ble_eq_true rfl) (Nat.le_of_ble_eq_true rfl) (Nat.le_refl _) (Nat.le_refl _) dX0_restart_32 (xkN (fun T106 O106 R106 le106 p106 => ?_))
          obtain ⟨Y106, V106, I106, J106, A106, P106, rfl, rfl, rfl, rfl, S106, f106⟩ := p106
          have RS2 := RSn.O (S := fun _ _ => False) f106 S106
          have F2 := Fn.tr (f106.mono (fun r o e => by unfold sVc at e; unfold sR1; omega))
          have it2 := it104.fr f106 (fun e => by unfold sVc at e; omega)
          refine g_goto (tgt := 12) B dX0_restart_35 (by decide) ?_
          refine g_pick [1, 2] rfl ?_
          exact ihv (lb.length - (k + 1)) ((by omega)) (k + 1) _ _ _ _ _ _ rfl P106 (by omega) F2 RS2 it2
        · rw [he] at hem
          have hem : yAt Y2 1 o (lb.getD k 0) := hem
          obtain ⟨xq, qq, kk⟩ := RSn.2.1 o ho
          have hk0 : 0 < k := by rcases Nat.eq_zero_or_pos k with e | e; rw [e] at he; exact absurd (show (201 : Nat) = 1 from congrArg Prod.fst he) (by decide); exact e
          obtain rfl : xq = lb.getD k 0 := P104.fn kk.1 hem
          obtain ⟨n107, u107, ty107⟩ := P104.ty hem (by decide) rfl
          refine g_castS (q := (RX1, TX1, 3)) B ty107 rfl q221 dX0_restart_27 ?_
          refine g_astore_n (lv2 := [(2, _), (1, _), (0, _)]) B dX0_restart_30 (by decide) rfl ?_
          refine g_aload_n B 0 dX0_restart_31 rfl ?_
          obtain ⟨n108, u108, ty108⟩ := P104.ty hem (by decide) rfl
          refine g_callV (rest := []) B M_X1_reset q1212 q1213 q1214 ty108 rfl (c_X1_resetK P104 (by decide) rfl ksRp kk) rfl rfl (Nat.le_of_ble_eq_true rfl) (Nat.le_of_ble_eq_true rfl) (Nat.le_of_ble_eq_true rfl) (Nat.le_refl _) (Nat.le_refl _) dX0_restart_32 (xkN (fun T108 O108 R108 le108 p108 => ?_))
          obtain ⟨Y108, V108, I108, J108, A108, P108, rfl, rfl, S108, f108⟩ := p108
          have RS2 := RSn.K (S := fun _ _ => False) hk0 f108 S108
          have F2 := Fn.tr (f108.mono (fun r o e => by unfold sVk at e; unfold sR1; omega))
          have it2 := it104.fr f108 (fun e => by unfold sVk at e; omega)
          refine g_goto (tgt := 12) B dX0_restart_35 (by decide) ?_
          refine g_pick [1, 2] rfl ?_
          exact ihv (lb.length - (k + 1)) ((by omega)) (k + 1) _ _ _ _ _ _ rfl P108 (by omega) F2 RS2 it2
        · rw [he] at hem
          have hem : yAt Y2 101 (3 * o + i) (lb.getD k 0) := hem
          obtain ⟨xq, kk⟩ := RSn.2.2 o ho i hi
          have hk0 : 0 < k := by rcases Nat.eq_zero_or_pos k with e | e; rw [e] at he; exact absurd (show (201 : Nat) = 101 from congrArg Prod.fst he) (by decide); exact e
          obtain rfl : xq = lb.getD k 0 := P104.fn kk.1 hem
          obtain ⟨n109, u109, ty109⟩ := P104.ty hem (by decide) rfl
          refine g_castS (q := (RX1, TX1, 3)) B ty109 rfl q221 dX0_restart_27 ?_
          refine g_astore_n (lv2 := [(2, _), (1, _), (0, _)]) B dX0_restart_30 (by decide) rfl ?_
          refine g_aload_n B 0 dX0_restart_31 rfl ?_
          obtain ⟨n110, u110, ty110⟩ := P104.ty hem (by decide) rfl
          refine g_callV (rest := []) B M_X1_reset q1212 q1213 q1214 ty110 rfl (c_X1_resetC P104 (by decide) rfl (by decide) rfl kk) rfl rfl (Nat.le_of_ble_eq_true rfl) (Nat.le_of_ble_eq_true rfl) (Nat.le_of_ble_eq_true rfl) (Nat.le_refl _) (Nat.le_refl _) dX0_restart_32 (xkN (fun T110 O110 R110 le110 p110 => ?_))
          obtain ⟨Y110, V110, I110, J110, A110, P110, rfl, rfl, rfl, rfl, S110, f110⟩ := p110
          have RS2 := RSn.C (S := fun _ _ => False) (fun o ho => (W.p1 o ho).2) hk0 ho hi f110 S110
          have F2 := Fn.tr (f110.mono (fun r o e => by unfold sVc at e; unfold sR1; omega))
          have it2 := it104.fr f110 (fun e => by unfold sVc at e; omega)
          refine g_goto (tgt := 12) B dX0_restart_35 (by decide) ?_
          refine g_pick [1, 2] rfl ?_
          exact ihv (lb.length - (k + 1)) ((by omega)) (k + 1) _ _ _ _ _ _ rfl P110 (by omega) F2 RS2 it2
  exact Lv _ 0 _ _ _ _ _ _ rfl P2 (Nat.zero_le _) xFr.rf RS0 it2
theorem c_X0_clear {G : xG} {T : xT} {O R : xO} {Y : xY} {V : xVV} {I : xII} {J : xJJ} {A : xVV} {w0 : xW} {a : aA} {tk x0 g0 fi ps : Nat} {Bd : Nat} (P : PX Y V I J A w0 T O R) (H : RepX a tk x0 g0 fi ps Y V I J A) (W : WF Bd a) (hg : g0 = G.2.2.2.2 0) (h0q : yAt Y 0 0 x0) : xCtr G yX0_clear cX0_clear 2 (some Jvm.ClassFile.FieldType.int) 9 236 549 6411 [.ref x0] (T, O, R) (xA (xP w0 (fun v Y2 V2 I2 J2 A2 => v = .int a.clearF.1 ∧ ∃ fi2, RepX a.clearF.2 0 x0 g0 fi2 19872 Y2 V2 I2 J2 A2))) := by
  refine xCtr.of (by decide +kernel) (Nat.le_of_ble_eq_true rfl) ?_
  intro Z B E hz hnm
  change xV Z (T, O, R) 0 [(0, .ref x0)] [] 549 6411
  obtain ⟨h0, ⟨⟨pa0, pb0, pc0⟩, ⟨pa5, pb5, pc5⟩, ⟨pa6, pb6, pc6⟩, ⟨pa8, pb8, pc8⟩, ⟨pa9, pb9, pc9⟩, ⟨pa10, pb10, pc10⟩, ⟨pa11, pb11, pc11⟩, ⟨pa12, pb12, pc12⟩, ⟨pa13, pb13, pc13⟩, ⟨pa20, pb20, pc20⟩, ⟨pa21, pb21, pc21⟩, ⟨pa22, pb22, pc22⟩⟩, ⟨nq1, nq2, nq3, nq4⟩, nq7, nq14, nq15, nq16, nq17, nq18, nq19⟩ := H.Si
  refine g_aload_n B 0 dX0_clear_0 rfl ?_
  refine x_get B P h0q (by decide) rfl F_X0_247_0 (by decide) nq7 dX0_clear_1 ?_
  refine g_istore_n (lv2 := [(1, _), (0, _)]) B dX0_clear_4 (by decide) rfl ?_
  refine g_aload_n B 1 dX0_clear_5 rfl ?_
  refine g_iconst (v := nI 0) B dX0_clear_6 (by decide) ?_
  refine x_put (q := (RX0, TX0, 23)) B P h0q (by decide) rfl F_X0_247_0 rfl rfl (tyX0_ok 7 (by decide)) rfl rfl dX0_clear_7 (fun O1 V1 hs1 hk1 P1 => ?_)
  refine g_aload_n B 1 dX0_clear_10 rfl ?_
  obtain ⟨n2, u2, ty2⟩ := P1.ty h0q (by decide) rfl
  have fc := xFr.uV (S := s1 0 0) (Y := Y) (I := I) (J := J) (A := A) (r := 0) (o := 0) ⟨rfl, rfl⟩ hs1 hk1
  have hX : XSi Y V1 x0 a.cf a.nm a.fl tk ([] : List (Nat × Int32)).length := ⟨h0, ⟨⟨pa0, (rdK hs1 (by decide) pb0), pc0⟩, ⟨pa5, (rdK hs1 (by decide) pb5), pc5⟩, ⟨pa6, (rdK hs1 (by decide) pb6), pc6⟩, ⟨pa8, (rdK hs1 (by decide) pb8), pc8⟩, ⟨pa9, (rdK hs1 (by decide) pb9), pc9⟩, ⟨pa10, (rdK hs1 (by decide) pb10), pc10⟩, ⟨pa11, (rdK hs1 (by decide) pb11), pc11⟩, ⟨pa12, (rdK hs1 (by decide) pb12), pc12⟩, ⟨pa13, (rdK hs1 (by decide) pb13), pc13⟩, ⟨pa20, (rdK hs1 (by decide) pb20), pc20⟩, ⟨pa21, (rdK hs1 (by decide) pb21), pc21⟩, ⟨pa22, (rdK hs1 (by decide) pb22), pc22⟩⟩, ⟨(rdK hs1 (by decide) nq1), (rdK hs1 (by decide) nq2), (rdK hs1 (by decide) nq3), (rdK hs1 (by decide) nq4)⟩, (rdS hs1), (rdK hs1 (by decide) nq14), (rdK hs1 (by decide) nq15), (rdK hs1 (by decide) nq16), (fun hr17 => (rdK hs1 (by decide) (nq17 hr17))), (rdK hs1 (by decide) nq18), (rdK hs1 (by decide) nq19)⟩
  have Hn : RepX (a.w_inp []) tk x0 g0 fi ps Y V1 I J A := ⟨hX, H.Ol.fr fc (fun r o e q => by unfold s1 at e; unfold gOl at q; omega), H.Op.fr fc (fun r o e q => by unfold s1 at e; unfold gOp at q; omega), H.Ks.fr fc (fun r o e q => by unfold s1 at e; unfold gKs at q; omega), H.In.fr fc (fun r o e q => by unfold s1 at e; unfold gIn at q; omega), H.Ct.fr fc (fun r o e q => by unfold s1 at e; unfold gCt at q; omega), H.Of.fr fc (fun r o e q => by unfold s1 at e; unfold gOf at q; omega), H.Ch.fr fc (fun r o e q => by unfold s1 at e; unfold gCh at q; omega), H.Ar.fr fc (fun r o e q => by unfold s1 at e; unfold gAr at q; omega), H.Ve.fr fc (fun r o e q => by unfold s1 at e; unfold gVe at q; omega), ⟨⟨_, pc5⟩, ⟨_, pc6⟩, H.Ip.2.2.1, H.Ip.2.2.2.1, fun j hj => absurd hj (Nat.not_lt_zero j)⟩, H.Tx.fr fc (fun r o e q => by unfold s1 at e; unfold gTx at q; omega), H.Wr.fr fc (fun r o e q => by unfold s1 at e; unfold gWr at q; omega), H.Ex.fr fc (fun r o e q => by unfold s1 at e; unfold gEx at q; omega), H.La.fr fc (fun r o e q => by unfold s1 at e; unfold gLa at q; omega)⟩
  have Wn : sOk (a.w_inp []) := W.sOk
  refine g_callV (kc2 := 0) (ks2 := 0) (rest := []) B M_X0_restart q825 q827 qs7 ty2 rfl (c_X0_restart P1 Hn Wn hg h0q) rfl rfl (Nat.le_of_ble_eq_true rfl) (Nat.le_of_ble_eq_true rfl) (Nat.le_of_ble_eq_true rfl) (by decide) (by decide) dX0_clear_11 (xkN (fun T2 O2 R2 le2 p2 => ?_))
  obtain ⟨Y2, V2, I2, J2, A2, P2, fi2, H2⟩ := p2
  refine g_iload_n B 0 dX0_clear_14 rfl ?_
  refine g_iret B E rfl rfl dX0_clear_15 ?_
  have hF : a.clearF = (nI a.inp.length, (a.w_inp []).begins) := aA.clearF.eq_1 a
  exact ⟨_, rfl, _, _, _, _, _, P2, by rw [hF], _, by rw [hF]; exact H2⟩
