set_option maxRecDepth 100000
/-- three states of keys of one operator, and three counters -/
def xVk (Y : xY) (V : xVV) (I : xII) (J : xJJ) (rv rk rb rw r1 r2 o x : Nat) (st : Nat → Nat → Option (Int32 × Int32)) : Prop := yAt Y rv o x ∧ ∀ v, v < 3 → ∃ xk, V rv o v = .ref xk ∧ xKs Y V I J rk rb rw r1 r2 (3 * o + v) xk (st v)
def xVc (Y : xY) (V : xVV) (rv rc o x : Nat) (n : Nat → Int32) : Prop := yAt Y rv o x ∧ ∀ v, v < 3 → ∃ xc, V rv o v = .ref xc ∧ xCn Y V rc (3 * o + v) xc (n v)
def sVk (rb rw r1 r2 o : Nat) : Nat → Nat → Prop := fun r' o' => o' / 3 = o ∧ (r' = rb ∨ r' = rw ∨ r' = r1 ∨ r' = r2)
def sVc (rc o : Nat) : Nat → Nat → Prop := fun r' o' => o' / 3 = o ∧ r' = rc
theorem xVk.fr {Y Y1 : xY} {V V1 : xVV} {I I1 : xII} {J J1 : xJJ} {A A1 : xVV} {S : Nat → Nat → Prop} {rv rk rb rw r1 r2 o x : Nat} {st : Nat → Nat → Option (Int32 × Int32)} (h : xVk Y V I J rv rk rb rw r1 r2 o x st) (f : xFr S Y V I J A Y1 V1 I1 J1 A1) (h0 : ¬ S rv o) (h1 : ∀ r v, v < 3 → r = rk ∨ r = rb ∨ r = rw ∨ r = r1 ∨ r = r2 → ¬ S r (3 * o + v)) : xVk Y1 V1 I1 J1 rv rk rb rw r1 r2 o x st := by
  refine ⟨f.1.at h.1, fun v hv => ?_⟩
  obtain ⟨xk, g1, g2⟩ := h.2 v hv
  exact ⟨xk, by rw [(f.2 rv o x h.1 h0).1]; exact g1, g2.fr f (fun r hr => h1 r v hv hr)⟩
theorem xVc.fr {Y Y1 : xY} {V V1 : xVV} {I I1 : xII} {J J1 : xJJ} {A A1 : xVV} {S : Nat → Nat → Prop} {rv rc o x : Nat} {n : Nat → Int32} (h : xVc Y V rv rc o x n) (f : xFr S Y V I J A Y1 V1 I1 J1 A1) (h0 : ¬ S rv o) (h1 : ∀ v, v < 3 → ¬ S rc (3 * o + v)) : xVc Y1 V1 rv rc o x n := by
  refine ⟨f.1.at h.1, fun v hv => ?_⟩
  obtain ⟨xk, g1, g2⟩ := h.2 v hv
  exact ⟨xk, by rw [(f.2 rv o x h.1 h0).1]; exact g1, g2.fr f (h1 v hv)⟩
theorem c_X1_finishK {G : xG} {T : xT} {O R : xO} {Y : xY} {V : xVV} {I : xII} {J : xJJ} {A : xVV} {w0 : xW} {rv rk rb rw r1 r2 o x : Nat} {st : Nat → Nat → Option (Int32 × Int32)} (P : PX Y V I J A w0 T O R) (hv : rv < 1000) (hx : rv % 100 = 1) (hR : ksR rk rb rw r1 r2) (H : xVk Y V I J rv rk rb rw r1 r2 o x st) : xCtr G yX1_finish cX1_finish 1 none 7 155 0 0 [.ref x] (T, O, R) (xN (xPN w0 (fun Y2 V2 I2 J2 A2 => Y = Y2 ∧ A = A2 ∧ xVk Y V2 I2 J2 rv rk rb rw r1 r2 o x (up1 st 2 (st 1)) ∧ xFr (sVk rb rw r1 r2 o) Y V I J A Y2 V2 I2 J2 A2))) := by
  have hR2 := hR
  unfold ksR at hR2
  obtain ⟨x0, p0, k0⟩ := H.2 0 (by decide)
  obtain ⟨x1, p1, k1⟩ := H.2 1 (by decide)
  obtain ⟨x2, p2, k2⟩ := H.2 2 (by decide)
  refine xCtr.of (by decide +kernel) (Nat.le_of_ble_eq_true rfl) ?_
  intro Z B E hz hnm
  change xV Z (T, O, R) 0 [(0, .ref x)] [] 0 0
  refine g_aload_n B 0 dX1_finish_0 rfl ?_
  refine x_get B P H.1 hv (xrTv hx (by decide)) F_X1_13_1 (by decide) p1 dX1_finish_1 ?_
  refine g_aload_n B 0 dX1_finish_4 rfl ?_
  refine x_get B P H.1 hv (xrTv hx (by decide)) F_X1_16_1 (by decide) p2 dX1_finish_5 ?_
  obtain ⟨n1, u1, ty1⟩ := P.ty k1.1 hR.1 (xrTv hR.2.1 (by decide))
  refine g_callF (rest := []) B (q := (RX6, TX6, 3)) M_X6_copyTo ⟨by decide +kernel, by decide +kernel, by decide +kernel⟩ q1768 q1780 q1778 q1770 q1769 q1781 q1779 q1226 ty1 rfl (c_X6_copyTo P hR k1 k2 (by omega)) rfl rfl (Nat.le_of_ble_eq_true rfl) (Nat.le_of_ble_eq_true rfl) (Nat.le_of_ble_eq_true rfl) (Nat.le_refl _) (Nat.le_refl _) dX1_finish_8 (xkN (fun T1 O1 R1 le1 p1 => ?_))
  obtain ⟨Y1, V1, I1, J1, A1, P1, rfl, rfl, S1, f1⟩ := p1
  refine g_vret B E rfl dX1_finish_13 ?_
  have hn : V1 rv o = V rv o := (f1.2 rv o x H.1 (fun e => by unfold sKs at e; omega)).1
  exact ⟨rfl, _, _, _, _, _, P1, rfl, rfl, ⟨H.1, fun v hv => by rcases (show v = 0 ∨ v = 1 ∨ v = 2 by omega) with rfl | rfl | rfl; exact ⟨x0, (congrFun hn 0).trans p0, k0.fr f1 (fun r _ e => by unfold sKs at e; omega)⟩; exact ⟨x1, (congrFun hn 1).trans p1, k1.fr f1 (fun r _ e => by unfold sKs at e; omega)⟩; exact ⟨x2, (congrFun hn 2).trans p2, S1⟩⟩, f1.mono (fun r' o' e => by unfold sKs at e; unfold sVk; omega)⟩
theorem c_X1_finishC {G : xG} {T : xT} {O R : xO} {Y : xY} {V : xVV} {I : xII} {J : xJJ} {A : xVV} {w0 : xW} {rv rc o x : Nat} {n : Nat → Int32} (P : PX Y V I J A w0 T O R) (hv : rv < 1000) (hx : rv % 100 = 1) (hcr : rc < 1000) (hcx : rc % 100 = 2) (H : xVc Y V rv rc o x n) : xCtr G yX1_finish cX1_finish 1 none 2 42 0 0 [.ref x] (T, O, R) (xN (xPN w0 (fun Y2 V2 I2 J2 A2 => Y = Y2 ∧ I = I2 ∧ J = J2 ∧ A = A2 ∧ xVc Y V2 rv rc o x (up1 n 2 (n 1)) ∧ xFr (sVc rc o) Y V I J A Y2 V2 I2 J2 A2))) := by
  obtain ⟨x0, p0, k0⟩ := H.2 0 (by decide)
  obtain ⟨x1, p1, k1⟩ := H.2 1 (by decide)
  obtain ⟨x2, p2, k2⟩ := H.2 2 (by decide)
  refine xCtr.of (by decide +kernel) (Nat.le_of_ble_eq_true rfl) ?_
  intro Z B E hz hnm
  change xV Z (T, O, R) 0 [(0, .ref x)] [] 0 0
  refine g_aload_n B 0 dX1_finish_0 rfl ?_
  refine x_get B P H.1 hv (xrTv hx (by decide)) F_X1_13_1 (by decide) p1 dX1_finish_1 ?_
  refine g_aload_n B 0 dX1_finish_4 rfl ?_
  refine x_get B P H.1 hv (xrTv hx (by decide)) F_X1_16_1 (by decide) p2 dX1_finish_5 ?_
  obtain ⟨n1, u1, ty1⟩ := P.ty k1.1 hcr (xrTv hcx (by decide))
  refine g_callF (rest := []) B (q := (RX2, TX2, 1)) M_X2_copyTo_2 ⟨by decide +kernel, by decide +kernel, by decide +kernel⟩ q1768 q1773 q1771 q1770 q1769 q1774 q1772 q1220 ty1 rfl (c_X2_copyTo P hcr hcx k1 k2) rfl rfl (Nat.le_of_ble_eq_true rfl) (Nat.le_of_ble_eq_true rfl) (Nat.le_of_ble_eq_true rfl) (Nat.le_refl _) (Nat.le_refl _) dX1_finish_8 (xkN (fun T1 O1 R1 le1 p1 => ?_))
  obtain ⟨Y1, V1, I1, J1, A1, P1, rfl, rfl, rfl, rfl, S1, f1⟩ := p1
  refine g_vret B E rfl dX1_finish_13 ?_
  have hn : V1 rv o = V rv o := (f1.2 rv o x H.1 (fun e => by unfold s1 at e; omega)).1
  exact ⟨rfl, _, _, _, _, _, P1, rfl, rfl, rfl, rfl, ⟨H.1, fun v hv => by rcases (show v = 0 ∨ v = 1 ∨ v = 2 by omega) with rfl | rfl | rfl; exact ⟨x0, (congrFun hn 0).trans p0, k0.fr f1 (fun e => by unfold s1 at e; omega)⟩; exact ⟨x1, (congrFun hn 1).trans p1, k1.fr f1 (fun e => by unfold s1 at e; omega)⟩; exact ⟨x2, (congrFun hn 2).trans p2, S1⟩⟩, f1.mono (fun r' o' e => by unfold s1 at e; unfold sVc; omega)⟩
theorem c_X1_restoreK {G : xG} {T : xT} {O R : xO} {Y : xY} {V : xVV} {I : xII} {J : xJJ} {A : xVV} {w0 : xW} {rv rk rb rw r1 r2 o x : Nat} {st : Nat → Nat → Option (Int32 × Int32)} (P : PX Y V I J A w0 T O R) (hv : rv < 1000) (hx : rv % 100 = 1) (hR : ksR rk rb rw r1 r2) (H : xVk Y V I J rv rk rb rw r1 r2 o x st) : xCtr G yX1_restore cX1_restore 1 none 7 155 0 0 [.ref x] (T, O, R) (xN (xPN w0 (fun Y2 V2 I2 J2 A2 => Y = Y2 ∧ A = A2 ∧ xVk Y V2 I2 J2 rv rk rb rw r1 r2 o x (up1 st 0 (st 2)) ∧ xFr (sVk rb rw r1 r2 o) Y V I J A Y2 V2 I2 J2 A2))) := by
  have hR2 := hR
  unfold ksR at hR2
  obtain ⟨x0, p0, k0⟩ := H.2 0 (by decide)
  obtain ⟨x1, p1, k1⟩ := H.2 1 (by decide)
  obtain ⟨x2, p2, k2⟩ := H.2 2 (by decide)
  refine xCtr.of (by decide +kernel) (Nat.le_of_ble_eq_true rfl) ?_
  intro Z B E hz hnm
  change xV Z (T, O, R) 0 [(0, .ref x)] [] 0 0
  refine g_aload_n B 0 dX1_restore_0 rfl ?_
  refine x_get B P H.1 hv (xrTv hx (by decide)) F_X1_16_1 (by decide) p2 dX1_restore_1 ?_
  refine g_aload_n B 0 dX1_restore_4 rfl ?_
  refine x_get B P H.1 hv (xrTv hx (by decide)) F_X1_7_1 (by decide) p0 dX1_restore_5 ?_
  obtain ⟨n1, u1, ty1⟩ := P.ty k2.1 hR.1 (xrTv hR.2.1 (by decide))
  refine g_callF (rest := []) B (q := (RX6, TX6, 3)) M_X6_copyTo ⟨by decide +kernel, by decide +kernel, by decide +kernel⟩ q1768 q1780 q1778 q1770 q1769 q1781 q1779 q1226 ty1 rfl (c_X6_copyTo P hR k2 k0 (by omega)) rfl rfl (Nat.le_of_ble_eq_true rfl) (Nat.le_of_ble_eq_true rfl) (Nat.le_of_ble_eq_true rfl) (Nat.le_refl _) (Nat.le_refl _) dX1_restore_8 (xkN (fun T1 O1 R1 le1 p1 => ?_))
  obtain ⟨Y1, V1, I1, J1, A1, P1, rfl, rfl, S1, f1⟩ := p1
  refine g_vret B E rfl dX1_restore_13 ?_
  have hn : V1 rv o = V rv o := (f1.2 rv o x H.1 (fun e => by unfold sKs at e; omega)).1
  exact ⟨rfl, _, _, _, _, _, P1, rfl, rfl, ⟨H.1, fun v hv => by rcases (show v = 0 ∨ v = 1 ∨ v = 2 by omega) with rfl | rfl | rfl; exact ⟨x0, (congrFun hn 0).trans p0, S1⟩; exact ⟨x1, (congrFun hn 1).trans p1, k1.fr f1 (fun r _ e => by unfold sKs at e; omega)⟩; exact ⟨x2, (congrFun hn 2).trans p2, k2.fr f1 (fun r _ e => by unfold sKs at e; omega)⟩⟩, f1.mono (fun r' o' e => by unfold sKs at e; unfold sVk; omega)⟩
theorem c_X1_restoreC {G : xG} {T : xT} {O R : xO} {Y : xY} {V : xVV} {I : xII} {J : xJJ} {A : xVV} {w0 : xW} {rv rc o x : Nat} {n : Nat → Int32} (P : PX Y V I J A w0 T O R) (hv : rv < 1000) (hx : rv % 100 = 1) (hcr : rc < 1000) (hcx : rc % 100 = 2) (H : xVc Y V rv rc o x n) : xCtr G yX1_restore cX1_restore 1 none 2 42 0 0 [.ref x] (T, O, R) (xN (xPN w0 (fun Y2 V2 I2 J2 A2 => Y = Y2 ∧ I = I2 ∧ J = J2 ∧ A = A2 ∧ xVc Y V2 rv rc o x (up1 n 0 (n 2)) ∧ xFr (sVc rc o) Y V I J A Y2 V2 I2 J2 A2))) := by
  obtain ⟨x0, p0, k0⟩ := H.2 0 (by decide)
  obtain ⟨x1, p1, k1⟩ := H.2 1 (by decide)
  obtain ⟨x2, p2, k2⟩ := H.2 2 (by decide)
  refine xCtr.of (by decide +kernel) (Nat.le_of_ble_eq_true rfl) ?_
  intro Z B E hz hnm
  change xV Z (T, O, R) 0 [(0, .ref x)] [] 0 0
  refine g_aload_n B 0 dX1_restore_0 rfl ?_
  refine x_get B P H.1 hv (xrTv hx (by decide)) F_X1_16_1 (by decide) p2 dX1_restore_1 ?_
  refine g_aload_n B 0 dX1_restore_4 rfl ?_
  refine x_get B P H.1 hv (xrTv hx (by decide)) F_X1_7_1 (by decide) p0 dX1_restore_5 ?_
  obtain ⟨n1, u1, ty1⟩ := P.ty k2.1 hcr (xrTv hcx (by decide))
  refine g_callF (rest := []) B (q := (RX2, TX2, 1)) M_X2_copyTo_2 ⟨by decide +kernel, by decide +kernel, by decide +kernel⟩ q1768 q1773 q1771 q1770 q1769 q1774 q1772 q1220 ty1 rfl (c_X2_copyTo P hcr hcx k2 k0) rfl rfl (Nat.le_of_ble_eq_true rfl) (Nat.le_of_ble_eq_true rfl) (Nat.le_of_ble_eq_true rfl) (Nat.le_refl _) (Nat.le_refl _) dX1_restore_8 (xkN (fun T1 O1 R1 le1 p1 => ?_))
  obtain ⟨Y1, V1, I1, J1, A1, P1, rfl, rfl, rfl, rfl, S1, f1⟩ := p1
  refine g_vret B E rfl dX1_restore_13 ?_
  have hn : V1 rv o = V rv o := (f1.2 rv o x H.1 (fun e => by unfold s1 at e; omega)).1
  exact ⟨rfl, _, _, _, _, _, P1, rfl, rfl, rfl, rfl, ⟨H.1, fun v hv => by rcases (show v = 0 ∨ v = 1 ∨ v = 2 by omega) with rfl | rfl | rfl; exact ⟨x0, (congrFun hn 0).trans p0, S1⟩; exact ⟨x1, (congrFun hn 1).trans p1, k1.fr f1 (fun e => by unfold s1 at e; omega)⟩; exact ⟨x2, (congrFun hn 2).trans p2, k2.fr f1 (fun e => by unfold s1 at e; omega)⟩⟩, f1.mono (fun r' o' e => by unfold s1 at e; unfold sVc; omega)⟩
theorem c_X1_resetK {G : xG} {T : xT} {O R : xO} {Y : xY} {V : xVV} {I : xII} {J : xJJ} {A : xVV} {w0 : xW} {rv rk rb rw r1 r2 o x : Nat} {st : Nat → Nat → Option (Int32 × Int32)} (P : PX Y V I J A w0 T O R) (hv : rv < 1000) (hx : rv % 100 = 1) (hR : ksR rk rb rw r1 r2) (H : xVk Y V I J rv rk rb rw r1 r2 o x st) : xCtr G yX1_reset cX1_reset 1 none 2 40 0 0 [.ref x] (T, O, R) (xN (xPN w0 (fun Y2 V2 I2 J2 A2 => Y = Y2 ∧ A = A2 ∧ xVk Y V2 I2 J2 rv rk rb rw r1 r2 o x (fun _ _ => none) ∧ xFr (sVk rb rw r1 r2 o) Y V I J A Y2 V2 I2 J2 A2))) := by
  have hR2 := hR
  unfold ksR at hR2
  obtain ⟨x0, p0, k0⟩ := H.2 0 (by decide)
  obtain ⟨x1, p1, k1⟩ := H.2 1 (by decide)
  obtain ⟨x2, p2, k2⟩ := H.2 2 (by decide)
  refine xCtr.of (by decide +kernel) (Nat.le_of_ble_eq_true rfl) ?_
  intro Z B E hz hnm
  change xV Z (T, O, R) 0 [(0, .ref x)] [] 0 0
  refine g_aload_n B 0 dX1_reset_0 rfl ?_
  refine x_get B P H.1 hv (xrTv hx (by decide)) F_X1_7_1 (by decide) p0 dX1_reset_1 ?_
  obtain ⟨n1, u1, ty1⟩ := P.ty k0.1 hR.1 (xrTv hR.2.1 (by decide))
  refine g_callF (rest := []) B (q := (RX6, TX6, 3)) M_X6_reset ⟨by decide +kernel, by decide +kernel, by decide +kernel⟩ q1217 q1229 q1227 q1219 q1218 q1230 q1228 q1226 ty1 rfl (c_X6_reset P hR k0) rfl rfl (Nat.le_of_ble_eq_true rfl) (Nat.le_of_ble_eq_true rfl) (Nat.le_of_ble_eq_true rfl) (Nat.le_refl _) (Nat.le_refl _) dX1_reset_4 (xkN (fun T1 O1 R1 le1 p1 => ?_))
  obtain ⟨Y1, V1, I1, J1, A1, P1, rfl, rfl, S1, f1⟩ := p1
  have r0_0 := S1
  have r0_1 := k1.fr f1 (fun r _ e => by unfold sKs at e; omega)
  have r0_2 := k2.fr f1 (fun r _ e => by unfold sKs at e; omega)
  have n0 : V1 rv o = V rv o := (f1.2 rv o x H.1 (fun e => by unfold sKs at e; omega)).1
  refine g_aload_n B 0 dX1_reset_9 rfl ?_
  refine x_get B P1 H.1 hv (xrTv hx (by decide)) F_X1_13_1 (by decide) ((congrFun n0 1).trans p1) dX1_reset_10 ?_
  obtain ⟨n2, u2, ty2⟩ := P1.ty r0_1.1 hR.1 (xrTv hR.2.1 (by decide))
  refine g_callF (rest := []) B (q := (RX6, TX6, 3)) M_X6_reset ⟨by decide +kernel, by decide +kernel, by decide +kernel⟩ q1217 q1229 q1227 q1219 q1218 q1230 q1228 q1226 ty2 rfl (c_X6_reset P1 hR r0_1) rfl rfl (Nat.le_of_ble_eq_true rfl) (Nat.le_of_ble_eq_true rfl) (Nat.le_of_ble_eq_true rfl) (Nat.le_refl _) (Nat.le_refl _) dX1_reset_13 (xkN (fun T2 O2 R2 le2 p2 => ?_))
  obtain ⟨Y2, V2, I2, J2, A2, P2, rfl, rfl, S2, f2⟩ := p2
  have r1_0 := r0_0.fr f2 (fun r _ e => by unfold sKs at e; omega)
  have r1_1 := S2
  have r1_2 := r0_2.fr f2 (fun r _ e => by unfold sKs at e; omega)
  have n1 : V2 rv o = V rv o := ((f2.2 rv o x H.1 (fun e => by unfold sKs at e; omega)).1.trans n0)
  refine g_aload_n B 0 dX1_reset_18 rfl ?_
  refine x_get B P2 H.1 hv (xrTv hx (by decide)) F_X1_16_1 (by decide) ((congrFun n1 2).trans p2) dX1_reset_19 ?_
  obtain ⟨n3, u3, ty3⟩ := P2.ty r1_2.1 hR.1 (xrTv hR.2.1 (by decide))
  refine g_callF (rest := []) B (q := (RX6, TX6, 3)) M_X6_reset ⟨by decide +kernel, by decide +kernel, by decide +kernel⟩ q1217 q1229 q1227 q1219 q1218 q1230 q1228 q1226 ty3 rfl (c_X6_reset P2 hR r1_2) rfl rfl (Nat.le_of_ble_eq_true rfl) (Nat.le_of_ble_eq_true rfl) (Nat.le_of_ble_eq_true rfl) (Nat.le_refl _) (Nat.le_refl _) dX1_reset_22 (xkN (fun T3 O3 R3 le3 p3 => ?_))
  obtain ⟨Y3, V3, I3, J3, A3, P3, rfl, rfl, S3, f3⟩ := p3
  have r2_0 := r1_0.fr f3 (fun r _ e => by unfold sKs at e; omega)
  have r2_1 := r1_1.fr f3 (fun r _ e => by unfold sKs at e; omega)
  have r2_2 := S3
  have n2 : V3 rv o = V rv o := ((f3.2 rv o x H.1 (fun e => by unfold sKs at e; omega)).1.trans n1)
  refine g_vret B E rfl dX1_reset_27 ?_
  exact ⟨rfl, _, _, _, _, _, P3, rfl, rfl, ⟨H.1, fun v hv => by rcases (show v = 0 ∨ v = 1 ∨ v = 2 by omega) with rfl | rfl | rfl; exact ⟨x0, (congrFun n2 0).trans p0, r2_0⟩; exact ⟨x1, (congrFun n2 1).trans p1, r2_1⟩; exact ⟨x2, (congrFun n2 2).trans p2, r2_2⟩⟩, ((f1.mono (S2 := sVk rb rw r1 r2 o) (fun r' o' e => by unfold sKs at e; unfold sVk; omega)).tr (f2.mono (S2 := sVk rb rw r1 r2 o) (fun r' o' e => by unfold sKs at e; unfold sVk; omega))).tr (f3.mono (S2 := sVk rb rw r1 r2 o) (fun r' o' e => by unfold sKs at e; unfold sVk; omega))⟩
theorem c_X1_resetC {G : xG} {T : xT} {O R : xO} {Y : xY} {V : xVV} {I : xII} {J : xJJ} {A : xVV} {w0 : xW} {rv rc o x : Nat} {n : Nat → Int32} (P : PX Y V I J A w0 T O R) (hv : rv < 1000) (hx : rv % 100 = 1) (hcr : rc < 1000) (hcx : rc % 100 = 2) (H : xVc Y V rv rc o x n) : xCtr G yX1_reset cX1_reset 1 none 1 20 0 0 [.ref x] (T, O, R) (xN (xPN w0 (fun Y2 V2 I2 J2 A2 => Y = Y2 ∧ I = I2 ∧ J = J2 ∧ A = A2 ∧ xVc Y V2 rv rc o x (fun _ => 0) ∧ xFr (sVc rc o) Y V I J A Y2 V2 I2 J2 A2))) := by
  obtain ⟨x0, p0, k0⟩ := H.2 0 (by decide)
  obtain ⟨x1, p1, k1⟩ := H.2 1 (by decide)
  obtain ⟨x2, p2, k2⟩ := H.2 2 (by decide)
  refine xCtr.of (by decide +kernel) (Nat.le_of_ble_eq_true rfl) ?_
  intro Z B E hz hnm
  change xV Z (T, O, R) 0 [(0, .ref x)] [] 0 0
  refine g_aload_n B 0 dX1_reset_0 rfl ?_
  refine x_get B P H.1 hv (xrTv hx (by decide)) F_X1_7_1 (by decide) p0 dX1_reset_1 ?_
  obtain ⟨n1, u1, ty1⟩ := P.ty k0.1 hcr (xrTv hcx (by decide))
  refine g_callF (rest := []) B (q := (RX2, TX2, 1)) M_X2_reset ⟨by decide +kernel, by decide +kernel, by decide +kernel⟩ q1217 q1223 q1221 q1219 q1218 q1224 q1222 q1220 ty1 rfl (c_X2_reset P hcr hcx k0) rfl rfl (Nat.le_of_ble_eq_true rfl) (Nat.le_of_ble_eq_true rfl) (Nat.le_of_ble_eq_true rfl) (Nat.le_refl _) (Nat.le_refl _) dX1_reset_4 (xkN (fun T1 O1 R1 le1 p1 => ?_))
  obtain ⟨Y1, V1, I1, J1, A1, P1, rfl, rfl, rfl, rfl, S1, f1⟩ := p1
  have r0_0 := S1
  have r0_1 := k1.fr f1 (fun e => by unfold s1 at e; omega)
  have r0_2 := k2.fr f1 (fun e => by unfold s1 at e; omega)
  have n0 : V1 rv o = V rv o := (f1.2 rv o x H.1 (fun e => by unfold s1 at e; omega)).1
  refine g_aload_n B 0 dX1_reset_9 rfl ?_
  refine x_get B P1 H.1 hv (xrTv hx (by decide)) F_X1_13_1 (by decide) ((congrFun n0 1).trans p1) dX1_reset_10 ?_
  obtain ⟨n2, u2, ty2⟩ := P1.ty r0_1.1 hcr (xrTv hcx (by decide))
  refine g_callF (rest := []) B (q := (RX2, TX2, 1)) M_X2_reset ⟨by decide +kernel, by decide +kernel, by decide +kernel⟩ q1217 q1223 q1221 q1219 q1218 q1224 q1222 q1220 ty2 rfl (c_X2_reset P1 hcr hcx r0_1) rfl rfl (Nat.le_of_ble_eq_true rfl) (Nat.le_of_ble_eq_true rfl) (Nat.le_of_ble_eq_true rfl) (Nat.le_refl _) (Nat.le_refl _) dX1_reset_13 (xkN (fun T2 O2 R2 le2 p2 => ?_))
  obtain ⟨Y2, V2, I2, J2, A2, P2, rfl, rfl, rfl, rfl, S2, f2⟩ := p2
  have r1_0 := r0_0.fr f2 (fun e => by unfold s1 at e; omega)
  have r1_1 := S2
  have r1_2 := r0_2.fr f2 (fun e => by unfold s1 at e; omega)
  have n1 : V2 rv o = V rv o := ((f2.2 rv o x H.1 (fun e => by unfold s1 at e; omega)).1.trans n0)
  refine g_aload_n B 0 dX1_reset_18 rfl ?_
  refine x_get B P2 H.1 hv (xrTv hx (by decide)) F_X1_16_1 (by decide) ((congrFun n1 2).trans p2) dX1_reset_19 ?_
  obtain ⟨n3, u3, ty3⟩ := P2.ty r1_2.1 hcr (xrTv hcx (by decide))
  refine g_callF (rest := []) B (q := (RX2, TX2, 1)) M_X2_reset ⟨by decide +kernel, by decide +kernel, by decide +kernel⟩ q1217 q1223 q1221 q1219 q1218 q1224 q1222 q1220 ty3 rfl (c_X2_reset P2 hcr hcx r1_2) rfl rfl (Nat.le_of_ble_eq_true rfl) (Nat.le_of_ble_eq_true rfl) (Nat.le_of_ble_eq_true rfl) (Nat.le_refl _) (Nat.le_refl _) dX1_reset_22 (xkN (fun T3 O3 R3 le3 p3 => ?_))
  obtain ⟨Y3, V3, I3, J3, A3, P3, rfl, rfl, rfl, rfl, S3, f3⟩ := p3
  have r2_0 := r1_0.fr f3 (fun e => by unfold s1 at e; omega)
  have r2_1 := r1_1.fr f3 (fun e => by unfold s1 at e; omega)
  have r2_2 := S3
  have n2 : V3 rv o = V rv o := ((f3.2 rv o x H.1 (fun e => by unfold s1 at e; omega)).1.trans n1)
  refine g_vret B E rfl dX1_reset_27 ?_
  exact ⟨rfl, _, _, _, _, _, P3, rfl, rfl, rfl, rfl, ⟨H.1, fun v hv => by rcases (show v = 0 ∨ v = 1 ∨ v = 2 by omega) with rfl | rfl | rfl; exact ⟨x0, (congrFun n2 0).trans p0, r2_0⟩; exact ⟨x1, (congrFun n2 1).trans p1, r2_1⟩; exact ⟨x2, (congrFun n2 2).trans p2, r2_2⟩⟩, ((f1.mono (S2 := sVc rc o) (fun r' o' e => by unfold s1 at e; unfold sVc; omega)).tr (f2.mono (S2 := sVc rc o) (fun r' o' e => by unfold s1 at e; unfold sVc; omega))).tr (f3.mono (S2 := sVc rc o) (fun r' o' e => by unfold s1 at e; unfold sVc; omega))⟩
theorem c_X1_init {G : xG} {T : xT} {O R : xO} {Y : xY} {V : xVV} {I : xII} {J : xJJ} {A : xVV} {w0 : xW} {rv o x a b c : Nat} (P : PX Y V I J A w0 T O R) (hv : rv < 1000) (hx : rv % 100 = 1) (hat : yAt Y rv o x) : xCtr G yX1_init cX1_init 4 none 1 20 0 0 [.ref x, .ref a, .ref b, .ref c] (T, O, R) (xN (xPN w0 (fun Y2 V2 I2 J2 A2 => Y = Y2 ∧ I = I2 ∧ J = J2 ∧ A = A2 ∧ V2 rv o 0 = .ref a ∧ V2 rv o 1 = .ref b ∧ V2 rv o 2 = .ref c ∧ xFr (s1 rv o) Y V I J A Y2 V2 I2 J2 A2))) := by
  refine xCtr.of (by decide +kernel) (Nat.le_of_ble_eq_true rfl) ?_
  intro Z B E hz hnm
  change xV Z (T, O, R) 0 [(0, .ref x), (1, .ref a), (2, .ref b), (3, .ref c)] [] 0 0
  refine g_aload_n B 0 dX1_init_0 rfl ?_
  refine g_objInit B q238 q161 q162 (by decide) (by decide) dX1_init_1 ?_
  refine g_aload_n B 0 dX1_init_4 rfl ?_
  refine g_aload_n B 1 dX1_init_5 rfl ?_
  refine x_putF (q := (RX1, TX1, 3)) (k := 0) B P hnm hat hv (xrTv hx (by decide)) rfl (by decide) q239 rfl rfl (tyX1_ok 0 (by decide)) rfl rfl dX1_init_6 (fun O1 V1 hs1 hk1 P1 => ?_)
  refine g_aload_n B 0 dX1_init_9 rfl ?_
  refine g_aload_n B 2 dX1_init_10 rfl ?_
  refine x_putF (q := (RX1, TX1, 3)) (k := 1) B P1 hnm hat hv (xrTv hx (by decide)) rfl (by decide) q242 rfl rfl (tyX1_ok 1 (by decide)) rfl rfl dX1_init_11 (fun O2 V2 hs2 hk2 P2 => ?_)
  refine g_aload_n B 0 dX1_init_14 rfl ?_
  refine g_aload_n B 3 dX1_init_15 rfl ?_
  refine x_putF (q := (RX1, TX1, 3)) (k := 2) B P2 hnm hat hv (xrTv hx (by decide)) rfl (by decide) q245 rfl rfl (tyX1_ok 2 (by decide)) rfl rfl dX1_init_16 (fun O3 V3 hs3 hk3 P3 => ?_)
  refine g_vret B E rfl dX1_init_19 ?_
  exact ⟨rfl, _, _, _, _, _, P3, rfl, rfl, rfl, rfl, rdK hs3 (by decide) (rdK hs2 (by decide) (rdS hs1)), rdK hs3 (by decide) (rdS hs2), rdS hs3, ((xFr.uV ⟨rfl, rfl⟩ hs1 hk1).tr (xFr.uV ⟨rfl, rfl⟩ hs2 hk2)).tr (xFr.uV ⟨rfl, rfl⟩ hs3 hk3)⟩
def sVN (rv rk rb rw r1 r2 o : Nat) : Nat → Nat → Prop := fun r' o' => (r' = rv ∧ o' = o) ∨ (o' / 3 = o ∧ (r' = rk ∨ r' = rb ∨ r' = rw ∨ r' = r1 ∨ r' = r2))
def sCN (rv rc o : Nat) : Nat → Nat → Prop := fun r' o' => (r' = rv ∧ o' = o) ∨ (o' / 3 = o ∧ r' = rc)
/-- room for new states of keys -/
def kNo (Y : xY) (rk rb rw r1 r2 s : Nat) : Prop := yNo Y rk s ∧ yNo Y rb s ∧ yNo Y rw s ∧ yNo Y r1 s ∧ yNo Y r2 s
theorem kNo.gr {S : Nat → Nat → Prop} {Y Y1 : xY} {rk rb rw r1 r2 s : Nat} (h : kNo Y rk rb rw r1 r2 s) (g : yLs S Y Y1) (hs : ∀ r, r = rk ∨ r = rb ∨ r = rw ∨ r = r1 ∨ r = r2 → ¬ S r s) : kNo Y1 rk rb rw r1 r2 s :=
  ⟨g.no h.1 (hs _ (by omega)), g.no h.2.1 (hs _ (by omega)), g.no h.2.2.1 (hs _ (by omega)), g.no h.2.2.2.1 (hs _ (by omega)), g.no h.2.2.2.2 (hs _ (by omega))⟩
theorem c_X0_keyStates {G : xG} {T : xT} {O R : xO} {Y : xY} {V : xVV} {I : xII} {J : xJJ} {A : xVV} {w0 : xW} {rv rk rb rw r1 r2 o : Nat} (P : PX Y V I J A w0 T O R) (hv : rv < 1000) (hx : rv % 100 = 1) (hid0 : ¬ idR rv) (hN : ksN rk rb rw r1 r2) (hf0 : yNo Y rv o) (hf : ∀ v, v < 3 → kNo Y rk rb rw r1 r2 (3 * o + v)) : xCtr G yX0_keyStates cX0_keyStates 0 (some (Jvm.ClassFile.FieldType.object "PipelineSimulator$Versions")) 4 82 16 120 [] (T, O, R) (xA (xP w0 (fun v Y2 V2 I2 J2 A2 => A = A2 ∧ ∃ x, v = .ref x ∧ xVk Y2 V2 I2 J2 rv rk rb rw r1 r2 o x (fun _ _ => none) ∧ xFr (sVN rv rk rb rw r1 r2 o) Y V I J A Y2 V2 I2 J2 A2))) := by
  have hR := hN.1
  have hR2 := hR
  unfold ksR at hR2
  refine xCtr.of (by decide +kernel) (Nat.le_of_ble_eq_true rfl) ?_
  intro Z B E hz hnm
  change xV Z (T, O, R) 0 [] [] 16 120
  refine x_new (kc := 15) (ks := 117) (t := 1) B P rv 0 (fun _ => o) hv (by rw [if_neg (by omega)]; exact hx) (by unfold okT; decide) tyX1 rfl (fun k hk => tyX1_ok k hk) q221 q222 q104 (fun _ _ => hf0) (fun h => absurd h hid0) dX0_keyStates_0 (fun q1 Y1 V1 T1 O1 hq1 le1 gr1 hf1 at1 hK1 hs1 hk1 P1 => ?_)
  have g0 := xFr.nV (S := sVN rv rk rb rw r1 r2 o) (I := I) (J := J) (A := A) (r := rv) (o := o) (by unfold sVN; omega) le1 gr1 hs1 hk1
  have m0_0 : kNo Y1 rk rb rw r1 r2 (3 * o + 0) := (hf 0 (by decide)).gr (S := s1 rv o) ⟨le1, fun r' o' x' h => (gr1 r' o' x' h).imp_right (fun e => ⟨e.1, e.2.1⟩)⟩ (fun r hr e => by unfold s1 at e; omega)
  have m0_1 : kNo Y1 rk rb rw r1 r2 (3 * o + 1) := (hf 1 (by decide)).gr (S := s1 rv o) ⟨le1, fun r' o' x' h => (gr1 r' o' x' h).imp_right (fun e => ⟨e.1, e.2.1⟩)⟩ (fun r hr e => by unfold s1 at e; omega)
  have m0_2 : kNo Y1 rk rb rw r1 r2 (3 * o + 2) := (hf 2 (by decide)).gr (S := s1 rv o) ⟨le1, fun r' o' x' h => (gr1 r' o' x' h).imp_right (fun e => ⟨e.1, e.2.1⟩)⟩ (fun r hr e => by unfold s1 at e; omega)
  refine g_dup B dX0_keyStates_3 rfl ?_
  refine x_new (kc := 14) (ks := 114) (t := 6) B P1 rk 0 (fun _ => 3 * o + 0) hR.1 (by rw [if_neg (by omega)]; exact hR.2.1) (by unfold okT; decide) tyX6 rfl (fun k hk => tyX6_ok k hk) q292 q293 q109 (fun _ _ => m0_0.1) (fun h => absurd h hN.2.2.2.2.1) dX0_keyStates_4 (fun q2 Y2 V2 T2 O2 hq2 le2 gr2 hf2 at2 hK2 hs2 hk2 P2 => ?_)
  have g1 := xFr.nV (S := sVN rv rk rb rw r1 r2 o) (I := I) (J := J) (A := A) (r := rk) (o := 3 * o + 0) (by unfold sVN; omega) le2 gr2 hs2 hk2
  refine g_dup B dX0_keyStates_7 rfl ?_
  refine g_callIN (kc2 := 10) (ks2 := 78) (rest := [_, _, _]) B M_X6_init rfl q294 q295 (c_X6_init P2 hN at2 (yGr.no gr2 m0_0.2.1 (by omega)) (yGr.no gr2 m0_0.2.2.1 (by omega)) (yGr.no gr2 m0_0.2.2.2.1 (by omega)) (yGr.no gr2 m0_0.2.2.2.2 (by omega))) rfl rfl (Nat.le_of_ble_eq_true rfl) (Nat.le_of_ble_eq_true rfl) (Nat.le_of_ble_eq_true rfl) (by decide) (by decide) dX0_keyStates_8 (xkN (fun T3 O3 R3 le3 p3 => ?_))
  obtain ⟨Y3, V3, I3, J3, A3, P3, rfl, S3, f3⟩ := p3
  have g2 := f3.mono (S2 := sVN rv rk rb rw r1 r2 o) (fun r' o' e => by unfold sNew at e; unfold sVN; omega)
  have m1_1 : kNo Y3 rk rb rw r1 r2 (3 * o + 1) := ((m0_1.gr (S := s1 rk (3 * o + 0)) ⟨le2, fun r' o' x' h => (gr2 r' o' x' h).imp_right (fun e => ⟨e.1, e.2.1⟩)⟩ (fun r hr e => by unfold s1 at e; omega)).gr f3.1 (fun r hr e => by unfold sNew at e; omega))
  have m1_2 : kNo Y3 rk rb rw r1 r2 (3 * o + 2) := ((m0_2.gr (S := s1 rk (3 * o + 0)) ⟨le2, fun r' o' x' h => (gr2 r' o' x' h).imp_right (fun e => ⟨e.1, e.2.1⟩)⟩ (fun r hr e => by unfold s1 at e; omega)).gr f3.1 (fun r hr e => by unfold sNew at e; omega))
  refine x_new (kc := 9) (ks := 75) (t := 6) B P3 rk 0 (fun _ => 3 * o + 1) hR.1 (by rw [if_neg (by omega)]; exact hR.2.1) (by unfold okT; decide) tyX6 rfl (fun k hk => tyX6_ok k hk) q292 q293 q109 (fun _ _ => m1_1.1) (fun h => absurd h hN.2.2.2.2.1) dX0_keyStates_11 (fun q4 Y4 V4 T4 O4 hq4 le4 gr4 hf4 at4 hK4 hs4 hk4 P4 => ?_)
  have g3 := xFr.nV (S := sVN rv rk rb rw r1 r2 o) (I := I3) (J := J3) (A := A) (r := rk) (o := 3 * o + 1) (by unfold sVN; omega) le4 gr4 hs4 hk4
  have a1_0 := S3.fr (xFr.nV (S := s1 rk (3 * o + 1)) (I := I3) (J := J3) (A := A) ⟨rfl, rfl⟩ le4 gr4 hs4 hk4) (fun r _ e => by unfold s1 at e; omega)
  refine g_dup B dX0_keyStates_14 rfl ?_
  refine g_callIN (kc2 := 5) (ks2 := 39) (rest := [_, _, _, _]) B M_X6_init rfl q294 q295 (c_X6_init P4 hN at4 (yGr.no gr4 m1_1.2.1 (by omega)) (yGr.no gr4 m1_1.2.2.1 (by omega)) (yGr.no gr4 m1_1.2.2.2.1 (by omega)) (yGr.no gr4 m1_1.2.2.2.2 (by omega))) rfl rfl (Nat.le_of_ble_eq_true rfl) (Nat.le_of_ble_eq_true rfl) (Nat.le_of_ble_eq_true rfl) (by decide) (by decide) dX0_keyStates_15 (xkN (fun T5 O5 R5 le5 p5 => ?_))
  obtain ⟨Y5, V5, I5, J5, A5, P5, rfl, S5, f5⟩ := p5
  have g4 := f5.mono (S2 := sVN rv rk rb rw r1 r2 o) (fun r' o' e => by unfold sNew at e; unfold sVN; omega)
  have b1_0 := a1_0.fr f5 (fun r _ e => by unfold sNew at e; omega)
  have m2_2 : kNo Y5 rk rb rw r1 r2 (3 * o + 2) := ((m1_2.gr (S := s1 rk (3 * o + 1)) ⟨le4, fun r' o' x' h => (gr4 r' o' x' h).imp_right (fun e => ⟨e.1, e.2.1⟩)⟩ (fun r hr e => by unfold s1 at e; omega)).gr f5.1 (fun r hr e => by unfold sNew at e; omega))
  refine x_new (kc := 4) (ks := 36) (t := 6) B P5 rk 0 (fun _ => 3 * o + 2) hR.1 (by rw [if_neg (by omega)]; exact hR.2.1) (by unfold okT; decide) tyX6 rfl (fun k hk => tyX6_ok k hk) q292 q293 q109 (fun _ _ => m2_2.1) (fun h => absurd h hN.2.2.2.2.1) dX0_keyStates_18 (fun q6 Y6 V6 T6 O6 hq6 le6 gr6 hf6 at6 hK6 hs6 hk6 P6 => ?_)
  have g5 := xFr.nV (S := sVN rv rk rb rw r1 r2 o) (I := I5) (J := J5) (A := A) (r := rk) (o := 3 * o + 2) (by unfold sVN; omega) le6 gr6 hs6 hk6
  have a2_0 := b1_0.fr (xFr.nV (S := s1 rk (3 * o + 2)) (I := I5) (J := J5) (A := A) ⟨rfl, rfl⟩ le6 gr6 hs6 hk6) (fun r _ e => by unfold s1 at e; omega)
  have a2_1 := S5.fr (xFr.nV (S := s1 rk (3 * o + 2)) (I := I5) (J := J5) (A := A) ⟨rfl, rfl⟩ le6 gr6 hs6 hk6) (fun r _ e => by unfold s1 at e; omega)
  refine g_dup B dX0_keyStates_21 rfl ?_
  refine g_callIN (kc2 := 0) (ks2 := 0) (rest := [_, _, _, _, _]) B M_X6_init rfl q294 q295 (c_X6_init P6 hN at6 (yGr.no gr6 m2_2.2.1 (by omega)) (yGr.no gr6 m2_2.2.2.1 (by omega)) (yGr.no gr6 m2_2.2.2.2.1 (by omega)) (yGr.no gr6 m2_2.2.2.2.2 (by omega))) rfl rfl (Nat.le_of_ble_eq_true rfl) (Nat.le_of_ble_eq_true rfl) (Nat.le_of_ble_eq_true rfl) (by decide) (by decide) dX0_keyStates_22 (xkN (fun T7 O7 R7 le7 p7 => ?_))
  obtain ⟨Y7, V7, I7, J7, A7, P7, rfl, S7, f7⟩ := p7
  have g6 := f7.mono (S2 := sVN rv rk rb rw r1 r2 o) (fun r' o' e => by unfold sNew at e; unfold sVN; omega)
  have b2_0 := a2_0.fr f7 (fun r _ e => by unfold sNew at e; omega)
  have b2_1 := a2_1.fr f7 (fun r _ e => by unfold sNew at e; omega)
  refine g_callI (rest := [_]) B M_X1_init rfl q235 q236 (c_X1_init P7 hv hx (f7.1.at (le6.at (f5.1.at (le4.at (f3.1.at (le2.at at1))))))) rfl rfl (Nat.le_of_ble_eq_true rfl) (Nat.le_of_ble_eq_true rfl) (Nat.le_of_ble_eq_true rfl) (Nat.le_refl _) (Nat.le_refl _) dX0_keyStates_25 (xkN (fun T8 O8 R8 le8 p8 => ?_))
  obtain ⟨Y8, V8, I8, J8, A8, P8, rfl, rfl, rfl, rfl, e08, e18, e28, f8⟩ := p8
  refine g_aret B E rfl (Or.inl ⟨_, rfl⟩) (Or.inr ⟨_, rfl⟩) dX0_keyStates_28 ?_
  have gz := f8.mono (S2 := sVN rv rk rb rw r1 r2 o) (fun r' o' e => by unfold s1 at e; unfold sVN; omega)
  exact ⟨_, rfl, _, _, _, _, _, P8, rfl, _, rfl, ⟨(f7.1.at (le6.at (f5.1.at (le4.at (f3.1.at (le2.at at1)))))), fun v hv => by rcases (show v = 0 ∨ v = 1 ∨ v = 2 by omega) with rfl | rfl | rfl; exact ⟨_, e08, b2_0.fr f8 (fun r _ e => by unfold s1 at e; omega)⟩; exact ⟨_, e18, b2_1.fr f8 (fun r _ e => by unfold s1 at e; omega)⟩; exact ⟨_, e28, S7.fr f8 (fun r _ e => by unfold s1 at e; omega)⟩⟩, (g0.tr (g1.tr (g2.tr (g3.tr (g4.tr (g5.tr (g6.tr gz)))))))⟩
theorem c_X0_counter {G : xG} {T : xT} {O R : xO} {Y : xY} {V : xVV} {I : xII} {J : xJJ} {A : xVV} {w0 : xW} {rv rc o : Nat} (P : PX Y V I J A w0 T O R) (hv : rv < 1000) (hx : rv % 100 = 1) (hid0 : ¬ idR rv) (hcr : rc < 1000) (hcx : rc % 100 = 2) (hidc : ¬ idR rc) (hf0 : yNo Y rv o) (hf : ∀ v, v < 3 → yNo Y rc (3 * o + v)) : xCtr G yX0_counter cX0_counter 0 (some (Jvm.ClassFile.FieldType.object "PipelineSimulator$Versions")) 2 43 4 6 [] (T, O, R) (xA (xP w0 (fun v Y2 V2 I2 J2 A2 => I = I2 ∧ J = J2 ∧ A = A2 ∧ ∃ x, v = .ref x ∧ xVc Y2 V2 rv rc o x (fun _ => 0) ∧ xFr (sCN rv rc o) Y V I J A Y2 V2 I2 J2 A2))) := by
  refine xCtr.of (by decide +kernel) (Nat.le_of_ble_eq_true rfl) ?_
  intro Z B E hz hnm
  change xV Z (T, O, R) 0 [] [] 4 6
  refine x_new (kc := 3) (ks := 3) (t := 1) B P rv 0 (fun _ => o) hv (by rw [if_neg (by omega)]; exact hx) (by unfold okT; decide) tyX1 rfl (fun k hk => tyX1_ok k hk) q221 q222 q104 (fun _ _ => hf0) (fun h => absurd h hid0) dX0_counter_0 (fun q1 Y1 V1 T1 O1 hq1 le1 gr1 hf1 at1 hK1 hs1 hk1 P1 => ?_)
  have g0 := xFr.nV (S := sCN rv rc o) (I := I) (J := J) (A := A) (r := rv) (o := o) (by unfold sCN; omega) le1 gr1 hs1 hk1
  have m0_0 : yNo Y1 rc (3 * o + 0) := yGr.no gr1 (hf 0 (by decide)) (by omega)
  have m0_1 : yNo Y1 rc (3 * o + 1) := yGr.no gr1 (hf 1 (by decide)) (by omega)
  have m0_2 : yNo Y1 rc (3 * o + 2) := yGr.no gr1 (hf 2 (by decide)) (by omega)
  refine g_dup B dX0_counter_3 rfl ?_
  refine x_new (kc := 2) (ks := 2) (t := 2) B P1 rc 0 (fun _ => 3 * o + 0) hcr (by rw [if_neg (by omega)]; exact hcx) (by unfold okT; decide) tyX2 rfl (fun k hk => tyX2_ok k hk) q223 q224 q105 (fun _ _ => m0_0) (fun h => absurd h hidc) dX0_counter_4 (fun q2 Y2 V2 T2 O2 hq2 le2 gr2 hf2 at2 hK2 hs2 hk2 P2 => ?_)
  have g1 := xFr.nV (S := sCN rv rc o) (I := I) (J := J) (A := A) (r := rc) (o := 3 * o + 0) (by unfold sCN; omega) le2 gr2 hs2 hk2
  have c0 : xCn Y2 V2 rc (3 * o + 0) q2 0 := ⟨at2, rdN hs2 rfl⟩
  have m1_1 : yNo Y2 rc (3 * o + 1) := yGr.no gr2 m0_1 (by omega)
  have m1_2 : yNo Y2 rc (3 * o + 2) := yGr.no gr2 m0_2 (by omega)
  refine g_dup B dX0_counter_7 rfl ?_
  refine g_callIN (rest := [_, _, _]) B M_X2_init rfl q225 q226 (c_X2_init P2 at2) rfl rfl (Nat.le_of_ble_eq_true rfl) (Nat.le_of_ble_eq_true rfl) (Nat.le_of_ble_eq_true rfl) (Nat.le_refl _) (Nat.le_refl _) dX0_counter_8 (xkN (fun T3 O3 R3 le3 p3 => ?_))
  obtain ⟨eT3, eO3, eR3⟩ := p3
  obtain rfl := eT3.symm
  obtain rfl := eO3.symm
  obtain rfl := eR3.symm
  refine x_new (kc := 1) (ks := 1) (t := 2) B P2 rc 0 (fun _ => 3 * o + 1) hcr (by rw [if_neg (by omega)]; exact hcx) (by unfold okT; decide) tyX2 rfl (fun k hk => tyX2_ok k hk) q223 q224 q105 (fun _ _ => m1_1) (fun h => absurd h hidc) dX0_counter_11 (fun q4 Y4 V4 T4 O4 hq4 le4 gr4 hf4 at4 hK4 hs4 hk4 P4 => ?_)
  have g3 := xFr.nV (S := sCN rv rc o) (I := I) (J := J) (A := A) (r := rc) (o := 3 * o + 1) (by unfold sCN; omega) le4 gr4 hs4 hk4
  have a1_0 := c0.fr (xFr.nV (S := s1 rc (3 * o + 1)) (I := I) (J := J) (A := A) ⟨rfl, rfl⟩ le4 gr4 hs4 hk4) (fun e => by unfold s1 at e; omega)
  have c1 : xCn Y4 V4 rc (3 * o + 1) q4 0 := ⟨at4, rdN hs4 rfl⟩
  have m2_2 : yNo Y4 rc (3 * o + 2) := yGr.no gr4 m1_2 (by omega)
  refine g_dup B dX0_counter_14 rfl ?_
  refine g_callIN (rest := [_, _, _, _]) B M_X2_init rfl q225 q226 (c_X2_init P4 at4) rfl rfl (Nat.le_of_ble_eq_true rfl) (Nat.le_of_ble_eq_true rfl) (Nat.le_of_ble_eq_true rfl) (Nat.le_refl _) (Nat.le_refl _) dX0_counter_15 (xkN (fun T5 O5 R5 le5 p5 => ?_))
  obtain ⟨eT5, eO5, eR5⟩ := p5
  obtain rfl := eT5.symm
  obtain rfl := eO5.symm
  obtain rfl := eR5.symm
  refine x_new (kc := 0) (ks := 0) (t := 2) B P4 rc 0 (fun _ => 3 * o + 2) hcr (by rw [if_neg (by omega)]; exact hcx) (by unfold okT; decide) tyX2 rfl (fun k hk => tyX2_ok k hk) q223 q224 q105 (fun _ _ => m2_2) (fun h => absurd h hidc) dX0_counter_18 (fun q6 Y6 V6 T6 O6 hq6 le6 gr6 hf6 at6 hK6 hs6 hk6 P6 => ?_)
  have g5 := xFr.nV (S := sCN rv rc o) (I := I) (J := J) (A := A) (r := rc) (o := 3 * o + 2) (by unfold sCN; omega) le6 gr6 hs6 hk6
  have a2_0 := a1_0.fr (xFr.nV (S := s1 rc (3 * o + 2)) (I := I) (J := J) (A := A) ⟨rfl, rfl⟩ le6 gr6 hs6 hk6) (fun e => by unfold s1 at e; omega)
  have a2_1 := c1.fr (xFr.nV (S := s1 rc (3 * o + 2)) (I := I) (J := J) (A := A) ⟨rfl, rfl⟩ le6 gr6 hs6 hk6) (fun e => by unfold s1 at e; omega)
  have c2 : xCn Y6 V6 rc (3 * o + 2) q6 0 := ⟨at6, rdN hs6 rfl⟩
  refine g_dup B dX0_counter_21 rfl ?_
  refine g_callIN (rest := [_, _, _, _, _]) B M_X2_init rfl q225 q226 (c_X2_init P6 at6) rfl rfl (Nat.le_of_ble_eq_true rfl) (Nat.le_of_ble_eq_true rfl) (Nat.le_of_ble_eq_true rfl) (Nat.le_refl _) (Nat.le_refl _) dX0_counter_22 (xkN (fun T7 O7 R7 le7 p7 => ?_))
  obtain ⟨eT7, eO7, eR7⟩ := p7
  obtain rfl := eT7.symm
  obtain rfl := eO7.symm
  obtain rfl := eR7.symm
  refine g_callI (rest := [_]) B M_X1_init rfl q235 q236 (c_X1_init P6 hv hx (le6.at (le4.at (le2.at at1)))) rfl rfl (Nat.le_of_ble_eq_true rfl) (Nat.le_of_ble_eq_true rfl) (Nat.le_of_ble_eq_true rfl) (Nat.le_refl _) (Nat.le_refl _) dX0_counter_25 (xkN (fun T8 O8 R8 le8 p8 => ?_))
  obtain ⟨Y8, V8, I8, J8, A8, P8, rfl, rfl, rfl, rfl, e08, e18, e28, f8⟩ := p8
  refine g_aret B E rfl (Or.inl ⟨_, rfl⟩) (Or.inr ⟨_, rfl⟩) dX0_counter_28 ?_
  have gz := f8.mono (S2 := sCN rv rc o) (fun r' o' e => by unfold s1 at e; unfold sCN; omega)
  exact ⟨_, rfl, _, _, _, _, _, P8, rfl, rfl, rfl, _, rfl, ⟨(le6.at (le4.at (le2.at at1))), fun v hv => by rcases (show v = 0 ∨ v = 1 ∨ v = 2 by omega) with rfl | rfl | rfl; exact ⟨_, e08, a2_0.fr f8 (fun e => by unfold s1 at e; omega)⟩; exact ⟨_, e18, a2_1.fr f8 (fun e => by unfold s1 at e; omega)⟩; exact ⟨_, e28, c2.fr f8 (fun e => by unfold s1 at e; omega)⟩⟩, (g0.tr (g1.tr (g3.tr (g5.tr gz))))⟩
