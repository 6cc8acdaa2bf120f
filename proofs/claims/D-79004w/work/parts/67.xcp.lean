set_option maxRecDepth 100000
def ksCp (p i k : Nat) (st st2 : Nat → Option (Int32 × Int32)) : Nat → Option (Int32 × Int32) := fun key => if key < k ∧ aHome key p = i then st key else st2 key
theorem ksCp_set {p i k : Nat} {st st2 : Nat → Option (Int32 × Int32)} (h : aHome k p = i) : up1 (ksCp p i k st st2) k (st k) = ksCp p i (k + 1) st st2 := by
  funext key
  unfold up1 ksCp
  by_cases e : key = k
  · subst e; rw [if_pos rfl, if_pos ⟨Nat.lt_succ_self _, h⟩]
  · rw [if_neg e]
    by_cases e2 : key < k ∧ aHome key p = i
    · rw [if_pos e2, if_pos ⟨by omega, e2.2⟩]
    · rw [if_neg e2, if_neg (fun q => e2 ⟨by omega, q.2⟩)]
theorem ksCp_no {p i k : Nat} {st st2 : Nat → Option (Int32 × Int32)} (h : ¬ aHome k p = i) : ksCp p i (k + 1) st st2 = ksCp p i k st st2 := by
  funext key
  unfold ksCp
  by_cases e2 : key < k ∧ aHome key p = i
  · rw [if_pos e2, if_pos ⟨by omega, e2.2⟩]
  · rw [if_neg e2, if_neg (fun q => e2 ⟨by
      by_cases e : key = k
      · subst e; exact absurd q.2 h
      · omega, q.2⟩)]
theorem c_X0_home {G : xG} {T : xT} {O R : xO} {Y : xY} {V : xVV} {I : xII} {J : xJJ} {A : xVV} {w0 : xW} {key p : Nat} (P : PX Y V I J A w0 T O R) (hk : key < 16) (hp : p ≤ 3) : xCtr G yX0_home cX0_home 2 (some Jvm.ClassFile.FieldType.int) 0 0 0 0 [.int (nI key), .int (nI p)] (T, O, R) (xA (fun v T2 O2 R2 => v = .int (nI (aHome key p)) ∧ T2 = T ∧ O2 = O ∧ R2 = R)) := by
  refine xCtr.of (by decide +kernel) (Nat.le_of_ble_eq_true rfl) ?_
  intro Z B E hz hnm
  change xV Z (T, O, R) 0 [(0, .int (nI key)), (1, .int (nI p))] [] 0 0
  refine g_iload_n B 0 dX0_home_0 rfl ?_
  refine g_bipush (v := nI 8) B dX0_home_1 (by decide) ?_
  refine g_iremN B (by first | omega | exact Nat.lt_of_le_of_lt (Nat.mul_le_mul (Nat.le_of_lt_succ (Nat.mod_lt key (by decide))) hp) (by decide)) (by first | omega | exact Nat.lt_of_le_of_lt (Nat.mul_le_mul (Nat.le_of_lt_succ (Nat.mod_lt key (by decide))) hp) (by decide)) (by first | omega | exact Nat.lt_of_le_of_lt (Nat.mul_le_mul (Nat.le_of_lt_succ (Nat.mod_lt key (by decide))) hp) (by decide)) dX0_home_3 ?_
  refine g_iload_n B 1 dX0_home_4 rfl ?_
  refine g_imulN B dX0_home_5 ?_
  refine g_bipush (v := nI 8) B dX0_home_6 (by decide) ?_
  refine g_idivN B (by first | omega | exact Nat.lt_of_le_of_lt (Nat.mul_le_mul (Nat.le_of_lt_succ (Nat.mod_lt key (by decide))) hp) (by decide)) (by first | omega | exact Nat.lt_of_le_of_lt (Nat.mul_le_mul (Nat.le_of_lt_succ (Nat.mod_lt key (by decide))) hp) (by decide)) (by first | omega | exact Nat.lt_of_le_of_lt (Nat.mul_le_mul (Nat.le_of_lt_succ (Nat.mod_lt key (by decide))) hp) (by decide)) dX0_home_8 ?_
  refine g_iret B E rfl rfl dX0_home_9 ?_
  exact ⟨_, rfl, rfl, rfl, rfl, rfl⟩
theorem c_X6_copyKeys {G : xG} {T : xT} {O R : xO} {Y : xY} {V : xVV} {I : xII} {J : xJJ} {A : xVV} {w0 : xW} {rk rb rw r1 r2 s x s2 x2 p i : Nat} {st st2 : Nat → Option (Int32 × Int32)} (P : PX Y V I J A w0 T O R) (hR : ksR rk rb rw r1 r2) (S : xKs Y V I J rk rb rw r1 r2 s x st) (S2 : xKs Y V I J rk rb rw r1 r2 s2 x2 st2) (hne : s ≠ s2) (hp1 : 1 ≤ p) (hp : p ≤ 3) (hi : i < 2 ^ 31) : xCtr G yX6_copyKeys cX6_copyKeys 5 none 4 89 0 0 [.ref x, .ref x2, .int (nI i), .int (nI p)] (T, O, R) (xN (xPN w0 (fun Y2 V2 I2 J2 A2 => Y = Y2 ∧ A = A2 ∧ xKs Y V2 I2 J2 rk rb rw r1 r2 s2 x2 (fun key => if aHome key p = i then st key else st2 key) ∧ xFr (sKs rb rw r1 r2 s2) Y V I J A Y2 V2 I2 J2 A2))) := by
  have hat := S.1
  have hat2 := S2.1
  refine xCtr.of (by decide +kernel) (Nat.le_of_ble_eq_true rfl) ?_
  intro Z B E hz hnm
  change xV Z (T, O, R) 0 [(0, .ref x), (1, .ref x2), (2, .int (nI i)), (3, .int (nI p))] [] 0 0
  refine g_iconst (v := nI 0) B dX6_copyKeys_0 (by decide) ?_
  refine g_istore (lv2 := [(4, _), (0, _), (1, _), (2, _), (3, _)]) B dX6_copyKeys_1 (by decide) rfl ?_
  have L : ∀ (d : Nat) (k : Nat) (V1 : xVV) (I1 : xII) (J1 : xJJ) (T1 : xT) (O1 R1 : xO), d = 16 - k → PX Y V1 I1 J1 A w0 T1 O1 R1 → (k ≤ 16) → (xKs Y V1 I1 J1 rk rb rw r1 r2 s x st) → (xKs Y V1 I1 J1 rk rb rw r1 r2 s2 x2 (ksCp p i k st st2)) → (xFr (sKs rb rw r1 r2 s2) Y V I J A Y V1 I1 J1 A) → xV Z (T1, O1, R1) 3 [(4, .int (nI k)), (0, .ref x), (1, .ref x2), (2, .int (nI i)), (3, .int (nI p))] [] 0 0 := by
    intro d
    induction d using Nat.strongRecOn with
    | _ d ih =>
      intro k V1 I1 J1 T1 O1 R1 hd P1 hk16 iS iS2 iF
      have hSS := iS
      obtain ⟨hat, ⟨xb, w, hv0, hb, hbit⟩, ⟨⟨x1, h1, hv1⟩, hn1⟩, ⟨⟨x3, h2, hv2⟩, hn2⟩, hc⟩ := iS
      have hat2 := iS2.1
      refine g_iload B 0 dX6_copyKeys_3 rfl ?_
      refine g_bipush (v := nI 16) B dX6_copyKeys_5 (by decide) ?_
      refine g_icmp_geN (tgt := 67) B (by first | omega | exact Nat.lt_of_lt_of_le (aHome_lt hp1) (by omega)) (by first | omega | exact Nat.lt_of_lt_of_le (aHome_lt hp1) (by omega)) dX6_copyKeys_7 (by decide) (fun c101 => ?_) (fun c101 => ?_)
      · refine g_vret B E rfl dX6_copyKeys_67 ?_
        exact ⟨rfl, _, _, _, _, _, P1, rfl, rfl, iS2.cg (fun key hk => by rw [ksCp]; by_cases e : aHome key p = i; rw [if_pos e, if_pos ⟨by omega, e⟩]; rw [if_neg e, if_neg (fun q => e q.2)]), iF⟩
      · refine g_iload B 0 dX6_copyKeys_10 rfl ?_
        refine g_iload_n B 4 dX6_copyKeys_12 rfl ?_
        refine g_callSN (rest := []) B M_X0_home q1644 q1351 (c_X0_home (key := k) (p := p) P1 (by omega) hp) rfl rfl (Nat.le_of_ble_eq_true rfl) (Nat.le_of_ble_eq_true rfl) (Nat.le_of_ble_eq_true rfl) (Nat.le_refl _) (Nat.le_refl _) dX6_copyKeys_13 (xkA (fun v102 T102 O102 R102 le102 p102 => ?_))
        obtain ⟨rfl, eT102, eO102, eR102⟩ := p102
        obtain rfl := eT102.symm
        obtain rfl := eO102.symm
        obtain rfl := eR102.symm
        refine g_iload_n B 3 dX6_copyKeys_16 rfl ?_
        refine g_icmp_eqN (tgt := 23) B (by first | omega | exact Nat.lt_of_lt_of_le (aHome_lt hp1) (by omega)) (by first | omega | exact Nat.lt_of_lt_of_le (aHome_lt hp1) (by omega)) dX6_copyKeys_17 (by decide) (fun c103 => ?_) (fun c103 => ?_)
        · refine g_aload_n B 1 dX6_copyKeys_23 rfl ?_
          refine g_iload B 0 dX6_copyKeys_24 rfl ?_
          obtain ⟨n104, u104, ty104⟩ := P1.ty hat hR.1 (xrTv hR.2.1 (by decide))
          refine g_callV (rest := []) B M_X6_has q1443 q1426 q1427 ty104 rfl (c_X6_has P1 hR hSS (by omega)) rfl rfl (Nat.le_of_ble_eq_true rfl) (Nat.le_of_ble_eq_true rfl) (Nat.le_of_ble_eq_true rfl) (Nat.le_refl _) (Nat.le_refl _) dX6_copyKeys_26 (xkA (fun v104 T104 O104 R104 le104 p104 => ?_))
          obtain ⟨rfl, eT104, eO104, eR104⟩ := p104
          obtain rfl := eT104.symm
          obtain rfl := eO104.symm
          obtain rfl := eR104.symm
          refine g_if_eqB (tgt := 55) B dX6_copyKeys_29 (by decide) (fun c105 => ?_) (fun c105 => ?_)
          · refine g_aload_n B 2 dX6_copyKeys_55 rfl ?_
            refine g_iload B 0 dX6_copyKeys_56 rfl ?_
            obtain ⟨n106, u106, ty106⟩ := P1.ty hat2 hR.1 (xrTv hR.2.1 (by decide))
            refine g_callV (rest := []) B M_X6_remove q1646 q1536 q1537 ty106 rfl (c_X6_remove P1 hR iS2 (by omega)) rfl rfl (Nat.le_of_ble_eq_true rfl) (Nat.le_of_ble_eq_true rfl) (Nat.le_of_ble_eq_true rfl) (Nat.le_refl _) (Nat.le_refl _) dX6_copyKeys_58 (xkN (fun T106 O106 R106 le106 p106 => ?_))
            obtain ⟨Y106, V106, I106, J106, A106, P106, rfl, rfl, S106, f106⟩ := p106
            have Sn : xKs Y V106 I106 J106 rk rb rw r1 r2 s2 x2 (ksCp p i (k + 1) st st2) := by have e : none = st k := by cases hq : st k; rfl; rw [hq] at c105; cases c105
                                                                                                rw [e, ksCp_set c103] at S106; exact S106
            refine g_iinc (v := nI (k + 1)) (lv2 := [(4, _), (0, _), (1, _), (2, _), (3, _)]) B 0 dX6_copyKeys_61 rfl (nI_1 _) (by decide) rfl ?_
            refine g_goto (tgt := 3) B dX6_copyKeys_64 (by decide) ?_
            have hfz := f106
            exact ih (16 - (k + 1)) (by omega) (k + 1) _ _ _ _ _ _ rfl P106 (by omega) (hSS.fr f106 (fun r _ e => hne (by unfold sKs at e; exact e.1))) Sn (iF.tr f106)
          · refine g_aload_n B 2 dX6_copyKeys_32 rfl ?_
            refine g_iload B 0 dX6_copyKeys_33 rfl ?_
            refine g_aload_n B 1 dX6_copyKeys_35 rfl ?_
            refine x_get B P1 hat hR.1 (xrTv hR.2.1 (by decide)) F_X6_20_6 (by decide) hv1 dX6_copyKeys_36 ?_
            refine g_iload B 0 dX6_copyKeys_39 rfl ?_
            refine x_ldI B P1 h1 hR.2.2.2.2.2.1 rfl hn1 (by first | omega | exact Nat.lt_of_lt_of_le (aHome_lt hp1) (by omega)) (by first | omega | exact Nat.lt_of_lt_of_le (aHome_lt hp1) (by omega)) rfl dX6_copyKeys_41 ?_
            refine g_aload_n B 1 dX6_copyKeys_42 rfl ?_
            refine x_get B P1 hat hR.1 (xrTv hR.2.1 (by decide)) F_X6_24_6 (by decide) hv2 dX6_copyKeys_43 ?_
            refine g_iload B 0 dX6_copyKeys_46 rfl ?_
            refine x_ldI B P1 h2 hR.2.2.2.2.2.2.1 rfl hn2 (by first | omega | exact Nat.lt_of_lt_of_le (aHome_lt hp1) (by omega)) (by first | omega | exact Nat.lt_of_lt_of_le (aHome_lt hp1) (by omega)) rfl dX6_copyKeys_48 ?_
            obtain ⟨n107, u107, ty107⟩ := P1.ty hat2 hR.1 (xrTv hR.2.1 (by decide))
            refine g_callV (rest := []) B M_X6_set q1645 q1445 q1446 ty107 rfl (c_X6_set P1 hR iS2 (by omega)) rfl rfl (Nat.le_of_ble_eq_true rfl) (Nat.le_of_ble_eq_true rfl) (Nat.le_of_ble_eq_true rfl) (Nat.le_refl _) (Nat.le_refl _) dX6_copyKeys_49 (xkN (fun T107 O107 R107 le107 p107 => ?_))
            obtain ⟨Y107, V107, I107, J107, A107, P107, rfl, rfl, S107, f107⟩ := p107
            obtain ⟨q, hq⟩ := Option.isSome_iff_exists.mp c105
            have Sn : xKs Y V107 I107 J107 rk rb rw r1 r2 s2 x2 (ksCp p i (k + 1) st st2) := by have e : some (I1 r1 s k, I1 r2 s k) = st k := by rw [hq, (hc k (by omega) q hq).1, (hc k (by omega) q hq).2]
                                                                                                rw [e, ksCp_set c103] at S107; exact S107
            refine g_goto (tgt := 61) B dX6_copyKeys_52 (by decide) ?_
            refine g_iinc (v := nI (k + 1)) (lv2 := [(4, _), (0, _), (1, _), (2, _), (3, _)]) B 0 dX6_copyKeys_61 rfl (nI_1 _) (by decide) rfl ?_
            refine g_goto (tgt := 3) B dX6_copyKeys_64 (by decide) ?_
            have hfz := f107
            exact ih (16 - (k + 1)) (by omega) (k + 1) _ _ _ _ _ _ rfl P107 (by omega) (hSS.fr f107 (fun r _ e => hne (by unfold sKs at e; exact e.1))) Sn (iF.tr f107)
        · refine g_goto (tgt := 61) B dX6_copyKeys_20 (by decide) ?_
          refine g_iinc (v := nI (k + 1)) (lv2 := [(4, _), (0, _), (1, _), (2, _), (3, _)]) B 0 dX6_copyKeys_61 rfl (nI_1 _) (by decide) rfl ?_
          refine g_goto (tgt := 3) B dX6_copyKeys_64 (by decide) ?_
          exact ih (16 - (k + 1)) (by omega) (k + 1) _ _ _ _ _ _ rfl P1 (by omega) hSS (by rw [ksCp_no c103]; exact iS2) iF
  exact L _ 0 _ _ _ _ _ _ rfl P (by omega) S (by rw [show ksCp p i 0 st st2 = st2 from funext fun key => if_neg (by omega)]; exact S2) xFr.rf
theorem aHome1 {key : Nat} : aHome key 1 = 0 := by unfold aHome; omega
theorem c_X6_copyTo2 {G : xG} {T : xT} {O R : xO} {Y : xY} {V : xVV} {I : xII} {J : xJJ} {A : xVV} {w0 : xW} {rk rb rw r1 r2 s x s2 x2 : Nat} {st st2 : Nat → Option (Int32 × Int32)} (P : PX Y V I J A w0 T O R) (hR : ksR rk rb rw r1 r2) (S : xKs Y V I J rk rb rw r1 r2 s x st) (S2 : xKs Y V I J rk rb rw r1 r2 s2 x2 st2) (hne : s ≠ s2) : xCtr G yX6_copyTo_2 cX6_copyTo_2 2 none 5 113 0 0 [.ref x, .ref x2] (T, O, R) (xN (xPN w0 (fun Y2 V2 I2 J2 A2 => Y = Y2 ∧ A = A2 ∧ xKs Y V2 I2 J2 rk rb rw r1 r2 s2 x2 (st) ∧ xFr (sKs rb rw r1 r2 s2) Y V I J A Y2 V2 I2 J2 A2))) := by
  have hat := S.1
  have hat2 := S2.1
  refine xCtr.of (by decide +kernel) (Nat.le_of_ble_eq_true rfl) ?_
  intro Z B E hz hnm
  change xV Z (T, O, R) 0 [(0, .ref x), (1, .ref x2)] [] 0 0
  refine g_aload_n B 0 dX6_copyTo_2_0 rfl ?_
  refine g_aload_n B 1 dX6_copyTo_2_1 rfl ?_
  refine g_iconst (v := nI 0) B dX6_copyTo_2_2 (by decide) ?_
  refine g_iconst (v := nI 1) B dX6_copyTo_2_3 (by decide) ?_
  obtain ⟨n1, u1, ty1⟩ := P.ty hat hR.1 (xrTv hR.2.1 (by decide))
  refine g_callV (rest := []) B M_X6_copyKeys q1788 q1641 q1642 ty1 rfl (c_X6_copyKeys (i := 0) (p := 1) P hR S S2 hne (by decide) (by decide) (by decide)) rfl rfl (Nat.le_of_ble_eq_true rfl) (Nat.le_of_ble_eq_true rfl) (Nat.le_of_ble_eq_true rfl) (Nat.le_refl _) (Nat.le_refl _) dX6_copyTo_2_4 (xkN (fun T1 O1 R1 le1 p1 => ?_))
  obtain ⟨Y1, V1, I1, J1, A1, P1, rfl, rfl, S1, f1⟩ := p1
  refine g_vret B E rfl dX6_copyTo_2_7 ?_
  exact ⟨rfl, _, _, _, _, _, P1, rfl, rfl, S1.cg (fun key hk => (if_pos aHome1).symm), f1⟩
theorem c_X6_copyTo {G : xG} {T : xT} {O R : xO} {Y : xY} {V : xVV} {I : xII} {J : xJJ} {A : xVV} {w0 : xW} {rk rb rw r1 r2 s x s2 x2 : Nat} {st st2 : Nat → Option (Int32 × Int32)} (P : PX Y V I J A w0 T O R) (hR : ksR rk rb rw r1 r2) (S : xKs Y V I J rk rb rw r1 r2 s x st) (S2 : xKs Y V I J rk rb rw r1 r2 s2 x2 st2) (hne : s ≠ s2) : xCtr G yX6_copyTo cX6_copyTo 2 none 6 134 0 0 [.ref x, .ref x2] (T, O, R) (xN (xPN w0 (fun Y2 V2 I2 J2 A2 => Y = Y2 ∧ A = A2 ∧ xKs Y V2 I2 J2 rk rb rw r1 r2 s2 x2 (st) ∧ xFr (sKs rb rw r1 r2 s2) Y V I J A Y2 V2 I2 J2 A2))) := by
  have hat := S.1
  have hat2 := S2.1
  refine xCtr.of (by decide +kernel) (Nat.le_of_ble_eq_true rfl) ?_
  intro Z B E hz hnm
  change xV Z (T, O, R) 0 [(0, .ref x), (1, .ref x2)] [] 0 0
  refine g_aload_n B 0 dX6_copyTo_0 rfl ?_
  refine g_aload_n B 1 dX6_copyTo_1 rfl ?_
  obtain ⟨n1, u1, ty1⟩ := P.ty hat2 hR.1 (xrTv hR.2.1 (by decide))
  refine g_castS (q := (RX6, TX6, 3)) B ty1 rfl q1783 dX6_copyTo_2 ?_
  obtain ⟨n2, u2, ty2⟩ := P.ty hat hR.1 (xrTv hR.2.1 (by decide))
  refine g_callV (rest := []) B M_X6_copyTo_2 q1784 q1785 q1786 ty2 rfl (c_X6_copyTo2 P hR S S2 hne) rfl rfl (Nat.le_of_ble_eq_true rfl) (Nat.le_of_ble_eq_true rfl) (Nat.le_of_ble_eq_true rfl) (Nat.le_refl _) (Nat.le_refl _) dX6_copyTo_5 (xkN (fun T2 O2 R2 le2 p2 => ?_))
  obtain ⟨Y2, V2, I2, J2, A2, P2, rfl, rfl, S2, f2⟩ := p2
  refine g_vret B E rfl dX6_copyTo_8 ?_
  exact ⟨rfl, _, _, _, _, _, P2, rfl, rfl, S2, f2⟩
/-- a counter that stands at n -/
def xCn (Y : xY) (V : xVV) (r o x : Nat) (n : Int32) : Prop := yAt Y r o x ∧ V r o 0 = .int n
def s1 (r o : Nat) : Nat → Nat → Prop := fun r' o' => r' = r ∧ o' = o
theorem xCn.fr {S : Nat → Nat → Prop} {Y Y1 : xY} {V V1 : xVV} {I I1 : xII} {J J1 : xJJ} {A A1 : xVV} {r o x : Nat} {n : Int32} (h : xCn Y V r o x n) (f : xFr S Y V I J A Y1 V1 I1 J1 A1) (hs : ¬ S r o) : xCn Y1 V1 r o x n := ⟨f.1.at h.1, by rw [(f.2 r o x h.1 hs).1]; exact h.2⟩
theorem c_X2_init {G : xG} {T : xT} {O R : xO} {Y : xY} {V : xVV} {I : xII} {J : xJJ} {A : xVV} {w0 : xW} {r o x : Nat} (P : PX Y V I J A w0 T O R) (hat : yAt Y r o x) : xCtr G yX2_init cX2_init 1 none 1 20 0 0 [.ref x] (T, O, R) (xN (fun T2 O2 R2 => T2 = T ∧ O2 = O ∧ R2 = R)) := by
  refine xCtr.of (by decide +kernel) (Nat.le_of_ble_eq_true rfl) ?_
  intro Z B E hz hnm
  change xV Z (T, O, R) 0 [(0, .ref x)] [] 0 0
  refine g_aload_n B 0 dX2_init_0 rfl ?_
  refine g_objInit B q228 q161 q162 (by decide) (by decide) dX2_init_1 ?_
  refine g_vret B E rfl dX2_init_4 ?_
  exact ⟨rfl, rfl, rfl, rfl⟩
theorem c_X2_reset {G : xG} {T : xT} {O R : xO} {Y : xY} {V : xVV} {I : xII} {J : xJJ} {A : xVV} {w0 : xW} {r o x : Nat} {n : Int32} (P : PX Y V I J A w0 T O R) (hr : r < 1000) (hx : r % 100 = 2) (hc : xCn Y V r o x n) : xCtr G yX2_reset cX2_reset 1 none 0 0 0 0 [.ref x] (T, O, R) (xN (xPN w0 (fun Y2 V2 I2 J2 A2 => Y = Y2 ∧ I = I2 ∧ J = J2 ∧ A = A2 ∧ xCn Y V2 r o x 0 ∧ xFr (s1 r o) Y V I J A Y2 V2 I2 J2 A2))) := by
  refine xCtr.of (by decide +kernel) (Nat.le_of_ble_eq_true rfl) ?_
  intro Z B E hz hnm
  change xV Z (T, O, R) 0 [(0, .ref x)] [] 0 0
  refine g_aload_n B 0 dX2_reset_0 rfl ?_
  refine g_iconst (v := nI 0) B dX2_reset_1 (by decide) ?_
  refine x_put (q := (RX2, TX2, 1)) B P hc.1 hr (xrTv hx (by decide)) F_X2_7_2 rfl rfl (tyX2_ok 0 (by decide)) rfl rfl dX2_reset_2 (fun O1 V1 hs1 hk1 P1 => ?_)
  refine g_vret B E rfl dX2_reset_5 ?_
  exact ⟨rfl, _, _, _, _, _, P1, rfl, rfl, rfl, rfl, ⟨hc.1, rdS hs1⟩, xFr.uV ⟨rfl, rfl⟩ hs1 hk1⟩
theorem c_X2_copyTo2 {G : xG} {T : xT} {O R : xO} {Y : xY} {V : xVV} {I : xII} {J : xJJ} {A : xVV} {w0 : xW} {r o x o2 x2 : Nat} {n n2 : Int32} (P : PX Y V I J A w0 T O R) (hr : r < 1000) (hx : r % 100 = 2) (hc : xCn Y V r o x n) (hc2 : xCn Y V r o2 x2 n2) : xCtr G yX2_copyTo cX2_copyTo 2 none 0 0 0 0 [.ref x, .ref x2] (T, O, R) (xN (xPN w0 (fun Y2 V2 I2 J2 A2 => Y = Y2 ∧ I = I2 ∧ J = J2 ∧ A = A2 ∧ xCn Y V2 r o2 x2 n ∧ xFr (s1 r o2) Y V I J A Y2 V2 I2 J2 A2))) := by
  refine xCtr.of (by decide +kernel) (Nat.le_of_ble_eq_true rfl) ?_
  intro Z B E hz hnm
  change xV Z (T, O, R) 0 [(0, .ref x), (1, .ref x2)] [] 0 0
  refine g_aload_n B 1 dX2_copyTo_0 rfl ?_
  refine g_aload_n B 0 dX2_copyTo_1 rfl ?_
  refine x_get B P hc.1 hr (xrTv hx (by decide)) F_X2_7_2 (by decide) hc.2 dX2_copyTo_2 ?_
  refine x_put (q := (RX2, TX2, 1)) B P hc2.1 hr (xrTv hx (by decide)) F_X2_7_2 rfl rfl (tyX2_ok 0 (by decide)) rfl rfl dX2_copyTo_5 (fun O1 V1 hs1 hk1 P1 => ?_)
  refine g_vret B E rfl dX2_copyTo_8 ?_
  exact ⟨rfl, _, _, _, _, _, P1, rfl, rfl, rfl, rfl, ⟨hc2.1, rdS hs1⟩, xFr.uV ⟨rfl, rfl⟩ hs1 hk1⟩
theorem c_X2_copyTo {G : xG} {T : xT} {O R : xO} {Y : xY} {V : xVV} {I : xII} {J : xJJ} {A : xVV} {w0 : xW} {r o x o2 x2 : Nat} {n n2 : Int32} (P : PX Y V I J A w0 T O R) (hr : r < 1000) (hx : r % 100 = 2) (hc : xCn Y V r o x n) (hc2 : xCn Y V r o2 x2 n2) : xCtr G yX2_copyTo_2 cX2_copyTo_2 2 none 1 21 0 0 [.ref x, .ref x2] (T, O, R) (xN (xPN w0 (fun Y2 V2 I2 J2 A2 => Y = Y2 ∧ I = I2 ∧ J = J2 ∧ A = A2 ∧ xCn Y V2 r o2 x2 n ∧ xFr (s1 r o2) Y V I J A Y2 V2 I2 J2 A2))) := by
  refine xCtr.of (by decide +kernel) (Nat.le_of_ble_eq_true rfl) ?_
  intro Z B E hz hnm
  change xV Z (T, O, R) 0 [(0, .ref x), (1, .ref x2)] [] 0 0
  refine g_aload_n B 0 dX2_copyTo_2_0 rfl ?_
  refine g_aload_n B 1 dX2_copyTo_2_1 rfl ?_
  obtain ⟨n1, u1, ty1⟩ := P.ty hc2.1 hr (xrTv hx (by decide))
  refine g_castS (q := (RX2, TX2, 1)) B ty1 rfl q1776 dX2_copyTo_2_2 ?_
  obtain ⟨n2, u2, ty2⟩ := P.ty hc.1 hr (xrTv hx (by decide))
  refine g_callV (rest := []) B M_X2_copyTo q1777 q1648 q1649 ty2 rfl (c_X2_copyTo2 P hr hx hc hc2) rfl rfl (Nat.le_of_ble_eq_true rfl) (Nat.le_of_ble_eq_true rfl) (Nat.le_of_ble_eq_true rfl) (Nat.le_refl _) (Nat.le_refl _) dX2_copyTo_2_5 (xkN (fun T2 O2 R2 le2 p2 => ?_))
  obtain ⟨Y2, V2, I2, J2, A2, P2, rfl, rfl, rfl, rfl, S2, f2⟩ := p2
  refine g_vret B E rfl dX2_copyTo_2_8 ?_
  exact ⟨rfl, _, _, _, _, _, P2, rfl, rfl, rfl, rfl, S2, f2⟩
