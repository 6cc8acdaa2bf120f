set_option maxRecDepth 100000
theorem c_J12_appendIP {G : xG} {T : xT} {O R : xO} {Y : xY} {V : xVV} {I : xII} {J : xJJ} {A : xVV} {w0 : xW} {r rv x id xv : Nat} {l : List Nat} {k : Nat} (P : PX Y V I J A w0 T O R) (hR : sbR r rv) (S : xSe Y V I r rv x l id xv) (hl : l.length ≤ 90) (hk : k < 100) : xCtr G yJ12_append_3 cJ12_append_3 4 (some (Jvm.ClassFile.FieldType.object "java/lang/AbstractStringBuilder")) 4 104 1 400 [.ref x, .int (nI k)] (T, O, R) (xA (xP w0 (fun v Y2 V2 I2 J2 A2 => v = .ref x ∧ J2 = J ∧ A2 = A ∧ (∃ id2 xv2, xSe Y2 V2 I2 r rv x (l ++ (wDig k)) id2 xv2) ∧ xFr (sSbf r rv) Y V I J A Y2 V2 I2 J2 A2))) := by
  have hS := S
  have hR2 := hR.2.2.1
  have hR3 := hR.1
  obtain ⟨g0, ⟨g1, g2, g3, g4, g5, gf, g6⟩, gc, ⟨z, gz⟩, gn⟩ := S
  refine xCtr.of (by decide +kernel) (Nat.le_of_ble_eq_true rfl) ?_
  intro Z B E hz hnm
  change xV Z (T, O, R) 0 [(0, .ref x), (1, .int (nI k))] [] 1 400
  obtain ⟨cp, hcp⟩ : ∃ cp, yN Y rv id = cp := ⟨_, rfl⟩
  have g3c : l.length ≤ cp := by rw [← hcp]; exact g3
  have g4c : 16 ≤ cp := by rw [← hcp]; exact g4
  have g5c : cp ≤ 300 := by rw [← hcp]; exact g5
  have hwl := wDig_len k
  refine g_aload_n B 0 dJ12_append_3_0 rfl ?_
  refine x_get B P g0 hR.1 (xrTv hR.2.1 (by decide)) F_J12_79_43 (by decide) gn dJ12_append_3_1 ?_
  refine g_istore_n (lv2 := [(2, _), (0, _), (1, _)]) B dJ12_append_3_4 (by decide) rfl ?_
  refine g_iload_n B 0 dJ12_append_3_5 rfl ?_
  refine g_iload_n B 2 dJ12_append_3_6 rfl ?_
  refine g_callS (rest := [_]) B M_J29_stringSize q2367 q2368 (c_J29_stringSizeP P hk) rfl rfl (Nat.le_of_ble_eq_true rfl) (Nat.le_of_ble_eq_true rfl) (Nat.le_of_ble_eq_true rfl) (Nat.le_refl _) (Nat.le_refl _) dJ12_append_3_7 (xkA (fun v1 T1 O1 R1 le1 p1 => ?_))
  obtain ⟨rfl, eT1, eO1, eR1⟩ := p1
  obtain rfl := eT1.symm
  obtain rfl := eO1.symm
  obtain rfl := eR1.symm
  refine g_iaddN B dJ12_append_3_10 ?_
  refine g_istore_n (lv2 := [(3, _), (2, _), (0, _), (1, _)]) B dJ12_append_3_11 (by decide) rfl ?_
  refine g_aload_n B 2 dJ12_append_3_12 rfl ?_
  refine g_iload_n B 0 dJ12_append_3_13 rfl ?_
  obtain ⟨n2, u2, ty2⟩ := P.ty g0 hR.1 (xrTv hR.2.1 (by decide))
  refine g_callP (kc2 := 0) (ks2 := 0) (rest := []) B (C := "java/lang/StringBuilder") M_J12_ensureCapacityInternal q1010 q2922 q1012 q1033 rfl q1011 ty2 rfl (c_J12_ensure (m := l.length + (wDig k).length) P hR hS (by omega)) rfl rfl (Nat.le_of_ble_eq_true rfl) (Nat.le_of_ble_eq_true rfl) (Nat.le_of_ble_eq_true rfl) (by decide) (by decide) dJ12_append_3_14 (xkN (fun T2 O2 R2 le2 p2 => ?_))
  obtain ⟨Y2, V2, I2, J2, A2, P2, eJ2, eA2, id2, xv2, S2, hm2, f2⟩ := p2
  obtain rfl := eJ2.symm
  obtain rfl := eA2.symm
  have hS2 := S2
  obtain ⟨g02, ⟨g12, g22, g32, g42, g52, gf2, g62⟩, gc2, ⟨z2, gz2⟩, gn2⟩ := S2
  obtain ⟨cp2, hcp2⟩ : ∃ cp, yN Y2 rv id2 = cp := ⟨_, rfl⟩
  refine g_aload_n B 2 dJ12_append_3_17 rfl ?_
  obtain ⟨n3, u3, ty3⟩ := P2.ty g02 hR.1 (xrTv hR.2.1 (by decide))
  refine g_callU (rest := []) B (C := "java/lang/StringBuilder") (owner := "java/lang/AbstractStringBuilder") M_J12_isLatin1 rfl q1030 q1032 q1031 q1033 ty3 rfl (c_J12_isLatin1 P2 hR hS2) rfl rfl (Nat.le_of_ble_eq_true rfl) (Nat.le_of_ble_eq_true rfl) (Nat.le_of_ble_eq_true rfl) (Nat.le_refl _) (Nat.le_refl _) dJ12_append_3_18 (xkA (fun v3 T3 O3 R3 le3 p3 => ?_))
  obtain ⟨rfl, eT3, eO3, eR3⟩ := p3
  obtain rfl := eT3.symm
  obtain rfl := eO3.symm
  obtain rfl := eR3.symm
  refine g_if_eqN (tgt := 37) B (by omega) dJ12_append_3_21 (by decide) (fun e => absurd e (by decide)) (fun _ => ?_)
  refine g_iload_n B 3 dJ12_append_3_24 rfl ?_
  refine g_iload_n B 0 dJ12_append_3_25 rfl ?_
  refine g_aload_n B 2 dJ12_append_3_26 rfl ?_
  refine x_get B P2 g02 hR.1 (xrTv hR.2.1 (by decide)) F_J12_15_43 (by decide) g12 dJ12_append_3_27 ?_
  refine g_callS (rest := []) B M_J29_getChars q2370 q2371 (c_J29_getCharsP (r := r) (p := l.length + (wDig k).length) P2 hR g22 hk ⟨by exact Nat.le_add_left _ _, hm2⟩ g52) rfl rfl (Nat.le_of_ble_eq_true rfl) (Nat.le_of_ble_eq_true rfl) (Nat.le_of_ble_eq_true rfl) (Nat.le_refl _) (Nat.le_refl _) dJ12_append_3_30 (xkA (fun v5 T5 O5 R5 le5 p5 => ?_))
  obtain ⟨Y5, V5, I5, J5, A5, P5, zv5, eV5, ⟨eJ5, eA5⟩, eY5, gc5, f5⟩ := p5
  obtain rfl := eV5.symm
  obtain rfl := eJ5.symm
  obtain rfl := eA5.symm
  obtain rfl := eY5.symm
  obtain ⟨zz5, rfl⟩ := zv5
  refine g_pop B dJ12_append_3_33 rfl ?_
  refine g_goto (tgt := 48) B dJ12_append_3_34 (by decide) ?_
  refine g_aload_n B 2 dJ12_append_3_48 rfl ?_
  refine g_iload_n B 0 dJ12_append_3_49 rfl ?_
  refine x_put (q := (RJ13, TJ13, 4)) B P5 g02 hR.1 (xrTv hR.2.1 (by decide)) F_J12_79_43 rfl rfl (tyJ13_ok 3 (by decide)) rfl rfl dJ12_append_3_50 (fun O6 V6 hs6 hk6 P6 => ?_)
  refine g_aload_n B 2 dJ12_append_3_53 rfl ?_
  refine g_aret B E rfl (Or.inl ⟨_, rfl⟩) (Or.inr ⟨_, rfl⟩) dJ12_append_3_54 ?_
  have fz : xFr (sSbf r rv) Y V I J A Y2 V6 I5 J A := (f2.tr (f5.mono (fun r2 o2 e => Or.inr e))).tr (xFr.uV (r := r) (o := 0) (Or.inl ⟨rfl, rfl⟩) hs6 hk6)
  have hwlt : ∀ c, c ∈ (wDig k) → c < 128 := fun c h => wDig_lt hk h
  refine ⟨_, rfl, _, _, _, _, _, P6, rfl, rfl, rfl, ⟨id2, xv2, g02, ⟨(rdK hs6 (by decide) g12), g22, by rw [List.length_append]; exact hm2, g42, g52, fun j hj => ?_, fun j hj => ?_⟩, (rdK hs6 (by decide) gc2), ⟨_, (rdK hs6 (by decide) gz2)⟩, by rw [List.length_append]; exact (rdS hs6)⟩, fz⟩
  · rw [gc5]; exact gcI_fit hwlt gf2 hj
  · rw [gc5]; exact gcI_val (L := (wDig k)) g62 hj
theorem c_J12_appendIM {G : xG} {T : xT} {O R : xO} {Y : xY} {V : xVV} {I : xII} {J : xJJ} {A : xVV} {w0 : xW} {r rv x id xv : Nat} {l : List Nat} {k : Nat} (P : PX Y V I J A w0 T O R) (hR : sbR r rv) (S : xSe Y V I r rv x l id xv) (hl : l.length ≤ 90) (hk0 : 0 < k) (hk : k < 100) : xCtr G yJ12_append_3 cJ12_append_3 4 (some (Jvm.ClassFile.FieldType.object "java/lang/AbstractStringBuilder")) 4 104 1 400 [.ref x, .int (-(nI k))] (T, O, R) (xA (xP w0 (fun v Y2 V2 I2 J2 A2 => v = .ref x ∧ J2 = J ∧ A2 = A ∧ (∃ id2 xv2, xSe Y2 V2 I2 r rv x (l ++ (45 :: wDig k)) id2 xv2) ∧ xFr (sSbf r rv) Y V I J A Y2 V2 I2 J2 A2))) := by
  have hS := S
  have hR2 := hR.2.2.1
  have hR3 := hR.1
  obtain ⟨g0, ⟨g1, g2, g3, g4, g5, gf, g6⟩, gc, ⟨z, gz⟩, gn⟩ := S
  refine xCtr.of (by decide +kernel) (Nat.le_of_ble_eq_true rfl) ?_
  intro Z B E hz hnm
  change xV Z (T, O, R) 0 [(0, .ref x), (1, .int (-(nI k)))] [] 1 400
  obtain ⟨cp, hcp⟩ : ∃ cp, yN Y rv id = cp := ⟨_, rfl⟩
  have g3c : l.length ≤ cp := by rw [← hcp]; exact g3
  have g4c : 16 ≤ cp := by rw [← hcp]; exact g4
  have g5c : cp ≤ 300 := by rw [← hcp]; exact g5
  have hwl := wDig_len k
  refine g_aload_n B 0 dJ12_append_3_0 rfl ?_
  refine x_get B P g0 hR.1 (xrTv hR.2.1 (by decide)) F_J12_79_43 (by decide) gn dJ12_append_3_1 ?_
  refine g_istore_n (lv2 := [(2, _), (0, _), (1, _)]) B dJ12_append_3_4 (by decide) rfl ?_
  refine g_iload_n B 0 dJ12_append_3_5 rfl ?_
  refine g_iload_n B 2 dJ12_append_3_6 rfl ?_
  refine g_callS (rest := [_]) B M_J29_stringSize q2367 q2368 (c_J29_stringSizeM P hk0 hk) rfl rfl (Nat.le_of_ble_eq_true rfl) (Nat.le_of_ble_eq_true rfl) (Nat.le_of_ble_eq_true rfl) (Nat.le_refl _) (Nat.le_refl _) dJ12_append_3_7 (xkA (fun v1 T1 O1 R1 le1 p1 => ?_))
  obtain ⟨rfl, eT1, eO1, eR1⟩ := p1
  obtain rfl := eT1.symm
  obtain rfl := eO1.symm
  obtain rfl := eR1.symm
  refine g_iaddN B dJ12_append_3_10 ?_
  refine g_istore_n (lv2 := [(3, _), (2, _), (0, _), (1, _)]) B dJ12_append_3_11 (by decide) rfl ?_
  refine g_aload_n B 2 dJ12_append_3_12 rfl ?_
  refine g_iload_n B 0 dJ12_append_3_13 rfl ?_
  obtain ⟨n2, u2, ty2⟩ := P.ty g0 hR.1 (xrTv hR.2.1 (by decide))
  refine g_callP (kc2 := 0) (ks2 := 0) (rest := []) B (C := "java/lang/StringBuilder") M_J12_ensureCapacityInternal q1010 q2922 q1012 q1033 rfl q1011 ty2 rfl (c_J12_ensure (m := l.length + ((wDig k).length + 1)) P hR hS (by omega)) rfl rfl (Nat.le_of_ble_eq_true rfl) (Nat.le_of_ble_eq_true rfl) (Nat.le_of_ble_eq_true rfl) (by decide) (by decide) dJ12_append_3_14 (xkN (fun T2 O2 R2 le2 p2 => ?_))
  obtain ⟨Y2, V2, I2, J2, A2, P2, eJ2, eA2, id2, xv2, S2, hm2, f2⟩ := p2
  obtain rfl := eJ2.symm
  obtain rfl := eA2.symm
  have hS2 := S2
  obtain ⟨g02, ⟨g12, g22, g32, g42, g52, gf2, g62⟩, gc2, ⟨z2, gz2⟩, gn2⟩ := S2
  obtain ⟨cp2, hcp2⟩ : ∃ cp, yN Y2 rv id2 = cp := ⟨_, rfl⟩
  refine g_aload_n B 2 dJ12_append_3_17 rfl ?_
  obtain ⟨n3, u3, ty3⟩ := P2.ty g02 hR.1 (xrTv hR.2.1 (by decide))
  refine g_callU (rest := []) B (C := "java/lang/StringBuilder") (owner := "java/lang/AbstractStringBuilder") M_J12_isLatin1 rfl q1030 q1032 q1031 q1033 ty3 rfl (c_J12_isLatin1 P2 hR hS2) rfl rfl (Nat.le_of_ble_eq_true rfl) (Nat.le_of_ble_eq_true rfl) (Nat.le_of_ble_eq_true rfl) (Nat.le_refl _) (Nat.le_refl _) dJ12_append_3_18 (xkA (fun v3 T3 O3 R3 le3 p3 => ?_))
  obtain ⟨rfl, eT3, eO3, eR3⟩ := p3
  obtain rfl := eT3.symm
  obtain rfl := eO3.symm
  obtain rfl := eR3.symm
  refine g_if_eqN (tgt := 37) B (by omega) dJ12_append_3_21 (by decide) (fun e => absurd e (by decide)) (fun _ => ?_)
  refine g_iload_n B 3 dJ12_append_3_24 rfl ?_
  refine g_iload_n B 0 dJ12_append_3_25 rfl ?_
  refine g_aload_n B 2 dJ12_append_3_26 rfl ?_
  refine x_get B P2 g02 hR.1 (xrTv hR.2.1 (by decide)) F_J12_15_43 (by decide) g12 dJ12_append_3_27 ?_
  refine g_callS (rest := []) B M_J29_getChars q2370 q2371 (c_J29_getCharsM (r := r) (p := l.length + ((wDig k).length + 1)) P2 hR g22 hk0 hk ⟨by show (wDig k).length + 1 ≤ _; exact Nat.le_add_left _ _, hm2⟩ g52) rfl rfl (Nat.le_of_ble_eq_true rfl) (Nat.le_of_ble_eq_true rfl) (Nat.le_of_ble_eq_true rfl) (Nat.le_refl _) (Nat.le_refl _) dJ12_append_3_30 (xkA (fun v5 T5 O5 R5 le5 p5 => ?_))
  obtain ⟨Y5, V5, I5, J5, A5, P5, zv5, eV5, ⟨eJ5, eA5⟩, eY5, gc5, f5⟩ := p5
  obtain rfl := eV5.symm
  obtain rfl := eJ5.symm
  obtain rfl := eA5.symm
  obtain rfl := eY5.symm
  obtain ⟨zz5, rfl⟩ := zv5
  refine g_pop B dJ12_append_3_33 rfl ?_
  refine g_goto (tgt := 48) B dJ12_append_3_34 (by decide) ?_
  refine g_aload_n B 2 dJ12_append_3_48 rfl ?_
  refine g_iload_n B 0 dJ12_append_3_49 rfl ?_
  refine x_put (q := (RJ13, TJ13, 4)) B P5 g02 hR.1 (xrTv hR.2.1 (by decide)) F_J12_79_43 rfl rfl (tyJ13_ok 3 (by decide)) rfl rfl dJ12_append_3_50 (fun O6 V6 hs6 hk6 P6 => ?_)
  refine g_aload_n B 2 dJ12_append_3_53 rfl ?_
  refine g_aret B E rfl (Or.inl ⟨_, rfl⟩) (Or.inr ⟨_, rfl⟩) dJ12_append_3_54 ?_
  have fz : xFr (sSbf r rv) Y V I J A Y2 V6 I5 J A := (f2.tr (f5.mono (fun r2 o2 e => Or.inr e))).tr (xFr.uV (r := r) (o := 0) (Or.inl ⟨rfl, rfl⟩) hs6 hk6)
  have hwlt : ∀ c, c ∈ (45 :: wDig k) → c < 128 := fun c h => by
    rcases List.mem_cons.mp h with rfl | h
    · decide
    · exact wDig_lt hk h
  refine ⟨_, rfl, _, _, _, _, _, P6, rfl, rfl, rfl, ⟨id2, xv2, g02, ⟨(rdK hs6 (by decide) g12), g22, by rw [List.length_append]; exact hm2, g42, g52, fun j hj => ?_, fun j hj => ?_⟩, (rdK hs6 (by decide) gc2), ⟨_, (rdK hs6 (by decide) gz2)⟩, by rw [List.length_append]; exact (rdS hs6)⟩, fz⟩
  · rw [gc5]; exact gcI_fit hwlt gf2 hj
  · rw [gc5]; exact gcI_val (L := (45 :: wDig k)) g62 hj
theorem c_J13_appendIP {G : xG} {T : xT} {O R : xO} {Y : xY} {V : xVV} {I : xII} {J : xJJ} {A : xVV} {w0 : xW} {r rv x id xv : Nat} {l : List Nat} {k : Nat} (P : PX Y V I J A w0 T O R) (hR : sbR r rv) (S : xSe Y V I r rv x l id xv) (hl : l.length ≤ 90) (hk : k < 100) : xCtr G yJ13_append_3 cJ13_append_3 2 (some (Jvm.ClassFile.FieldType.object "java/lang/StringBuilder")) 5 127 1 400 [.ref x, .int (nI k)] (T, O, R) (xA (xP w0 (fun v Y2 V2 I2 J2 A2 => v = .ref x ∧ J2 = J ∧ A2 = A ∧ (∃ id2 xv2, xSe Y2 V2 I2 r rv x (l ++ (wDig k)) id2 xv2) ∧ xFr (sSbf r rv) Y V I J A Y2 V2 I2 J2 A2))) := by
  have g0 := S.1
  have hR3 := hR.1
  refine xCtr.of (by decide +kernel) (Nat.le_of_ble_eq_true rfl) ?_
  intro Z B E hz hnm
  change xV Z (T, O, R) 0 [(0, .ref x), (1, .int (nI k))] [] 1 400
  refine g_aload_n B 0 dJ13_append_3_0 rfl ?_
  refine g_iload_n B 1 dJ13_append_3_1 rfl ?_
  obtain ⟨n1, u1, ty1⟩ := P.ty g0 hR.1 (xrTv hR.2.1 (by decide))
  refine g_callSU (kc2 := 0) (ks2 := 0) (rest := []) B M_J12_append_3 q2364 q2933 q712 q2365 (by decide) ty1 rfl rfl (c_J12_appendIP P hR S hl hk) rfl rfl (Nat.le_of_ble_eq_true rfl) (Nat.le_of_ble_eq_true rfl) (Nat.le_of_ble_eq_true rfl) (by decide) (by decide) dJ13_append_3_2 (xkA (fun v1 T1 O1 R1 le1 p1 => ?_))
  obtain ⟨Y1, V1, I1, J1, A1, P1, rfl, rfl, rfl, s1, f1⟩ := p1
  refine g_pop B dJ13_append_3_5 rfl ?_
  refine g_aload_n B 0 dJ13_append_3_6 rfl ?_
  refine g_aret B E rfl (Or.inl ⟨_, rfl⟩) (Or.inr ⟨_, rfl⟩) dJ13_append_3_7 ?_
  exact ⟨_, rfl, _, _, _, _, _, P1, rfl, rfl, rfl, s1, f1⟩
theorem c_J13_appendIM {G : xG} {T : xT} {O R : xO} {Y : xY} {V : xVV} {I : xII} {J : xJJ} {A : xVV} {w0 : xW} {r rv x id xv : Nat} {l : List Nat} {k : Nat} (P : PX Y V I J A w0 T O R) (hR : sbR r rv) (S : xSe Y V I r rv x l id xv) (hl : l.length ≤ 90) (hk0 : 0 < k) (hk : k < 100) : xCtr G yJ13_append_3 cJ13_append_3 2 (some (Jvm.ClassFile.FieldType.object "java/lang/StringBuilder")) 5 127 1 400 [.ref x, .int (-(nI k))] (T, O, R) (xA (xP w0 (fun v Y2 V2 I2 J2 A2 => v = .ref x ∧ J2 = J ∧ A2 = A ∧ (∃ id2 xv2, xSe Y2 V2 I2 r rv x (l ++ (45 :: wDig k)) id2 xv2) ∧ xFr (sSbf r rv) Y V I J A Y2 V2 I2 J2 A2))) := by
  have g0 := S.1
  have hR3 := hR.1
  refine xCtr.of (by decide +kernel) (Nat.le_of_ble_eq_true rfl) ?_
  intro Z B E hz hnm
  change xV Z (T, O, R) 0 [(0, .ref x), (1, .int (-(nI k)))] [] 1 400
  refine g_aload_n B 0 dJ13_append_3_0 rfl ?_
  refine g_iload_n B 1 dJ13_append_3_1 rfl ?_
  obtain ⟨n1, u1, ty1⟩ := P.ty g0 hR.1 (xrTv hR.2.1 (by decide))
  refine g_callSU (kc2 := 0) (ks2 := 0) (rest := []) B M_J12_append_3 q2364 q2933 q712 q2365 (by decide) ty1 rfl rfl (c_J12_appendIM P hR S hl hk0 hk) rfl rfl (Nat.le_of_ble_eq_true rfl) (Nat.le_of_ble_eq_true rfl) (Nat.le_of_ble_eq_true rfl) (by decide) (by decide) dJ13_append_3_2 (xkA (fun v1 T1 O1 R1 le1 p1 => ?_))
  obtain ⟨Y1, V1, I1, J1, A1, P1, rfl, rfl, rfl, s1, f1⟩ := p1
  refine g_pop B dJ13_append_3_5 rfl ?_
  refine g_aload_n B 0 dJ13_append_3_6 rfl ?_
  refine g_aret B E rfl (Or.inl ⟨_, rfl⟩) (Or.inr ⟨_, rfl⟩) dJ13_append_3_7 ?_
  exact ⟨_, rfl, _, _, _, _, _, P1, rfl, rfl, rfl, s1, f1⟩
theorem nn_of {x : Int32} (h1 : -99 ≤ x.toInt) (h2 : x.toInt ≤ 99) : (∃ k, k < 100 ∧ x = nI k) ∨ ∃ k, 0 < k ∧ k < 100 ∧ x = -(nI k) := by
  rcases Int.lt_or_le x.toInt 0 with h | h
  · refine Or.inr ⟨x.toInt.natAbs, by omega, by omega, ?_⟩
    apply Int32.toInt_inj.mp
    rw [(nn_all x.toInt.natAbs (by omega)).2.2.2]
    omega
  · refine Or.inl ⟨x.toInt.toNat, by omega, ?_⟩
    apply Int32.toInt_inj.mp
    rw [nI_toInt (by omega)]
    omega
theorem c_J13_appendI {G : xG} {T : xT} {O R : xO} {Y : xY} {V : xVV} {I : xII} {J : xJJ} {A : xVV} {w0 : xW} {r rv x id xv : Nat} {l : List Nat} {n : Int32} (P : PX Y V I J A w0 T O R) (hR : sbR r rv) (S : xSe Y V I r rv x l id xv) (hl : l.length ≤ 90) (h1 : -99 ≤ n.toInt) (h2 : n.toInt ≤ 99) : xCtr G yJ13_append_3 cJ13_append_3 2 (some (Jvm.ClassFile.FieldType.object "java/lang/StringBuilder")) 5 127 1 400 [.ref x, .int n] (T, O, R) (xA (xP w0 (fun v Y2 V2 I2 J2 A2 => v = .ref x ∧ J2 = J ∧ A2 = A ∧ (∃ id2 xv2, xSe Y2 V2 I2 r rv x (l ++ wNum n) id2 xv2) ∧ xFr (sSbf r rv) Y V I J A Y2 V2 I2 J2 A2))) := by
  rcases nn_of h1 h2 with ⟨k, hk, rfl⟩ | ⟨k, h0, hk, rfl⟩
  · rw [wNum_p hk]; exact c_J13_appendIP P hR S hl hk
  · rw [wNum_m h0 hk]; exact c_J13_appendIM P hR S hl h0 hk
