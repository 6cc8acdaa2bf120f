set_option maxRecDepth 100000
theorem aA.finish_eq (a : aA) : a.finish = (a.vst 2 1 (fun _ => true) (fun _ _ => true) true).w_nm (up1 (up1 a.nm 1 a.rn) 2 0) := by
  have e1 : (fun v o key => if v = 2 ∧ true = true then a.st 1 o key else a.st v o key) = (fun v => if v = 2 then a.st 1 else a.st v) := by
    funext v o key
    by_cases h : v = 2
    · rw [if_pos ⟨h, rfl⟩, if_pos h]
    · rw [if_neg (fun q => h q.1), if_neg h]
  have e2 : (fun v o i => if v = 2 ∧ true = true then a.ct 1 o i else a.ct v o i) = (fun v => if v = 2 then a.ct 1 else a.ct v) := by
    funext v o key
    by_cases h : v = 2
    · rw [if_pos ⟨h, rfl⟩, if_pos h]
    · rw [if_neg (fun q => h q.1), if_neg h]
  have e3 : (fun v => if v = 2 ∧ true = true then a.of 1 else a.of v) = (fun v => if v = 2 then a.of 1 else a.of v) := by
    funext v
    by_cases h : v = 2
    · rw [if_pos ⟨h, rfl⟩, if_pos h]
    · rw [if_neg (fun q => h q.1), if_neg h]
  unfold aA.finish aA.vst
  rw [e1, e2, e3]
theorem c_X0_complete {G : xG} {T : xT} {O R : xO} {Y : xY} {V : xVV} {I : xII} {J : xJJ} {A : xVV} {w0 : xW} {a : aA} {tk x0 g0 fi ps : Nat} (P : PX Y V I J A w0 T O R) (H : RepX a tk x0 g0 fi ps Y V I J A) (h0q : yAt Y 0 0 x0) (hv : vOk a 2 1) (hp : ∀ o, o < a.n → 1 ≤ a.p o ∧ a.p o ≤ 3) : xCtr G yX0_complete cX0_complete 1 none 9 197 1 4 [.ref x0] (T, O, R) (xN (xR w0 Y a.finish tk x0 g0 fi ps)) := by
  refine xCtr.of (by decide +kernel) (Nat.le_of_ble_eq_true rfl) ?_
  intro Z B E hz hnm
  change xV Z (T, O, R) 0 [(0, .ref x0)] [] 1 4
  obtain ⟨h0, ⟨⟨pa0, pb0, pc0⟩, ⟨pa5, pb5, pc5⟩, ⟨pa6, pb6, pc6⟩, ⟨pa8, pb8, pc8⟩, ⟨pa9, pb9, pc9⟩, ⟨pa10, pb10, pc10⟩, ⟨pa11, pb11, pc11⟩, ⟨pa12, pb12, pc12⟩, ⟨pa13, pb13, pc13⟩, ⟨pa20, pb20, pc20⟩, ⟨pa21, pb21, pc21⟩, ⟨pa22, pb22, pc22⟩⟩, ⟨nq1, nq2, nq3, nq4⟩, nq7, nq14, nq15, nq16, nq17, nq18, nq19⟩ := H.Si
  obtain ⟨xv, l, hL, hln, hA⟩ := H.Ve
  obtain rfl : pa10 = xv := P.fn pc10 hL.1
  refine g_aload_n B 0 dX0_complete_0 rfl ?_
  refine x_get B P h0 (by decide) rfl F_X0_127_0 (by decide) pb10 dX0_complete_1 ?_
  refine g_callS (kc2 := 0) (ks2 := 0) (rest := []) B M_X0_finishAll q1655 q1656 (c_X0_finishAll (xl := pa10) (l := l) P H hv hp hL hln hA) rfl rfl (Nat.le_of_ble_eq_true rfl) (Nat.le_of_ble_eq_true rfl) (Nat.le_of_ble_eq_true rfl) (by decide) (by decide) dX0_complete_4 (xkN (fun T1 O1 R1 le1 p1 => ?_))
  obtain ⟨Y1, V1, I1, J1, A1, P1, l1, H1⟩ := p1
  have h0b := l1.at h0
  obtain ⟨b, hb⟩ : ∃ b, b = a.vst 2 1 (fun _ => true) (fun _ _ => true) true := ⟨_, rfl⟩
  rw [← hb] at H1
  have hbn : b.nm = a.nm := by rw [hb]; rfl
  have hb5 : b.n = a.n := by rw [hb]; rfl
  obtain ⟨h0b, ⟨⟨pa0b, pb0b, pc0b⟩, ⟨pa5b, pb5b, pc5b⟩, ⟨pa6b, pb6b, pc6b⟩, ⟨pa8b, pb8b, pc8b⟩, ⟨pa9b, pb9b, pc9b⟩, ⟨pa10b, pb10b, pc10b⟩, ⟨pa11b, pb11b, pc11b⟩, ⟨pa12b, pb12b, pc12b⟩, ⟨pa13b, pb13b, pc13b⟩, ⟨pa20b, pb20b, pc20b⟩, ⟨pa21b, pb21b, pc21b⟩, ⟨pa22b, pb22b, pc22b⟩⟩, ⟨nq1b, nq2b, nq3b, nq4b⟩, nq7b, nq14b, nq15b, nq16b, nq17b, nq18b, nq19b⟩ := H1.Si
  refine g_aload_n B 0 dX0_complete_7 rfl ?_
  refine g_aload_n B 0 dX0_complete_8 rfl ?_
  refine x_get B P1 h0b (by decide) rfl F_X0_213_0 (by decide) nq16b dX0_complete_9 ?_
  refine x_put (q := (RX0, TX0, 23)) B P1 h0b (by decide) rfl F_X0_210_0 rfl rfl (tyX0_ok 15 (by decide)) rfl rfl dX0_complete_12 (fun O2 V2 hs2 hk2 P2 => ?_)
  refine g_aload_n B 0 dX0_complete_15 rfl ?_
  refine g_iconst (v := nI 0) B dX0_complete_16 (by decide) ?_
  refine x_put (q := (RX0, TX0, 23)) B P2 h0b (by decide) rfl F_X0_213_0 rfl rfl (tyX0_ok 16 (by decide)) rfl rfl dX0_complete_17 (fun O3 V3 hs3 hk3 P3 => ?_)
  refine g_vret B E rfl dX0_complete_20 ?_
  have hq : up1 (up1 b.nm 1 b.rn) 2 0 = up1 (up1 a.nm 1 a.rn) 2 0 := by rw [show b.rn = a.rn from congrFun hbn 2, hbn]
  have fz : xFr (s1 0 0) Y1 V1 I1 J1 A1 Y1 V3 I1 J1 A1 := ((xFr.uV (S := s1 0 0) (r := 0) (o := 0) ⟨rfl, rfl⟩ hs2 hk2).tr (xFr.uV (S := s1 0 0) (r := 0) (o := 0) ⟨rfl, rfl⟩ hs3 hk3))
  have hX : XSi Y1 V3 x0 b.cf (up1 (up1 b.nm 1 b.rn) 2 0) b.fl tk b.inp.length := ⟨h0b, ⟨⟨pa0b, (rdK hs3 (by decide) (rdK hs2 (by decide) pb0b)), pc0b⟩, ⟨pa5b, (rdK hs3 (by decide) (rdK hs2 (by decide) pb5b)), pc5b⟩, ⟨pa6b, (rdK hs3 (by decide) (rdK hs2 (by decide) pb6b)), pc6b⟩, ⟨pa8b, (rdK hs3 (by decide) (rdK hs2 (by decide) pb8b)), pc8b⟩, ⟨pa9b, (rdK hs3 (by decide) (rdK hs2 (by decide) pb9b)), pc9b⟩, ⟨pa10b, (rdK hs3 (by decide) (rdK hs2 (by decide) pb10b)), pc10b⟩, ⟨pa11b, (rdK hs3 (by decide) (rdK hs2 (by decide) pb11b)), pc11b⟩, ⟨pa12b, (rdK hs3 (by decide) (rdK hs2 (by decide) pb12b)), pc12b⟩, ⟨pa13b, (rdK hs3 (by decide) (rdK hs2 (by decide) pb13b)), pc13b⟩, ⟨pa20b, (rdK hs3 (by decide) (rdK hs2 (by decide) pb20b)), pc20b⟩, ⟨pa21b, (rdK hs3 (by decide) (rdK hs2 (by decide) pb21b)), pc21b⟩, ⟨pa22b, (rdK hs3 (by decide) (rdK hs2 (by decide) pb22b)), pc22b⟩⟩, ⟨(rdK hs3 (by decide) (rdK hs2 (by decide) nq1b)), (rdK hs3 (by decide) (rdK hs2 (by decide) nq2b)), (rdK hs3 (by decide) (rdK hs2 (by decide) nq3b)), (rdK hs3 (by decide) (rdK hs2 (by decide) nq4b))⟩, (rdK hs3 (by decide) (rdK hs2 (by decide) nq7b)), (rdK hs3 (by decide) (rdK hs2 (by decide) nq14b)), (rdK hs3 (by decide) (rdS hs2)), (rdS hs3), (fun hr17 => absurd (show 0 < 0 from hr17) (Nat.lt_irrefl 0)), (rdK hs3 (by decide) (rdK hs2 (by decide) nq18b)), (rdK hs3 (by decide) (rdK hs2 (by decide) nq19b))⟩
  obtain ⟨xo, qo, o1, o2, o3, o4⟩ := H1.Of
  have Hn := H1.w_nm (q := up1 (up1 b.nm 1 b.rn) 2 0) fz (fun r o e => e.1) rfl hX ⟨xo, qo, o1, o2, o3, fun h => absurd h (Nat.lt_irrefl 0)⟩
  rw [hq, hb, ← aA.finish_eq] at Hn
  exact ⟨rfl, _, _, _, _, _, P3, l1, Hn⟩
