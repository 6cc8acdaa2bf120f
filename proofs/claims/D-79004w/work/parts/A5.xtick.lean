set_option maxRecDepth 100000
/-- the channels before (o, i, j) have grown -/
def gMf (a : aA) (o i j : Nat) : Nat → Nat → Nat → aCh := fun x y z => if x < o ∨ (x = o ∧ (y < i ∨ (y = i ∧ z < j))) then cGrow (a.cf 1) (a.cf 2) (a.ch x y z) else a.ch x y z
theorem gM_0 (a : aA) : gMf a 0 0 0 = a.ch := by
  funext x y z
  unfold gMf
  exact if_neg (by omega)
theorem gM_c {a : aA} {B o i j o' i' j' : Nat} (W : WF B a) (h : ∀ x y z, x + 1 < a.n → y < a.p x → z < a.p (x + 1) → ((x < o ∨ (x = o ∧ (y < i ∨ (y = i ∧ z < j)))) ↔ (x < o' ∨ (x = o' ∧ (y < i' ∨ (y = i' ∧ z < j')))))) : gMf a o i j = gMf a o' i' j' := by
  funext x y z
  by_cases c : x + 1 < a.n ∧ y < a.p x ∧ z < a.p (x + 1)
  · unfold gMf
    have k := h x y z c.1 c.2.1 c.2.2
    by_cases e : x < o ∨ (x = o ∧ (y < i ∨ (y = i ∧ z < j)))
    · rw [if_pos e, if_pos (k.mp e)]
    · rw [if_neg e, if_neg (fun q => e (k.mpr q))]
  · unfold gMf
    rw [W.chu x y z c, cGrow_c0]
    simp
theorem gM_row {a : aA} {B o i : Nat} (W : WF B a) : gMf a o i (a.p (o + 1)) = gMf a o (i + 1) 0 := gM_c W (fun x y z h1 h2 h3 => by
  constructor
  · intro h; omega
  · intro h
    rcases h with h | ⟨rfl, h⟩
    · exact Or.inl h
    · exact Or.inr ⟨rfl, by omega⟩)
theorem gM_op {a : aA} {B o : Nat} (W : WF B a) : gMf a o (a.p o) 0 = gMf a (o + 1) 0 0 := gM_c W (fun x y z h1 h2 h3 => by
  constructor
  · intro h; omega
  · intro h
    by_cases e : x = o
    · subst e; exact Or.inr ⟨rfl, by omega⟩
    · exact Or.inl (by omega))
theorem gM_end {a : aA} {B o : Nat} (W : WF B a) (ho : a.n ≤ o + 1) : gMf a o 0 0 = fun o i j => cGrow (a.cf 1) (a.cf 2) (a.ch o i j) := by
  funext x y z
  by_cases c : x + 1 < a.n ∧ y < a.p x ∧ z < a.p (x + 1)
  · unfold gMf
    exact if_pos (Or.inl (by omega))
  · unfold gMf
    rw [W.chu x y z c, cGrow_c0]
    simp
theorem gM_at (a : aA) (o i j : Nat) : gMf a o i j o i j = a.ch o i j := by
  unfold gMf
  exact if_neg (by omega)
theorem gM_st (a : aA) (o i j : Nat) : up3 (gMf a o i j) o i j (cGrow (a.cf 1) (a.cf 2) (a.ch o i j)) = gMf a o i (j + 1) := by
  funext x y z
  by_cases e : x = o ∧ y = i ∧ z = j
  · obtain ⟨rfl, rfl, rfl⟩ := e
    rw [up3_s]
    unfold gMf
    rw [if_pos (by omega)]
  · rw [up3_n e]
    unfold gMf
    by_cases c : x < o ∨ (x = o ∧ (y < i ∨ (y = i ∧ z < j)))
    · rw [if_pos c, if_pos (by omega)]
    · rw [if_neg c, if_neg (by omega)]
theorem cGrow_len (g cr : Nat) (c : aCh) : ∃ k, k ≤ 1 ∧ (cGrow g cr c).1.length = c.1.length + k := by
  unfold cGrow
  split
  · exact ⟨0, by decide, rfl⟩
  · split
    · exact ⟨1, by decide, by simp [cClose]⟩
    · exact ⟨0, by decide, rfl⟩
theorem gM_le {a : aA} {B : Nat} (W : WF B a) (o i j x y z : Nat) : (gMf a o i j x y z).1.length ≤ 4 := by
  have h := W.ch x y z
  have hc := W.cf
  have g := h.grow (g := a.cf 1) hc.1.2
  unfold gMf
  split
  · have := g.1; omega
  · have := h.1; omega
def prI (k : Nat) : Int32 := nI k + (-1)
theorem prI_s (k : Nat) : prI (k + 1) = nI k := nI_prd2 k
theorem prI_0 : prI 0 < 0 := by decide
theorem sub_prI (n : Nat) : nI n - nI 1 = prI n := by
  unfold prI
  rw [Int32.sub_eq_add_neg]
  rfl
theorem aA.i_ch (b : aA) (x y : Nat → Nat → Nat → aCh) : (b.w_ch x).w_ch y = b.w_ch y := rfl
theorem tick0_eq (a : aA) : ((a.w_nm (up1 a.nm 4 1)).w_ch (fun o i j => cGrow (a.cf 1) (a.cf 2) (a.ch o i j))).w_nm (up1 (up1 a.nm 4 1) 0 (a.tk + 1)) = a.tick0 := rfl
theorem c_X0_tick_2 {G : xG} {T : xT} {O R : xO} {Y : xY} {V : xVV} {I : xII} {J : xJJ} {A : xVV} {w0 : xW} {a : aA} {tk x0 g0 fi ps : Nat} {Bd : Nat} (P : PX Y V I J A w0 T O R) (H : RepX a tk x0 g0 fi ps Y V I J A) (W : WF Bd a) (h0q : yAt Y 0 0 x0) (hA : AInv a) (hB : Bd < 1800000) (htk : tk = a.tk) (htk5 : tk ≤ 5000) : xCtrL G yX0_tick_2 cX0_tick_2 10 none 14 304 (4 * fi + ps + 180) (18 * fi + ps + 630) [.ref x0] (T, O, R) (xNL (xRL w0 Y a.tick1 (tk + 1) x0 g0)) := by
  refine xCtrL.of (by decide +kernel) (Nat.le_of_ble_eq_true rfl) ?_
  intro Z B E hz hnm
  change xV Z (T, O, R) 0 [(0, .ref x0)] [] (4 * fi + ps + 180) (18 * fi + ps + 630)
  have hn6 := W.n6
  have hn2 := W.n2
  have hcf := W.cf
  obtain ⟨h0, ⟨⟨pa0, pb0, pc0⟩, ⟨pa5, pb5, pc5⟩, ⟨pa6, pb6, pc6⟩, ⟨pa8, pb8, pc8⟩, ⟨pa9, pb9, pc9⟩, ⟨pa10, pb10, pc10⟩, ⟨pa11, pb11, pc11⟩, ⟨pa12, pb12, pc12⟩, ⟨pa13, pb13, pc13⟩, ⟨pa20, pb20, pc20⟩, ⟨pa21, pb21, pc21⟩, ⟨pa22, pb22, pc22⟩⟩, ⟨nq1, nq2, nq3, nq4⟩, nq7, nq14, nq15, nq16, nq17, nq18, nq19⟩ := H.Si
  refine g_aload_n B 0 dX0_tick_2_0 rfl ?_
  refine g_iconst (v := nI 1) B dX0_tick_2_1 (by decide) ?_
  refine x_put (q := (RX0, TX0, 23)) B P h0q (by decide) rfl F_X0_222_0 rfl rfl (tyX0_ok 19 (by decide)) rfl rfl dX0_tick_2_2 (fun O1 V1 hs1 hk1 P1 => ?_)
  have fz : xFr (s1 0 0) Y V I J A Y V1 I J A := (xFr.uV (S := s1 0 0) (r := 0) (o := 0) ⟨rfl, rfl⟩ hs1 hk1)
  have hX : XSi Y V1 x0 a.cf (up1 a.nm 4 1) a.fl tk a.inp.length := ⟨h0, ⟨⟨pa0, (rdK hs1 (by decide) pb0), pc0⟩, ⟨pa5, (rdK hs1 (by decide) pb5), pc5⟩, ⟨pa6, (rdK hs1 (by decide) pb6), pc6⟩, ⟨pa8, (rdK hs1 (by decide) pb8), pc8⟩, ⟨pa9, (rdK hs1 (by decide) pb9), pc9⟩, ⟨pa10, (rdK hs1 (by decide) pb10), pc10⟩, ⟨pa11, (rdK hs1 (by decide) pb11), pc11⟩, ⟨pa12, (rdK hs1 (by decide) pb12), pc12⟩, ⟨pa13, (rdK hs1 (by decide) pb13), pc13⟩, ⟨pa20, (rdK hs1 (by decide) pb20), pc20⟩, ⟨pa21, (rdK hs1 (by decide) pb21), pc21⟩, ⟨pa22, (rdK hs1 (by decide) pb22), pc22⟩⟩, ⟨(rdK hs1 (by decide) nq1), (rdK hs1 (by decide) nq2), (rdK hs1 (by decide) nq3), (rdK hs1 (by decide) nq4)⟩, (rdK hs1 (by decide) nq7), (rdK hs1 (by decide) nq14), (rdK hs1 (by decide) nq15), (rdK hs1 (by decide) nq16), (fun hr17 => (rdK hs1 (by decide) (nq17 hr17))), (rdK hs1 (by decide) nq18), (rdS hs1)⟩
  have H0 : RepX (a.w_nm (up1 a.nm 4 1)) tk x0 g0 fi ps Y V1 I J A := H.w_nm (q := up1 a.nm 4 1) fz (fun r o e => e.1) rfl hX H.Of
  obtain ⟨a0, ha0⟩ : ∃ b, b = a.w_nm (up1 a.nm 4 1) := ⟨_, rfl⟩
  rw [← ha0] at H0
  have a0_n : a0.n = a.n := by rw [ha0]; rfl
  have a0_p : a0.p = a.p := by rw [ha0]; rfl
  have a0_ch : a0.ch = a.ch := by rw [ha0]; rfl
  have a0_cf : a0.cf = a.cf := by rw [ha0]; rfl
  have a0_ls : a0.ls = a.ls := by rw [ha0]; rfl
  have e00 : a0.w_ch (gMf a 0 0 0) = a0 := by rw [gM_0, ← a0_ch]; rfl
  rw [← e00] at H0
  refine g_iconst (v := nI 0) B dX0_tick_2_5 (by decide) ?_
  refine g_istore_n (lv2 := [(1, _), (0, _)]) B dX0_tick_2_6 (by decide) rfl ?_
  have L : ∀ (d : Nat) (o fi1 : Nat) (Y1 : xY) (V1 : xVV) (I1 : xII) (A1 : xVV) (T1 : xT) (O1 R1 : xO), d = a.n - o → PX Y1 V1 I1 J A1 w0 T1 O1 R1 → (o + 1 ≤ a.n) → (RepX (a0.w_ch (gMf a o 0 0)) tk x0 g0 fi1 ps Y1 V1 I1 J A1) → (yLe Y Y1) → xV Z (T1, O1, R1) 7 [(1, .int (nI o)), (0, .ref x0)] [] (4 * fi1 + ps + 180) (18 * fi1 + ps + 630) := by
    intro d
    induction d using Nat.strongRecOn with
    | _ d ih =>
      intro o fi1 Y1 V1 I1 A1 T1 O1 R1 hd P1 hok H1 le1
      have hb0 := le1.at h0q
      obtain ⟨h0, ⟨⟨pa0, pb0, pc0⟩, ⟨pa5, pb5, pc5⟩, ⟨pa6, pb6, pc6⟩, ⟨pa8, pb8, pc8⟩, ⟨pa9, pb9, pc9⟩, ⟨pa10, pb10, pc10⟩, ⟨pa11, pb11, pc11⟩, ⟨pa12, pb12, pc12⟩, ⟨pa13, pb13, pc13⟩, ⟨pa20, pb20, pc20⟩, ⟨pa21, pb21, pc21⟩, ⟨pa22, pb22, pc22⟩⟩, ⟨nq1, nq2, nq3, nq4⟩, nq7, nq14, nq15, nq16, nq17, nq18, nq19⟩ := H1.Si
      obtain ⟨xol, ll, Lol, lln, llo⟩ := H1.Ol
      obtain rfl : pa8 = xol := P1.fn pc8 Lol.1
      have lln : ll.length = a.n := by rw [lln]; exact a0_n
      obtain ⟨-, xj, b1, b2, b3⟩ := H1.Ar
      obtain rfl : pa12 = xj := P1.fn pc12 b1
      refine g_iload_n B 0 dX0_tick_2_7 rfl ?_
      refine g_iconst (v := nI 1) B dX0_tick_2_8 (by decide) ?_
      refine g_iaddN B dX0_tick_2_9 ?_
      refine g_aload_n B 1 dX0_tick_2_10 rfl ?_
      refine x_get B P1 hb0 (by decide) rfl F_X0_115_0 (by decide) pb8 dX0_tick_2_11 ?_
      obtain ⟨n101, u101, ty101⟩ := P1.ty pc8 (by decide) rfl
      refine g_callV (kc2 := (4 * fi1 + ps + 180)) (ks2 := (18 * fi1 + ps + 630)) (rest := [_]) B M_J4_size q502 q503 q504 ty101 rfl (c_J4_size (r := 34) (rd := 5002) P1 (by decide) rfl Lol) rfl rfl (Nat.le_of_ble_eq_true rfl) (Nat.le_of_ble_eq_true rfl) (Nat.le_of_ble_eq_true rfl) (Nat.le_refl _) (Nat.le_refl _) dX0_tick_2_14 (xkA (fun v101 T101 O101 R101 le101 p101 => ?_))
      obtain ⟨rfl, eT101, eO101, eR101⟩ := p101
      obtain rfl := eT101.symm
      obtain rfl := eO101.symm
      obtain rfl := eR101.symm
      refine g_icmp_geN (tgt := 94) B (by omega) (by omega) dX0_tick_2_17 (by decide) (fun c102 => ?_) (fun c102 => ?_)
      · have hge : gMf a o 0 0 = fun o i j => cGrow (a.cf 1) (a.cf 2) (a.ch o i j) := gM_end W (by omega)
        rw [hge] at H1
        have Hn : RepX ((a0.w_ch (fun o i j => cGrow (a.cf 1) (a.cf 2) (a.ch o i j))).w_nm (up1 (up1 a.nm 4 1) 0 (a.tk + 1))) tk x0 g0 fi1 ps Y1 V1 I1 J A1 := by
          have q : a0.nm = up1 a.nm 4 1 := by rw [ha0]; rfl
          exact ⟨(by have k := H1.Si; rw [show (a0.w_ch (fun o i j => cGrow (a.cf 1) (a.cf 2) (a.ch o i j))).nm = up1 a.nm 4 1 from q] at k; exact k), (by have k := H1.Ol; rw [show (a0.w_ch (fun o i j => cGrow (a.cf 1) (a.cf 2) (a.ch o i j))).n = a.n from a0_n] at k; exact k), (by have k := H1.Op; rw [show (a0.w_ch (fun o i j => cGrow (a.cf 1) (a.cf 2) (a.ch o i j))).n = a.n from a0_n] at k; exact k), (by have k := H1.Ks; rw [show (a0.w_ch (fun o i j => cGrow (a.cf 1) (a.cf 2) (a.ch o i j))).n = a.n from a0_n] at k; exact k), (by have k := H1.In; rw [show (a0.w_ch (fun o i j => cGrow (a.cf 1) (a.cf 2) (a.ch o i j))).n = a.n from a0_n] at k; exact k), (by have k := H1.Ct; rw [show (a0.w_ch (fun o i j => cGrow (a.cf 1) (a.cf 2) (a.ch o i j))).n = a.n from a0_n] at k; exact k), (by have k := H1.Of; rw [show (a0.w_ch (fun o i j => cGrow (a.cf 1) (a.cf 2) (a.ch o i j))).rn = a.rn from congrFun q 2] at k; exact k), (by have k := H1.Ch; rw [show (a0.w_ch (fun o i j => cGrow (a.cf 1) (a.cf 2) (a.ch o i j))).n = a.n from a0_n] at k; exact k), (by have k := H1.Ar; rw [show (a0.w_ch (fun o i j => cGrow (a.cf 1) (a.cf 2) (a.ch o i j))).n = a.n from a0_n] at k; exact k), (by have k := H1.Ve; rw [show (a0.w_ch (fun o i j => cGrow (a.cf 1) (a.cf 2) (a.ch o i j))).n = a.n from a0_n] at k; exact k), H1.Ip, H1.Tx, H1.Wr, H1.Ex, H1.La⟩
        rw [ha0, tick0_eq] at Hn
        obtain ⟨t0, ht0⟩ : ∃ b, b = a.tick0 := ⟨_, rfl⟩
        rw [← ht0] at Hn
        have Wt : WF (Bd + 1) t0 := by rw [ht0]; exact W.tick0
        have At : AInv t0 := by rw [ht0]; exact hA.tick0
        have t_n : t0.n = a.n := by rw [ht0]; rfl
        have t_4 : t0.nm 4 ≠ 0 := by rw [ht0]; show (1 : Nat) ≠ 0; decide
        have t_k : t0.tk = tk + 1 := by rw [ht0, htk]; rfl
        have tfin : aA.allWork a.n t0 = a.tick1 := by rw [ht0]; rfl
        refine g_aload_n B 1 dX0_tick_2_94 rfl ?_
        refine x_get B P1 hb0 (by decide) rfl F_X0_115_0 (by decide) pb8 dX0_tick_2_95 ?_
        obtain ⟨n103, u103, ty103⟩ := P1.ty pc8 (by decide) rfl
        refine g_callV (kc2 := (4 * fi1 + ps + 180)) (ks2 := (18 * fi1 + ps + 630)) (rest := []) B M_J4_size q502 q503 q504 ty103 rfl (c_J4_size (r := 34) (rd := 5002) P1 (by decide) rfl Lol) rfl rfl (Nat.le_of_ble_eq_true rfl) (Nat.le_of_ble_eq_true rfl) (Nat.le_of_ble_eq_true rfl) (Nat.le_refl _) (Nat.le_refl _) dX0_tick_2_98 (xkA (fun v103 T103 O103 R103 le103 p103 => ?_))
        obtain ⟨rfl, eT103, eO103, eR103⟩ := p103
        obtain rfl := eT103.symm
        obtain rfl := eO103.symm
        obtain rfl := eR103.symm
        refine g_iconst (v := nI 1) B dX0_tick_2_101 (by decide) ?_
        refine g_isub B dX0_tick_2_102 ?_
        rw [lln]
        refine g_top (show Value.int (nI a.n - nI 1) = .int (prI a.n) from congrArg Value.int (sub_prI a.n)) ?_
        refine g_istore_n (lv2 := [(1, _), (0, _)]) B dX0_tick_2_103 (by decide) rfl ?_
        refine xV.room (kc' := 4 * fi1 + ps + 30 * a.n) (ks' := 18 * fi1 + ps + 105 * a.n) (by omega) (by omega) ?_
        have LD : ∀ (dD : Nat) (k BD : Nat) (b : aA) (fiD psD : Nat) (Y1D : xY) (V1D : xVV) (I1D : xII) (J1D : xJJ) (A1D : xVV) (T1D : xT) (O1D R1D : xO), dD = k → PX Y1D V1D I1D J1D A1D w0 T1D O1D R1D → (k ≤ t0.n) → (BD + 45 * k < 1900000) → (RepX b tk x0 g0 fiD psD Y1D V1D I1D J1D A1D) → (WF BD b) → (AInv b) → (sSt b t0) → (aA.allWork k b = aA.allWork a.n t0) → (yLe Y Y1D) → xV Z (T1D, O1D, R1D) 104 [(1, .int (prI k)), (0, .ref x0)] [] (4 * fiD + psD + 30 * k) (18 * fiD + psD + 105 * k) := by
          intro dD
          induction dD using Nat.strongRecOn with
          | _ dD ihD =>
            intro k BD b fiD psD Y1D V1D I1D J1D A1D T1D O1D R1D hdD P1D hkk hBD H1D WD AD sD hFD le1D
            have hb0 := le1D.at h0q
            have bn : b.n = t0.n := sD.n
            refine g_iload_n B 0 dX0_tick_2_104 rfl ?_
            rcases k with _ | k
            · refine g_if_lt (tgt := 150) B dX0_tick_2_105 (by decide) (fun _ => ?_) (fun e => absurd prI_0 e)
              obtain ⟨h0d, ⟨⟨pa0d, pb0d, pc0d⟩, ⟨pa5d, pb5d, pc5d⟩, ⟨pa6d, pb6d, pc6d⟩, ⟨pa8d, pb8d, pc8d⟩, ⟨pa9d, pb9d, pc9d⟩, ⟨pa10d, pb10d, pc10d⟩, ⟨pa11d, pb11d, pc11d⟩, ⟨pa12d, pb12d, pc12d⟩, ⟨pa13d, pb13d, pc13d⟩, ⟨pa20d, pb20d, pc20d⟩, ⟨pa21d, pb21d, pc21d⟩, ⟨pa22d, pb22d, pc22d⟩⟩, ⟨nq1d, nq2d, nq3d, nq4d⟩, nq7d, nq14d, nq15d, nq16d, nq17d, nq18d, nq19d⟩ := H1D.Si
              refine g_aload_n B 1 dX0_tick_2_150 rfl ?_
              refine g_dup B dX0_tick_2_151 rfl ?_
              refine x_get B P1D hb0 (by decide) rfl F_X0_207_0 (by decide) nq14d dX0_tick_2_152 ?_
              refine g_iconst (v := nI 1) B dX0_tick_2_155 (by decide) ?_
              refine g_iaddN B dX0_tick_2_156 ?_
              refine x_put (q := (RX0, TX0, 23)) B P1D hb0 (by decide) rfl F_X0_207_0 rfl rfl (tyX0_ok 14 (by decide)) rfl rfl dX0_tick_2_157 (fun O101 V101 hs101 hk101 P101 => ?_)
              refine g_vretL B E rfl dX0_tick_2_160 ?_
              have fzT : xFr (s1 0 0) Y1D V1D I1D J1D A1D Y1D V101 I1D J1D A1D := (xFr.uV (S := s1 0 0) (r := 0) (o := 0) ⟨rfl, rfl⟩ hs101 hk101)
              have hXT : XSi Y1D V101 x0 b.cf b.nm b.fl (tk + 1) b.inp.length := ⟨h0d, ⟨⟨pa0d, (rdK hs101 (by decide) pb0d), pc0d⟩, ⟨pa5d, (rdK hs101 (by decide) pb5d), pc5d⟩, ⟨pa6d, (rdK hs101 (by decide) pb6d), pc6d⟩, ⟨pa8d, (rdK hs101 (by decide) pb8d), pc8d⟩, ⟨pa9d, (rdK hs101 (by decide) pb9d), pc9d⟩, ⟨pa10d, (rdK hs101 (by decide) pb10d), pc10d⟩, ⟨pa11d, (rdK hs101 (by decide) pb11d), pc11d⟩, ⟨pa12d, (rdK hs101 (by decide) pb12d), pc12d⟩, ⟨pa13d, (rdK hs101 (by decide) pb13d), pc13d⟩, ⟨pa20d, (rdK hs101 (by decide) pb20d), pc20d⟩, ⟨pa21d, (rdK hs101 (by decide) pb21d), pc21d⟩, ⟨pa22d, (rdK hs101 (by decide) pb22d), pc22d⟩⟩, ⟨(rdK hs101 (by decide) nq1d), (rdK hs101 (by decide) nq2d), (rdK hs101 (by decide) nq3d), (rdK hs101 (by decide) nq4d)⟩, (rdK hs101 (by decide) nq7d), (rdS hs101), (rdK hs101 (by decide) nq15d), (rdK hs101 (by decide) nq16d), (fun hr17 => (rdK hs101 (by decide) (nq17d hr17))), (rdK hs101 (by decide) nq18d), (rdK hs101 (by decide) nq19d)⟩
              have HT := H1D.tk (tk2 := tk + 1) fzT (fun r o e => e.1) hXT
              have hbF : b = a.tick1 := by rw [← tfin, ← hFD]; rfl
              exact ⟨rfl, _, _, _, _, _, fiD, psD, P101, le1D, by rw [← hbF]; exact HT, by omega, by omega⟩
            · rw [prI_s]
              have hkn : k < t0.n := by omega
              have hkb : k < b.n := by rw [bn]; exact hkn
              obtain ⟨h0d, ⟨⟨pa0d, pb0d, pc0d⟩, ⟨pa5d, pb5d, pc5d⟩, ⟨pa6d, pb6d, pc6d⟩, ⟨pa8d, pb8d, pc8d⟩, ⟨pa9d, pb9d, pc9d⟩, ⟨pa10d, pb10d, pc10d⟩, ⟨pa11d, pb11d, pc11d⟩, ⟨pa12d, pb12d, pc12d⟩, ⟨pa13d, pb13d, pc13d⟩, ⟨pa20d, pb20d, pc20d⟩, ⟨pa21d, pb21d, pc21d⟩, ⟨pa22d, pb22d, pc22d⟩⟩, ⟨nq1d, nq2d, nq3d, nq4d⟩, nq7d, nq14d, nq15d, nq16d, nq17d, nq18d, nq19d⟩ := H1D.Si
              obtain ⟨⟨xi7, e1, e2, e3⟩, -⟩ := H1D.Ar
              obtain rfl : pa11d = xi7 := P1D.fn pc11d e1
              obtain ⟨xr, c1, c2, c3, c4⟩ := e3 k hkb
              have hpk := WD.p1 k hkb
              refine g_if_ltN (tgt := 150) B (by omega) dX0_tick_2_105 (by decide) ?_
              refine g_aload_n B 1 dX0_tick_2_108 rfl ?_
              refine x_get B P1D hb0 (by decide) rfl F_X0_132_0 (by decide) pb11d dX0_tick_2_109 ?_
              refine g_iload_n B 0 dX0_tick_2_112 rfl ?_
              refine x_ldA B P1D pc11d (by decide) rfl rfl rfl e2 (by omega) (by omega) c1 dX0_tick_2_113 ?_
              refine g_astore_n (lv2 := [(2, _), (1, _), (0, _)]) B dX0_tick_2_114 (by decide) rfl ?_
              refine g_aload_n B 0 dX0_tick_2_115 rfl ?_
              refine x_alen B P1D c2 (by decide) rfl c3 dX0_tick_2_116 ?_
              refine g_istore_n (lv2 := [(3, _), (2, _), (1, _), (0, _)]) B dX0_tick_2_117 (by decide) rfl ?_
              refine g_iconst (v := nI 0) B dX0_tick_2_118 (by decide) ?_
              refine g_istore (lv2 := [(4, _), (3, _), (2, _), (1, _), (0, _)]) B dX0_tick_2_119 (by decide) rfl ?_
              refine xV.room (kc' := 4 * fiD + psD + 10 * b.p k + 30 * k) (ks' := 18 * fiD + psD + 35 * b.p k + 105 * k) (by omega) (by omega) ?_
              have LE : ∀ (dE : Nat) (i r BE : Nat) (c : aA) (fiE psE : Nat) (Y1E : xY) (V1E : xVV) (I1E : xII) (J1E : xJJ) (A1E : xVV) (T1E : xT) (O1E R1E : xO), dE = r → PX Y1E V1E I1E J1E A1E w0 T1E O1E R1E → (i + r = b.p k) → (BE + 15 * r + 45 * k < 1900000) → (RepX c tk x0 g0 fiE psE Y1E V1E I1E J1E A1E) → (WF BE c) → (AInv c) → (sSt c b) → (aA.works k r i c = aA.works k (b.p k) 0 b) → (yLe Y Y1E) → (yLe Y1D Y1E) → xV Z (T1E, O1E, R1E) 121 [(4, .int (nI i)), (3, .int (nI (b.p k))), (2, .ref xr), (1, .int (nI k)), (0, .ref x0)] [] (4 * fiE + psE + 10 * r + 30 * k) (18 * fiE + psE + 35 * r + 105 * k) := by
                intro dE
                induction dE using Nat.strongRecOn with
                | _ dE ihE =>
                  intro i r BE c fiE psE Y1E V1E I1E J1E A1E T1E O1E R1E hdE P1E hir hBE H1E WE AE sE hFE le1E lrE
                  have hbE := le1E.at h0q
                  have cE2 := lrE.at c2
                  have cE3 : yN Y1E 6001 k = b.p k := lrE.n c2 c3
                  obtain ⟨⟨xiE, eE1, eE2, eE3⟩, -⟩ := H1E.Ar
                  have cn : c.n = b.n := sE.n
                  have cpp : c.p = b.p := funext sE.p
                  have hkc : k < c.n := by rw [cn]; exact hkb
                  obtain ⟨xrE, cx1, cx2, cx3, cx4⟩ := eE3 k hkc
                  refine g_iload B 0 dX0_tick_2_121 rfl ?_
                  refine g_iload_n B 1 dX0_tick_2_123 rfl ?_
                  refine g_icmp_geN (tgt := 144) B (by omega) (by omega) dX0_tick_2_124 (by decide) (fun c101 => ?_) (fun c101 => ?_)
                  · have er : r = 0 := by omega
                    subst er
                    have hcF : c = aA.works k (b.p k) 0 b := hFE
                    refine g_iinc (v := prI k) (lv2 := [(1, _), (4, _), (3, _), (2, _), (0, _)]) B 3 dX0_tick_2_144 rfl rfl (by decide) rfl ?_
                    refine g_goto (tgt := 104) B dX0_tick_2_147 (by decide) ?_
                    have hFD2 : aA.allWork k c = aA.allWork a.n t0 := by rw [hcF, ← aA.allWork_s]; exact hFD
                    refine g_pick [0, 4] rfl ?_
                    exact ihD (k) ((by omega)) k BE c fiE psE _ _ _ _ _ _ _ _ rfl P1E (by omega) (by omega) H1E WE AE (sE.tr sD) hFD2 le1E
                  · obtain ⟨r2, hr2⟩ : ∃ r2, r = r2 + 1 := ⟨r - 1, by omega⟩
                    have hic : i < c.p k := by rw [cpp]; omega
                    obtain ⟨xw, w1, w2⟩ := cx4 i hic
                    refine g_aload_n B 2 dX0_tick_2_127 rfl ?_
                    refine g_iload B 0 dX0_tick_2_128 rfl ?_
                    refine x_ldA B P1E cE2 (by decide) rfl rfl rfl cE3 (by omega) (by omega) w1 dX0_tick_2_130 ?_
                    refine g_astore (lv2 := [(5, _), (4, _), (3, _), (2, _), (1, _), (0, _)]) B dX0_tick_2_131 (by decide) rfl ?_
                    refine g_aload B 0 dX0_tick_2_133 rfl ?_
                    obtain ⟨n102, u102, ty102⟩ := P1E.ty w2 (by decide) rfl
                    have hc5 := WE.cf.2.2.2.2
                    have c4_ : c.nm 4 ≠ 0 := by rw [sE.2.2.2.2.2.1, sD.2.2.2.2.2.1]; exact t_4
                    have ctk1 : c.tk = tk + 1 := by rw [sE.tk, sD.tk]; exact t_k
                    have ctk : 0 < c.tk := by omega
                    refine g_callVL (kc2 := 10 * r2 + 30 * k + (10 - 2 * c.cf 3)) (ks2 := 35 * r2 + 105 * k + (35 - 7 * c.cf 3)) (rest := []) B M_X9_work q1313 q1314 q1315 ty102 rfl (c_X9_work P1E H1E WE hkc hic w2 AE (by omega) c4_ ctk (by omega) htk5) rfl rfl (Nat.le_of_ble_eq_true rfl) (Nat.le_of_ble_eq_true rfl) (Nat.le_of_ble_eq_true rfl) (by omega) (by omega) dX0_tick_2_135 (xkNL (fun T102 O102 R102 kl102 sl102 le102 p102 => ?_))
                    obtain ⟨Y102, V102, I102, J102, A102, fi102, ps102, P102, le2102, H102, kle102, sle102⟩ := p102
                    refine xV.room (kc' := 4 * fi102 + ps102 + 10 * r2 + 30 * k) (ks' := 18 * fi102 + ps102 + 35 * r2 + 105 * k) (by omega) (by omega) ?_
                    obtain ⟨w1_, w2_⟩ := WE.work (i := i) (c.cf 3) c4_ ctk hkc hic
                    have wA := AE.work (c.cf 3) WE c4_ ctk hkc hic
                    have h0z := le2102.at hbE
                    refine g_iinc (v := nI (i + 1)) (lv2 := [(4, _), (5, _), (3, _), (2, _), (1, _), (0, _)]) B 1 dX0_tick_2_138 rfl (nI_1 _) (by decide) rfl ?_
                    refine g_goto (tgt := 121) B dX0_tick_2_141 (by decide) ?_
                    have hF2 : aA.works k r2 (i + 1) (aA.work k i (c.cf 3) c) = aA.works k (b.p k) 0 b := by rw [← hFE, hr2]; rfl
                    refine g_pick [0, 2, 3, 4, 5] rfl ?_
                    exact ihE (r2) ((by omega)) (i + 1) r2 (BE + 15) (aA.work k i (c.cf 3) c) fi102 ps102 _ _ _ _ _ _ _ _ rfl P102 (by omega) (by omega) H102 (w1_.mono (by omega)) wA (w2_.tr sE) hF2 (le1E.tr le2102) (lrE.tr le2102)
              exact LE _ 0 (b.p k) BD b fiD psD _ _ _ _ _ _ _ _ rfl P1D (Nat.zero_add _) (by omega) H1D WD AD sSt.rf rfl le1D yLe.rf
        exact LD _ a.n (Bd + 1) t0 fi1 ps _ _ _ _ _ _ _ _ rfl P1 (by rw [t_n]; exact Nat.le_refl _) (by omega) Hn Wt At sSt.rf rfl le1
      · have hon : o + 1 < a.n := by omega
        obtain ⟨xr, c1, c2, c3, c4⟩ := b3 o (by show o + 1 < a0.n; rw [a0_n]; exact hon)
        have c3 : yN Y1 9001 o = a.p o := by rw [c3]; show a0.p o = _; rw [a0_p]
        have hpo := W.p1 o (by omega)
        have hpo1 := W.p1 (o + 1) hon
        refine g_aload_n B 1 dX0_tick_2_20 rfl ?_
        refine x_get B P1 hb0 (by decide) rfl F_X0_138_0 (by decide) pb12 dX0_tick_2_21 ?_
        refine g_iload_n B 0 dX0_tick_2_24 rfl ?_
        refine x_ldA B P1 pc12 (by decide) rfl rfl rfl b2 (by omega) (by omega) c1 dX0_tick_2_25 ?_
        refine g_astore_n (lv2 := [(2, _), (1, _), (0, _)]) B dX0_tick_2_26 (by decide) rfl ?_
        refine g_aload_n B 0 dX0_tick_2_27 rfl ?_
        refine x_alen B P1 c2 (by decide) rfl c3 dX0_tick_2_28 ?_
        refine g_istore_n (lv2 := [(3, _), (2, _), (1, _), (0, _)]) B dX0_tick_2_29 (by decide) rfl ?_
        refine g_iconst (v := nI 0) B dX0_tick_2_30 (by decide) ?_
        refine g_istore (lv2 := [(4, _), (3, _), (2, _), (1, _), (0, _)]) B dX0_tick_2_31 (by decide) rfl ?_
        have LB : ∀ (dB : Nat) (i fi1B : Nat) (Y1B : xY) (V1B : xVV) (I1B : xII) (A1B : xVV) (T1B : xT) (O1B R1B : xO), dB = a.p o - i → PX Y1B V1B I1B J A1B w0 T1B O1B R1B → (i ≤ a.p o) → (RepX (a0.w_ch (gMf a o i 0)) tk x0 g0 fi1B ps Y1B V1B I1B J A1B) → (yLe Y Y1B) → (yLe Y1 Y1B) → xV Z (T1B, O1B, R1B) 33 [(4, .int (nI i)), (3, .int (nI (a.p o))), (2, .ref xr), (1, .int (nI o)), (0, .ref x0)] [] (4 * fi1B + ps + 180) (18 * fi1B + ps + 630) := by
          intro dB
          induction dB using Nat.strongRecOn with
          | _ dB ihB =>
            intro i fi1B Y1B V1B I1B A1B T1B O1B R1B hdB P1B hik H1B le1B lrB
            have hb0 := le1B.at h0q
            have cB2 := lrB.at c2
            have cB3 : yN Y1B 9001 o = a.p o := lrB.n c2 c3
            obtain ⟨-, xjB, bB1, bB2, bB3⟩ := H1B.Ar
            obtain ⟨xrB, cc1, cc2, cc3, cc4⟩ := bB3 o (by show o + 1 < a0.n; rw [a0_n]; exact hon)
            refine g_iload B 0 dX0_tick_2_33 rfl ?_
            refine g_iload_n B 1 dX0_tick_2_35 rfl ?_
            refine g_icmp_geN (tgt := 88) B (by omega) (by omega) dX0_tick_2_36 (by decide) (fun c101 => ?_) (fun c101 => ?_)
            · refine g_iinc (v := nI (o + 1)) (lv2 := [(1, _), (4, _), (3, _), (2, _), (0, _)]) B 3 dX0_tick_2_88 rfl (nI_1 _) (by decide) rfl ?_
              refine g_goto (tgt := 7) B dX0_tick_2_91 (by decide) ?_
              have eip : i = a.p o := by omega
              rw [eip, gM_op W] at H1B
              refine g_pick [0, 4] rfl ?_
              exact ih (a.n - (o + 1)) ((by omega)) (o + 1) fi1B _ _ _ _ _ _ _ rfl P1B (by omega) H1B le1B
            · have hip : i < a.p o := by omega
              obtain ⟨xs, d1, d2, d3, d4⟩ := cc4 i (by show i < a0.p o; rw [a0_p]; exact hip)
              have d3 : yN Y1B 8001 (3 * o + i) = a.p (o + 1) := by rw [d3]; show a0.p (o + 1) = _; rw [a0_p]
              refine g_aload_n B 2 dX0_tick_2_39 rfl ?_
              refine g_iload B 0 dX0_tick_2_40 rfl ?_
              refine x_ldA B P1B cB2 (by decide) rfl rfl rfl cB3 (by omega) (by omega) d1 dX0_tick_2_42 ?_
              refine g_astore (lv2 := [(5, _), (4, _), (3, _), (2, _), (1, _), (0, _)]) B dX0_tick_2_43 (by decide) rfl ?_
              refine g_aload B 0 dX0_tick_2_45 rfl ?_
              refine g_astore (lv2 := [(6, _), (5, _), (4, _), (3, _), (2, _), (1, _), (0, _)]) B dX0_tick_2_47 (by decide) rfl ?_
              refine g_aload B 0 dX0_tick_2_49 rfl ?_
              refine x_alen B P1B d2 (by decide) rfl d3 dX0_tick_2_51 ?_
              refine g_istore (lv2 := [(7, _), (6, _), (5, _), (4, _), (3, _), (2, _), (1, _), (0, _)]) B dX0_tick_2_52 (by decide) rfl ?_
              refine g_iconst (v := nI 0) B dX0_tick_2_54 (by decide) ?_
              refine g_istore (lv2 := [(8, _), (7, _), (6, _), (5, _), (4, _), (3, _), (2, _), (1, _), (0, _)]) B dX0_tick_2_55 (by decide) rfl ?_
              have LC : ∀ (dC : Nat) (j fi1C : Nat) (Y1C : xY) (V1C : xVV) (I1C : xII) (A1C : xVV) (T1C : xT) (O1C R1C : xO), dC = a.p (o + 1) - j → PX Y1C V1C I1C J A1C w0 T1C O1C R1C → (j ≤ a.p (o + 1)) → (RepX (a0.w_ch (gMf a o i j)) tk x0 g0 fi1C ps Y1C V1C I1C J A1C) → (yLe Y Y1C) → (yLe Y1B Y1C) → xV Z (T1C, O1C, R1C) 57 [(8, .int (nI j)), (7, .int (nI (a.p (o + 1)))), (6, .ref xs), (5, .ref xs), (4, .int (nI i)), (3, .int (nI (a.p o))), (2, .ref xr), (1, .int (nI o)), (0, .ref x0)] [] (4 * fi1C + ps + 180) (18 * fi1C + ps + 630) := by
                intro dC
                induction dC using Nat.strongRecOn with
                | _ dC ihC =>
                  intro j fi1C Y1C V1C I1C A1C T1C O1C R1C hdC P1C hjk H1C le1C lrC
                  have hb0 := le1C.at h0q
                  have cC2 := (lrB.tr lrC).at c2
                  have dC2 := lrC.at d2
                  have dC3 : yN Y1C 8001 (3 * o + i) = a.p (o + 1) := lrC.n d2 d3
                  obtain ⟨-, xjC, bC1, bC2, bC3⟩ := H1C.Ar
                  obtain ⟨xrC, ce1, ce2, ce3, ce4⟩ := bC3 o (by show o + 1 < a0.n; rw [a0_n]; exact hon)
                  obtain ⟨xsC, cd1, cd2, cd3, cd4⟩ := ce4 i (by show i < a0.p o; rw [a0_p]; exact hip)
                  refine g_iload B 0 dX0_tick_2_57 rfl ?_
                  refine g_iload B 1 dX0_tick_2_59 rfl ?_
                  refine g_icmp_geN (tgt := 82) B (by omega) (by omega) dX0_tick_2_61 (by decide) (fun c101 => ?_) (fun c101 => ?_)
                  · refine g_iinc (v := nI (i + 1)) (lv2 := [(4, _), (8, _), (7, _), (6, _), (5, _), (3, _), (2, _), (1, _), (0, _)]) B 4 dX0_tick_2_82 rfl (nI_1 _) (by decide) rfl ?_
                    refine g_goto (tgt := 33) B dX0_tick_2_85 (by decide) ?_
                    have ejp : j = a.p (o + 1) := by omega
                    rw [ejp, gM_row W] at H1C
                    refine g_pick [0, 5, 6, 7, 8] rfl ?_
                    exact ihB (a.p o - (i + 1)) ((by omega)) (i + 1) fi1C _ _ _ _ _ _ _ rfl P1C (by omega) H1C le1C (lrB.tr lrC)
                  · have hjp : j < a.p (o + 1) := by omega
                    obtain ⟨xh, ch1, ch2⟩ := cd4 j (by show j < a0.p (o + 1); rw [a0_p]; exact hjp)
                    obtain ⟨xm, hq0, hq1⟩ : ∃ xm, yAt Y1C 10 (mLn o i j) xm ∧ A1C 8001 (3 * o + i) j = .ref xm := ⟨xh, ch2, ch1⟩
                    obtain ⟨h0c, ⟨⟨pa0c, pb0c, pc0c⟩, ⟨pa5c, pb5c, pc5c⟩, ⟨pa6c, pb6c, pc6c⟩, ⟨pa8c, pb8c, pc8c⟩, ⟨pa9c, pb9c, pc9c⟩, ⟨pa10c, pb10c, pc10c⟩, ⟨pa11c, pb11c, pc11c⟩, ⟨pa12c, pb12c, pc12c⟩, ⟨pa13c, pb13c, pc13c⟩, ⟨pa20c, pb20c, pc20c⟩, ⟨pa21c, pb21c, pc21c⟩, ⟨pa22c, pb22c, pc22c⟩⟩, ⟨nq1c, nq2c, nq3c, nq4c⟩, nq7c, nq14c, nq15c, nq16c, nq17c, nq18c, nq19c⟩ := H1C.Si
                    obtain ⟨boc, bqc, spc, lcc, xlc, HCc, dspc, dsbc, hlsc, hfic⟩ := H1C.Ch
                    have hplc : pa0c = xlc := P1C.fn pc0c dspc.1
                    have hsmc : xSm Y1C V1C x0 xlc ((a0.w_ch (gMf a o i j)).cf 0) ((a0.w_ch (gMf a o i j)).cf 1) ((a0.w_ch (gMf a o i j)).cf 2) := ⟨h0c, pb0c.trans (congrArg Value.ref hplc), nq1c, nq2c, nq3c⟩
                    obtain ⟨⟨xh2, Cg⟩, nd, lch⟩ := HCc o i j (by show o + 1 < a0.n; rw [a0_n]; exact hon) (by show i < a0.p o; rw [a0_p]; exact hip) (by show j < a0.p (o + 1); rw [a0_p]; exact hjp)
                    have exm : xh2 = xm := P1C.fn Cg.1 hq0
                    rw [exm] at Cg
                    have ech : (a0.w_ch (gMf a o i j)).ch o i j = a.ch o i j := gM_at a o i j
                    rw [ech] at Cg
                    have hchk := W.ch o i j
                    obtain ⟨q, hq2, hql⟩ := cGrow_len (a.cf 1) (a.cf 2) (a.ch o i j)
                    have hus : usum (gMf a o i j) ≤ 270 := usum_le (ch := gMf a o i j) (fun x y z => gM_le W o i j x y z)
                    have hficc : fi1C + spc.length + usum (gMf a o i j) = 378 := hfic
                    have hsm2 : xSm Y1C V1C x0 xlc (a.cf 0) (a.cf 1) (a.cf 2) := by rw [← a0_cf]; exact hsmc
                    refine g_aload B 2 dX0_tick_2_64 rfl ?_
                    refine g_iload B 0 dX0_tick_2_66 rfl ?_
                    refine x_ldA B P1C dC2 (by decide) rfl rfl rfl dC3 (by omega) (by omega) hq1 dX0_tick_2_68 ?_
                    refine g_astore (lv2 := [(9, _), (8, _), (7, _), (6, _), (5, _), (4, _), (3, _), (2, _), (1, _), (0, _)]) B dX0_tick_2_69 (by decide) rfl ?_
                    refine g_aload B 0 dX0_tick_2_71 rfl ?_
                    obtain ⟨n102, u102, ty102⟩ := P1C.ty hq0 (by decide) rfl
                    refine g_callV (kc2 := 4 * (fi1C - (q - spc.length)) + ps + 180) (ks2 := 18 * (fi1C - (q - spc.length)) + ps + 630) (rest := []) B M_X10_grow q1279 q1280 q1281 ty102 rfl (c_X10_grow (c2 := cGrow (a.cf 1) (a.cf 2) (a.ch o i j)) (k := q) P1C hsm2 Cg dspc dsbc nd (by omega) (by omega) (by have := hchk.2.1; omega) (by have := hchk.1; omega) (by omega) (by have := hchk.2.2.1; omega) rfl hql) rfl rfl (Nat.le_of_ble_eq_true rfl) (Nat.le_of_ble_eq_true rfl) (Nat.le_of_ble_eq_true rfl) (by unfold cB; omega) (by unfold cB; omega) dX0_tick_2_73 (xkN (fun T102 O102 R102 le102 p102 => ?_))
                    obtain ⟨Y102, V102, I102, J102, A102, P102, rfl, ob2102, bs2102, sp2102, C102, ds102, sb102, hn102, lo102, f102⟩ := p102
                    have n2 := XCh.one (ch := gMf a o i j) HCc hlsc hficc (by rw [show (a0.w_ch (gMf a o i j)).n = a.n from a0_n]; exact hn6) (by rw [show (a0.w_ch (gMf a o i j)).n = a.n from a0_n, show (a0.w_ch (gMf a o i j)).p = a.p from a0_p]; exact fun o ho => (W.p1 o ho).2) (by show o + 1 < a0.n; rw [a0_n]; exact hon) (by show i < a0.p o; rw [a0_p]; exact hip) (by show j < a0.p (o + 1); rw [a0_p]; exact hjp) C102 ds102 sb102 lo102 f102 (fi2 := fi1C - (q - spc.length)) (by rw [hn102, hql, gM_at]; omega)
                    have H2 : RepX ((a0.w_ch (gMf a o i j)).w_ch (up3 (gMf a o i j) o i j (cGrow (a.cf 1) (a.cf 2) (a.ch o i j)))) tk x0 g0 (fi1C - (q - spc.length)) ps Y102 V102 I102 J A102 := H1C.w_ch f102 gChS n2
                    rw [aA.i_ch, gM_st] at H2
                    refine g_iinc (v := nI (j + 1)) (lv2 := [(8, _), (9, _), (7, _), (6, _), (5, _), (4, _), (3, _), (2, _), (1, _), (0, _)]) B 1 dX0_tick_2_76 rfl (nI_1 _) (by decide) rfl ?_
                    refine g_goto (tgt := 57) B dX0_tick_2_79 (by decide) ?_
                    refine g_pick [0, 2, 3, 4, 5, 6, 7, 8, 9] rfl ?_
                    exact ihC (a.p (o + 1) - (j + 1)) ((by omega)) (j + 1) (fi1C - (q - spc.length)) _ _ _ _ _ _ _ rfl P102 (by omega) H2 (le1C.tr f102.1.1) (lrC.tr f102.1.1)
              exact LC _ 0 fi1B _ _ _ _ _ _ _ rfl P1B (Nat.zero_le _) H1B le1B yLe.rf
        exact LB _ 0 fi1 _ _ _ _ _ _ _ rfl P1 (Nat.zero_le _) H1 le1 yLe.rf
  exact L _ 0 fi _ _ _ _ _ _ _ rfl P1 (by omega) H0 yLe.rf
