set_option maxRecDepth 100000
theorem cPutB_len {c : aCh} : ∃ k, k ≤ 2 ∧ (cPutB c).1.length = c.1.length + k := by
  unfold cPutB
  split
  · exact ⟨2, by decide, by simp [cClose]⟩
  · exact ⟨1, by decide, by simp⟩
theorem gChS {Y : xY} {h : Nat} {L : List Nat} : ∀ r o, sCh Y h L r o → gCh r := fun r o e => by
  rcases e with e | e | e
  · unfold gCh; omega
  · unfold gCh; omega
  · have := e.1; unfold rB at this; unfold gCh; omega
theorem c_X9_sendBarrier {G : xG} {T : xT} {O R : xO} {Y : xY} {V : xVV} {I : xII} {J : xJJ} {A : xVV} {w0 : xW} {a : aA} {tk x0 g0 fi ps : Nat} {Bd : Nat} {o i x : Nat} (P : PX Y V I J A w0 T O R) (H : RepX a tk x0 g0 fi ps Y V I J A) (W : WF Bd a) (hbg : a.nm 4 ≠ 0) (ho : o < a.n) (hi : i < a.p o) (hx : yAt Y 9 (3 * o + i) x) (hon : o + 1 < a.n) (hbar : a.bar o i = none) : xCtrL G yX9_sendBarrier cX9_sendBarrier 2 none 5 104 (4 * fi + ps) (18 * fi + ps) [.ref x] (T, O, R) (xNL (xRL w0 Y ((aA.putBs o i (a.p (o + 1)) 0 a).w_hd (up2 a.hd o i false)) tk x0 g0)) := by
  refine xCtrL.of (by decide +kernel) (Nat.le_of_ble_eq_true rfl) ?_
  intro Z B E hz hnm
  change xV Z (T, O, R) 0 [(0, .ref x)] [] (4 * fi + ps) (18 * fi + ps)
  have hn6 := W.n6
  have hp3 : ∀ o, o < a.n → a.p o ≤ 3 := fun o ho => (W.p1 o ho).2
  refine g_iconst (v := nI 0) B dX9_sendBarrier_0 (by decide) ?_
  refine g_istore_n (lv2 := [(1, _), (0, _)]) B dX9_sendBarrier_1 (by decide) rfl ?_
  have L : ∀ (d : Nat) (k j : Nat) (b : aA) (fi1 : Nat) (Y1 : xY) (V1 : xVV) (I1 : xII) (A1 : xVV) (T1 : xT) (O1 R1 : xO), d = k → PX Y1 V1 I1 J A1 w0 T1 O1 R1 → (j + k = a.p (o + 1)) → (RepX b tk x0 g0 fi1 ps Y1 V1 I1 J A1) → (WF Bd b) → (sSt b a) → (∀ y, j ≤ y → y < a.p (o + 1) → cFitB (b.cf 2) (b.ch o i y) = true) → (aA.putBs o i k j b = aA.putBs o i (a.p (o + 1)) 0 a) → (b.hd = a.hd) → (yLe Y Y1) → xV Z (T1, O1, R1) 2 [(1, .int (nI j)), (0, .ref x)] [] (4 * fi1 + ps) (18 * fi1 + ps) := by
    intro d
    induction d using Nat.strongRecOn with
    | _ d ih =>
      intro k j b fi1 Y1 V1 I1 A1 T1 O1 R1 hd P1 hjk H1 W1 s1_ hbr hF hd1 le1
      have hx1 := le1.at hx
      have bn : b.n = a.n := s1_.n
      have bpp : b.p = a.p := funext s1_.p
      have bcf : b.cf = a.cf := s1_.2.1
      have ho1 : o < b.n := by rw [bn]; exact ho
      have hi1 : i < b.p o := by rw [bpp]; exact hi
      have hon1 : o + 1 < b.n := by rw [bn]; exact hon
      obtain ⟨h0, ⟨⟨pa0, pb0, pc0⟩, ⟨pa5, pb5, pc5⟩, ⟨pa6, pb6, pc6⟩, ⟨pa8, pb8, pc8⟩, ⟨pa9, pb9, pc9⟩, ⟨pa10, pb10, pc10⟩, ⟨pa11, pb11, pc11⟩, ⟨pa12, pb12, pc12⟩, ⟨pa13, pb13, pc13⟩, ⟨pa20, pb20, pc20⟩, ⟨pa21, pb21, pc21⟩, ⟨pa22, pb22, pc22⟩⟩, ⟨nq1, nq2, nq3, nq4⟩, nq7, nq14, nq15, nq16, nq17, nq18, nq19⟩ := H1.Si
      obtain ⟨xi, ki⟩ := H1.In o ho1 i hi1
      have ei : xi = x := P1.fn ki.1 hx1
      rw [ei] at ki
      have ⟨i0, ⟨i1, i2⟩, ⟨⟨y1, i3, i4⟩, i5⟩, ⟨⟨y2, i6, i7⟩, i8⟩, ⟨⟨y3, i9, i10⟩, i11⟩, ⟨fm, i12, i13, i14, i15⟩, ⟨bt, i16⟩, i17, ⟨yb, i18, i19⟩, i20, ⟨yv, i21, i22⟩, yz, i23, i24⟩ := ki
      have i25 : V1 9 (3 * o + i) 12 = .ref x0 := i23.trans (congrArg Value.ref (P1.fn i24 h0))
      obtain ⟨xon, kon⟩ := H1.Op (o + 1) hon1
      have ⟨k0n, k1n, k2n, k3n, k4n, k5n, ⟨xkn, k6n, k7n⟩, k8n, k9n, k10n, k11n⟩ := kon
      have k1n : yK Y1 4 (o + 1) = b.kd (o + 1) := k1n
      have k2n : V1 4 (o + 1) 0 = .int (nI (b.kd (o + 1))) := k2n
      have k3n : V1 4 (o + 1) 1 = .int (b.pa (o + 1)) := k3n
      have k4n : V1 4 (o + 1) 2 = .int (b.pb (o + 1)) := k4n
      have k5n : V1 4 (o + 1) 3 = .int (nI (b.p (o + 1))) := k5n
      rw [show b.p (o + 1) = a.p (o + 1) from by rw [bpp]] at k5n
      have hp1 := hp3 (o + 1) hon
      refine g_iload_n B 0 dX9_sendBarrier_2 rfl ?_
      refine g_aload_n B 1 dX9_sendBarrier_3 rfl ?_
      obtain ⟨n101, u101, ty101⟩ := P1.ty hx1 (by decide) rfl
      refine g_callV (kc2 := (4 * fi1 + ps)) (ks2 := (18 * fi1 + ps)) (rest := [_]) B M_X9_next q1329 q1331 qs21 ty101 rfl (c_X9_next P1 H1 ho1 hi1 hx1 hon1 k0n) rfl rfl (Nat.le_of_ble_eq_true rfl) (Nat.le_of_ble_eq_true rfl) (Nat.le_of_ble_eq_true rfl) (Nat.le_refl _) (Nat.le_refl _) dX9_sendBarrier_4 (xkA (fun v101 T101 O101 R101 le101 p101 => ?_))
      obtain ⟨rfl, eT101, eO101, eR101⟩ := p101
      obtain rfl := eT101.symm
      obtain rfl := eO101.symm
      obtain rfl := eR101.symm
      refine x_get B P1 k0n (by decide) rfl (FO_X9_87 _) (by decide) k5n dX9_sendBarrier_7 ?_
      refine g_icmp_geN (tgt := 38) B (by omega) (by omega) dX9_sendBarrier_10 (by decide) (fun c102 => ?_) (fun c102 => ?_)
      · refine g_aload_n B 1 dX9_sendBarrier_38 rfl ?_
        refine g_iconst (v := nI 0) B dX9_sendBarrier_39 (by decide) ?_
        refine x_put (q := (RX9, TX9, 13)) B P1 hx1 (by decide) rfl F_X9_128_9 rfl rfl (tyX9_ok 8 (by decide)) rfl rfl dX9_sendBarrier_40 (fun O103 V103 hs103 hk103 P103 => ?_)
        refine g_vretL B E rfl dX9_sendBarrier_43 ?_
        obtain rfl : k = 0 := by omega
        have hF2 : b = aA.putBs o i (a.p (o + 1)) 0 a := hF
        have fz : xFr (s1 9 (3 * o + i)) Y1 V1 I1 J A1 Y1 V103 I1 J A1 := xFr.uV ⟨rfl, rfl⟩ hs103 hk103
        have H3 := H1.w_hd (q := up2 b.hd o i false) fz (fun r o e => Or.inl e.1) (H1.In.one (o := o) (i := i) fz (fun r c e _ => e.2) (fun o ho => (W1.p1 o ho).2) (by have := hp3 o ho; omega) (fun x y hn => ⟨rfl, rfl, rfl, up2_n hn⟩) ⟨x, ?_⟩)
        · refine ⟨rfl, _, _, _, _, _, fi1, ps, P103, le1, ?_, Nat.le_refl _, Nat.le_refl _⟩
          rw [← hF2, ← hd1]; exact H3
        · rw [up2_s]; exact ⟨i0, ⟨(rdK hs103 (by decide) i1), (rdK hs103 (by decide) i2)⟩, ⟨⟨y1, i3, (rdK hs103 (by decide) i4)⟩, i5⟩, ⟨⟨y2, i6, (rdK hs103 (by decide) i7)⟩, i8⟩, ⟨⟨y3, i9, (rdK hs103 (by decide) i10)⟩, i11⟩, ⟨fm, (rdK hs103 (by decide) i12), (rdK hs103 (by decide) i13), i14, i15⟩, ⟨_, (rdK hs103 (by decide) i16)⟩, (rdS hs103), ⟨yb, (rdK hs103 (by decide) i18), i19.fr fz (fun e => by unfold s1 at e; omega) (fun e => by unfold s1 at e; omega)⟩, (rdK hs103 (by decide) i20), ⟨yv, (rdK hs103 (by decide) i21), i22⟩, x0, (rdK hs103 (by decide) i25), h0⟩
      · have hj2 : j < a.p (o + 1) := by omega
        have hj1 : j < b.p (o + 1) := by rw [bpp]; exact hj2
        obtain ⟨k2, rfl⟩ : ∃ k2, k = k2 + 1 := ⟨k - 1, by omega⟩
        obtain ⟨bo, bq, sp, lc, xl, HC, dsp, dsb, hls, hfi⟩ := H1.Ch
        have hpl : pa0 = xl := P1.fn pc0 dsp.1
        have hsm : xSm Y1 V1 x0 xl (b.cf 0) (b.cf 1) (b.cf 2) := ⟨h0, pb0.trans (congrArg Value.ref hpl), nq1, nq2, nq3⟩
        obtain ⟨⟨xh, Cg⟩, nd, lch⟩ := HC o i j hon1 hi1 hj1
        have hxh := Cg.1
        refine g_aload_n B 1 dX9_sendBarrier_13 rfl ?_
        refine x_get B P1 hx1 (by decide) rfl F_X9_3_9 (by decide) i25 dX9_sendBarrier_14 ?_
        refine g_aload_n B 1 dX9_sendBarrier_17 rfl ?_
        refine x_get B P1 hx1 (by decide) rfl F_X9_41_9 (by decide) i1 dX9_sendBarrier_18 ?_
        refine g_aload_n B 1 dX9_sendBarrier_21 rfl ?_
        refine x_get B P1 hx1 (by decide) rfl F_X9_45_9 (by decide) i2 dX9_sendBarrier_22 ?_
        refine g_iload_n B 0 dX9_sendBarrier_25 rfl ?_
        obtain ⟨n104, u104, ty104⟩ := P1.ty h0 (by decide) rfl
        refine g_callVN (kc2 := (4 * fi1 + ps)) (ks2 := (18 * fi1 + ps)) (rest := []) B M_X0_channel q1354 q1356 qs22 ty104 rfl (c_X0_channel (o := o) (i := i) (j := j) P1 H1 W1.n6 (fun o ho => (W1.p1 o ho).2) h0 hon1 hi1 hj1 hxh) rfl rfl (Nat.le_of_ble_eq_true rfl) (Nat.le_of_ble_eq_true rfl) (Nat.le_of_ble_eq_true rfl) (Nat.le_refl _) (Nat.le_refl _) dX9_sendBarrier_26 (xkA (fun v104 T104 O104 R104 le104 p104 => ?_))
        obtain ⟨rfl, eT104, eO104, eR104⟩ := p104
        obtain rfl := eT104.symm
        obtain rfl := eO104.symm
        obtain rfl := eR104.symm
        obtain ⟨n105, u105, ty105⟩ := P1.ty Cg.1 (by decide) rfl
        have hchk := W1.ch o i j
        have hcf := W1.cf
        obtain ⟨q, hq2, hq⟩ := cPutB_len (c := b.ch o i j)
        have hus := usum_le (ch := b.ch) (fun o i j => by have := (W1.ch o i j).1; omega)
        refine g_callV (kc2 := 4 * (fi1 - (q - sp.length)) + ps) (ks2 := 18 * (fi1 - (q - sp.length)) + ps) (rest := []) B M_X10_putBarrier q1387 q1388 q1389 ty105 rfl (c_X10_putBarrier (c2 := cPutB (b.ch o i j)) (k := q) P1 hsm Cg dsp dsb nd (by omega) (by omega) hchk.2.1 (by have := hchk.1; omega) rfl hq) rfl rfl (Nat.le_of_ble_eq_true rfl) (Nat.le_of_ble_eq_true rfl) (Nat.le_of_ble_eq_true rfl) (by unfold cB; omega) (by unfold cB; omega) dX9_sendBarrier_29 (xkN (fun T105 O105 R105 le105 p105 => ?_))
        obtain ⟨Y105, V105, I105, J105, A105, P105, rfl, ob2105, bs2105, sp2105, C105, ds105, sb105, hn105, lo105, f105⟩ := p105
        have n2 := XCh.one HC hls hfi W1.n6 (fun o ho => (W1.p1 o ho).2) hon1 hi1 hj1 C105 ds105 sb105 lo105 f105 (fi2 := fi1 - (q - sp.length)) (by rw [hn105, hq]; omega)
        have H2 : RepX (b.w_ch (up3 b.ch o i j (cPutB (b.ch o i j)))) tk x0 g0 (fi1 - (q - sp.length)) ps Y105 V105 I105 J A105 := H1.w_ch f105 gChS n2
        refine g_iinc (v := nI (j + 1)) (lv2 := [(1, _), (0, _)]) B 0 dX9_sendBarrier_32 rfl (nI_1 _) (by decide) rfl ?_
        refine g_goto (tgt := 2) B dX9_sendBarrier_35 (by decide) ?_
        have W2 := W1.putB (by rw [s1_.2.2.2.2.2.1]; exact hbg) hon1 hi1 hj1 (hbr j (Nat.le_refl _) hj2)
        exact ih (k2) ((by omega)) k2 (j + 1) (b.w_ch (up3 b.ch o i j (cPutB (b.ch o i j)))) (fi1 - (q - sp.length)) _ _ _ _ _ _ _ rfl P105 (by omega) H2 W2 (sSt.tr sSt.rf s1_) (fun y h1 h2 => by show cFitB (b.cf 2) (up3 b.ch o i j _ o i y) = true; rw [up3_n (by omega)]; exact hbr y (by omega) h2) hF hd1 (le1.tr f105.1.1)
  exact L _ (a.p (o + 1)) 0 a fi _ _ _ _ _ _ _ rfl P (by omega) H W sSt.rf (fun y _ h => aA.bar_none hbar y h) rfl rfl yLe.rf
