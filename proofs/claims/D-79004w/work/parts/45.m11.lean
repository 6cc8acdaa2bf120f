set_option maxRecDepth 100000
theorem aA.bar_some {a : aA} {o i x : Nat} (hx : x < a.p (o + 1)) (h : ∀ j, j < x → cFitB (a.cf 2) (a.ch o i j) = true) (hp : cFitB (a.cf 2) (a.ch o i x) = false) : a.bar o i = some x := find_some hx (fun j hj => by rw [h j hj]; rfl) (by rw [hp]; rfl)
theorem aA.bar_no {a : aA} {o i : Nat} (h : ∀ j, j < a.p (o + 1) → cFitB (a.cf 2) (a.ch o i j) = true) : a.bar o i = none := find_no (fun j hj => by rw [h j hj]; rfl)
theorem cFitB_mono {cr : Nat} {c : aCh} (h : cFitB cr c = true) (h4 : cr ≤ 4) : cFitB 4 c = true := by
  simp only [cFitB, decide_eq_true_eq] at h ⊢
  omega
theorem aA.ct_ch (b : aA) (C : Nat → Nat → Nat → Nat) (X : Nat → Nat → Nat → aCh) : (b.w_ct C).w_ch X = (b.w_ch X).w_ct C := rfl
theorem aA.send_eq (a : aA) (o i : Nat) (r : aRec) (rest : List aRec) : a.send o i r rest = ((a.w_ch (up3 a.ch o i (a.goal o i r) (cPut (a.cf 0) (a.cf 2) (a.ch o i (a.goal o i r)) r))).w_ct (if a.ky (o + 1) = true then a.ct else up3 a.ct 0 o i (a.ct 0 o i + 1))).w_ls (up2 a.ls o i rest) := by
  rw [← aA.ct_ch]
  rfl
theorem RMls.pop {l : Nat → Nat → List aRec} {fn fk fv fb gn gk gv gb : Nat → Int32} {o i : Nat} {r : aRec} {rest : List aRec} (h : RMls l fn fk fv fb) (hl : ∀ x, x < 6 → ∀ y, y < 3 → (l x y).length ≤ 3) (hr : l o i = r :: rest) (hi : i < 3) (en : gn = va_up fn (3 * o + i) (nI rest.length)) (e1 : ∀ j, j < rest.length → gk (3 * (3 * o + i) + j) = fk (3 * (3 * o + i) + j + 1) ∧ gv (3 * (3 * o + i) + j) = fv (3 * (3 * o + i) + j + 1) ∧ gb (3 * (3 * o + i) + j) = fb (3 * (3 * o + i) + j + 1)) (e2 : ∀ y, (y < 3 * (3 * o + i) ∨ 3 * (3 * o + i) + 3 ≤ y) → gk y = fk y ∧ gv y = fv y ∧ gb y = fb y) : RMls (up2 l o i rest) gn gk gv gb := fun o1 h1 i1 h2 => by
  have hl1 := hl o1 h1 i1 h2
  by_cases hh : o1 = o ∧ i1 = i
  · obtain ⟨rfl, rfl⟩ := hh
    rw [up2_s, en, va_ups]
    refine ⟨rfl, fun k hk => ?_⟩
    obtain ⟨a1, a2, a3⟩ := e1 k hk
    rw [a1, a2, a3]
    have := (h o1 h1 i1 h2).2 (k + 1) (by rw [hr]; show k + 1 < rest.length + 1; omega)
    rw [hr] at this
    exact this
  · rw [up2_n hh, en, va_upe (by omega)]
    refine ⟨(h o1 h1 i1 h2).1, (h o1 h1 i1 h2).2.same fun k hk => e2 _ ?_⟩
    omega
theorem aA.flush_0 {a b : aA} {o i : Nat} (h : aA.sendL o i (a.ls o i) a = (false, b)) : a.flush o i = (false, b) := by
  unfold aA.flush; dsimp only; rw [h]; rfl
theorem aA.flush_1 {a b : aA} {o i : Nat} (h : aA.sendL o i (a.ls o i) a = (true, b)) (hd : b.hd o i = false) : a.flush o i = (true, b) := by
  unfold aA.flush; dsimp only; rw [h]; dsimp only; rw [hd]; rfl
theorem aA.flush_2 {a b : aA} {o i f : Nat} (h : aA.sendL o i (a.ls o i) a = (true, b)) (hd : b.hd o i = true) (hb : b.bar o i = some f) : a.flush o i = (false, b) := by
  unfold aA.flush; dsimp only; rw [h]; dsimp only; rw [hd, hb]; rfl
theorem aA.flush_3 {a b : aA} {o i : Nat} (h : aA.sendL o i (a.ls o i) a = (true, b)) (hd : b.hd o i = true) (hb : b.bar o i = none) : a.flush o i = (true, (aA.putBs o i (b.p (o + 1)) 0 b).w_hd (up2 b.hd o i false)) := by
  unfold aA.flush; dsimp only; rw [h]; dsimp only; rw [hd, hb]; rfl
theorem c_M_refusing {G : xG} {T : xT} {O R : xO} {m : Nat} {ad : Nat → Nat} {sc : Nat → Int32} {ar : Nat → Nat → Int32} {Bd : Nat} {o i : Nat} (P : PM m ad O R sc ar T O R) {a : aA} (H : RepM a sc ar) (W : WF Bd a) (ho : o + 1 < a.n) (hi : i < a.p o) : xCtr G yX12_refusing cX12_refusing 4 (some Jvm.ClassFile.FieldType.int) 1 22 0 0 [.ref m, .int (nI o), .int (nI i)] (T, O, R) (xA (fun v T2 O2 R2 => v = .int (mRd (a.bar o i)) ∧ T2 = T ∧ O2 = O ∧ R2 = R)) := by
  have hR := H
  obtain ⟨Htxt, Hop, Hinp, Hnm, Hstt, ⟨Hs0, Hs1, Hs2⟩, ⟨Hc0, Hc1, Hc2⟩, Hls, Hsp, Hpt, Hhd, Hch, Hex, Hwr⟩ := H
  have hn2 := W.n2
  have hn6 := W.n6
  have hp3 := (W.p1 o (by omega)).2
  have hi3 : i < 3 := by omega
  have hpp := W.p1 (o + 1) (by omega)
  refine xCtr.of (by decide +kernel) (Nat.le_of_ble_eq_true rfl) ?_
  intro Z B E hz hnm
  change xV Z (T, O, R) 0 [(0, .ref m), (1, .int (nI o)), (2, .int (nI i))] [] 0 0
  refine g_iconst (v := nI 0) B dX12_refusing_0 (by decide) ?_
  refine g_istore_n (lv2 := [(3, _), (0, _), (1, _), (2, _)]) B dX12_refusing_1 (by decide) rfl ?_
  have L : ∀ (d x : Nat), d = (a.p (o + 1)) - x → x ≤ (a.p (o + 1)) → (∀ j, j < x → cFitB (a.cf 2) (a.ch o i j) = true) → xV Z (T, O, R) 2 [(3, .int (nI x)), (0, .ref m), (1, .int (nI o)), (2, .int (nI i))] [] 0 0 := by
    intro d
    induction d using Nat.strongRecOn with
    | _ d ih =>
      intro x hd hx i1
      refine g_iload_n B 0 dX12_refusing_2 rfl ?_
      refine g_aload_n B 1 dX12_refusing_3 rfl ?_
      refine m_geta B P F_X12_22_12 (by decide) (Or.inl rfl) dX12_refusing_4 ?_
      refine g_iload_n B 2 dX12_refusing_7 rfl ?_
      refine g_iconst (v := nI 1) B dX12_refusing_8 (by decide) ?_
      refine g_iaddN B dX12_refusing_9 ?_
      refine m_ld B P (by decide) rfl rfl (by show _ < 6; omega) (by decide) (show _ = (nI (a.p (o + 1))) from (Hop.2 (o + 1) (by omega)).2.2.2) dX12_refusing_10 ?_
      refine g_icmp_geN (tgt := 35) B (by omega) (by omega) dX12_refusing_11 (by decide) (fun c61 => ?_) (fun c61 => ?_)
      · refine g_iconst (v := (-1)) B dX12_refusing_35 (by decide) ?_
        refine g_iret B E rfl rfl dX12_refusing_36 ?_
        exact ⟨_, rfl, by rw [aA.bar_no (fun j hj => i1 j (by omega))]; rfl, rfl, rfl, rfl⟩
      · have hln : mLn o i x < 54 := by unfold mLn; omega
        refine g_aload_n B 1 dX12_refusing_14 rfl ?_
        refine g_iload_n B 2 dX12_refusing_15 rfl ?_
        refine g_iload_n B 3 dX12_refusing_16 rfl ?_
        refine g_iload_n B 0 dX12_refusing_17 rfl ?_
        refine g_callS (rest := [_]) B M_X12_line q2759 q2760 (c_M_line (o := o) (i := i) (j := x)) rfl rfl (Nat.le_of_ble_eq_true rfl) (Nat.le_of_ble_eq_true rfl) (Nat.le_of_ble_eq_true rfl) (Nat.le_refl _) (Nat.le_refl _) dX12_refusing_18 (xkA (fun v62 T62 O62 R62 le62 p62 => ?_))
        obtain ⟨rfl, eT62, eO62, eR62⟩ := p62
        obtain rfl := eT62.symm
        obtain rfl := eO62.symm
        obtain rfl := eR62.symm
        refine g_callV (rest := []) B M_X12_takesBarrier q2774 q2776 qs77 (P.1.choose_spec.choose_spec) rfl (c_M_takesBarrier P.self (c := mLn o i x) (by omega) (Hch o (by omega) i (by omega) x (by omega)) Hnm.1.2.2.1 W.cf.2.2.1.2 (Nat.le_trans (W.ch o i x).1 W.cf.2.2.1.2) (Nat.le_trans (W.ch o i x).2.1 W.cf.1.2)) rfl rfl (Nat.le_of_ble_eq_true rfl) (Nat.le_of_ble_eq_true rfl) (Nat.le_of_ble_eq_true rfl) (Nat.le_refl _) (Nat.le_refl _) dX12_refusing_21 (xkA (fun v63 T63 O63 R63 le63 p63 => ?_))
        obtain ⟨rfl, eT63, eO63, eR63⟩ := p63
        obtain rfl := eT63.symm
        obtain rfl := eO63.symm
        obtain rfl := eR63.symm
        refine g_if_neB (tgt := 29) B dX12_refusing_24 (by decide) (fun c64 => ?_) (fun c64 => ?_)
        · refine g_iinc (v := nI (x + 1)) (lv2 := [(3, _), (0, _), (1, _), (2, _)]) B 0 dX12_refusing_29 rfl (nI_1 _) (by decide) rfl ?_
          refine g_goto (tgt := 2) B dX12_refusing_32 (by decide) ?_
          exact ih ((a.p (o + 1)) - (x + 1)) (by omega) (x + 1) rfl (by omega) (fun j hj => by by_cases c : j = x; subst c; exact c64; exact i1 j (by omega))
        · refine g_iload_n B 0 dX12_refusing_27 rfl ?_
          refine g_iret B E rfl rfl dX12_refusing_28 ?_
          exact ⟨_, rfl, by rw [aA.bar_some (by omega) i1 c64]; rfl, rfl, rfl, rfl⟩
  exact L _ 0 rfl (Nat.zero_le _) (fun j hj => absurd hj (Nat.not_lt_zero j))
theorem va_up_eq {f : Nat → Int32} {k : Nat} {x : Int32} (h : f k = x) : va_up f k x = f := by
  funext j
  by_cases e : j = k
  · subst e; rw [va_ups, h]
  · rw [va_upe e]
theorem c_M_sends {G : xG} {T : xT} {O R : xO} {m : Nat} {ad : Nat → Nat} {sc : Nat → Int32} {ar : Nat → Nat → Int32} {Bd : Nat} {o i : Nat} (P : PM m ad O R sc ar T O R) {a : aA} (H : RepM a sc ar) (W : WF Bd a) (hB : Bd ≤ 2 ^ 30) (hbg : a.nm 4 ≠ 0) (ho : o + 1 < a.n) (hi : i < a.p o) : xCtr G yX12_sends cX12_sends 7 (some Jvm.ClassFile.FieldType.boolean) 2 47 0 0 [.ref m, .int (nI o), .int (nI i)] (T, O, R) (xA (mPost m ad T O R (fun v sc2 ar2 => v = .int (bI (a.flush o i).1) ∧ RepM (a.flush o i).2 sc2 ar2))) := by
  have hR := H
  obtain ⟨Htxt, Hop, Hinp, Hnm, Hstt, ⟨Hs0, Hs1, Hs2⟩, ⟨Hc0, Hc1, Hc2⟩, Hls, Hsp, Hpt, Hhd, Hch, Hex, Hwr⟩ := H
  have hn2 := W.n2
  have hn6 := W.n6
  have hp3 := (W.p1 o (by omega)).2
  have hi3 : i < 3 := by omega
  refine xCtr.of (by decide +kernel) (Nat.le_of_ble_eq_true rfl) ?_
  intro Z B E hz hnm
  change xV Z (T, O, R) 0 [(0, .ref m), (1, .int (nI o)), (2, .int (nI i))] [] 0 0
  refine g_iload_n B 1 dX12_sends_0 rfl ?_
  refine g_iload_n B 2 dX12_sends_1 rfl ?_
  refine g_callS (rest := []) B M_X12_spot q2744 q2745 (c_M_spot (o := o) (i := i)) rfl rfl (Nat.le_of_ble_eq_true rfl) (Nat.le_of_ble_eq_true rfl) (Nat.le_of_ble_eq_true rfl) (Nat.le_refl _) (Nat.le_refl _) dX12_sends_2 (xkA (fun v1 T1 O1 R1 le1 p1 => ?_))
  obtain ⟨rfl, eT1, eO1, eR1⟩ := p1
  obtain rfl := eT1.symm
  obtain rfl := eO1.symm
  obtain rfl := eR1.symm
  refine g_istore_n (lv2 := [(3, _), (0, _), (1, _), (2, _)]) B dX12_sends_5 (by decide) rfl ?_
  have L : ∀ (d : Nat) (b : aA) (O1 R1 : xO) (sc1 : Nat → Int32) (ar1 : Nat → Nat → Int32), d = (b.ls o i).length → PM m ad O R sc1 ar1 T O1 R1 → (RepM b sc1 ar1) → (WF Bd b) → (sSt b a) → (b.hd o i = a.hd o i) → (aA.sendL o i (b.ls o i) b = aA.sendL o i (a.ls o i) a) → xV Z (T, O1, R1) 6 [(3, .int (nI (3 * o + i))), (0, .ref m), (1, .int (nI o)), (2, .int (nI i))] [] 0 0 := by
    intro d
    induction d using Nat.strongRecOn with
    | _ d ih =>
      intro b O1 R1 sc1 ar1 hd P1 i1 i2 i3 i4 i5
      have hpp := W.p1 (o + 1) (by omega)
      have i1c := i1
      have nb := i3.n
      have pb1 := i3.p o
      have pb2 := i3.p (o + 1)
      have hl3 := (i2.ls o i).1
      obtain ⟨Htxt, Hop, Hinp, Hnm, Hstt, ⟨Hs0, Hs1, Hs2⟩, ⟨Hc0, Hc1, Hc2⟩, Hls, Hsp, Hpt, Hhd, Hch, Hex, Hwr⟩ := i1c.views i3
      refine g_aload_n B 1 dX12_sends_6 rfl ?_
      refine m_geta B P1 F_X12_93_12 (by decide) (Or.inl rfl) dX12_sends_7 ?_
      refine g_iload_n B 0 dX12_sends_10 rfl ?_
      refine m_ld B P1 (by decide) rfl rfl (by show _ < 18; omega) (by decide) (show _ = (nI ((b.ls o i).length)) from (Hls o (by omega) i (by omega)).1) dX12_sends_11 ?_
      refine g_if_leN (tgt := 204) B (by omega) dX12_sends_12 (by decide) (fun c61 => ?_) (fun c61 => ?_)
      · have hnil : b.ls o i = [] := List.eq_nil_of_length_eq_zero (by omega)
        have hSL : aA.sendL o i (a.ls o i) a = (true, b) := by rw [← i5, hnil]; rfl
        refine g_aload_n B 1 dX12_sends_204 rfl ?_
        refine m_geta B P1 F_X12_111_12 (by decide) (Or.inr rfl) dX12_sends_205 ?_
        refine g_iload_n B 0 dX12_sends_208 rfl ?_
        refine m_ldz B P1 (by decide) rfl rfl (by show _ < 18; omega) (by decide) (show _ = (bI (b.hd o i)) from (Hhd o (by omega) i (by omega))) dX12_sends_209 ?_
        refine g_if_neB (tgt := 215) B dX12_sends_210 (by decide) (fun c62 => ?_) (fun c62 => ?_)
        · refine g_aload_n B 1 dX12_sends_215 rfl ?_
          refine g_iload_n B 2 dX12_sends_216 rfl ?_
          refine g_iload_n B 3 dX12_sends_217 rfl ?_
          refine g_callV (rest := []) B M_X12_refusing q2770 q2772 qs76 (P1.1.choose_spec.choose_spec) rfl (c_M_refusing (o := o) (i := i) P1.self i1 i2 (show o + 1 < b.n by omega) (by omega)) rfl rfl (Nat.le_of_ble_eq_true rfl) (Nat.le_of_ble_eq_true rfl) (Nat.le_of_ble_eq_true rfl) (Nat.le_refl _) (Nat.le_refl _) dX12_sends_218 (xkA (fun v63 T63 O63 R63 le63 p63 => ?_))
          obtain ⟨rfl, eT63, eO63, eR63⟩ := p63
          obtain rfl := eT63.symm
          obtain rfl := eO63.symm
          obtain rfl := eR63.symm
          rcases hbr : b.bar o i with _ | f
          · refine g_top (show Value.int _ = .int (-1) from rfl) ?_
            refine g_if_lt (tgt := 226) B dX12_sends_221 (by decide) (fun c => ?_) (fun c => absurd (by decide) c)
            refine g_iconst (v := nI 0) B dX12_sends_226 (by decide) ?_
            refine g_istore (lv2 := [(4, _), (3, _), (0, _), (1, _), (2, _)]) B dX12_sends_227 (by decide) rfl ?_
            have hfb0 := aA.bar_none hbr
            have L3 : ∀ (d3 : Nat) (x : Nat) (c : aA) (O13 R13 : xO) (sc13 : Nat → Int32) (ar13 : Nat → Nat → Int32), d3 = a.p (o + 1) - x → PM m ad O R sc13 ar13 T O13 R13 → (x ≤ a.p (o + 1)) → (RepM c sc13 ar13) → (WF Bd c) → (sSt c a) → (∀ y, x ≤ y → y < a.p (o + 1) → cFitB (a.cf 2) (c.ch o i y) = true) → (aA.putBs o i (a.p (o + 1) - x) x c = aA.putBs o i (a.p (o + 1)) 0 b) → xV Z (T, O13, R13) 229 [(4, .int (nI x)), (3, .int (nI (3 * o + i))), (0, .ref m), (1, .int (nI o)), (2, .int (nI i))] [] 0 0 := by
              intro d3
              induction d3 using Nat.strongRecOn with
              | _ d3 ih3 =>
                intro x c O13 R13 sc13 ar13 hd3 P13 k0 k1 k2 k3 k4 k5
                have k1c := k1
                have nc := k3.n
                have pc2 := k3.p (o + 1)
                obtain ⟨Htxt, Hop, Hinp, Hnm, Hstt, ⟨Hs0, Hs1, Hs2⟩, ⟨Hc0, Hc1, Hc2⟩, Hls, Hsp, Hpt, Hhd, Hch, Hex, Hwr⟩ := k1c.views k3
                have hln : x < a.p (o + 1) → mLn o i x < 54 := fun hx => by unfold mLn; omega
                refine g_iload B 0 dX12_sends_229 rfl ?_
                refine g_aload_n B 2 dX12_sends_231 rfl ?_
                refine m_geta B P13 F_X12_22_12 (by decide) (Or.inl rfl) dX12_sends_232 ?_
                refine g_iload_n B 3 dX12_sends_235 rfl ?_
                refine g_iconst (v := nI 1) B dX12_sends_236 (by decide) ?_
                refine g_iaddN B dX12_sends_237 ?_
                refine m_ld B P13 (by decide) rfl rfl (by show _ < 6; omega) (by decide) (show _ = (nI (a.p (o + 1))) from (Hop.2 (o + 1) (by omega)).2.2.2) dX12_sends_238 ?_
                refine g_icmp_geN (tgt := 259) B (by omega) (by omega) dX12_sends_239 (by decide) (fun c301 => ?_) (fun c301 => ?_)
                · refine g_aload_n B 2 dX12_sends_259 rfl ?_
                  refine m_geta B P13 F_X12_111_12 (by decide) (Or.inr rfl) dX12_sends_260 ?_
                  refine g_iload_n B 1 dX12_sends_263 rfl ?_
                  refine g_iconst (v := nI 0) B dX12_sends_264 (by decide) ?_
                  refine m_stz B P13 (by decide) rfl rfl (by show _ < 18; omega) (by decide) rfl dX12_sends_265 (fun R302 ar302 hs302 hk302 P302 => ?_)
                  refine g_iconst (v := nI 1) B dX12_sends_266 (by decide) ?_
                  have e45 : ar302 45 = va_up (ar13 45) (3 * o + i) (nI 0) := hs302
                  have hx0 : a.p (o + 1) - x = 0 := by omega
                  rw [hx0] at k5
                  have k6 : c = aA.putBs o i (a.p (o + 1)) 0 b := k5
                  have hcd : c.hd = b.hd := by rw [k6]; exact aA.putBs_hd
                  have H5 : RepM (c.w_hd (up2 c.hd o i false)) sc13 ar302 := k1.hd (fun k hk _ => hk302 k hk) (RMhd.up (x := false) Hhd e45 (by omega))
                  rw [hcd, k6] at H5
                  have hFL := aA.flush_3 hSL c62 hbr
                  rw [i3.p] at hFL
                  refine g_iret B E rfl rfl dX12_sends_267 ?_
                  exact ⟨_, rfl, rfl, _, _, P302, by rw [hFL]; rfl, by rw [hFL]; exact H5⟩
                · refine g_aload_n B 2 dX12_sends_242 rfl ?_
                  refine g_iload_n B 3 dX12_sends_243 rfl ?_
                  refine g_iload_n B 4 dX12_sends_244 rfl ?_
                  refine g_iload B 0 dX12_sends_245 rfl ?_
                  refine g_callS (rest := [_]) B M_X12_line q2759 q2760 (c_M_line (o := o) (i := i) (j := x)) rfl rfl (Nat.le_of_ble_eq_true rfl) (Nat.le_of_ble_eq_true rfl) (Nat.le_of_ble_eq_true rfl) (Nat.le_refl _) (Nat.le_refl _) dX12_sends_247 (xkA (fun v303 T303 O303 R303 le303 p303 => ?_))
                  obtain ⟨rfl, eT303, eO303, eR303⟩ := p303
                  obtain rfl := eT303.symm
                  obtain rfl := eO303.symm
                  obtain rfl := eR303.symm
                  have hcc := k2.ch o i x
                  refine g_callV (rest := []) B M_X12_putsBarrier q2778 q2780 qs78 (P13.1.choose_spec.choose_spec) rfl (c_M_putsBarrier P13.self (c := mLn o i x) (hln (by omega)) (Hch o (by omega) i (by omega) x (by omega)) (k2.chl o (by omega) i (by omega) x (by omega)).2 (fun e => hcc.2.2.2.1 (List.eq_nil_of_length_eq_zero e)) (cFitB_mono (k4 x (Nat.le_refl _) (by omega)) W.cf.2.2.1.2)) rfl rfl (Nat.le_of_ble_eq_true rfl) (Nat.le_of_ble_eq_true rfl) (Nat.le_of_ble_eq_true rfl) (Nat.le_refl _) (Nat.le_refl _) dX12_sends_250 (xkN (fun T304 O304 R304 le304 p304 => ?_))
                  obtain ⟨eT304, sc304, ar304, Q304, hs304, hf304, hr304⟩ := p304
                  obtain rfl := eT304.symm
                  have P304 := P13.rebase Q304
                  refine g_iinc (v := nI (x + 1)) (lv2 := [(4, _), (3, _), (0, _), (1, _), (2, _)]) B 0 dX12_sends_253 rfl (nI_1 _) (by decide) rfl ?_
                  refine g_goto (tgt := 229) B dX12_sends_256 (by decide) ?_
                  have K1 : RepM (c.w_ch (up3 c.ch o i x (cPutB (c.ch o i x)))) sc304 ar304 := by rw [hs304]; exact k1.chan k2.chl (by omega) (by omega) hf304 hr304
                  have K2 := k2.putB (o := o) (i := i) (j := x) (by rw [k3.2.2.2.2.2.1]; exact hbg) (show o + 1 < c.n by omega) (by rw [k3.p]; omega) (by omega) (by rw [k3.2.1]; exact k4 x (Nat.le_refl _) (by omega))
                  have K4 : ∀ y, x + 1 ≤ y → y < a.p (o + 1) → cFitB (a.cf 2) ((c.w_ch (up3 c.ch o i x (cPutB (c.ch o i x)))).ch o i y) = true := fun y h1 h2 => by show cFitB (a.cf 2) (up3 c.ch o i x _ o i y) = true; rw [up3_n (fun e => by omega)]; exact k4 y (by omega) h2
                  have K5 : aA.putBs o i (a.p (o + 1) - (x + 1)) (x + 1) (c.w_ch (up3 c.ch o i x (cPutB (c.ch o i x)))) = aA.putBs o i (a.p (o + 1)) 0 b := by rw [← k5, show a.p (o + 1) - x = (a.p (o + 1) - (x + 1)) + 1 by omega]; rfl
                  exact ih3 (a.p (o + 1) - (x + 1)) (by omega) (x + 1) (c.w_ch (up3 c.ch o i x (cPutB (c.ch o i x)))) _ _ _ _ rfl P304 (by omega) K1 K2 ((sSt.rf (a := c)).tr k3) K4 K5
            exact L3 _ 0 b _ _ _ _ rfl P1 (Nat.zero_le _) i1 i2 i3 (fun y _ hy => by rw [← i3.2.1]; exact hfb0 y (by omega)) rfl
          · refine g_top (show Value.int _ = .int (nI f) from rfl) ?_
            have hfl : f < 2 ^ 31 := by have := List.mem_range.mp (List.mem_of_find?_eq_some hbr); omega
            refine g_if_ltN (tgt := 226) B hfl dX12_sends_221 (by decide) ?_
            refine g_iconst (v := nI 0) B dX12_sends_224 (by decide) ?_
            refine g_iret B E rfl rfl dX12_sends_225 ?_
            have hFL := aA.flush_2 hSL c62 hbr
            exact ⟨_, rfl, rfl, _, _, P1, by rw [hFL]; rfl, by rw [hFL]; exact i1⟩
        · refine g_iconst (v := nI 1) B dX12_sends_213 (by decide) ?_
          refine g_iret B E rfl rfl dX12_sends_214 ?_
          have hFL := aA.flush_1 hSL c62
          exact ⟨_, rfl, rfl, _, _, P1, by rw [hFL]; rfl, by rw [hFL]; exact i1⟩
      · rcases hls : b.ls o i with _ | ⟨r, rest⟩
        · have hll0 : (b.ls o i).length = 0 := by rw [hls]; rfl
          omega
        have hll : (b.ls o i).length = rest.length + 1 := by rw [hls]; rfl
        have hrec := (Hls o (by omega) i (by omega)).2
        rw [hls] at hrec
        have hr0 := hrec 0 (Nat.succ_pos _)
        obtain ⟨hr40, hr41, hr42⟩ : ar1 40 (3 * (3 * o + i)) = nI r.1 ∧ ar1 41 (3 * (3 * o + i)) = r.2.1 ∧ ar1 42 (3 * (3 * o + i)) = nI r.2.2 := hr0
        have hrk : r.1 < 16 := ((i2.ls o i).2 r (by rw [hls]; exact List.mem_cons_self ..)).1
        have hgl : b.goal o i r < a.p (o + 1) := by rw [← pb2]; exact i2.goal (by omega)
        have hln : mLn o i (b.goal o i r) < 54 := by unfold mLn; omega
        have hctB := i2.ctl o i
        refine g_aload_n B 1 dX12_sends_15 rfl ?_
        refine m_geta B P1 F_X12_96_12 (by decide) (Or.inl rfl) dX12_sends_16 ?_
        refine g_iconst (v := nI 3) B dX12_sends_19 (by decide) ?_
        refine g_iload_n B 0 dX12_sends_20 rfl ?_
        refine g_imulN B dX12_sends_21 ?_
        refine m_ld B P1 (by decide) rfl rfl (by show _ < 54; omega) (by decide) (show _ = (nI r.1) from hr40) dX12_sends_22 ?_
        refine g_istore (lv2 := [(4, _), (3, _), (0, _), (1, _), (2, _)]) B dX12_sends_23 (by decide) rfl ?_
        refine g_iload_n B 3 dX12_sends_25 rfl ?_
        refine g_iload_n B 4 dX12_sends_26 rfl ?_
        refine g_aload_n B 2 dX12_sends_27 rfl ?_
        refine g_iload_n B 3 dX12_sends_28 rfl ?_
        refine g_iload_n B 4 dX12_sends_29 rfl ?_
        refine g_iload B 0 dX12_sends_30 rfl ?_
        refine g_callV (rest := [_, _]) B M_X12_goal q2747 q2749 qs71 (P1.1.choose_spec.choose_spec) rfl (c_M_goal (o := o) (i := i) (r := r) P1.self i1 (show o + 1 < b.n by omega) (show b.n ≤ 6 by omega) (by omega) (i2.kd8 (show o + 1 < b.n by omega)) hrk (i2.p1 _ (by omega)) (by omega)) rfl rfl (Nat.le_of_ble_eq_true rfl) (Nat.le_of_ble_eq_true rfl) (Nat.le_of_ble_eq_true rfl) (Nat.le_refl _) (Nat.le_refl _) dX12_sends_32 (xkA (fun v64 T64 O64 R64 le64 p64 => ?_))
        obtain ⟨rfl, eT64, eO64, eR64⟩ := p64
        obtain rfl := eT64.symm
        obtain rfl := eO64.symm
        obtain rfl := eR64.symm
        refine g_callS (rest := []) B M_X12_line q2759 q2760 (c_M_line (o := o) (i := i) (j := (b.goal o i r))) rfl rfl (Nat.le_of_ble_eq_true rfl) (Nat.le_of_ble_eq_true rfl) (Nat.le_of_ble_eq_true rfl) (Nat.le_refl _) (Nat.le_refl _) dX12_sends_35 (xkA (fun v65 T65 O65 R65 le65 p65 => ?_))
        obtain ⟨rfl, eT65, eO65, eR65⟩ := p65
        obtain rfl := eT65.symm
        obtain rfl := eO65.symm
        obtain rfl := eR65.symm
        refine g_istore (lv2 := [(5, _), (4, _), (3, _), (0, _), (1, _), (2, _)]) B dX12_sends_38 (by decide) rfl ?_
        refine g_aload_n B 3 dX12_sends_40 rfl ?_
        refine g_iload B 0 dX12_sends_41 rfl ?_
        refine g_callV (rest := []) B M_X12_takesRecord q2762 q2764 qs74 (P1.1.choose_spec.choose_spec) rfl (c_M_takesRecord (bs := a.cf 0) (cr := a.cf 2) P1.self hln (Hch o (by omega) i (by omega) (b.goal o i r) (by omega)) Hnm.1.1 Hnm.1.2.2.1 W.cf.1.2 W.cf.2.2.1.2 (i2.chl o (by omega) i (by omega) _ (by omega)).1 (i2.chl o (by omega) i (by omega) _ (by omega)).2) rfl rfl (Nat.le_of_ble_eq_true rfl) (Nat.le_of_ble_eq_true rfl) (Nat.le_of_ble_eq_true rfl) (Nat.le_refl _) (Nat.le_refl _) dX12_sends_43 (xkA (fun v66 T66 O66 R66 le66 p66 => ?_))
        obtain ⟨rfl, eT66, eO66, eR66⟩ := p66
        obtain rfl := eT66.symm
        obtain rfl := eO66.symm
        obtain rfl := eR66.symm
        refine g_if_neB (tgt := 51) B dX12_sends_46 (by decide) (fun c67 => ?_) (fun c67 => ?_)
        · refine g_aload_n B 3 dX12_sends_51 rfl ?_
          refine g_iload B 0 dX12_sends_52 rfl ?_
          refine g_iload B 1 dX12_sends_54 rfl ?_
          refine g_aload_n B 3 dX12_sends_56 rfl ?_
          refine m_geta B P1 F_X12_99_12 (by decide) (Or.inl rfl) dX12_sends_57 ?_
          refine g_iconst (v := nI 3) B dX12_sends_60 (by decide) ?_
          refine g_iload_n B 2 dX12_sends_61 rfl ?_
          refine g_imulN B dX12_sends_62 ?_
          refine m_ld B P1 (by decide) rfl rfl (by show _ < 54; omega) (by decide) (show _ = r.2.1 from hr41) dX12_sends_63 ?_
          refine g_aload_n B 3 dX12_sends_64 rfl ?_
          refine m_geta B P1 F_X12_102_12 (by decide) (Or.inl rfl) dX12_sends_65 ?_
          refine g_iconst (v := nI 3) B dX12_sends_68 (by decide) ?_
          refine g_iload_n B 2 dX12_sends_69 rfl ?_
          refine g_imulN B dX12_sends_70 ?_
          refine m_ld B P1 (by decide) rfl rfl (by show _ < 54; omega) (by decide) (show _ = (nI r.2.2) from hr42) dX12_sends_71 ?_
          have hfit : cFit (a.cf 0) (a.cf 2) (b.ch o i (b.goal o i r)) = true := c67
          have hbs : (b.ch o i (b.goal o i r)).2.1.length ≤ a.cf 0 := by rw [← i3.2.1]; exact (i2.ch o i _).2.1
          refine g_callV (rest := []) B M_X12_puts q2766 q2768 qs75 (P1.1.choose_spec.choose_spec) rfl (c_M_puts (r := r) (bs := a.cf 0) (cr := a.cf 2) P1.self hln (Hch o (by omega) i (by omega) (b.goal o i r) (by omega)) Hnm.1.1 Hnm.1.2.2.1 W.cf.1.1 W.cf.1.2 W.cf.2.2.1.2 (i2.chl o (by omega) i (by omega) _ (by omega)).1 hbs hfit) rfl rfl (Nat.le_of_ble_eq_true rfl) (Nat.le_of_ble_eq_true rfl) (Nat.le_of_ble_eq_true rfl) (Nat.le_refl _) (Nat.le_refl _) dX12_sends_72 (xkN (fun T68 O68 R68 le68 p68 => ?_))
          obtain ⟨eT68, sc68, ar68, Q68, hs68, hf68, hr68⟩ := p68
          obtain rfl := eT68.symm
          have P68 := P1.rebase Q68
          have H1 : RepM (b.w_ch (up3 b.ch o i (b.goal o i r) (cPut (a.cf 0) (a.cf 2) (b.ch o i (b.goal o i r)) r))) sc1 ar68 := i1.chan i2.chl (by omega) (by omega) hf68 hr68
          rw [← hs68] at H1
          generalize hb1 : (b.w_ch (up3 b.ch o i (b.goal o i r) (cPut (a.cf 0) (a.cf 2) (b.ch o i (b.goal o i r)) r))) = b1 at H1
          have S1 : sSt b1 a := by rw [← hb1]; exact (sSt.rf (a := b)).tr i3
          have hls1 : b1.ls = b.ls := by rw [← hb1]; rfl
          have hct1 : b1.ct = b.ct := by rw [← hb1]; rfl
          have hkb : b.ky (o + 1) = a.ky (o + 1) := i3.ky _
          have H1c := H1
          obtain ⟨Htxt, Hop, Hinp, Hnm, Hstt, ⟨Hs0, Hs1, Hs2⟩, ⟨Hc0, Hc1, Hc2⟩, Hls, Hsp, Hpt, Hhd, Hch, Hex, Hwr⟩ := H1c.views S1
          have hcv : b1.ct 0 o i = b.ct 0 o i := by rw [hct1]
          refine g_aload_n B 3 dX12_sends_75 rfl ?_
          refine m_geta B P68 F_X12_84_12 (by decide) (Or.inl rfl) dX12_sends_76 ?_
          refine g_iload_n B 2 dX12_sends_79 rfl ?_
          refine g_dup2 B dX12_sends_80 rfl rfl ?_
          refine m_ld B P68 (by decide) rfl rfl (by show _ < 18; omega) (by decide) (show _ = (nI (b1.ct 0 o i)) from (Hc0 o (by omega) i (by omega))) dX12_sends_81 ?_
          refine g_aload_n B 3 dX12_sends_82 rfl ?_
          refine g_iload_n B 4 dX12_sends_83 rfl ?_
          refine g_iconst (v := nI 1) B dX12_sends_84 (by decide) ?_
          refine g_iaddN B dX12_sends_85 ?_
          refine g_callV (rest := [_, _, _]) B M_X12_isKeyed q2751 q2753 qs72 (P68.1.choose_spec.choose_spec) rfl (c_M_isKeyed (o := o + 1) P68.self H1 (show o + 1 < b1.n by rw [S1.n]; omega) (show b1.n ≤ 6 by rw [S1.n]; omega) (by rw [S1.kd]; exact W.kd8 ho)) rfl rfl (Nat.le_of_ble_eq_true rfl) (Nat.le_of_ble_eq_true rfl) (Nat.le_of_ble_eq_true rfl) (Nat.le_refl _) (Nat.le_refl _) dX12_sends_86 (xkA (fun v69 T69 O69 R69 le69 p69 => ?_))
          obtain ⟨rfl, eT69, eO69, eR69⟩ := p69
          obtain rfl := eT69.symm
          obtain rfl := eO69.symm
          obtain rfl := eR69.symm
          refine g_if_eqB (tgt := 96) B dX12_sends_89 (by decide) (fun c70 => ?_) (fun c70 => ?_)
          · refine g_iconst (v := nI 1) B dX12_sends_96 (by decide) ?_
            refine g_iaddN B dX12_sends_97 ?_
            refine m_st B P68 (by decide) rfl rfl (by show _ < 18; omega) (by decide) dX12_sends_98 (fun R71 ar71 hs71 hk71 P71 => ?_)
            have e33 : ar71 33 = va_up (ar68 33) (3 * o + i) (nI ((b1.ct 0 o i) + 1)) := hs71
            have hkf : ¬ b.ky (o + 1) = true := by rw [hkb, ← S1.ky, c70]; decide
            have H2 : RepM (b1.w_ct (if b.ky (o + 1) = true then b.ct else up3 b.ct 0 o i (b.ct 0 o i + 1))) sc68 ar71 := by
              rw [if_neg hkf, ← hct1]
              exact H1.ct (fun k hk _ => hk71 k (by omega)) (RMct.up3z (s := b1.ct) (v := 0) Hc0 e33 (by omega)) (by rw [up3_v (by decide), hk71 34 (by decide)]; exact Hc1) (by rw [up3_v (by decide), hk71 35 (by decide)]; exact Hc2)
            generalize hb2 : b1.w_ct (if b.ky (o + 1) = true then b.ct else up3 b.ct 0 o i (b.ct 0 o i + 1)) = b2 at H2
            have S2 : sSt b2 a := by rw [← hb2]; exact (sSt.rf (a := b1)).tr S1
            have hls2 : b2.ls = b.ls := by rw [← hb2]; exact hls1
            have hll2 : (b2.ls o i).length = rest.length + 1 := by rw [hls2]; exact hll
            have H2c := H2
            obtain ⟨Htxt, Hop, Hinp, Hnm, Hstt, ⟨Hs0, Hs1, Hs2⟩, ⟨Hc0, Hc1, Hc2⟩, Hls, Hsp, Hpt, Hhd, Hch, Hex, Hwr⟩ := H2c.views S2
            refine g_aload_n B 3 dX12_sends_99 rfl ?_
            refine m_geta B P71 F_X12_93_12 (by decide) (Or.inl rfl) dX12_sends_100 ?_
            refine g_iload_n B 2 dX12_sends_103 rfl ?_
            refine g_dup2 B dX12_sends_104 rfl rfl ?_
            refine m_ld B P71 (by decide) rfl rfl (by show _ < 18; omega) (by decide) (show _ = (nI ((b2.ls o i).length)) from (Hls o (by omega) i (by omega)).1) dX12_sends_105 ?_
            refine g_iconst (v := nI 1) B dX12_sends_106 (by decide) ?_
            refine g_isubN B (by omega) dX12_sends_107 ?_
            refine m_st B P71 (by decide) rfl rfl (by show _ < 18; omega) (by decide) dX12_sends_108 (fun R72 ar72 hs72 hk72 P72 => ?_)
            refine g_iconst (v := nI 0) B dX12_sends_109 (by decide) ?_
            refine g_istore (lv2 := [(6, _), (5, _), (4, _), (3, _), (0, _), (1, _), (2, _)]) B dX12_sends_110 (by decide) rfl ?_
            have e39 : ar72 39 = va_up (ar71 39) (3 * o + i) (nI ((b2.ls o i).length - 1)) := hs72
            have L2 : ∀ (d2 x2 : Nat) (O12 R12 : xO) (ar12 : Nat → Nat → Int32), d2 = rest.length - x2 → x2 ≤ rest.length → PM m ad O R sc68 ar12 T O12 R12 → (∀ j, j < x2 → ar12 40 (3 * (3 * o + i) + j) = ar72 40 (3 * (3 * o + i) + j + 1) ∧ ar12 41 (3 * (3 * o + i) + j) = ar72 41 (3 * (3 * o + i) + j + 1) ∧ ar12 42 (3 * (3 * o + i) + j) = ar72 42 (3 * (3 * o + i) + j + 1)) → (∀ y, (y < 3 * (3 * o + i) ∨ 3 * (3 * o + i) + x2 ≤ y) → ar12 40 y = ar72 40 y ∧ ar12 41 y = ar72 41 y ∧ ar12 42 y = ar72 42 y) → (∀ k, k ≠ 40 → k ≠ 41 → k ≠ 42 → ar12 k = ar72 k) → xV Z (T, O12, R12) 112 [(6, .int (nI x2)), (5, .int (nI (mLn o i (b.goal o i r)))), (4, .int (nI r.1)), (3, .int (nI (3 * o + i))), (0, .ref m), (1, .int (nI o)), (2, .int (nI i))] [] 0 0 := by
              intro d2
              induction d2 using Nat.strongRecOn with
              | _ d2 ih2 =>
                intro x2 O12 R12 ar12 hd2 hx2 P12 j1 j2 j3
                refine g_iload B 0 dX12_sends_112 rfl ?_
                refine g_aload_n B 4 dX12_sends_114 rfl ?_
                refine m_geta B P12 F_X12_93_12 (by decide) (Or.inl rfl) dX12_sends_115 ?_
                refine g_iload_n B 3 dX12_sends_118 rfl ?_
                refine m_ld B P12 (by decide) rfl rfl (by show _ < 18; omega) (by decide) (show _ = (nI (rest.length)) from ((congrFun (j3 39 (by decide) (by decide) (by decide)) _).trans ((congrFun e39 _).trans (va_ups.trans (congrArg nI (show (b2.ls o i).length - 1 = rest.length by omega)))))) dX12_sends_119 ?_
                refine g_icmp_geN (tgt := 201) B (by omega) (by omega) dX12_sends_120 (by decide) (fun c201 => ?_) (fun c201 => ?_)
                · have hxr : x2 = rest.length := by omega
                  subst hxr
                  have hk9 : ∀ k, k ≠ 39 → ar72 k = ar71 k := fun k h1 => hk72 k h1
                  have H3 : RepM (b2.w_ls (up2 b2.ls o i rest)) sc68 ar12 := H2.ls (fun k hk _ => (j3 k (by omega) (by omega) (by omega)).trans (hk9 k (by omega))) (RMls.pop (r := r) H2.2.2.2.2.2.2.2.1 (by rw [hls2]; exact fun x _ y _ => (i2.ls x y).1) (by rw [hls2]; exact hls) (by omega) (by rw [j3 39 (by decide) (by decide) (by decide), e39, show (b2.ls o i).length - 1 = rest.length by omega]) (fun j hj => by rw [← hk9 40 (by decide), ← hk9 41 (by decide), ← hk9 42 (by decide)]; exact j1 j hj) (fun y hy => by rw [← hk9 40 (by decide), ← hk9 41 (by decide), ← hk9 42 (by decide)]; exact j2 y (by omega)))
                  have hsd : b.send o i r rest = b2.w_ls (up2 b2.ls o i rest) := by rw [aA.send_eq, i3.2.1, hb1, hb2, hls2]
                  have hfb : cFit (b.cf 0) (b.cf 2) (b.ch o i (b.goal o i r)) = true := by rw [i3.2.1]; exact hfit
                  have W3 := i2.send (by rw [i3.2.2.2.2.2.1]; exact hbg) (show o + 1 < b.n by omega) (by omega) hls hfb
                  have hsl : aA.sendL o i rest (b.send o i r rest) = aA.sendL o i (a.ls o i) a := by rw [← i5, hls, aA.sendL_cons, if_pos hfb]
                  rw [← hsd] at H3
                  have hlr : (b.send o i r rest).ls o i = rest := up2_s
                  refine g_goto (tgt := 6) B dX12_sends_201 (by decide) ?_
                  refine g_pick [3, 4, 5, 6] rfl ?_
                  exact ih rest.length (by omega) (b.send o i r rest) _ _ _ _ (by rw [hlr]) P12 H3 W3 ((sSt.send b o i r rest).tr i3) i4 (by rw [hlr]; exact hsl)
                · refine g_aload_n B 4 dX12_sends_123 rfl ?_
                  refine m_geta B P12 F_X12_96_12 (by decide) (Or.inl rfl) dX12_sends_124 ?_
                  refine g_iconst (v := nI 3) B dX12_sends_127 (by decide) ?_
                  refine g_iload_n B 3 dX12_sends_128 rfl ?_
                  refine g_imulN B dX12_sends_129 ?_
                  refine g_iload B 0 dX12_sends_130 rfl ?_
                  refine g_iaddN B dX12_sends_132 ?_
                  refine g_aload_n B 4 dX12_sends_133 rfl ?_
                  refine m_geta B P12 F_X12_96_12 (by decide) (Or.inl rfl) dX12_sends_134 ?_
                  refine g_iconst (v := nI 3) B dX12_sends_137 (by decide) ?_
                  refine g_iload_n B 3 dX12_sends_138 rfl ?_
                  refine g_imulN B dX12_sends_139 ?_
                  refine g_iload B 0 dX12_sends_140 rfl ?_
                  refine g_iaddN B dX12_sends_142 ?_
                  refine g_iconst (v := nI 1) B dX12_sends_143 (by decide) ?_
                  refine g_iaddN B dX12_sends_144 ?_
                  refine m_ld B P12 (by decide) rfl rfl (by show _ < 54; omega) (by decide) rfl dX12_sends_145 ?_
                  refine m_st B P12 (by decide) rfl rfl (by show _ < 54; omega) (by decide) dX12_sends_146 (fun R202 ar202 hs202 hk202 P202 => ?_)
                  refine g_aload_n B 4 dX12_sends_147 rfl ?_
                  refine m_geta B P202 F_X12_99_12 (by decide) (Or.inl rfl) dX12_sends_148 ?_
                  refine g_iconst (v := nI 3) B dX12_sends_151 (by decide) ?_
                  refine g_iload_n B 3 dX12_sends_152 rfl ?_
                  refine g_imulN B dX12_sends_153 ?_
                  refine g_iload B 0 dX12_sends_154 rfl ?_
                  refine g_iaddN B dX12_sends_156 ?_
                  refine g_aload_n B 4 dX12_sends_157 rfl ?_
                  refine m_geta B P202 F_X12_99_12 (by decide) (Or.inl rfl) dX12_sends_158 ?_
                  refine g_iconst (v := nI 3) B dX12_sends_161 (by decide) ?_
                  refine g_iload_n B 3 dX12_sends_162 rfl ?_
                  refine g_imulN B dX12_sends_163 ?_
                  refine g_iload B 0 dX12_sends_164 rfl ?_
                  refine g_iaddN B dX12_sends_166 ?_
                  refine g_iconst (v := nI 1) B dX12_sends_167 (by decide) ?_
                  refine g_iaddN B dX12_sends_168 ?_
                  refine m_ld B P202 (by decide) rfl rfl (by show _ < 54; omega) (by decide) (show _ = (ar12 41 (((3 * (3 * o + i)) + x2) + 1)) from ((congrFun (hk202 41 (by decide)) _).trans rfl)) dX12_sends_169 ?_
                  refine m_st B P202 (by decide) rfl rfl (by show _ < 54; omega) (by decide) dX12_sends_170 (fun R203 ar203 hs203 hk203 P203 => ?_)
                  refine g_aload_n B 4 dX12_sends_171 rfl ?_
                  refine m_geta B P203 F_X12_102_12 (by decide) (Or.inl rfl) dX12_sends_172 ?_
                  refine g_iconst (v := nI 3) B dX12_sends_175 (by decide) ?_
                  refine g_iload_n B 3 dX12_sends_176 rfl ?_
                  refine g_imulN B dX12_sends_177 ?_
                  refine g_iload B 0 dX12_sends_178 rfl ?_
                  refine g_iaddN B dX12_sends_180 ?_
                  refine g_aload_n B 4 dX12_sends_181 rfl ?_
                  refine m_geta B P203 F_X12_102_12 (by decide) (Or.inl rfl) dX12_sends_182 ?_
                  refine g_iconst (v := nI 3) B dX12_sends_185 (by decide) ?_
                  refine g_iload_n B 3 dX12_sends_186 rfl ?_
                  refine g_imulN B dX12_sends_187 ?_
                  refine g_iload B 0 dX12_sends_188 rfl ?_
                  refine g_iaddN B dX12_sends_190 ?_
                  refine g_iconst (v := nI 1) B dX12_sends_191 (by decide) ?_
                  refine g_iaddN B dX12_sends_192 ?_
                  refine m_ld B P203 (by decide) rfl rfl (by show _ < 54; omega) (by decide) (show _ = (ar12 42 (((3 * (3 * o + i)) + x2) + 1)) from ((congrFun (hk203 42 (by decide)) _).trans ((congrFun (hk202 42 (by decide)) _).trans rfl))) dX12_sends_193 ?_
                  refine m_st B P203 (by decide) rfl rfl (by show _ < 54; omega) (by decide) dX12_sends_194 (fun R204 ar204 hs204 hk204 P204 => ?_)
                  refine g_iinc (v := nI (x2 + 1)) (lv2 := [(6, _), (5, _), (4, _), (3, _), (0, _), (1, _), (2, _)]) B 0 dX12_sends_195 rfl (nI_1 _) (by decide) rfl ?_
                  refine g_goto (tgt := 112) B dX12_sends_198 (by decide) ?_
                  have e40 : ar204 40 = va_up (ar12 40) ((3 * (3 * o + i)) + x2) (ar12 40 (((3 * (3 * o + i)) + x2) + 1)) := ((hk204 40 (by decide)).trans ((hk203 40 (by decide)).trans hs202))
                  have e41 : ar204 41 = va_up (ar12 41) ((3 * (3 * o + i)) + x2) (ar12 41 (((3 * (3 * o + i)) + x2) + 1)) := ((hk204 41 (by decide)).trans (hs203.trans (congrArg (fun g => va_up g ((3 * (3 * o + i)) + x2) (ar12 41 (((3 * (3 * o + i)) + x2) + 1))) (hk202 41 (by decide)))))
                  have e42 : ar204 42 = va_up (ar12 42) ((3 * (3 * o + i)) + x2) (ar12 42 (((3 * (3 * o + i)) + x2) + 1)) := (hs204.trans (congrArg (fun g => va_up g ((3 * (3 * o + i)) + x2) (ar12 42 (((3 * (3 * o + i)) + x2) + 1))) ((hk203 42 (by decide)).trans (hk202 42 (by decide)))))
                  have hnew : ∀ j, j < x2 + 1 → ar204 40 (3 * (3 * o + i) + j) = ar72 40 (3 * (3 * o + i) + j + 1) ∧ ar204 41 (3 * (3 * o + i) + j) = ar72 41 (3 * (3 * o + i) + j + 1) ∧ ar204 42 (3 * (3 * o + i) + j) = ar72 42 (3 * (3 * o + i) + j + 1) := fun j hj => by
                    rw [e40, e41, e42]
                    by_cases c : j = x2
                    · subst c; rw [va_ups, va_ups, va_ups]; exact j2 _ (Or.inr (by omega))
                    · rw [va_upe (by omega), va_upe (by omega), va_upe (by omega)]; exact j1 j (by omega)
                  have hold : ∀ y, (y < 3 * (3 * o + i) ∨ 3 * (3 * o + i) + (x2 + 1) ≤ y) → ar204 40 y = ar72 40 y ∧ ar204 41 y = ar72 41 y ∧ ar204 42 y = ar72 42 y := fun y hy => by
                    rw [e40, e41, e42, va_upe (by omega), va_upe (by omega), va_upe (by omega)]; exact j2 y (by omega)
                  exact ih2 (rest.length - (x2 + 1)) (by omega) (x2 + 1) _ _ _ rfl (by omega) P204 hnew hold (fun k h1 h2 h3 => ((hk204 k h3).trans ((hk203 k h2).trans (hk202 k h1))).trans (j3 k h1 h2 h3))
            exact L2 _ 0 _ _ _ rfl (Nat.zero_le _) P72 (fun j hj => absurd hj (Nat.not_lt_zero j)) (fun _ _ => ⟨rfl, rfl, rfl⟩) (fun _ _ _ _ => rfl)
          · refine g_iconst (v := nI 0) B dX12_sends_92 (by decide) ?_
            refine g_goto (tgt := 97) B dX12_sends_93 (by decide) ?_
            refine g_iaddN B dX12_sends_97 ?_
            refine m_st B P68 (by decide) rfl rfl (by show _ < 18; omega) (by decide) dX12_sends_98 (fun R73 ar73 hs73 hk73 P73 => ?_)
            have e33 : ar73 33 = va_up (ar68 33) (3 * o + i) (nI ((b1.ct 0 o i) + 0)) := hs73
            have hkt : b.ky (o + 1) = true := by rw [hkb, ← S1.ky]; exact c70
            have H2 : RepM (b1.w_ct (if b.ky (o + 1) = true then b.ct else up3 b.ct 0 o i (b.ct 0 o i + 1))) sc68 ar73 := by
              rw [if_pos hkt, ← hct1]
              have e33b : ar73 33 = ar68 33 := by rw [e33]; exact va_up_eq (Hc0 o (by omega) i (by omega))
              exact H1.ct (fun k hk _ => hk73 k (by omega)) (by rw [e33b]; exact Hc0) (by rw [hk73 34 (by decide)]; exact Hc1) (by rw [hk73 35 (by decide)]; exact Hc2)
            generalize hb2 : b1.w_ct (if b.ky (o + 1) = true then b.ct else up3 b.ct 0 o i (b.ct 0 o i + 1)) = b2 at H2
            have S2 : sSt b2 a := by rw [← hb2]; exact (sSt.rf (a := b1)).tr S1
            have hls2 : b2.ls = b.ls := by rw [← hb2]; exact hls1
            have hll2 : (b2.ls o i).length = rest.length + 1 := by rw [hls2]; exact hll
            have H2c := H2
            obtain ⟨Htxt, Hop, Hinp, Hnm, Hstt, ⟨Hs0, Hs1, Hs2⟩, ⟨Hc0, Hc1, Hc2⟩, Hls, Hsp, Hpt, Hhd, Hch, Hex, Hwr⟩ := H2c.views S2
            refine g_aload_n B 3 dX12_sends_99 rfl ?_
            refine m_geta B P73 F_X12_93_12 (by decide) (Or.inl rfl) dX12_sends_100 ?_
            refine g_iload_n B 2 dX12_sends_103 rfl ?_
            refine g_dup2 B dX12_sends_104 rfl rfl ?_
            refine m_ld B P73 (by decide) rfl rfl (by show _ < 18; omega) (by decide) (show _ = (nI ((b2.ls o i).length)) from (Hls o (by omega) i (by omega)).1) dX12_sends_105 ?_
            refine g_iconst (v := nI 1) B dX12_sends_106 (by decide) ?_
            refine g_isubN B (by omega) dX12_sends_107 ?_
            refine m_st B P73 (by decide) rfl rfl (by show _ < 18; omega) (by decide) dX12_sends_108 (fun R74 ar74 hs74 hk74 P74 => ?_)
            refine g_iconst (v := nI 0) B dX12_sends_109 (by decide) ?_
            refine g_istore (lv2 := [(6, _), (5, _), (4, _), (3, _), (0, _), (1, _), (2, _)]) B dX12_sends_110 (by decide) rfl ?_
            have e39 : ar74 39 = va_up (ar73 39) (3 * o + i) (nI ((b2.ls o i).length - 1)) := hs74
            have L2 : ∀ (d2 x2 : Nat) (O12 R12 : xO) (ar12 : Nat → Nat → Int32), d2 = rest.length - x2 → x2 ≤ rest.length → PM m ad O R sc68 ar12 T O12 R12 → (∀ j, j < x2 → ar12 40 (3 * (3 * o + i) + j) = ar74 40 (3 * (3 * o + i) + j + 1) ∧ ar12 41 (3 * (3 * o + i) + j) = ar74 41 (3 * (3 * o + i) + j + 1) ∧ ar12 42 (3 * (3 * o + i) + j) = ar74 42 (3 * (3 * o + i) + j + 1)) → (∀ y, (y < 3 * (3 * o + i) ∨ 3 * (3 * o + i) + x2 ≤ y) → ar12 40 y = ar74 40 y ∧ ar12 41 y = ar74 41 y ∧ ar12 42 y = ar74 42 y) → (∀ k, k ≠ 40 → k ≠ 41 → k ≠ 42 → ar12 k = ar74 k) → xV Z (T, O12, R12) 112 [(6, .int (nI x2)), (5, .int (nI (mLn o i (b.goal o i r)))), (4, .int (nI r.1)), (3, .int (nI (3 * o + i))), (0, .ref m), (1, .int (nI o)), (2, .int (nI i))] [] 0 0 := by
              intro d2
              induction d2 using Nat.strongRecOn with
              | _ d2 ih2 =>
                intro x2 O12 R12 ar12 hd2 hx2 P12 j1 j2 j3
                refine g_iload B 0 dX12_sends_112 rfl ?_
                refine g_aload_n B 4 dX12_sends_114 rfl ?_
                refine m_geta B P12 F_X12_93_12 (by decide) (Or.inl rfl) dX12_sends_115 ?_
                refine g_iload_n B 3 dX12_sends_118 rfl ?_
                refine m_ld B P12 (by decide) rfl rfl (by show _ < 18; omega) (by decide) (show _ = (nI (rest.length)) from ((congrFun (j3 39 (by decide) (by decide) (by decide)) _).trans ((congrFun e39 _).trans (va_ups.trans (congrArg nI (show (b2.ls o i).length - 1 = rest.length by omega)))))) dX12_sends_119 ?_
                refine g_icmp_geN (tgt := 201) B (by omega) (by omega) dX12_sends_120 (by decide) (fun c201 => ?_) (fun c201 => ?_)
                · have hxr : x2 = rest.length := by omega
                  subst hxr
                  have hk9 : ∀ k, k ≠ 39 → ar74 k = ar73 k := fun k h1 => hk74 k h1
                  have H3 : RepM (b2.w_ls (up2 b2.ls o i rest)) sc68 ar12 := H2.ls (fun k hk _ => (j3 k (by omega) (by omega) (by omega)).trans (hk9 k (by omega))) (RMls.pop (r := r) H2.2.2.2.2.2.2.2.1 (by rw [hls2]; exact fun x _ y _ => (i2.ls x y).1) (by rw [hls2]; exact hls) (by omega) (by rw [j3 39 (by decide) (by decide) (by decide), e39, show (b2.ls o i).length - 1 = rest.length by omega]) (fun j hj => by rw [← hk9 40 (by decide), ← hk9 41 (by decide), ← hk9 42 (by decide)]; exact j1 j hj) (fun y hy => by rw [← hk9 40 (by decide), ← hk9 41 (by decide), ← hk9 42 (by decide)]; exact j2 y (by omega)))
                  have hsd : b.send o i r rest = b2.w_ls (up2 b2.ls o i rest) := by rw [aA.send_eq, i3.2.1, hb1, hb2, hls2]
                  have hfb : cFit (b.cf 0) (b.cf 2) (b.ch o i (b.goal o i r)) = true := by rw [i3.2.1]; exact hfit
                  have W3 := i2.send (by rw [i3.2.2.2.2.2.1]; exact hbg) (show o + 1 < b.n by omega) (by omega) hls hfb
                  have hsl : aA.sendL o i rest (b.send o i r rest) = aA.sendL o i (a.ls o i) a := by rw [← i5, hls, aA.sendL_cons, if_pos hfb]
                  rw [← hsd] at H3
                  have hlr : (b.send o i r rest).ls o i = rest := up2_s
                  refine g_goto (tgt := 6) B dX12_sends_201 (by decide) ?_
                  refine g_pick [3, 4, 5, 6] rfl ?_
                  exact ih rest.length (by omega) (b.send o i r rest) _ _ _ _ (by rw [hlr]) P12 H3 W3 ((sSt.send b o i r rest).tr i3) i4 (by rw [hlr]; exact hsl)
                · refine g_aload_n B 4 dX12_sends_123 rfl ?_
                  refine m_geta B P12 F_X12_96_12 (by decide) (Or.inl rfl) dX12_sends_124 ?_
                  refine g_iconst (v := nI 3) B dX12_sends_127 (by decide) ?_
                  refine g_iload_n B 3 dX12_sends_128 rfl ?_
                  refine g_imulN B dX12_sends_129 ?_
                  refine g_iload B 0 dX12_sends_130 rfl ?_
                  refine g_iaddN B dX12_sends_132 ?_
                  refine g_aload_n B 4 dX12_sends_133 rfl ?_
                  refine m_geta B P12 F_X12_96_12 (by decide) (Or.inl rfl) dX12_sends_134 ?_
                  refine g_iconst (v := nI 3) B dX12_sends_137 (by decide) ?_
                  refine g_iload_n B 3 dX12_sends_138 rfl ?_
                  refine g_imulN B dX12_sends_139 ?_
                  refine g_iload B 0 dX12_sends_140 rfl ?_
                  refine g_iaddN B dX12_sends_142 ?_
                  refine g_iconst (v := nI 1) B dX12_sends_143 (by decide) ?_
                  refine g_iaddN B dX12_sends_144 ?_
                  refine m_ld B P12 (by decide) rfl rfl (by show _ < 54; omega) (by decide) rfl dX12_sends_145 ?_
                  refine m_st B P12 (by decide) rfl rfl (by show _ < 54; omega) (by decide) dX12_sends_146 (fun R202 ar202 hs202 hk202 P202 => ?_)
                  refine g_aload_n B 4 dX12_sends_147 rfl ?_
                  refine m_geta B P202 F_X12_99_12 (by decide) (Or.inl rfl) dX12_sends_148 ?_
                  refine g_iconst (v := nI 3) B dX12_sends_151 (by decide) ?_
                  refine g_iload_n B 3 dX12_sends_152 rfl ?_
                  refine g_imulN B dX12_sends_153 ?_
                  refine g_iload B 0 dX12_sends_154 rfl ?_
                  refine g_iaddN B dX12_sends_156 ?_
                  refine g_aload_n B 4 dX12_sends_157 rfl ?_
                  refine m_geta B P202 F_X12_99_12 (by decide) (Or.inl rfl) dX12_sends_158 ?_
                  refine g_iconst (v := nI 3) B dX12_sends_161 (by decide) ?_
                  refine g_iload_n B 3 dX12_sends_162 rfl ?_
                  refine g_imulN B dX12_sends_163 ?_
                  refine g_iload B 0 dX12_sends_164 rfl ?_
                  refine g_iaddN B dX12_sends_166 ?_
                  refine g_iconst (v := nI 1) B dX12_sends_167 (by decide) ?_
                  refine g_iaddN B dX12_sends_168 ?_
                  refine m_ld B P202 (by decide) rfl rfl (by show _ < 54; omega) (by decide) (show _ = (ar12 41 (((3 * (3 * o + i)) + x2) + 1)) from ((congrFun (hk202 41 (by decide)) _).trans rfl)) dX12_sends_169 ?_
                  refine m_st B P202 (by decide) rfl rfl (by show _ < 54; omega) (by decide) dX12_sends_170 (fun R203 ar203 hs203 hk203 P203 => ?_)
                  refine g_aload_n B 4 dX12_sends_171 rfl ?_
                  refine m_geta B P203 F_X12_102_12 (by decide) (Or.inl rfl) dX12_sends_172 ?_
                  refine g_iconst (v := nI 3) B dX12_sends_175 (by decide) ?_
                  refine g_iload_n B 3 dX12_sends_176 rfl ?_
                  refine g_imulN B dX12_sends_177 ?_
                  refine g_iload B 0 dX12_sends_178 rfl ?_
                  refine g_iaddN B dX12_sends_180 ?_
                  refine g_aload_n B 4 dX12_sends_181 rfl ?_
                  refine m_geta B P203 F_X12_102_12 (by decide) (Or.inl rfl) dX12_sends_182 ?_
                  refine g_iconst (v := nI 3) B dX12_sends_185 (by decide) ?_
                  refine g_iload_n B 3 dX12_sends_186 rfl ?_
                  refine g_imulN B dX12_sends_187 ?_
                  refine g_iload B 0 dX12_sends_188 rfl ?_
                  refine g_iaddN B dX12_sends_190 ?_
                  refine g_iconst (v := nI 1) B dX12_sends_191 (by decide) ?_
                  refine g_iaddN B dX12_sends_192 ?_
                  refine m_ld B P203 (by decide) rfl rfl (by show _ < 54; omega) (by decide) (show _ = (ar12 42 (((3 * (3 * o + i)) + x2) + 1)) from ((congrFun (hk203 42 (by decide)) _).trans ((congrFun (hk202 42 (by decide)) _).trans rfl))) dX12_sends_193 ?_
                  refine m_st B P203 (by decide) rfl rfl (by show _ < 54; omega) (by decide) dX12_sends_194 (fun R204 ar204 hs204 hk204 P204 => ?_)
                  refine g_iinc (v := nI (x2 + 1)) (lv2 := [(6, _), (5, _), (4, _), (3, _), (0, _), (1, _), (2, _)]) B 0 dX12_sends_195 rfl (nI_1 _) (by decide) rfl ?_
                  refine g_goto (tgt := 112) B dX12_sends_198 (by decide) ?_
                  have e40 : ar204 40 = va_up (ar12 40) ((3 * (3 * o + i)) + x2) (ar12 40 (((3 * (3 * o + i)) + x2) + 1)) := ((hk204 40 (by decide)).trans ((hk203 40 (by decide)).trans hs202))
                  have e41 : ar204 41 = va_up (ar12 41) ((3 * (3 * o + i)) + x2) (ar12 41 (((3 * (3 * o + i)) + x2) + 1)) := ((hk204 41 (by decide)).trans (hs203.trans (congrArg (fun g => va_up g ((3 * (3 * o + i)) + x2) (ar12 41 (((3 * (3 * o + i)) + x2) + 1))) (hk202 41 (by decide)))))
                  have e42 : ar204 42 = va_up (ar12 42) ((3 * (3 * o + i)) + x2) (ar12 42 (((3 * (3 * o + i)) + x2) + 1)) := (hs204.trans (congrArg (fun g => va_up g ((3 * (3 * o + i)) + x2) (ar12 42 (((3 * (3 * o + i)) + x2) + 1))) ((hk203 42 (by decide)).trans (hk202 42 (by decide)))))
                  have hnew : ∀ j, j < x2 + 1 → ar204 40 (3 * (3 * o + i) + j) = ar74 40 (3 * (3 * o + i) + j + 1) ∧ ar204 41 (3 * (3 * o + i) + j) = ar74 41 (3 * (3 * o + i) + j + 1) ∧ ar204 42 (3 * (3 * o + i) + j) = ar74 42 (3 * (3 * o + i) + j + 1) := fun j hj => by
                    rw [e40, e41, e42]
                    by_cases c : j = x2
                    · subst c; rw [va_ups, va_ups, va_ups]; exact j2 _ (Or.inr (by omega))
                    · rw [va_upe (by omega), va_upe (by omega), va_upe (by omega)]; exact j1 j (by omega)
                  have hold : ∀ y, (y < 3 * (3 * o + i) ∨ 3 * (3 * o + i) + (x2 + 1) ≤ y) → ar204 40 y = ar74 40 y ∧ ar204 41 y = ar74 41 y ∧ ar204 42 y = ar74 42 y := fun y hy => by
                    rw [e40, e41, e42, va_upe (by omega), va_upe (by omega), va_upe (by omega)]; exact j2 y (by omega)
                  exact ih2 (rest.length - (x2 + 1)) (by omega) (x2 + 1) _ _ _ rfl (by omega) P204 hnew hold (fun k h1 h2 h3 => ((hk204 k h3).trans ((hk203 k h2).trans (hk202 k h1))).trans (j3 k h1 h2 h3))
            exact L2 _ 0 _ _ _ rfl (Nat.zero_le _) P74 (fun j hj => absurd hj (Nat.not_lt_zero j)) (fun _ _ => ⟨rfl, rfl, rfl⟩) (fun _ _ _ _ => rfl)
        · refine g_iconst (v := nI 0) B dX12_sends_49 (by decide) ?_
          refine g_iret B E rfl rfl dX12_sends_50 ?_
          have hSL : aA.sendL o i (a.ls o i) a = (false, b) := by rw [← i5, hls, aA.sendL_cons, if_neg (by rw [i3.2.1, c67]; decide)]
          have hFL := aA.flush_0 hSL
          exact ⟨_, rfl, rfl, _, _, P1, by rw [hFL]; rfl, by rw [hFL]; exact i1⟩
  exact L _ a _ _ _ _ rfl P hR W sSt.rf rfl rfl
