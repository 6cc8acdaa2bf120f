set_option maxRecDepth 100000
theorem sNB_no {Y : xY} {sp : List (Nat × Nat)} {b : Nat} (hb : b ∉ sp.map (fun p => p.2)) (ha : yAt Y 11 b b) : ∀ r, rB r → ¬ sNB Y sp r b := fun r hr e => by
  have := rB_no hr
  rcases e with e | ⟨-, e | e⟩
  · omega
  · exact hb e
  · exact e b ha
theorem lCh_nd {ob : Nat} {bs : List Nat} {sp : List (Nat × Nat)} (h : (lCh ob bs sp).Nodup) : ob ∉ sp.map (fun p => p.2) ∧ ob ∉ bs ∧ ∀ b, b ∈ bs → b ∉ sp.map (fun p => p.2) := by
  unfold lCh at h
  rw [List.cons_append, List.nodup_cons, List.nodup_append] at h
  refine ⟨fun q => h.1 (List.mem_append.mpr (Or.inr q)), fun q => h.1 (List.mem_append.mpr (Or.inl q)), fun b hb q => h.2.2.2 b hb b q rfl⟩
theorem lCh_sp {ob : Nat} {bs : List Nat} {sp : List (Nat × Nat)} (h : (lCh ob bs sp).Nodup) : (sp.map (fun p => p.2)).Nodup := (List.nodup_append.mp h).2.1
theorem lOk_close {Y : xY} {ob b : Nat} {bs : List Nat} {sp sp2 : List (Nat × Nat)} (hL : (lCh ob bs sp).Nodup) (hA : ∀ c, c ∈ lCh ob bs sp → yAt Y 11 c c) (ht : sp2 = sp.tail) (hn : sp = [] → ∀ x, ¬ yAt Y 11 b x) (hc : ∀ p r, sp = p :: r → b = p.2) : lOk Y (lCh ob bs sp) (lCh b (bs ++ [ob]) sp2) := by
  subst ht
  cases sp with
  | nil =>
    have hf := hn rfl
    have e : (lCh b (bs ++ [ob]) ([] : List (Nat × Nat)).tail).Perm (b :: lCh ob bs []) := List.perm_iff_count.mpr (fun a => by simp [lCh, List.count_cons] <;> omega)
    refine ⟨e.nodup_iff.mpr (List.nodup_cons.mpr ⟨fun q => hf b (hA b q), hL⟩), fun c hcm => ?_⟩
    rcases List.mem_cons.mp (e.mem_iff.mp hcm) with q | q
    · rw [q]; exact Or.inr hf
    · exact Or.inl q
  | cons p r =>
    have hb := hc p r rfl
    subst hb
    have e : (lCh p.2 (bs ++ [ob]) (p :: r).tail).Perm (lCh ob bs (p :: r)) := List.perm_iff_count.mpr (fun a => by simp [lCh, List.count_cons, List.count_append]; omega)
    exact ⟨e.nodup_iff.mpr hL, fun c hcm => Or.inl (e.mem_iff.mp hcm)⟩
theorem xCo.mem {Y : xY} {V : xVV} {I : xII} {A : xVV} {h x ob : Nat} {qs : List (Option (List aRec))} {it : Option (List aRec)} {bs : List Nat} {R : Nat} {sp : List (Nat × Nat)} (C : xCo Y V I A h x qs ob it bs R) (dsb : xSB Y V sp) : ∀ c, c ∈ lCh ob bs sp → yAt Y 11 c c := fun c hc => by
  unfold lCh at hc
  rcases List.mem_append.mp hc with q | q
  · rcases List.mem_cons.mp q with q | q
    · rw [q]; exact C.2.2.1.2.a.1
    · exact (xQs.mem bs qs C.2.2.2.2.2.2 c q).1
  · obtain ⟨p, hp, rfl⟩ := List.mem_map.mp q
    exact (dsb p hp).1
theorem xSB.tail {Y : xY} {V : xVV} {sp : List (Nat × Nat)} (h : xSB Y V sp) : xSB Y V sp.tail := fun p hp => h p (List.mem_of_mem_tail hp)
theorem sDq_no {h r b : Nat} (hr : rB r) : ¬ sDq h r b := fun e => by unfold sDq at e; unfold rB at hr; omega
theorem sNB_sCh {Y : xY} {h ob : Nat} {bs : List Nat} {sp : List (Nat × Nat)} : ∀ r o, sNB Y sp r o → sCh Y h (lCh ob bs sp) r o := fun r o e => by
  rcases e with e | ⟨e1, e2⟩
  · exact Or.inr (Or.inl e)
  · refine Or.inr (Or.inr ⟨e1, ?_⟩)
    rcases e2 with e2 | e2
    · exact Or.inl (List.mem_append.mpr (Or.inr e2))
    · exact Or.inr e2
theorem sDq_sCh {Y : xY} {h : Nat} {L : List Nat} : ∀ r o, sDq h r o → sCh Y h L r o := fun r o e => Or.inl (by unfold sDq at e; omega)

theorem c_X10_close {G : xG} {T : xT} {O R : xO} {Y : xY} {V : xVV} {I : xII} {J : xJJ} {A : xVV} {w0 : xW} {x0 xl bz old cr h x ob rc : Nat} {qs : List (Option (List aRec))} {it : Option (List aRec)} {bs : List Nat} {sp : List (Nat × Nat)} (P : PX Y V I J A w0 T O R) (hsm : xSm Y V x0 xl bz old cr) (C : xCo Y V I A h x qs ob it bs rc) (dsp : xSp Y V xl sp) (dsb : xSB Y V sp) (hL : (lCh ob bs sp).Nodup) (hR : rc = qLen (qs ++ [it])) (hlen : bs.length + 1 ≤ 8) : xCtr G yX10_close cX10_close 1 none 3 64 (4 * cB 1 sp) (18 * cB 1 sp) [.ref x] (T, O, R) (xN (xPN w0 (fun Y2 V2 I2 J2 A2 => J = J2 ∧ ∃ b sp2, xCh Y2 V2 I2 A2 h x (qs ++ [it], [], 0) b (bs ++ [ob]) ∧ xSp Y2 V2 xl sp2 ∧ xSB Y2 V2 sp2 ∧ sp2 = sp.tail ∧ lOk Y (lCh ob bs sp) (lCh b (bs ++ [ob]) sp2) ∧ xFr (sCh Y h (lCh ob bs sp)) Y V I J A Y2 V2 I2 J2 A2))) := by
  have h0 := hsm.1
  have hC := C
  obtain ⟨g1, ⟨xd, g2, dq⟩, ⟨g3, qi⟩, ⟨ag, g4⟩, g5, ⟨x0b, k0, g6⟩, g7⟩ := C
  obtain rfl := P.fn h0 k0
  refine xCtr.of (by decide +kernel) (Nat.le_of_ble_eq_true rfl) ?_
  intro Z B E hz hnm
  change xV Z (T, O, R) 0 [(0, .ref x)] [] (4 * cB 1 sp) (18 * cB 1 sp)
  refine g_aload_n B 0 dX10_close_0 rfl ?_
  refine x_get B P g1 (by decide) rfl F_X10_16_10 (by decide) g2 dX10_close_1 ?_
  refine g_aload_n B 0 dX10_close_4 rfl ?_
  refine x_get B P g1 (by decide) rfl F_X10_26_10 (by decide) g3 dX10_close_5 ?_
  obtain ⟨n1, u1, ty1⟩ := P.ty dq.1 (by decide) rfl
  refine g_callV (rest := []) B M_J11_addLast q1296 q1297 q1298 ty1 rfl (c_J11_addLast P dq (by omega) qi.a.1) rfl rfl (Nat.le_of_ble_eq_true rfl) (Nat.le_of_ble_eq_true rfl) (Nat.le_of_ble_eq_true rfl) (Nat.le_refl _) (Nat.le_refl _) dX10_close_8 (xkN (fun T1 O1 R1 le1 p1 => ?_))
  obtain ⟨Y1, V1, I1, J1, A1, P1, rfl, rfl, rfl, d1, f1⟩ := p1
  have n1 : V1 10 h = V 10 h := (f1.2 10 h x g1 (fun e => by unfold sDq at e; omega)).1
  refine g_aload_n B 0 dX10_close_11 rfl ?_
  refine g_aload_n B 0 dX10_close_12 rfl ?_
  refine x_get B P1 g1 (by decide) rfl F_X10_1_10 (by decide) ((congrFun n1 4).trans g6) dX10_close_13 ?_
  obtain ⟨n2, u2, ty2⟩ := P1.ty h0 (by decide) rfl
  have sm1 := hsm.fr f1 (fun e => by unfold sDq at e; omega)
  have sp1 := dsp.fr f1 (fun r o e => by unfold sDq at e; omega)
  have sb1 := dsb.fr f1 (fun p hp e => sDq_no (Or.inl rfl) e)
  refine g_callVN (kc2 := 0) (ks2 := 0) (rest := [_]) B M_X0_batch q599 q601 qs5 ty2 rfl (c_X0_batch P1 sm1 sp1 sb1 (lCh_sp hL)) rfl rfl (Nat.le_of_ble_eq_true rfl) (Nat.le_of_ble_eq_true rfl) (Nat.le_of_ble_eq_true rfl) (Nat.le_of_eq (Nat.zero_add _)) (Nat.le_of_eq (Nat.zero_add _)) dX10_close_16 (xkA (fun v2 T2 O2 R2 le2 p2 => ?_))
  obtain ⟨Y2, V2, I2, J2, A2, P2, rfl, rfl, b2, sp2, rfl, db2, ds2, sb2, ht2, hn2, hc2, f2⟩ := p2
  refine x_put (q := (RX10, TX10, 5)) B P2 (f2.1.at g1) (by decide) rfl F_X10_26_10 rfl rfl (tyX10_ok 1 (by decide)) rfl rfl dX10_close_19 (fun O3 V3 hs3 hk3 P3 => ?_)
  refine g_aload_n B 0 dX10_close_22 rfl ?_
  refine g_iconst (v := nI 0) B dX10_close_23 (by decide) ?_
  refine x_put (q := (RX10, TX10, 5)) B P3 (f2.1.at g1) (by decide) rfl F_X10_42_10 rfl rfl (tyX10_ok 2 (by decide)) rfl rfl dX10_close_24 (fun O4 V4 hs4 hk4 P4 => ?_)
  refine g_vret B E rfl dX10_close_27 ?_
  obtain ⟨nd1, nd2, nd3⟩ := lCh_nd hL
  have hbs : ∀ c, c ∈ bs → ∀ r, rB r → ¬ sNB Y sp r c := fun c hc r hr => sNB_no (nd3 c hc) (xQs.mem bs qs g7 c hc).1 r hr
  have hob : ∀ r, rB r → ¬ sNB Y sp r ob := fun r hr => sNB_no nd1 qi.a.1 r hr
  have fz : xFr (s1 10 h) Y2 V2 I2 J A1 Y2 V4 I2 J A1 := (xFr.uV ⟨rfl, rfl⟩ hs3 hk3).tr (xFr.uV ⟨rfl, rfl⟩ hs4 hk4)
  have n2 : V2 10 h = V1 10 h := (f2.2 10 h x g1 (fun e => by rcases e with e | e; omega; have := rB_no e.1; omega)).1
  have hdq := (d1.fr f2 (fun e => by rcases e with e | e; omega; have := rB_no e.1; omega) (fun e => by rcases e with e | e; omega; have := rB_no e.1; omega)).fr fz (fun e => by unfold s1 at e; omega) (fun e => by unfold s1 at e; omega)
  have hqs := xQs.fr fz bs qs (xQs.fr f2 bs qs (xQs.fr f1 bs qs g7 (fun c hc r hr => sDq_no hr)) hbs) (fun c hc r hr e => by have := rB_no hr; unfold s1 at e; omega)
  have hqi := ((qi.fr f1 (fun r hr => sDq_no hr)).fr f2 hob).fr fz (fun r hr e => by have := rB_no hr; unfold s1 at e; omega)
  have hsp := ds2.fr fz (fun r o e => by unfold s1 at e; omega)
  have hsb := sb2.fr fz (fun p hp e => by unfold s1 at e; omega)
  exact ⟨rfl, _, _, _, _, _, P4, rfl, b2, sp2, ⟨f2.1.at g1, ⟨xd, rdK hs4 (by decide) (rdK hs3 (by decide) ((congrFun n2 0).trans ((congrFun n1 0).trans g2))), hdq⟩, ⟨rdK hs4 (by decide) (rdS hs3), db2.fr fz (fun r hr e => by have := rB_no hr; unfold s1 at e; omega)⟩, rdS hs4, (rdK hs4 (by decide) (rdK hs3 (by decide) ((congrFun n2 3).trans ((congrFun n1 3).trans g5)))).trans (congrArg (fun z => Value.int (nI z)) (by rw [hR]; simp [cRecs])), ⟨x0, f2.1.at h0, rdK hs4 (by decide) (rdK hs3 (by decide) ((congrFun n2 4).trans ((congrFun n1 4).trans g6)))⟩, xQs.app hqi bs qs hqs⟩, hsp, hsb, ht2, lOk_close hL (hC.mem dsb) ht2 hn2 hc2, (f1.mono sDq_sCh).tr ((f2.mono sNB_sCh).tr (fz.mono (fun r o e => Or.inl (by unfold s1 at e; omega))))⟩
