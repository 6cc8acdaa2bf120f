set_option maxRecDepth 100000
/-- what a channel reads of the whole: the spare list, the batches' size, the greatest age, the credits -/
def xSm (Y : xY) (V : xVV) (x0 xl bz old cr : Nat) : Prop := yAt Y 0 0 x0 ∧ V 0 0 0 = .ref xl ∧ V 0 0 1 = .int (nI bz) ∧ V 0 0 2 = .int (nI old) ∧ V 0 0 3 = .int (nI cr)
theorem xSm.fr {S : Nat → Nat → Prop} {Y Y1 : xY} {V V1 : xVV} {I I1 : xII} {J J1 : xJJ} {A A1 : xVV} {x0 xl bz old cr : Nat} (d : xSm Y V x0 xl bz old cr) (f : xFr S Y V I J A Y1 V1 I1 J1 A1) (h : ¬ S 0 0) : xSm Y1 V1 x0 xl bz old cr := by
  have e := (f.2 0 0 x0 d.1 h).1
  exact ⟨f.1.at d.1, by rw [e]; exact d.2.1, by rw [e]; exact d.2.2.1, by rw [e]; exact d.2.2.2.1, by rw [e]; exact d.2.2.2.2⟩
/-- a channel whose pending batch is about to be closed: it holds the item it; R: the records in all -/
def xCo (Y : xY) (V : xVV) (I : xII) (A : xVV) (h x : Nat) (qs : List (Option (List aRec))) (ob : Nat) (it : Option (List aRec)) (bs : List Nat) (R : Nat) : Prop :=
  yAt Y 10 h x ∧ (∃ xd, V 10 h 0 = .ref xd ∧ xDq Y V A h xd bs) ∧ (V 10 h 1 = .ref ob ∧ xQi Y V I ob it) ∧ (∃ g, V 10 h 2 = .int g) ∧ V 10 h 3 = .int (nI R) ∧ (∃ x0, yAt Y 0 0 x0 ∧ V 10 h 4 = .ref x0) ∧ xQs Y V I bs qs
def sNB (Y : xY) (sp : List (Nat × Nat)) : Nat → Nat → Prop := fun r o => ((r = 33 ∧ o = 0) ∨ r = 53) ∨ (rB r ∧ (o ∈ sp.map (fun p => p.2) ∨ ∀ x, ¬ yAt Y 11 o x))
theorem qLen_app (q : List (Option (List aRec))) (it : Option (List aRec)) : qLen (q ++ [it]) = qLen q + (it.getD []).length := by simp [qLen]
theorem cRecs_close (c : aCh) : cRecs (cClose c) = cRecs c := by
  unfold cRecs cClose
  rw [qLen_app]
  simp
theorem xCh.co {Y : xY} {V : xVV} {I : xII} {A : xVV} {h x ob : Nat} {c : aCh} {bs : List Nat} (d : xCh Y V I A h x c ob bs) : xCo Y V I A h x c.1 ob (some c.2.1) bs (cRecs c) := by
  obtain ⟨g1, g2, ⟨g3, g4⟩, g5, g6, g7, g8⟩ := d
  exact ⟨g1, g2, ⟨g3, 0, g4⟩, ⟨_, g5⟩, g6, g7, g8⟩
theorem rB_no {r : Nat} (h : rB r) : r ≠ 10 ∧ r ≠ 41 ∧ r ≠ 5001 ∧ r ≠ 33 ∧ r ≠ 53 ∧ r ≠ 0 := by unfold rB at h; omega
theorem c_X0_batch {G : xG} {T : xT} {O R : xO} {Y : xY} {V : xVV} {I : xII} {J : xJJ} {A : xVV} {w0 : xW} {x0 xl bz old cr : Nat} {sp : List (Nat × Nat)} (P : PX Y V I J A w0 T O R) (hsm : xSm Y V x0 xl bz old cr) (dsp : xSp Y V xl sp) (dsb : xSB Y V sp) (hnd : (sp.map (fun p => p.2)).Nodup) : xCtr G yX0_batch cX0_batch 1 (some (Jvm.ClassFile.FieldType.object "PipelineSimulator$Batch")) 2 44 (4 * cB 1 sp) (18 * cB 1 sp) [.ref x0] (T, O, R) (xA (xP w0 (fun v Y2 V2 I2 J2 A2 => J = J2 ∧ A = A2 ∧ ∃ b sp2, v = .ref b ∧ xBt Y2 V2 I2 b 0 false [] ∧ xSp Y2 V2 xl sp2 ∧ xSB Y2 V2 sp2 ∧ sp2 = sp.tail ∧ (sp = [] → ∀ x, ¬ yAt Y 11 b x) ∧ (∀ p r, sp = p :: r → b = p.2) ∧ xFr (sNB Y sp) Y V I J A Y2 V2 I2 J2 A2))) := by
  have h0 := hsm.1
  refine xCtr.of (by decide +kernel) (Nat.le_of_ble_eq_true rfl) ?_
  intro Z B E hz hnm
  change xV Z (T, O, R) 0 [(0, .ref x0)] [] (4 * cB 1 sp) (18 * cB 1 sp)
  cases sp with
  | nil =>
    change xV Z (T, O, R) 0 [(0, .ref x0)] [] 4 18
    refine g_aload_n B 0 dX0_batch_0 rfl ?_
    refine x_get B P h0 (by decide) rfl F_X0_69_0 (by decide) hsm.2.1 dX0_batch_1 ?_
    obtain ⟨n1, u1, ty1⟩ := P.ty dsp.1 (by decide) rfl
    refine g_callU (rest := []) B (C := "java/util/LinkedList") (owner := "java/util/AbstractCollection") M_J0_isEmpty rfl q603 q604 q607 q606 ty1 rfl (c_J3_isEmpty P dsp) rfl rfl (Nat.le_of_ble_eq_true rfl) (Nat.le_of_ble_eq_true rfl) (Nat.le_of_ble_eq_true rfl) (Nat.le_refl _) (Nat.le_refl _) dX0_batch_4 (xkA (fun v1 T1 O1 R1 le1 p1 => ?_))
    obtain ⟨rfl, eT1, eO1, eR1⟩ := p1
    obtain rfl := eT1.symm
    obtain rfl := eO1.symm
    obtain rfl := eR1.symm
    refine g_if_eqB (tgt := 20) B dX0_batch_7 (by decide) (fun e => nomatch e) (fun _ => ?_)
    refine x_new (kc := 3) (ks := 12) (t := 11) B P 11 0 (fun q => q) (by decide) rfl (by unfold okT; decide) tyX11 rfl (fun k hk => tyX11_ok k hk) q622 q623 q122 (fun q hq x => P.fresh hq _ _ (by unfold idR; decide)) (fun _ _ => rfl) dX0_batch_10 (fun q2 Y2 V2 T2 O2 hq2 le2 gr2 hf2 at2 hK2 hs2 hk2 P2 => ?_)
    refine g_dup B dX0_batch_13 rfl ?_
    refine g_callIN (kc2 := 0) (ks2 := 0) (rest := [_]) B M_X11_init rfl q624 q625 (c_X11_init P2 at2 (rdN hs2 rfl) (rdN hs2 rfl) (rdN hs2 rfl) (fun x e => by rcases gr2 1001 q2 x e with e2 | e2; exact P.fresh hq2 1001 x (by unfold idR; decide) e2; exact absurd e2.1 (by decide)) (fun x e => by rcases gr2 1002 q2 x e with e2 | e2; exact P.fresh hq2 1002 x (by unfold idR; decide) e2; exact absurd e2.1 (by decide)) (fun x e => by rcases gr2 1003 q2 x e with e2 | e2; exact P.fresh hq2 1003 x (by unfold idR; decide) e2; exact absurd e2.1 (by decide))) rfl rfl (Nat.le_of_ble_eq_true rfl) (Nat.le_of_ble_eq_true rfl) (Nat.le_of_ble_eq_true rfl) (by decide) (by decide) dX0_batch_14 (xkN (fun T3 O3 R3 le3 p3 => ?_))
    obtain ⟨Y3, V3, I3, J3, A3, P3, rfl, rfl, d3, f3⟩ := p3
    refine g_goto (tgt := 33) B dX0_batch_17 (by decide) ?_
    refine g_aret B E rfl (Or.inl ⟨_, rfl⟩) (Or.inr ⟨_, rfl⟩) dX0_batch_33 ?_
    have fa := (xFr.nV (S := sNB Y []) (I := I) (J := J) (A := A) (r := 11) (o := q2) (Or.inr ⟨Or.inl rfl, Or.inr hf2⟩) le2 gr2 hs2 hk2).tr (f3.mono (S2 := sNB Y []) (fun r o e => Or.inr ⟨e.1, Or.inr (by rw [e.2]; exact hf2)⟩))
    have fa2 := (xFr.nV (S := sBt q2) (I := I) (J := J) (A := A) (r := 11) (o := q2) ⟨Or.inl rfl, rfl⟩ le2 gr2 hs2 hk2).tr f3
    exact ⟨_, rfl, _, _, _, _, _, P3, rfl, rfl, _, [], rfl, d3, dsp.fr fa2 (fun r o e => by have := rB_no e.1; omega), (fun p hp => by cases hp), rfl, (fun _ => hf2), (fun p r e => by cases e), fa⟩
  | cons p sp2 =>
    change xV Z (T, O, R) 0 [(0, .ref x0)] [] (4 * (1 - (sp2.length + 1))) (18 * (1 - (sp2.length + 1)))
    rw [show 1 - (sp2.length + 1) = 0 by omega]
    change xV Z (T, O, R) 0 [(0, .ref x0)] [] 0 0
    have hba := dsb p List.mem_cons_self
    refine g_aload_n B 0 dX0_batch_0 rfl ?_
    refine x_get B P h0 (by decide) rfl F_X0_69_0 (by decide) hsm.2.1 dX0_batch_1 ?_
    obtain ⟨n4, u4, ty4⟩ := P.ty dsp.1 (by decide) rfl
    refine g_callU (rest := []) B (C := "java/util/LinkedList") (owner := "java/util/AbstractCollection") M_J0_isEmpty rfl q603 q604 q607 q606 ty4 rfl (c_J3_isEmpty P dsp) rfl rfl (Nat.le_of_ble_eq_true rfl) (Nat.le_of_ble_eq_true rfl) (Nat.le_of_ble_eq_true rfl) (Nat.le_refl _) (Nat.le_refl _) dX0_batch_4 (xkA (fun v4 T4 O4 R4 le4 p4 => ?_))
    obtain ⟨rfl, eT4, eO4, eR4⟩ := p4
    obtain rfl := eT4.symm
    obtain rfl := eO4.symm
    obtain rfl := eR4.symm
    refine g_if_eqB (tgt := 20) B dX0_batch_7 (by decide) (fun _ => ?_) (fun e => nomatch e)
    refine g_aload_n B 0 dX0_batch_20 rfl ?_
    refine x_get B P h0 (by decide) rfl F_X0_69_0 (by decide) hsm.2.1 dX0_batch_21 ?_
    obtain ⟨n5, u5, ty5⟩ := P.ty dsp.1 (by decide) rfl
    refine g_callV (rest := []) B M_J3_removeLast q649 q650 q651 ty5 rfl (c_J3_removeLast P dsp) rfl rfl (Nat.le_of_ble_eq_true rfl) (Nat.le_of_ble_eq_true rfl) (Nat.le_of_ble_eq_true rfl) (Nat.le_refl _) (Nat.le_refl _) dX0_batch_24 (xkA (fun v5 T5 O5 R5 le5 p5 => ?_))
    obtain ⟨Y5, V5, I5, J5, A5, P5, rfl, rfl, rfl, rfl, rfl, d5, f5⟩ := p5
    have hba2 := hba.fr f5 (fun e => by unfold sSp at e; omega)
    obtain ⟨n6, u6, ty6⟩ := P5.ty hba.1 (by decide) rfl
    refine g_castS (q := (RX11, TX11, 6)) B ty6 rfl q622 dX0_batch_27 ?_
    obtain ⟨n7, u7, ty7⟩ := P5.ty hba.1 (by decide) rfl
    refine g_callV (rest := []) B M_X11_clear q657 q658 q659 ty7 rfl (c_X11_clear P5 hba2) rfl rfl (Nat.le_of_ble_eq_true rfl) (Nat.le_of_ble_eq_true rfl) (Nat.le_of_ble_eq_true rfl) (Nat.le_refl _) (Nat.le_refl _) dX0_batch_30 (xkA (fun v7 T7 O7 R7 le7 p7 => ?_))
    obtain ⟨Y7, V7, I7, J7, A7, P7, rfl, rfl, rfl, rfl, d7, f7⟩ := p7
    refine g_aret B E rfl (Or.inl ⟨_, rfl⟩) (Or.inr ⟨_, rfl⟩) dX0_batch_33 ?_
    have fa := (f5.mono (S2 := sNB Y (p :: sp2)) (fun r o e => Or.inl e)).tr (f7.mono (S2 := sNB Y (p :: sp2)) (fun r o e => Or.inr ⟨e.1, Or.inl (by rw [e.2]; simp)⟩))
    exact ⟨_, rfl, _, _, _, _, _, P7, rfl, rfl, _, sp2, rfl, d7, d5.fr f7 (fun r o e => by have := rB_no e.1; omega), (fun q hq => ((dsb q (List.mem_cons_of_mem _ hq)).fr f5 (fun e => by unfold sSp at e; omega)).fr f7 (fun e => (List.nodup_cons.mp hnd).1 (List.mem_map.mpr ⟨q, hq, e.2⟩))), rfl, (fun e => nomatch e), (fun q r e => by cases e; rfl), fa⟩
