set_option maxRecDepth 100000
/-- the spare batches: nodes with their batches, the last one first -/
def spv : List (Nat × Nat) → Value
  | [] => .null
  | p :: _ => .ref p.1
def xNd (Y : xY) (V : xVV) : List (Nat × Nat) → Prop
  | [] => True
  | p :: r => yAt Y 53 p.1 p.1 ∧ V 53 p.1 0 = .ref p.2 ∧ V 53 p.1 2 = spv r ∧ xNd Y V r
def xSp (Y : xY) (V : xVV) (x : Nat) (sp : List (Nat × Nat)) : Prop := yAt Y 33 0 x ∧ (∃ m, V 33 0 0 = .int m) ∧ V 33 0 1 = .int (nI sp.length) ∧ V 33 0 3 = spv sp ∧ xNd Y V sp ∧ (sp.map (fun p => p.1)).Nodup ∧ sp.length < 1000000
def sSp : Nat → Nat → Prop := fun r' o' => (r' = 33 ∧ o' = 0) ∨ r' = 53
theorem xNd.eq {Y Y1 : xY} {V V1 : xVV} : ∀ (sp : List (Nat × Nat)), xNd Y V sp → (∀ p, p ∈ sp → yAt Y1 53 p.1 p.1 ∧ V1 53 p.1 0 = V 53 p.1 0 ∧ V1 53 p.1 2 = V 53 p.1 2) → xNd Y1 V1 sp
  | [], _, _ => trivial
  | p :: r, h, e => by
    obtain ⟨h1, h2, h3, h4⟩ := h
    obtain ⟨e1, e2, e3⟩ := e p List.mem_cons_self
    exact ⟨e1, by rw [e2]; exact h2, by rw [e3]; exact h3, xNd.eq r h4 (fun q hq => e q (List.mem_cons_of_mem _ hq))⟩
theorem xNd.mem {Y : xY} {V : xVV} : ∀ (sp : List (Nat × Nat)), xNd Y V sp → ∀ p, p ∈ sp → yAt Y 53 p.1 p.1
  | [], _, p, hp => by cases hp
  | q :: r, h, p, hp => by
    rcases List.mem_cons.mp hp with e | e
    · rw [e]; exact h.1
    · exact xNd.mem r h.2.2.2 p e
theorem xSp.fr {S : Nat → Nat → Prop} {Y Y1 : xY} {V V1 : xVV} {I I1 : xII} {J J1 : xJJ} {A A1 : xVV} {x : Nat} {sp : List (Nat × Nat)} (d : xSp Y V x sp) (f : xFr S Y V I J A Y1 V1 I1 J1 A1) (h1 : ∀ r o, S r o → ¬ ((r = 33 ∧ o = 0) ∨ r = 53)) : xSp Y1 V1 x sp := by
  obtain ⟨g1, ⟨m, g2⟩, g3, g4, g5, g6, g7⟩ := d
  have e1 := (f.2 33 0 x g1 (fun e => h1 _ _ e (by omega))).1
  refine ⟨f.1.at g1, ⟨m, by rw [e1]; exact g2⟩, by rw [e1]; exact g3, by rw [e1]; exact g4, g5.eq sp (fun p hp => ?_), g6, g7⟩
  have h := g5.mem sp p hp
  have e2 := (f.2 53 p.1 p.1 h (fun e => h1 _ _ e (by omega))).1
  exact ⟨f.1.at h, by rw [e2], by rw [e2]⟩
theorem spv_ref (sp : List (Nat × Nat)) : spv sp = .null ∨ ∃ a, spv sp = .ref a := by
  cases sp with
  | nil => exact Or.inl rfl
  | cons p r => exact Or.inr ⟨_, rfl⟩
theorem c_J3_size {G : xG} {T : xT} {O R : xO} {Y : xY} {V : xVV} {I : xII} {J : xJJ} {A : xVV} {w0 : xW} {x : Nat} {sp : List (Nat × Nat)} (P : PX Y V I J A w0 T O R) (d : xSp Y V x sp) : xCtr G yJ3_size cJ3_size 1 (some Jvm.ClassFile.FieldType.int) 0 0 0 0 [.ref x] (T, O, R) (xA (fun v T2 O2 R2 => v = .int (nI sp.length) ∧ T2 = T ∧ O2 = O ∧ R2 = R)) := by
  have hd0 := d
  obtain ⟨g1, ⟨m, g2⟩, g3, g4, g5, g6, g7⟩ := d
  refine xCtr.of (by decide +kernel) (Nat.le_of_ble_eq_true rfl) ?_
  intro Z B E hz hnm
  change xV Z (T, O, R) 0 [(0, .ref x)] [] 0 0
  refine g_aload_n B 0 dJ3_size_0 rfl ?_
  refine x_get B P g1 (by decide) rfl F_J3_7_33 (by decide) g3 dJ3_size_1 ?_
  refine g_iret B E rfl rfl dJ3_size_4 ?_
  exact ⟨_, rfl, rfl, rfl, rfl, rfl⟩
theorem c_J3_isEmpty {G : xG} {T : xT} {O R : xO} {Y : xY} {V : xVV} {I : xII} {J : xJJ} {A : xVV} {w0 : xW} {x : Nat} {sp : List (Nat × Nat)} (P : PX Y V I J A w0 T O R) (d : xSp Y V x sp) : xCtr G yJ0_isEmpty cJ0_isEmpty 1 (some Jvm.ClassFile.FieldType.boolean) 1 20 0 0 [.ref x] (T, O, R) (xA (fun v T2 O2 R2 => v = .int (bI sp.isEmpty) ∧ T2 = T ∧ O2 = O ∧ R2 = R)) := by
  have hd0 := d
  obtain ⟨g1, ⟨m, g2⟩, g3, g4, g5, g6, g7⟩ := d
  refine xCtr.of (by decide +kernel) (Nat.le_of_ble_eq_true rfl) ?_
  intro Z B E hz hnm
  change xV Z (T, O, R) 0 [(0, .ref x)] [] 0 0
  refine g_aload_n B 0 dJ0_isEmpty_0 rfl ?_
  obtain ⟨n1, u1, ty1⟩ := P.ty g1 (by decide) rfl
  refine g_callA (rest := []) B (C := "java/util/LinkedList") (owner := "java/util/AbstractCollection") M_J3_size ⟨by decide +kernel, by decide +kernel, by decide +kernel⟩ q609 q611 q610 q620 q619 ty1 rfl (c_J3_size P hd0) rfl rfl (Nat.le_of_ble_eq_true rfl) (Nat.le_of_ble_eq_true rfl) (Nat.le_of_ble_eq_true rfl) (Nat.le_refl _) (Nat.le_refl _) dJ0_isEmpty_1 (xkA (fun v1 T1 O1 R1 le1 p1 => ?_))
  obtain ⟨rfl, eT1, eO1, eR1⟩ := p1
  obtain rfl := eT1.symm
  obtain rfl := eO1.symm
  obtain rfl := eR1.symm
  refine g_if_neN (tgt := 11) B (by omega) dJ0_isEmpty_4 (by decide) (fun c2 => ?_) (fun c2 => ?_)
  · refine g_iconst (v := nI 0) B dJ0_isEmpty_11 (by decide) ?_
    refine g_iret B E rfl rfl dJ0_isEmpty_12 ?_
    exact ⟨_, rfl, congrArg Value.int (by rw [show sp.isEmpty = false from by cases sp; exact absurd rfl c2; rfl]; rfl), rfl, rfl, rfl⟩
  · refine g_iconst (v := nI 1) B dJ0_isEmpty_7 (by decide) ?_
    refine g_goto (tgt := 12) B dJ0_isEmpty_8 (by decide) ?_
    refine g_iret B E rfl rfl dJ0_isEmpty_12 ?_
    exact ⟨_, rfl, congrArg Value.int (by rw [show sp.isEmpty = true from by cases sp; rfl; exact absurd c2 (by simp)]; rfl), rfl, rfl, rfl⟩
theorem rd2 {α : Type} {f g : Nat → Nat → Nat → α} {r o o' k j : Nat} {v w : α} (h : f r = va_up (g r) o (va_up (g r o) k v)) (hj : j ≠ k) (e : g r o' j = w) : f r o' j = w := by
  by_cases q : o' = o
  · subst q; exact rdK h hj e
  · exact rdO h q e
theorem c_J3_unlinkLast {G : xG} {T : xT} {O R : xO} {Y : xY} {V : xVV} {I : xII} {J : xJJ} {A : xVV} {w0 : xW} {x n b : Nat} {r : List (Nat × Nat)} (P : PX Y V I J A w0 T O R) (d : xSp Y V x ((n, b) :: r)) : xCtr G yJ3_unlinkLast cJ3_unlinkLast 4 (some (Jvm.ClassFile.FieldType.object "java/lang/Object")) 0 0 0 0 [.ref x, .ref n] (T, O, R) (xA (xP w0 (fun v Y2 V2 I2 J2 A2 => v = .ref b ∧ Y = Y2 ∧ I = I2 ∧ J = J2 ∧ A = A2 ∧ xSp Y V2 x r ∧ xFr sSp Y V I J A Y2 V2 I2 J2 A2))) := by
  have hd0 := d
  obtain ⟨g1, ⟨m, g2⟩, g3, g4, g5, g6, g7⟩ := d
  obtain ⟨k1, k2, k3, k4⟩ := g5
  refine xCtr.of (by decide +kernel) (Nat.le_of_ble_eq_true rfl) ?_
  intro Z B E hz hnm
  change xV Z (T, O, R) 0 [(0, .ref x), (1, .ref n)] [] 0 0
  cases r with
  | nil =>
    refine g_aload_n B 1 dJ3_unlinkLast_0 rfl ?_
    refine x_get B P k1 (by decide) rfl F_J3_39_53 (by decide) k2 dJ3_unlinkLast_1 ?_
    refine g_astore_n (lv2 := [(2, _), (0, _), (1, _)]) B dJ3_unlinkLast_4 (by decide) rfl ?_
    refine g_aload_n B 2 dJ3_unlinkLast_5 rfl ?_
    refine x_get B P k1 (by decide) rfl F_J3_30_53 (by decide) k3 dJ3_unlinkLast_6 ?_
    refine g_astore_nN (lv2 := [(3, _), (2, _), (0, _), (1, _)]) B dJ3_unlinkLast_9 (by decide) rfl ?_
    refine g_aload_n B 3 dJ3_unlinkLast_10 rfl ?_
    refine g_null B dJ3_unlinkLast_11 ?_
    refine x_put (q := (RJ23, TJ23, 3)) B P k1 (by decide) rfl F_J3_39_53 rfl rfl (tyJ23_ok 0 (by decide)) rfl rfl dJ3_unlinkLast_12 (fun O1 V1 hs1 hk1 P1 => ?_)
    refine g_aload_n B 3 dJ3_unlinkLast_15 rfl ?_
    refine g_null B dJ3_unlinkLast_16 ?_
    refine x_put (q := (RJ23, TJ23, 3)) B P1 k1 (by decide) rfl F_J3_30_53 rfl rfl (tyJ23_ok 2 (by decide)) rfl rfl dJ3_unlinkLast_17 (fun O2 V2 hs2 hk2 P2 => ?_)
    refine g_aload_n B 2 dJ3_unlinkLast_20 rfl ?_
    refine g_aload_nN B 0 dJ3_unlinkLast_21 rfl ?_
    refine x_put (q := (RJ3, TJ3, 4)) B P2 g1 (by decide) rfl F_J3_27_33 rfl rfl (tyJ3_ok 3 (by decide)) rfl rfl dJ3_unlinkLast_22 (fun O3 V3 hs3 hk3 P3 => ?_)
    refine g_aload_nN B 0 dJ3_unlinkLast_25 rfl ?_
    refine g_ifnonnullN B dJ3_unlinkLast_26 ?_
    refine g_aload_n B 2 dJ3_unlinkLast_29 rfl ?_
    refine g_null B dJ3_unlinkLast_30 ?_
    refine x_put (q := (RJ3, TJ3, 4)) B P3 g1 (by decide) rfl F_J3_18_33 rfl rfl (tyJ3_ok 2 (by decide)) rfl rfl dJ3_unlinkLast_31 (fun O4 V4 hs4 hk4 P4 => ?_)
    refine g_goto (tgt := 42) B dJ3_unlinkLast_34 (by decide) ?_
    refine g_aload_n B 2 dJ3_unlinkLast_42 rfl ?_
    refine g_dup B dJ3_unlinkLast_43 rfl ?_
    refine x_get B P4 g1 (by decide) rfl F_J3_7_33 (by decide) (rdK hs4 (by decide) (rdK hs3 (by decide) (rdR hk2 (by decide) (rdR hk1 (by decide) g3)))) dJ3_unlinkLast_44 ?_
    refine g_iconst (v := nI 1) B dJ3_unlinkLast_47 (by decide) ?_
    refine g_isubN B (by first | omega | (simp <;> omega)) dJ3_unlinkLast_48 ?_
    refine x_put (q := (RJ3, TJ3, 4)) B P4 g1 (by decide) rfl F_J3_7_33 rfl rfl (tyJ3_ok 1 (by decide)) rfl rfl dJ3_unlinkLast_49 (fun O5 V5 hs5 hk5 P5 => ?_)
    refine g_aload_n B 2 dJ3_unlinkLast_52 rfl ?_
    refine g_dup B dJ3_unlinkLast_53 rfl ?_
    refine x_get B P5 g1 (by decide) rfl F_J3_33_33 (by decide) (rdK hs5 (by decide) (rdK hs4 (by decide) (rdK hs3 (by decide) (rdR hk2 (by decide) (rdR hk1 (by decide) g2))))) dJ3_unlinkLast_54 ?_
    refine g_iconst (v := nI 1) B dJ3_unlinkLast_57 (by decide) ?_
    refine g_iadd B dJ3_unlinkLast_58 ?_
    refine x_put (q := (RJ3, TJ3, 4)) B P5 g1 (by decide) rfl F_J3_33_33 rfl rfl (tyJ3_ok 0 (by decide)) rfl rfl dJ3_unlinkLast_59 (fun O6 V6 hs6 hk6 P6 => ?_)
    refine g_aload_n B 1 dJ3_unlinkLast_62 rfl ?_
    refine g_aret B E rfl (Or.inl ⟨_, rfl⟩) (Or.inr ⟨_, rfl⟩) dJ3_unlinkLast_63 ?_
    exact ⟨_, rfl, _, _, _, _, _, P6, rfl, rfl, rfl, rfl, rfl, ⟨g1, ⟨_, (rdS hs6)⟩, (rdK hs6 (by decide) (rdS hs5)), ((rdK hs6 (by decide) (rdK hs5 (by decide) (rdK hs4 (by decide) (rdS hs3))))), trivial, List.nodup_nil, by decide⟩, ((xFr.uV (S := sSp) (r := 53) (o := n) (by unfold sSp; omega) hs1 hk1).tr ((xFr.uV (S := sSp) (r := 53) (o := n) (by unfold sSp; omega) hs2 hk2).tr ((xFr.uV (S := sSp) (r := 33) (o := 0) (by unfold sSp; omega) hs3 hk3).tr ((xFr.uV (S := sSp) (r := 33) (o := 0) (by unfold sSp; omega) hs4 hk4).tr ((xFr.uV (S := sSp) (r := 33) (o := 0) (by unfold sSp; omega) hs5 hk5).tr (xFr.uV (S := sSp) (r := 33) (o := 0) (by unfold sSp; omega) hs6 hk6))))))⟩
  | cons p r2 =>
    have g6n := (List.nodup_cons.mp g6).1
    have hnp : n ≠ p.1 := fun e => g6n (by rw [e]; exact List.mem_map.mpr ⟨p, List.mem_cons_self, rfl⟩)
    refine g_aload_n B 1 dJ3_unlinkLast_0 rfl ?_
    refine x_get B P k1 (by decide) rfl F_J3_39_53 (by decide) k2 dJ3_unlinkLast_1 ?_
    refine g_astore_n (lv2 := [(2, _), (0, _), (1, _)]) B dJ3_unlinkLast_4 (by decide) rfl ?_
    refine g_aload_n B 2 dJ3_unlinkLast_5 rfl ?_
    refine x_get B P k1 (by decide) rfl F_J3_30_53 (by decide) k3 dJ3_unlinkLast_6 ?_
    refine g_astore_n (lv2 := [(3, _), (2, _), (0, _), (1, _)]) B dJ3_unlinkLast_9 (by decide) rfl ?_
    refine g_aload_n B 3 dJ3_unlinkLast_10 rfl ?_
    refine g_null B dJ3_unlinkLast_11 ?_
    refine x_put (q := (RJ23, TJ23, 3)) B P k1 (by decide) rfl F_J3_39_53 rfl rfl (tyJ23_ok 0 (by decide)) rfl rfl dJ3_unlinkLast_12 (fun O7 V7 hs7 hk7 P7 => ?_)
    refine g_aload_n B 3 dJ3_unlinkLast_15 rfl ?_
    refine g_null B dJ3_unlinkLast_16 ?_
    refine x_put (q := (RJ23, TJ23, 3)) B P7 k1 (by decide) rfl F_J3_30_53 rfl rfl (tyJ23_ok 2 (by decide)) rfl rfl dJ3_unlinkLast_17 (fun O8 V8 hs8 hk8 P8 => ?_)
    refine g_aload_n B 2 dJ3_unlinkLast_20 rfl ?_
    refine g_aload_n B 0 dJ3_unlinkLast_21 rfl ?_
    refine x_put (q := (RJ3, TJ3, 4)) B P8 g1 (by decide) rfl F_J3_27_33 rfl rfl (tyJ3_ok 3 (by decide)) rfl rfl dJ3_unlinkLast_22 (fun O9 V9 hs9 hk9 P9 => ?_)
    refine g_aload_n B 0 dJ3_unlinkLast_25 rfl ?_
    refine g_ifnonnull (tgt := 37) B dJ3_unlinkLast_26 (by decide) ?_
    refine g_aload_n B 0 dJ3_unlinkLast_37 rfl ?_
    refine g_null B dJ3_unlinkLast_38 ?_
    refine x_put (q := (RJ23, TJ23, 3)) B P9 k4.1 (by decide) rfl F_J3_36_53 rfl rfl (tyJ23_ok 1 (by decide)) rfl rfl dJ3_unlinkLast_39 (fun O10 V10 hs10 hk10 P10 => ?_)
    refine g_aload_n B 2 dJ3_unlinkLast_42 rfl ?_
    refine g_dup B dJ3_unlinkLast_43 rfl ?_
    refine x_get B P10 g1 (by decide) rfl F_J3_7_33 (by decide) (rdR hk10 (by decide) (rdK hs9 (by decide) (rdR hk8 (by decide) (rdR hk7 (by decide) g3)))) dJ3_unlinkLast_44 ?_
    refine g_iconst (v := nI 1) B dJ3_unlinkLast_47 (by decide) ?_
    refine g_isubN B (by first | omega | (simp <;> omega)) dJ3_unlinkLast_48 ?_
    refine x_put (q := (RJ3, TJ3, 4)) B P10 g1 (by decide) rfl F_J3_7_33 rfl rfl (tyJ3_ok 1 (by decide)) rfl rfl dJ3_unlinkLast_49 (fun O11 V11 hs11 hk11 P11 => ?_)
    refine g_aload_n B 2 dJ3_unlinkLast_52 rfl ?_
    refine g_dup B dJ3_unlinkLast_53 rfl ?_
    refine x_get B P11 g1 (by decide) rfl F_J3_33_33 (by decide) (rdK hs11 (by decide) (rdR hk10 (by decide) (rdK hs9 (by decide) (rdR hk8 (by decide) (rdR hk7 (by decide) g2))))) dJ3_unlinkLast_54 ?_
    refine g_iconst (v := nI 1) B dJ3_unlinkLast_57 (by decide) ?_
    refine g_iadd B dJ3_unlinkLast_58 ?_
    refine x_put (q := (RJ3, TJ3, 4)) B P11 g1 (by decide) rfl F_J3_33_33 rfl rfl (tyJ3_ok 0 (by decide)) rfl rfl dJ3_unlinkLast_59 (fun O12 V12 hs12 hk12 P12 => ?_)
    refine g_aload_n B 1 dJ3_unlinkLast_62 rfl ?_
    refine g_aret B E rfl (Or.inl ⟨_, rfl⟩) (Or.inr ⟨_, rfl⟩) dJ3_unlinkLast_63 ?_
    have hz : ∀ q, q ∈ (p :: r2) → V12 53 q.1 0 = V 53 q.1 0 ∧ V12 53 q.1 2 = V 53 q.1 2 := fun q hq => by
      have hqn : q.1 ≠ n := fun e => g6n (by rw [← e]; exact List.mem_map.mpr ⟨q, hq, rfl⟩)
      exact ⟨(rdR hk12 (by decide) (rdR hk11 (by decide) (rd2 hs10 (by decide) (rdR hk9 (by decide) (rdO hs8 hqn (rdO hs7 hqn rfl)))))), (rdR hk12 (by decide) (rdR hk11 (by decide) (rd2 hs10 (by decide) (rdR hk9 (by decide) (rdO hs8 hqn (rdO hs7 hqn rfl))))))⟩
    exact ⟨_, rfl, _, _, _, _, _, P12, rfl, rfl, rfl, rfl, rfl, ⟨g1, ⟨_, (rdS hs12)⟩, (rdK hs12 (by decide) (rdS hs11)), (rdK hs12 (by decide) (rdK hs11 (by decide) (rdR hk10 (by decide) (rdS hs9)))), xNd.eq (V := V) _ k4 (fun q hq => ⟨xNd.mem _ k4 q hq, hz q hq⟩), (List.nodup_cons.mp g6).2, by simp at g7 ⊢; omega⟩, ((xFr.uV (S := sSp) (r := 53) (o := n) (by unfold sSp; omega) hs7 hk7).tr ((xFr.uV (S := sSp) (r := 53) (o := n) (by unfold sSp; omega) hs8 hk8).tr ((xFr.uV (S := sSp) (r := 33) (o := 0) (by unfold sSp; omega) hs9 hk9).tr ((xFr.uV (S := sSp) (r := 53) (o := p.1) (by unfold sSp; omega) hs10 hk10).tr ((xFr.uV (S := sSp) (r := 33) (o := 0) (by unfold sSp; omega) hs11 hk11).tr (xFr.uV (S := sSp) (r := 33) (o := 0) (by unfold sSp; omega) hs12 hk12))))))⟩
theorem c_J3_removeLast {G : xG} {T : xT} {O R : xO} {Y : xY} {V : xVV} {I : xII} {J : xJJ} {A : xVV} {w0 : xW} {x n b : Nat} {r : List (Nat × Nat)} (P : PX Y V I J A w0 T O R) (d : xSp Y V x ((n, b) :: r)) : xCtr G yJ3_removeLast cJ3_removeLast 2 (some (Jvm.ClassFile.FieldType.object "java/lang/Object")) 1 23 0 0 [.ref x] (T, O, R) (xA (xP w0 (fun v Y2 V2 I2 J2 A2 => v = .ref b ∧ Y = Y2 ∧ I = I2 ∧ J = J2 ∧ A = A2 ∧ xSp Y V2 x r ∧ xFr sSp Y V I J A Y2 V2 I2 J2 A2))) := by
  have hd0 := d
  obtain ⟨g1, ⟨m, g2⟩, g3, g4, g5, g6, g7⟩ := d
  obtain ⟨k1, k2, k3, k4⟩ := g5
  refine xCtr.of (by decide +kernel) (Nat.le_of_ble_eq_true rfl) ?_
  intro Z B E hz hnm
  change xV Z (T, O, R) 0 [(0, .ref x)] [] 0 0
  refine g_aload_n B 0 dJ3_removeLast_0 rfl ?_
  refine x_get B P g1 (by decide) rfl F_J3_27_33 (by decide) g4 dJ3_removeLast_1 ?_
  refine g_astore_n (lv2 := [(1, _), (0, _)]) B dJ3_removeLast_4 (by decide) rfl ?_
  refine g_aload_n B 0 dJ3_removeLast_5 rfl ?_
  refine g_ifnonnull (tgt := 17) B dJ3_removeLast_6 (by decide) ?_
  refine g_aload_n B 1 dJ3_removeLast_17 rfl ?_
  refine g_aload_n B 0 dJ3_removeLast_18 rfl ?_
  obtain ⟨n1, u1, ty1⟩ := P.ty g1 (by decide) rfl
  refine g_callV (rest := []) B M_J3_unlinkLast q653 q655 qs6 ty1 rfl (c_J3_unlinkLast P hd0) rfl rfl (Nat.le_of_ble_eq_true rfl) (Nat.le_of_ble_eq_true rfl) (Nat.le_of_ble_eq_true rfl) (Nat.le_refl _) (Nat.le_refl _) dJ3_removeLast_19 (xkA (fun v1 T1 O1 R1 le1 p1 => ?_))
  obtain ⟨Y1, V1, I1, J1, A1, P1, rfl, rfl, rfl, rfl, rfl, d1, f1⟩ := p1
  refine g_aret B E rfl (Or.inl ⟨_, rfl⟩) (Or.inr ⟨_, rfl⟩) dJ3_removeLast_22 ?_
  exact ⟨_, rfl, _, _, _, _, _, P1, rfl, rfl, rfl, rfl, rfl, d1, f1⟩
theorem c_J23_initN {G : xG} {T : xT} {O R : xO} {Y : xY} {V : xVV} {I : xII} {J : xJJ} {A : xVV} {w0 : xW} {n b : Nat} (P : PX Y V I J A w0 T O R) (hat : yAt Y 53 n n) : xCtr G yJ23_init cJ23_init 4 none 1 20 0 0 [.ref n, .null, .ref b, .null] (T, O, R) (xN (xPN w0 (fun Y2 V2 I2 J2 A2 => Y = Y2 ∧ I = I2 ∧ J = J2 ∧ A = A2 ∧ V2 53 n 0 = .ref b ∧ V2 53 n 2 = .null ∧ xFr (s1 53 n) Y V I J A Y2 V2 I2 J2 A2))) := by
  refine xCtr.of (by decide +kernel) (Nat.le_of_ble_eq_true rfl) ?_
  intro Z B E hz hnm
  change xV Z (T, O, R) 0 [(0, .ref n), (1, .null), (2, .ref b), (3, .null)] [] 0 0
  refine g_aload_n B 0 dJ23_init_0 rfl ?_
  refine g_objInit B q1608 q161 q162 (by decide) (by decide) dJ23_init_1 ?_
  refine g_aload_n B 0 dJ23_init_4 rfl ?_
  refine g_aload_n B 2 dJ23_init_5 rfl ?_
  refine x_put (q := (RJ23, TJ23, 3)) B P hat (by decide) rfl F_J23_7_53 rfl rfl (tyJ23_ok 0 (by decide)) rfl rfl dJ23_init_6 (fun O1 V1 hs1 hk1 P1 => ?_)
  refine g_aload_n B 0 dJ23_init_9 rfl ?_
  refine g_aload_nN B 3 dJ23_init_10 rfl ?_
  refine x_put (q := (RJ23, TJ23, 3)) B P1 hat (by decide) rfl F_J23_13_53 rfl rfl (tyJ23_ok 1 (by decide)) rfl rfl dJ23_init_11 (fun O2 V2 hs2 hk2 P2 => ?_)
  refine g_aload_n B 0 dJ23_init_14 rfl ?_
  refine g_aload_nN B 1 dJ23_init_15 rfl ?_
  refine x_put (q := (RJ23, TJ23, 3)) B P2 hat (by decide) rfl F_J23_17_53 rfl rfl (tyJ23_ok 2 (by decide)) rfl rfl dJ23_init_16 (fun O3 V3 hs3 hk3 P3 => ?_)
  refine g_vret B E rfl dJ23_init_19 ?_
  exact ⟨rfl, _, _, _, _, _, P3, rfl, rfl, rfl, rfl, rdK hs3 (by decide) (rdK hs2 (by decide) (rdS hs1)), rdS hs3, ((xFr.uV ⟨rfl, rfl⟩ hs1 hk1).tr (xFr.uV ⟨rfl, rfl⟩ hs2 hk2)).tr (xFr.uV ⟨rfl, rfl⟩ hs3 hk3)⟩
theorem c_J23_initR {G : xG} {T : xT} {O R : xO} {Y : xY} {V : xVV} {I : xII} {J : xJJ} {A : xVV} {w0 : xW} {n b pa : Nat} (P : PX Y V I J A w0 T O R) (hat : yAt Y 53 n n) : xCtr G yJ23_init cJ23_init 4 none 1 20 0 0 [.ref n, .ref pa, .ref b, .null] (T, O, R) (xN (xPN w0 (fun Y2 V2 I2 J2 A2 => Y = Y2 ∧ I = I2 ∧ J = J2 ∧ A = A2 ∧ V2 53 n 0 = .ref b ∧ V2 53 n 2 = .ref pa ∧ xFr (s1 53 n) Y V I J A Y2 V2 I2 J2 A2))) := by
  refine xCtr.of (by decide +kernel) (Nat.le_of_ble_eq_true rfl) ?_
  intro Z B E hz hnm
  change xV Z (T, O, R) 0 [(0, .ref n), (1, .ref pa), (2, .ref b), (3, .null)] [] 0 0
  refine g_aload_n B 0 dJ23_init_0 rfl ?_
  refine g_objInit B q1608 q161 q162 (by decide) (by decide) dJ23_init_1 ?_
  refine g_aload_n B 0 dJ23_init_4 rfl ?_
  refine g_aload_n B 2 dJ23_init_5 rfl ?_
  refine x_put (q := (RJ23, TJ23, 3)) B P hat (by decide) rfl F_J23_7_53 rfl rfl (tyJ23_ok 0 (by decide)) rfl rfl dJ23_init_6 (fun O1 V1 hs1 hk1 P1 => ?_)
  refine g_aload_n B 0 dJ23_init_9 rfl ?_
  refine g_aload_nN B 3 dJ23_init_10 rfl ?_
  refine x_put (q := (RJ23, TJ23, 3)) B P1 hat (by decide) rfl F_J23_13_53 rfl rfl (tyJ23_ok 1 (by decide)) rfl rfl dJ23_init_11 (fun O2 V2 hs2 hk2 P2 => ?_)
  refine g_aload_n B 0 dJ23_init_14 rfl ?_
  refine g_aload_n B 1 dJ23_init_15 rfl ?_
  refine x_put (q := (RJ23, TJ23, 3)) B P2 hat (by decide) rfl F_J23_17_53 rfl rfl (tyJ23_ok 2 (by decide)) rfl rfl dJ23_init_16 (fun O3 V3 hs3 hk3 P3 => ?_)
  refine g_vret B E rfl dJ23_init_19 ?_
  exact ⟨rfl, _, _, _, _, _, P3, rfl, rfl, rfl, rfl, rdK hs3 (by decide) (rdK hs2 (by decide) (rdS hs1)), rdS hs3, ((xFr.uV ⟨rfl, rfl⟩ hs1 hk1).tr (xFr.uV ⟨rfl, rfl⟩ hs2 hk2)).tr (xFr.uV ⟨rfl, rfl⟩ hs3 hk3)⟩
theorem c_J3_linkLast {G : xG} {T : xT} {O R : xO} {Y : xY} {V : xVV} {I : xII} {J : xJJ} {A : xVV} {w0 : xW} {x : Nat} {sp : List (Nat × Nat)} {b : Nat} (P : PX Y V I J A w0 T O R) (d : xSp Y V x sp) (hlt : sp.length + 1 < 1000000) : xCtr G yJ3_linkLast cJ3_linkLast 4 none 2 43 1 3 [.ref x, .ref b] (T, O, R) (xN (xPN w0 (fun Y2 V2 I2 J2 A2 => I = I2 ∧ J = J2 ∧ A = A2 ∧ ∃ q, (∀ x, ¬ yAt Y 53 q x) ∧ xSp Y2 V2 x ((q, b) :: sp) ∧ xFr sSp Y V I J A Y2 V2 I2 J2 A2))) := by
  have hd0 := d
  obtain ⟨g1, ⟨m, g2⟩, g3, g4, g5, g6, g7⟩ := d
  refine xCtr.of (by decide +kernel) (Nat.le_of_ble_eq_true rfl) ?_
  intro Z B E hz hnm
  change xV Z (T, O, R) 0 [(0, .ref x), (1, .ref b)] [] 1 3
  cases sp with
  | nil =>
    refine g_aload_n B 0 dJ3_linkLast_0 rfl ?_
    refine x_get B P g1 (by decide) rfl F_J3_27_33 (by decide) g4 dJ3_linkLast_1 ?_
    refine g_astore_nN (lv2 := [(2, _), (0, _), (1, _)]) B dJ3_linkLast_4 (by decide) rfl ?_
    refine x_new (kc := 0) (ks := 0) (t := 53) B P 53 0 (fun q => q) (by decide) rfl (by unfold okT; decide) tyJ23 rfl (fun k hk => tyJ23_ok k hk) q1603 q1604 q144 (fun q hq x => P.fresh hq _ _ (by unfold idR; decide)) (fun _ _ => rfl) dJ3_linkLast_5 (fun q1 Y1 V1 T1 O1 hq1 le1 gr1 hf1 at1 hK1 hs1 hk1 P1 => ?_)
    refine g_dup B dJ3_linkLast_8 rfl ?_
    refine g_aload_nN B 0 dJ3_linkLast_9 rfl ?_
    refine g_aload_n B 2 dJ3_linkLast_10 rfl ?_
    refine g_null B dJ3_linkLast_11 ?_
    refine g_callI (rest := [_]) B M_J23_init rfl q1605 q1606 (c_J23_initN P1 at1) rfl rfl (Nat.le_of_ble_eq_true rfl) (Nat.le_of_ble_eq_true rfl) (Nat.le_of_ble_eq_true rfl) (Nat.le_refl _) (Nat.le_refl _) dJ3_linkLast_12 (xkN (fun T2 O2 R2 le2 p2 => ?_))
    obtain ⟨Y2, V2, I2, J2, A2, P2, rfl, rfl, rfl, rfl, e02, e22, f2⟩ := p2
    have n02 : V2 33 0 = V 33 0 := ((f2.2 33 0 x (le1.at g1) (fun e => by unfold s1 at e; omega)).1).trans (hk1 33 (by decide) |> fun e => congrFun e 0)
    refine g_astore_n (lv2 := [(3, _), (2, _), (0, _), (1, _)]) B dJ3_linkLast_15 (by decide) rfl ?_
    refine g_aload_n B 2 dJ3_linkLast_16 rfl ?_
    refine g_aload_n B 0 dJ3_linkLast_17 rfl ?_
    refine x_put (q := (RJ3, TJ3, 4)) B P2 (le1.at g1) (by decide) rfl F_J3_27_33 rfl rfl (tyJ3_ok 3 (by decide)) rfl rfl dJ3_linkLast_18 (fun O3 V3 hs3 hk3 P3 => ?_)
    refine g_aload_nN B 1 dJ3_linkLast_21 rfl ?_
    refine g_ifnonnullN B dJ3_linkLast_22 ?_
    refine g_aload_n B 2 dJ3_linkLast_25 rfl ?_
    refine g_aload_n B 0 dJ3_linkLast_26 rfl ?_
    refine x_put (q := (RJ3, TJ3, 4)) B P3 (le1.at g1) (by decide) rfl F_J3_18_33 rfl rfl (tyJ3_ok 2 (by decide)) rfl rfl dJ3_linkLast_27 (fun O4 V4 hs4 hk4 P4 => ?_)
    refine g_goto (tgt := 38) B dJ3_linkLast_30 (by decide) ?_
    refine g_aload_n B 2 dJ3_linkLast_38 rfl ?_
    refine g_dup B dJ3_linkLast_39 rfl ?_
    refine x_get B P4 (le1.at g1) (by decide) rfl F_J3_7_33 (by decide) (rdK hs4 (by decide) (rdK hs3 (by decide) ((congrFun n02 1).trans g3))) dJ3_linkLast_40 ?_
    refine g_iconst (v := nI 1) B dJ3_linkLast_43 (by decide) ?_
    refine g_iaddN B dJ3_linkLast_44 ?_
    refine x_put (q := (RJ3, TJ3, 4)) B P4 (le1.at g1) (by decide) rfl F_J3_7_33 rfl rfl (tyJ3_ok 1 (by decide)) rfl rfl dJ3_linkLast_45 (fun O5 V5 hs5 hk5 P5 => ?_)
    refine g_aload_n B 2 dJ3_linkLast_48 rfl ?_
    refine g_dup B dJ3_linkLast_49 rfl ?_
    refine x_get B P5 (le1.at g1) (by decide) rfl F_J3_33_33 (by decide) (rdK hs5 (by decide) (rdK hs4 (by decide) (rdK hs3 (by decide) ((congrFun n02 0).trans g2)))) dJ3_linkLast_50 ?_
    refine g_iconst (v := nI 1) B dJ3_linkLast_53 (by decide) ?_
    refine g_iadd B dJ3_linkLast_54 ?_
    refine x_put (q := (RJ3, TJ3, 4)) B P5 (le1.at g1) (by decide) rfl F_J3_33_33 rfl rfl (tyJ3_ok 0 (by decide)) rfl rfl dJ3_linkLast_55 (fun O6 V6 hs6 hk6 P6 => ?_)
    refine g_vret B E rfl dJ3_linkLast_58 ?_
    have hz : ∀ y, y ∈ ([] : List (Nat × Nat)) → yAt Y1 53 y.1 y.1 ∧ V6 53 y.1 0 = V 53 y.1 0 ∧ V6 53 y.1 2 = V 53 y.1 2 := fun y hy => by
      have hyat := xNd.mem (Y := Y) (V := V) _ g5 y hy
      have hyn : y.1 ≠ q1 := fun e => hf1 y.1 (by rw [← e]; exact hyat)
      have e1 : V2 53 y.1 = V1 53 y.1 := (f2.2 53 y.1 y.1 (le1.at hyat) (fun e => hyn (by unfold s1 at e; exact e.2))).1
      exact ⟨le1.at hyat, (rdR hk6 (by decide) (rdR hk5 (by decide) (rdR hk4 (by decide) (rdR hk3 (by decide) ((congrFun e1 0).trans (rdO hs1 hyn rfl)))))), (rdR hk6 (by decide) (rdR hk5 (by decide) (rdR hk4 (by decide) (rdR hk3 (by decide) ((congrFun e1 2).trans (rdO hs1 hyn rfl))))))⟩
    refine ⟨rfl, _, _, _, _, _, P6, rfl, rfl, rfl, q1, hf1, ⟨le1.at g1, ⟨_, (rdS hs6)⟩, ((rdK hs6 (by decide) (rdS hs5))).trans rfl, (rdK hs6 (by decide) (rdK hs5 (by decide) (rdK hs4 (by decide) (rdS hs3)))), ⟨at1, (rdR hk6 (by decide) (rdR hk5 (by decide) (rdR hk4 (by decide) (rdR hk3 (by decide) e02)))), (rdR hk6 (by decide) (rdR hk5 (by decide) (rdR hk4 (by decide) (rdR hk3 (by decide) e22)))), xNd.eq (Y := Y) (V := V) ([] : List (Nat × Nat)) g5 hz⟩, List.nodup_cons.mpr ⟨fun hm => ?_, g6⟩, hlt⟩, ((xFr.nV (S := sSp) (r := 53) (o := q1) (by unfold sSp; omega) le1 gr1 hs1 hk1).tr (f2.mono (S2 := sSp) (fun r o e => by unfold s1 at e; unfold sSp; omega))).tr ((xFr.uV (S := sSp) (r := 33) (o := 0) (by unfold sSp; omega) hs3 hk3).tr ((xFr.uV (S := sSp) (r := 33) (o := 0) (by unfold sSp; omega) hs4 hk4).tr ((xFr.uV (S := sSp) (r := 33) (o := 0) (by unfold sSp; omega) hs5 hk5).tr (xFr.uV (S := sSp) (r := 33) (o := 0) (by unfold sSp; omega) hs6 hk6))))⟩
    obtain ⟨y, hy, he⟩ := List.mem_map.mp hm
    exact hf1 y.1 (by rw [← show y.1 = q1 from he]; exact xNd.mem (Y := Y) (V := V) ([] : List (Nat × Nat)) g5 y hy)
  | cons p r2 =>
    refine g_aload_n B 0 dJ3_linkLast_0 rfl ?_
    refine x_get B P g1 (by decide) rfl F_J3_27_33 (by decide) g4 dJ3_linkLast_1 ?_
    refine g_astore_n (lv2 := [(2, _), (0, _), (1, _)]) B dJ3_linkLast_4 (by decide) rfl ?_
    refine x_new (kc := 0) (ks := 0) (t := 53) B P 53 0 (fun q => q) (by decide) rfl (by unfold okT; decide) tyJ23 rfl (fun k hk => tyJ23_ok k hk) q1603 q1604 q144 (fun q hq x => P.fresh hq _ _ (by unfold idR; decide)) (fun _ _ => rfl) dJ3_linkLast_5 (fun q7 Y7 V7 T7 O7 hq7 le7 gr7 hf7 at7 hK7 hs7 hk7 P7 => ?_)
    refine g_dup B dJ3_linkLast_8 rfl ?_
    refine g_aload_n B 0 dJ3_linkLast_9 rfl ?_
    refine g_aload_n B 2 dJ3_linkLast_10 rfl ?_
    refine g_null B dJ3_linkLast_11 ?_
    refine g_callI (rest := [_]) B M_J23_init rfl q1605 q1606 (c_J23_initR P7 at7) rfl rfl (Nat.le_of_ble_eq_true rfl) (Nat.le_of_ble_eq_true rfl) (Nat.le_of_ble_eq_true rfl) (Nat.le_refl _) (Nat.le_refl _) dJ3_linkLast_12 (xkN (fun T8 O8 R8 le8 p8 => ?_))
    obtain ⟨Y8, V8, I8, J8, A8, P8, rfl, rfl, rfl, rfl, e08, e28, f8⟩ := p8
    have n08 : V8 33 0 = V 33 0 := ((f8.2 33 0 x (le7.at g1) (fun e => by unfold s1 at e; omega)).1).trans (hk7 33 (by decide) |> fun e => congrFun e 0)
    refine g_astore_n (lv2 := [(3, _), (2, _), (0, _), (1, _)]) B dJ3_linkLast_15 (by decide) rfl ?_
    refine g_aload_n B 2 dJ3_linkLast_16 rfl ?_
    refine g_aload_n B 0 dJ3_linkLast_17 rfl ?_
    refine x_put (q := (RJ3, TJ3, 4)) B P8 (le7.at g1) (by decide) rfl F_J3_27_33 rfl rfl (tyJ3_ok 3 (by decide)) rfl rfl dJ3_linkLast_18 (fun O9 V9 hs9 hk9 P9 => ?_)
    refine g_aload_n B 1 dJ3_linkLast_21 rfl ?_
    refine g_ifnonnull (tgt := 33) B dJ3_linkLast_22 (by decide) ?_
    refine g_aload_n B 1 dJ3_linkLast_33 rfl ?_
    refine g_aload_n B 0 dJ3_linkLast_34 rfl ?_
    refine x_put (q := (RJ23, TJ23, 3)) B P9 (le7.at g5.1) (by decide) rfl F_J3_36_53 rfl rfl (tyJ23_ok 1 (by decide)) rfl rfl dJ3_linkLast_35 (fun O10 V10 hs10 hk10 P10 => ?_)
    refine g_aload_n B 2 dJ3_linkLast_38 rfl ?_
    refine g_dup B dJ3_linkLast_39 rfl ?_
    refine x_get B P10 (le7.at g1) (by decide) rfl F_J3_7_33 (by decide) (rdR hk10 (by decide) (rdK hs9 (by decide) ((congrFun n08 1).trans g3))) dJ3_linkLast_40 ?_
    refine g_iconst (v := nI 1) B dJ3_linkLast_43 (by decide) ?_
    refine g_iaddN B dJ3_linkLast_44 ?_
    refine x_put (q := (RJ3, TJ3, 4)) B P10 (le7.at g1) (by decide) rfl F_J3_7_33 rfl rfl (tyJ3_ok 1 (by decide)) rfl rfl dJ3_linkLast_45 (fun O11 V11 hs11 hk11 P11 => ?_)
    refine g_aload_n B 2 dJ3_linkLast_48 rfl ?_
    refine g_dup B dJ3_linkLast_49 rfl ?_
    refine x_get B P11 (le7.at g1) (by decide) rfl F_J3_33_33 (by decide) (rdK hs11 (by decide) (rdR hk10 (by decide) (rdK hs9 (by decide) ((congrFun n08 0).trans g2)))) dJ3_linkLast_50 ?_
    refine g_iconst (v := nI 1) B dJ3_linkLast_53 (by decide) ?_
    refine g_iadd B dJ3_linkLast_54 ?_
    refine x_put (q := (RJ3, TJ3, 4)) B P11 (le7.at g1) (by decide) rfl F_J3_33_33 rfl rfl (tyJ3_ok 0 (by decide)) rfl rfl dJ3_linkLast_55 (fun O12 V12 hs12 hk12 P12 => ?_)
    refine g_vret B E rfl dJ3_linkLast_58 ?_
    have hz : ∀ y, y ∈ (p :: r2) → yAt Y7 53 y.1 y.1 ∧ V12 53 y.1 0 = V 53 y.1 0 ∧ V12 53 y.1 2 = V 53 y.1 2 := fun y hy => by
      have hyat := xNd.mem (Y := Y) (V := V) _ g5 y hy
      have hyn : y.1 ≠ q7 := fun e => hf7 y.1 (by rw [← e]; exact hyat)
      have e1 : V8 53 y.1 = V7 53 y.1 := (f8.2 53 y.1 y.1 (le7.at hyat) (fun e => hyn (by unfold s1 at e; exact e.2))).1
      exact ⟨le7.at hyat, (rdR hk12 (by decide) (rdR hk11 (by decide) (rd2 hs10 (by decide) (rdR hk9 (by decide) ((congrFun e1 0).trans (rdO hs7 hyn rfl)))))), (rdR hk12 (by decide) (rdR hk11 (by decide) (rd2 hs10 (by decide) (rdR hk9 (by decide) ((congrFun e1 2).trans (rdO hs7 hyn rfl))))))⟩
    refine ⟨rfl, _, _, _, _, _, P12, rfl, rfl, rfl, q7, hf7, ⟨le7.at g1, ⟨_, (rdS hs12)⟩, ((rdK hs12 (by decide) (rdS hs11))).trans rfl, (rdK hs12 (by decide) (rdK hs11 (by decide) (rdR hk10 (by decide) (rdS hs9)))), ⟨at7, (rdR hk12 (by decide) (rdR hk11 (by decide) (rd2 hs10 (by decide) (rdR hk9 (by decide) e08)))), (rdR hk12 (by decide) (rdR hk11 (by decide) (rd2 hs10 (by decide) (rdR hk9 (by decide) e28)))), xNd.eq (Y := Y) (V := V) (p :: r2) g5 hz⟩, List.nodup_cons.mpr ⟨fun hm => ?_, g6⟩, hlt⟩, ((xFr.nV (S := sSp) (r := 53) (o := q7) (by unfold sSp; omega) le7 gr7 hs7 hk7).tr (f8.mono (S2 := sSp) (fun r o e => by unfold s1 at e; unfold sSp; omega))).tr ((xFr.uV (S := sSp) (r := 33) (o := 0) (by unfold sSp; omega) hs9 hk9).tr ((xFr.uV (S := sSp) (r := 53) (o := p.1) (by unfold sSp; omega) hs10 hk10).tr ((xFr.uV (S := sSp) (r := 33) (o := 0) (by unfold sSp; omega) hs11 hk11).tr (xFr.uV (S := sSp) (r := 33) (o := 0) (by unfold sSp; omega) hs12 hk12))))⟩
    obtain ⟨y, hy, he⟩ := List.mem_map.mp hm
    exact hf7 y.1 (by rw [← show y.1 = q7 from he]; exact xNd.mem (Y := Y) (V := V) (p :: r2) g5 y hy)
theorem c_J3_addLast {G : xG} {T : xT} {O R : xO} {Y : xY} {V : xVV} {I : xII} {J : xJJ} {A : xVV} {w0 : xW} {x : Nat} {sp : List (Nat × Nat)} {b : Nat} (P : PX Y V I J A w0 T O R) (d : xSp Y V x sp) (hlt : sp.length + 1 < 1000000) : xCtr G yJ3_addLast cJ3_addLast 2 none 3 66 1 3 [.ref x, .ref b] (T, O, R) (xN (xPN w0 (fun Y2 V2 I2 J2 A2 => I = I2 ∧ J = J2 ∧ A = A2 ∧ ∃ q, (∀ x, ¬ yAt Y 53 q x) ∧ xSp Y2 V2 x ((q, b) :: sp) ∧ xFr sSp Y V I J A Y2 V2 I2 J2 A2))) := by
  have hd0 := d
  obtain ⟨g1, ⟨m, g2⟩, g3, g4, g5, g6, g7⟩ := d
  refine xCtr.of (by decide +kernel) (Nat.le_of_ble_eq_true rfl) ?_
  intro Z B E hz hnm
  change xV Z (T, O, R) 0 [(0, .ref x), (1, .ref b)] [] 1 3
  refine g_aload_n B 0 dJ3_addLast_0 rfl ?_
  refine g_aload_n B 1 dJ3_addLast_1 rfl ?_
  obtain ⟨n1, u1, ty1⟩ := P.ty g1 (by decide) rfl
  refine g_callV (kc2 := 0) (ks2 := 0) (rest := []) B M_J3_linkLast q1599 q1600 q1601 ty1 rfl (c_J3_linkLast P hd0 hlt) rfl rfl (Nat.le_of_ble_eq_true rfl) (Nat.le_of_ble_eq_true rfl) (Nat.le_of_ble_eq_true rfl) (by decide) (by decide) dJ3_addLast_2 (xkN (fun T1 O1 R1 le1 p1 => ?_))
  obtain ⟨Y1, V1, I1, J1, A1, P1, rfl, rfl, rfl, qa1, hq1, d1, f1⟩ := p1
  refine g_vret B E rfl dJ3_addLast_5 ?_
  exact ⟨rfl, _, _, _, _, _, P1, rfl, rfl, rfl, qa1, hq1, d1, f1⟩
