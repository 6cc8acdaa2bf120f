set_option maxRecDepth 100000
/-- a list of things by their addresses; g0: the JDK's own empty array -/
def xAl (Y : xY) (V A : xVV) (r rd x g0 : Nat) (l : List Nat) : Prop := yAt Y r 0 x ∧ (∃ m, V r 0 0 = .int m) ∧ V r 0 2 = .int (nI l.length) ∧ l.length ≤ 100 ∧
  ((l = [] ∧ V r 0 1 = .ref g0) ∨ ∃ id xd, V r 0 1 = .ref xd ∧ yAt Y rd id xd ∧ l.length ≤ yN Y rd id ∧ 10 ≤ yN Y rd id ∧ yN Y rd id ≤ 300 ∧ ∀ j, j < l.length → A rd id j = .ref (l.getD j 0))
def sAl (r rd : Nat) : Nat → Nat → Prop := fun r' o' => (r' = r ∧ o' = 0) ∨ r' = rd
theorem xAl.fr {S : Nat → Nat → Prop} {Y Y1 : xY} {V V1 : xVV} {I I1 : xII} {J J1 : xJJ} {A A1 : xVV} {r rd x g0 : Nat} {l : List Nat} (d : xAl Y V A r rd x g0 l) (f : xFr S Y V I J A Y1 V1 I1 J1 A1) (h1 : ¬ S r 0) (h2 : ∀ o, ¬ S rd o) : xAl Y1 V1 A1 r rd x g0 l := by
  obtain ⟨g1, g2, g3, g4, g5⟩ := d
  have e := (f.2 r 0 x g1 h1).1
  refine ⟨f.1.at g1, by rw [e]; exact g2, by rw [e]; exact g3, g4, ?_⟩
  rcases g5 with ⟨h, k⟩ | ⟨id, xd, k1, k2, k3, k4, k5, k6⟩
  · exact Or.inl ⟨h, by rw [e]; exact k⟩
  · have e2 := (f.2 rd id xd k2 (h2 id)).2.2.2
    have en := (f.1.1 rd id xd k2).2.1
    exact Or.inr ⟨id, xd, by rw [e]; exact k1, f.1.at k2, by rw [en]; exact k3, by rw [en]; exact k4, by rw [en]; exact k5, fun j hj => by rw [e2]; exact k6 j hj⟩
theorem c_J4_size {G : xG} {T : xT} {O R : xO} {Y : xY} {V : xVV} {I : xII} {J : xJJ} {A : xVV} {w0 : xW} {r rd x g0 : Nat} {l : List Nat} (P : PX Y V I J A w0 T O R) (hr : r < 1000) (hx : r % 100 = 34) (L : xAl Y V A r rd x g0 l) : xCtr G yJ4_size cJ4_size 1 (some Jvm.ClassFile.FieldType.int) 0 0 0 0 [.ref x] (T, O, R) (xA (fun v T2 O2 R2 => v = .int (nI l.length) ∧ T2 = T ∧ O2 = O ∧ R2 = R)) := by
  have hL := L
  obtain ⟨g1, ⟨m, g2⟩, g3, g4, g5⟩ := L
  refine xCtr.of (by decide +kernel) (Nat.le_of_ble_eq_true rfl) ?_
  intro Z B E hz hnm
  change xV Z (T, O, R) 0 [(0, .ref x)] [] 0 0
  refine g_aload_n B 0 dJ4_size_0 rfl ?_
  refine x_get B P g1 hr (xrTv hx (by decide)) F_J4_48_34 (by decide) g3 dJ4_size_1 ?_
  refine g_iret B E rfl rfl dJ4_size_4 ?_
  exact ⟨_, rfl, rfl, rfl, rfl, rfl⟩
theorem c_J10_checkIndex {G : xG} {T : xT} {O R : xO} {Y : xY} {V : xVV} {I : xII} {J : xJJ} {A : xVV} {w0 : xW} {i n : Nat} (P : PX Y V I J A w0 T O R) (hi : i < n) (hn : n < 2 ^ 31) : xCtr G yJ10_checkIndex cJ10_checkIndex 3 (some Jvm.ClassFile.FieldType.int) 0 0 0 0 [.int (nI i), .int (nI n), .null] (T, O, R) (xA (fun v T2 O2 R2 => v = .int (nI i) ∧ T2 = T ∧ O2 = O ∧ R2 = R)) := by
  refine xCtr.of (by decide +kernel) (Nat.le_of_ble_eq_true rfl) ?_
  intro Z B E hz hnm
  change xV Z (T, O, R) 0 [(0, .int (nI i)), (1, .int (nI n)), (2, .null)] [] 0 0
  refine g_iload_n B 0 dJ10_checkIndex_0 rfl ?_
  refine g_if_ltN (tgt := 9) B (by omega) dJ10_checkIndex_1 (by decide) ?_
  refine g_iload_n B 0 dJ10_checkIndex_4 rfl ?_
  refine g_iload_n B 1 dJ10_checkIndex_5 rfl ?_
  refine g_icmp_ltN (tgt := 16) B (by omega) (by omega) dJ10_checkIndex_6 (by decide) (fun _ => ?_) (fun e => absurd e (by omega))
  refine g_iload_n B 0 dJ10_checkIndex_16 rfl ?_
  refine g_iret B E rfl rfl dJ10_checkIndex_17 ?_
  exact ⟨_, rfl, rfl, rfl, rfl, rfl⟩
theorem c_J9_checkIndex {G : xG} {T : xT} {O R : xO} {Y : xY} {V : xVV} {I : xII} {J : xJJ} {A : xVV} {w0 : xW} {i n : Nat} (P : PX Y V I J A w0 T O R) (hi : i < n) (hn : n < 2 ^ 31) : xCtr G yJ9_checkIndex cJ9_checkIndex 2 (some Jvm.ClassFile.FieldType.int) 1 22 0 0 [.int (nI i), .int (nI n)] (T, O, R) (xA (fun v T2 O2 R2 => v = .int (nI i) ∧ T2 = T ∧ O2 = O ∧ R2 = R)) := by
  refine xCtr.of (by decide +kernel) (Nat.le_of_ble_eq_true rfl) ?_
  intro Z B E hz hnm
  change xV Z (T, O, R) 0 [(0, .int (nI i)), (1, .int (nI n))] [] 0 0
  refine g_iload_n B 0 dJ9_checkIndex_0 rfl ?_
  refine g_iload_n B 1 dJ9_checkIndex_1 rfl ?_
  refine g_null B dJ9_checkIndex_2 ?_
  refine g_callS (rest := []) B M_J10_checkIndex q513 q514 (c_J10_checkIndex P hi hn) rfl rfl (Nat.le_of_ble_eq_true rfl) (Nat.le_of_ble_eq_true rfl) (Nat.le_of_ble_eq_true rfl) (Nat.le_refl _) (Nat.le_refl _) dJ9_checkIndex_3 (xkA (fun v1 T1 O1 R1 le1 p1 => ?_))
  obtain ⟨rfl, eT1, eO1, eR1⟩ := p1
  obtain rfl := eT1.symm
  obtain rfl := eO1.symm
  obtain rfl := eR1.symm
  refine g_iret B E rfl rfl dJ9_checkIndex_6 ?_
  exact ⟨_, rfl, rfl, rfl, rfl, rfl⟩
theorem c_J4_elementData {G : xG} {T : xT} {O R : xO} {Y : xY} {V : xVV} {I : xII} {J : xJJ} {A : xVV} {w0 : xW} {r rd x g0 : Nat} {l : List Nat} {i : Nat} (P : PX Y V I J A w0 T O R) (hr : r < 1000) (hx : r % 100 = 34) (L : xAl Y V A r rd x g0 l) (hd : rd / 1000 = 5) (hi : i < l.length) : xCtr G yJ4_elementData cJ4_elementData 2 (some (Jvm.ClassFile.FieldType.object "java/lang/Object")) 0 0 0 0 [.ref x, .int (nI i)] (T, O, R) (xA (fun v T2 O2 R2 => v = .ref (l.getD i 0) ∧ T2 = T ∧ O2 = O ∧ R2 = R)) := by
  have hL := L
  obtain ⟨g1, ⟨m, g2⟩, g3, g4, g5⟩ := L
  rcases g5 with ⟨h5, -⟩ | ⟨id, xd, k1, k2, k3, k4, k5, k6⟩
  · rw [h5] at hi; cases hi
  refine xCtr.of (by decide +kernel) (Nat.le_of_ble_eq_true rfl) ?_
  intro Z B E hz hnm
  change xV Z (T, O, R) 0 [(0, .ref x), (1, .int (nI i))] [] 0 0
  refine g_aload_n B 0 dJ4_elementData_0 rfl ?_
  refine x_get B P g1 hr (xrTv hx (by decide)) F_J4_9_34 (by decide) k1 dJ4_elementData_1 ?_
  refine g_iload_n B 1 dJ4_elementData_4 rfl ?_
  refine x_ldA B P k2 (by omega) (by rw [hd]; rfl) rfl rfl rfl (by omega) (by omega) (k6 i hi) dJ4_elementData_5 ?_
  refine g_aret B E rfl (Or.inl ⟨_, rfl⟩) (Or.inr ⟨_, rfl⟩) dJ4_elementData_6 ?_
  exact ⟨_, rfl, rfl, rfl, rfl, rfl⟩
theorem c_J4_get {G : xG} {T : xT} {O R : xO} {Y : xY} {V : xVV} {I : xII} {J : xJJ} {A : xVV} {w0 : xW} {r rd x g0 : Nat} {l : List Nat} {i : Nat} (P : PX Y V I J A w0 T O R) (hr : r < 1000) (hx : r % 100 = 34) (L : xAl Y V A r rd x g0 l) (hd : rd / 1000 = 5) (hi : i < l.length) : xCtr G yJ4_get cJ4_get 2 (some (Jvm.ClassFile.FieldType.object "java/lang/Object")) 2 43 0 0 [.ref x, .int (nI i)] (T, O, R) (xA (fun v T2 O2 R2 => v = .ref (l.getD i 0) ∧ T2 = T ∧ O2 = O ∧ R2 = R)) := by
  have hL := L
  obtain ⟨g1, ⟨m, g2⟩, g3, g4, g5⟩ := L
  refine xCtr.of (by decide +kernel) (Nat.le_of_ble_eq_true rfl) ?_
  intro Z B E hz hnm
  change xV Z (T, O, R) 0 [(0, .ref x), (1, .int (nI i))] [] 0 0
  refine g_iload_n B 1 dJ4_get_0 rfl ?_
  refine g_aload_n B 0 dJ4_get_1 rfl ?_
  refine x_get B P g1 hr (xrTv hx (by decide)) F_J4_48_34 (by decide) g3 dJ4_get_2 ?_
  refine g_callS (rest := []) B M_J9_checkIndex q510 q511 (c_J9_checkIndex P hi (by omega)) rfl rfl (Nat.le_of_ble_eq_true rfl) (Nat.le_of_ble_eq_true rfl) (Nat.le_of_ble_eq_true rfl) (Nat.le_refl _) (Nat.le_refl _) dJ4_get_5 (xkA (fun v1 T1 O1 R1 le1 p1 => ?_))
  obtain ⟨rfl, eT1, eO1, eR1⟩ := p1
  obtain rfl := eT1.symm
  obtain rfl := eO1.symm
  obtain rfl := eR1.symm
  refine g_pop B dJ4_get_8 rfl ?_
  refine g_aload_n B 0 dJ4_get_9 rfl ?_
  refine g_iload_n B 1 dJ4_get_10 rfl ?_
  obtain ⟨n2, u2, ty2⟩ := P.ty g1 hr (xrTv hx (by decide))
  refine g_callV (rest := []) B M_J4_elementData q516 q517 q518 ty2 rfl (c_J4_elementData P hr hx hL hd hi) rfl rfl (Nat.le_of_ble_eq_true rfl) (Nat.le_of_ble_eq_true rfl) (Nat.le_of_ble_eq_true rfl) (Nat.le_refl _) (Nat.le_refl _) dJ4_get_11 (xkA (fun v2 T2 O2 R2 le2 p2 => ?_))
  obtain ⟨rfl, eT2, eO2, eR2⟩ := p2
  obtain rfl := eT2.symm
  obtain rfl := eO2.symm
  obtain rfl := eR2.symm
  refine g_aret B E rfl (Or.inl ⟨_, rfl⟩) (Or.inr ⟨_, rfl⟩) dJ4_get_14 ?_
  exact ⟨_, rfl, rfl, rfl, rfl, rfl⟩
