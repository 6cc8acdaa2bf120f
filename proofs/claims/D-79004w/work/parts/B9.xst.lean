set_option maxRecDepth 100000
theorem xprevK {Z : xZ} {G : xG} {cc : ByteArray} {own : String} {nL fr lo : Nat} {ret : Option FieldType} {w : xW} {kc ks : Nat} {C : String} {a : Nat} {av' : List Value} {H : Heap} {locs : List Loc} {cells slots : Nat} (B : xOk Z G cc own nL fr lo ret) (h2 : xIn Z w kc ks H locs cells slots) (hO : va_O C a (xA0 (zG Z).1) (zG Z).1 (zG Z).1.heap) : PreV (zs Z) H C a (va_Pc (.ref a :: av') (fun U => U.heap.size = H.size ∧ (zG Z).1.WarmedH U.vm ∧ xHp (zG Z) w U.heap)) av' := by
  have h3 := (va_O.moved B.wm.alike hO).kept (fun a h1 _ => B.hk a h1)
  have hS := h2.low B.hs B.hk
  obtain ⟨cell, g1, g2, g3, -⟩ := h3.kept hS.2.1
  exact ⟨xblind, ⟨cell, g1, g2, g3⟩, fun U hU hW => ⟨rfl, by rw [hU], State.WarmedH.trans B.wm hW, by rw [hU]; exact h2.1⟩⟩
/-- a call on a constant of the start -/
theorem g_callK {Z : xZ} {G : xG} {cc : ByteArray} {own : String} {nL fr lo : Nat} {ret : Option FieldType} {T : xT} {O R : xO} {pc : Nat} {lv : List (Nat × Value)} {st0 rest : List Value} {kc ks kc2 ks2 mc ms : Nat} {Post : Option Value → xW → Prop} {y : MethodName} {b : ByteArray} {L : Nat} {r : Option FieldType} {n fr' lo' idx : Nat} {a : Nat} {av' : List Value} (B : xOk Z G cc own nL fr lo ret) (M : xM y b L r n) (q1 : Cond.methodLink own idx y ∈ lw_all) (q2 : Cond.instanceMethod y ∈ lw_all) (q3 : Cond.selects y.cls y y ∈ lw_all) (hO : va_O y.cls a (xA0 G.1) G.1 G.1.heap) (hC : xCtr G y b L r fr' lo' mc ms (.ref a :: av') (T, O, R) Post) (hn : av'.length = n) (hst : av'.reverse ++ .ref a :: rest = st0) (hrest : (rest.map fun v => v.category).sum ≤ 8) (hfr : fr' + 1 ≤ fr) (hlo : 8 + (L + 11) + lo' ≤ lo) (hkc : kc2 + mc ≤ kc) (hks : ks2 + ms ≤ ks) (d : decode cc pc = .ok (.invokevirtual idx, 3)) (kk : ∀ (r : Option Value) (T2 : xT) (O2 R2 : xO), xLe (T, O, R) (T2, O2, R2) → Post r (T2, O2, R2) → xV Z (T2, O2, R2) (pc + 3) lv (r.toList ++ rest) kc2 ks2) : xV Z (T, O, R) pc lv st0 kc ks := by
  have hg := B.g
  subst hg
  refine g_run (a := (Value.ref a :: av').toArray) hkc hks (fun ls H locs cells slots hls h2 hf => ?_) kk
  exact va_runV (As := av') (rest := rest) (xfix B) (hC (zl Z) H.size B.fl B.st) (cwV n B.ws (lw_V q1 q2 q3 M.2.1 M.1) rfl rfl rfl ⟨rfl, M.2.2⟩ (xroom B hfr hlo)) (xprevK B h2 hO) rfl hn (hls.trans B.mx) hst.symm (xcat hrest) d hf
def lwT : List Nat := [109, 102, 107, 99, 115, 100, 114]
theorem lw_let {k : Nat} (h : k < 7) : lwT.getD k 0 = wLet k ∧ lwT.getD k 0 < 128 ∧ (([[109, 102, 107, 99, 115, 100, 114]] : List (List Int32)).getD 0 []).getD k 0 = nI (lwT.getD k 0) := by
  rcases (show k = 0 ∨ k = 1 ∨ k = 2 ∨ k = 3 ∨ k = 4 ∨ k = 5 ∨ k = 6 by omega) with rfl | rfl | rfl | rfl | rfl | rfl | rfl <;> decide
theorem c_J14_isLatin1K {G : xG} {T : xT} {O R : xO} {Y : xY} {V : xVV} {I : xII} {J : xJJ} {A : xVV} {w0 : xW}  (P : PX Y V I J A w0 T O R)  : xCtr G yJ14_isLatin1 cJ14_isLatin1 1 (some Jvm.ClassFile.FieldType.boolean) 0 0 0 0 [.ref (G.2.2.2.2 3)] (T, O, R) (xA (fun v T2 O2 R2 => v = .int (nI 1) ∧ T2 = T ∧ O2 = O ∧ R2 = R)) := by
  refine xCtr.of (by decide +kernel) (Nat.le_of_ble_eq_true rfl) ?_
  intro Z B E hz hnm
  have hSt := by have h := B.st.2.2.2; rw [B.g] at h; exact h
  change xV Z (T, O, R) 0 [(0, .ref (G.2.2.2.2 3))] [] 0 0
  refine g_gets B hSt.2.2.2.1 q1069 dJ14_isLatin1_0 ?_
  refine g_top (show Value.int 1 = .int (nI 1) from rfl) ?_
  refine g_if_eqN (tgt := 17) B (by omega) dJ14_isLatin1_3 (by decide) (fun e => absurd e (by decide)) (fun _ => ?_)
  refine g_aload_n B 0 dJ14_isLatin1_6 rfl ?_
  refine g_kget B (hSt.2.2.2.2.2.1.2.2.1 0 (by decide)).2.1 q1155 dJ14_isLatin1_7 ?_
  refine g_top (show Value.int 0 = .int (nI 0) from rfl) ?_
  refine g_if_neN (tgt := 17) B (by omega) dJ14_isLatin1_10 (by decide) (fun e => absurd e (by decide)) (fun _ => ?_)
  refine g_iconst (v := nI 1) B dJ14_isLatin1_13 (by decide) ?_
  refine g_goto (tgt := 18) B dJ14_isLatin1_14 (by decide) ?_
  refine g_iret B E rfl rfl dJ14_isLatin1_18 ?_
  exact ⟨_, rfl, rfl, rfl, rfl, rfl⟩
theorem c_J16_charAtK {G : xG} {T : xT} {O R : xO} {Y : xY} {V : xVV} {I : xII} {J : xJJ} {A : xVV} {w0 : xW} {i : Nat} (P : PX Y V I J A w0 T O R) (hi : i < 7) : xCtr G yJ16_charAt cJ16_charAt 2 (some Jvm.ClassFile.FieldType.char) 2 43 0 0 [.ref (G.2.2.2.2 4), .int (nI i)] (T, O, R) (xA (fun v T2 O2 R2 => v = .int (nI (lwT.getD i 0)) ∧ T2 = T ∧ O2 = O ∧ R2 = R)) := by
  refine xCtr.of (by decide +kernel) (Nat.le_of_ble_eq_true rfl) ?_
  intro Z B E hz hnm
  have hSt := by have h := B.st.2.2.2; rw [B.g] at h; exact h
  change xV Z (T, O, R) 0 [(0, .ref (G.2.2.2.2 4)), (1, .int (nI i))] [] 0 0
  obtain ⟨hl1, hl2, hl3⟩ := lw_let hi
  refine g_iload_n B 1 dJ16_charAt_0 rfl ?_
  refine g_aload_n B 0 dJ16_charAt_1 rfl ?_
  refine g_slen (N := 7) B (hSt.2.2.2.2.2.1.2.2.1 0 (by decide)).2.2.2 dJ16_charAt_2 ?_
  refine g_callS (rest := []) B M_J14_checkIndex q2396 q2062 (c_J14_checkIndex P (show i < 7 from hi) (by decide)) rfl rfl (Nat.le_of_ble_eq_true rfl) (Nat.le_of_ble_eq_true rfl) (Nat.le_of_ble_eq_true rfl) (Nat.le_refl _) (Nat.le_refl _) dJ16_charAt_3 (xkN (fun T1 O1 R1 le1 p1 => ?_))
  obtain ⟨eT1, eO1, eR1⟩ := p1
  obtain rfl := eT1.symm
  obtain rfl := eO1.symm
  obtain rfl := eR1.symm
  refine g_aload_n B 0 dJ16_charAt_6 rfl ?_
  refine g_iload_n B 1 dJ16_charAt_7 rfl ?_
  refine g_sbald (v := .int (nI (lwT.getD i 0))) B (hSt.2.2.2.2.2.1.2.2.1 0 (by decide)).2.2.2 (vp_in_nI (show i < 7 from hi) (by decide)) (by rw [nI_clamp (by omega)]; exact congrArg Value.int hl3) dJ16_charAt_8 ?_
  refine g_sipush (v := nI 255) B dJ16_charAt_9 (by decide) ?_
  refine g_iand B dJ16_charAt_12 ?_
  refine g_top (show Value.int ((nI (lwT.getD i 0)) &&& (nI 255)) = Value.int (nI (lwT.getD i 0)) from congrArg Value.int (nI_ff hl2)) ?_
  refine g_i2c B dJ16_charAt_13 rfl ?_
  refine g_top (show Value.int ((((nI (lwT.getD i 0))).toUInt32 % 65536).toInt32) = Value.int (nI (lwT.getD i 0)) from congrArg Value.int (nI_i2c hl2)) ?_
  refine g_iret B E rfl (nI_cnar hl2) dJ16_charAt_14 ?_
  exact ⟨_, rfl, rfl, rfl, rfl, rfl⟩
theorem c_J14_charAtK {G : xG} {T : xT} {O R : xO} {Y : xY} {V : xVV} {I : xII} {J : xJJ} {A : xVV} {w0 : xW} {i : Nat} (P : PX Y V I J A w0 T O R) (hi : i < 7) : xCtr G yJ14_charAt cJ14_charAt 2 (some Jvm.ClassFile.FieldType.char) 3 64 0 0 [.ref (G.2.2.2.2 3), .int (nI i)] (T, O, R) (xA (fun v T2 O2 R2 => v = .int (nI (lwT.getD i 0)) ∧ T2 = T ∧ O2 = O ∧ R2 = R)) := by
  refine xCtr.of (by decide +kernel) (Nat.le_of_ble_eq_true rfl) ?_
  intro Z B E hz hnm
  have hSt := by have h := B.st.2.2.2; rw [B.g] at h; exact h
  change xV Z (T, O, R) 0 [(0, .ref (G.2.2.2.2 3)), (1, .int (nI i))] [] 0 0
  obtain ⟨hl1, hl2, hl3⟩ := lw_let hi
  refine g_aload_n B 0 dJ14_charAt_0 rfl ?_
  refine g_callK (rest := []) B M_J14_isLatin1 q2128 q2129 q2130 (hSt.2.2.2.2.2.1.2.2.1 0 (by decide)).1 (c_J14_isLatin1K P) rfl rfl (Nat.le_of_ble_eq_true rfl) (Nat.le_of_ble_eq_true rfl) (Nat.le_of_ble_eq_true rfl) (Nat.le_refl _) (Nat.le_refl _) dJ14_charAt_1 (xkA (fun v1 T1 O1 R1 le1 p1 => ?_))
  obtain ⟨rfl, eT1, eO1, eR1⟩ := p1
  obtain rfl := eT1.symm
  obtain rfl := eO1.symm
  obtain rfl := eR1.symm
  refine g_if_eqN (tgt := 16) B (by omega) dJ14_charAt_4 (by decide) (fun e => absurd e (by decide)) (fun _ => ?_)
  refine g_aload_n B 0 dJ14_charAt_7 rfl ?_
  refine g_kget B (hSt.2.2.2.2.2.1.2.2.1 0 (by decide)).2.2.1 q1154 dJ14_charAt_8 ?_
  refine g_iload_n B 1 dJ14_charAt_11 rfl ?_
  refine g_callS (rest := []) B M_J16_charAt q2393 q2394 (c_J16_charAtK P hi) rfl rfl (Nat.le_of_ble_eq_true rfl) (Nat.le_of_ble_eq_true rfl) (Nat.le_of_ble_eq_true rfl) (Nat.le_refl _) (Nat.le_refl _) dJ14_charAt_12 (xkA (fun v3 T3 O3 R3 le3 p3 => ?_))
  obtain ⟨rfl, eT3, eO3, eR3⟩ := p3
  obtain rfl := eT3.symm
  obtain rfl := eO3.symm
  obtain rfl := eR3.symm
  refine g_iret B E rfl (nI_cnar hl2) dJ14_charAt_15 ?_
  exact ⟨_, rfl, rfl, rfl, rfl, rfl⟩
