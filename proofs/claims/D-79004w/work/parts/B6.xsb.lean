set_option maxRecDepth 100000
/-- super.m(..): the superclass's own method, on this -/
theorem g_callSU {Z : xZ} {G : xG} {cc : ByteArray} {own : String} {nL fr lo : Nat} {ret : Option FieldType} {T : xT} {O R : xO} {pc : Nat} {lv : List (Nat × Value)} {st0 rest : List Value} {kc ks kc2 ks2 mc ms : Nat} {Post : Option Value → xW → Prop} {y : MethodName} {b : ByteArray} {L : Nat} {r : Option FieldType} {n fr' lo' idx : Nat} {a r0 n0 o : Nat} {q : vw_C} {av' : List Value} (B : xOk Z G cc own nL fr lo ret) (M : xM y b L r n) (q1 : Cond.methodLink own idx y ∈ lw_all) (q2 : Cond.sameMethod y.cls y.cls y.name y.desc ∈ lw_all) (q3 : Cond.superclass own y.cls ∈ lw_all) (q4 : Cond.instanceMethod y ∈ lw_all) (hno : y.name ≠ "<init>") (ht : T a = some (r0, n0, o)) (hq : xC r0 = some q) (hnm : xNa r0 = some q.1) (hC : xCtr G y b L r fr' lo' mc ms (.ref a :: av') (T, O, R) Post) (hn : av'.length = n) (hst : av'.reverse ++ .ref a :: rest = st0) (hrest : (rest.map fun v => v.category).sum ≤ 8) (hfr : fr' + 1 ≤ fr) (hlo : 8 + (L + 11) + lo' ≤ lo) (hkc : kc2 + mc ≤ kc) (hks : ks2 + ms ≤ ks) (d : decode cc pc = .ok (.invokespecial idx, 3)) (kk : ∀ (r : Option Value) (T2 : xT) (O2 R2 : xO), xLe (T, O, R) (T2, O2, R2) → Post r (T2, O2, R2) → xV Z (T2, O2, R2) (pc + 3) lv (r.toList ++ rest) kc2 ks2) : xV Z (T, O, R) pc lv st0 kc ks := by
  have hg := B.g
  subst hg
  refine g_run (a := (Value.ref a :: av').toArray) hkc hks (fun ls H locs cells slots hls h2 hf => ?_) kk
  refine va_runSU (C := q.1) (As := av') (rest := rest) (B.kn hq).2 (xfix B) (hC (zl Z) H.size B.fl B.st) (va_cwSU n B.ws (lw_app (fun w hw => ?_) (lw_meth M.1)) rfl rfl rfl ⟨hno, M.2.2.2.2⟩ (xroom B hfr hlo)) (xprev B h2.1 ht hnm) rfl hn (hls.trans B.mx) hst.symm (xcat hrest) d hf
  simp only [List.mem_cons, List.not_mem_nil, or_false] at hw
  rcases hw with e | e | e | e | e
  · rw [e]; exact q1
  · rw [e]; exact q2
  · rw [e]; exact q3
  · rw [e]; exact q4
  · rw [e]; exact M.2.1
/-- a private method is selected on any object whose class has another one of that class -/
theorem xw_selP {G : xG} {U : State} (hG : xSt G) (hW : G.1.WarmedH U.vm) (a : Array Value) {C : String} {x y z : MethodName} (hs : Cond.selects C x z ∈ lw_all) (hz : z.cls = y.cls) (hp : Cond.privateMethod y ∈ lw_tbl) (hi : Cond.instanceMethod y ∈ lw_all) (hy : y.cls ≠ "java/lang/invoke/MethodHandle" ∧ y.cls ≠ "java/lang/invoke/VarHandle") : (Cond.selects C y y).before a U = true := by
  obtain ⟨⟨b, h1, -⟩, -⟩ := hG
  refine word_at hW (good_of_word rfl) (?_ : (Cond.selects C y y).before #[Value.ref b] G.1 = true)
  have hsel := h1 _ (lw_all_tbl hs)
  have hpriv := h1 _ hp
  have hinst := h1 _ (lw_all_tbl hi)
  obtain ⟨c, r, m, hc, -, hm, -, mk, hmk, hni⟩ := Cond.selects_spec hsel
  obtain ⟨mk2, methM, hnamed, hmethM, -, -⟩ := Cond.instanceMethod_spec hinst
  have hfound := State.methodFound?_of_named hnamed hy
  have hcls : mk2.cls = m.cls := by
    have e1 := findClass_of_methodNamed hm
    have e2 := findClass_of_methodNamed hnamed
    rw [hz] at e1
    exact Option.some.inj (e2.symm.trans e1)
  have hsel2 : selectMethod {} G.1.vm c mk2 = .method mk2 := selectMethod_private hmethM (Cond.privateMethod_at hpriv mk2 methM hnamed hmethM)
  simp only [Cond.before, Cond.holds, Cond.value, hc, hfound, hnamed, hsel2, hcls, hmk]
  simp
  exact hni
theorem g_callP {Z : xZ} {G : xG} {cc : ByteArray} {own : String} {nL fr lo : Nat} {ret : Option FieldType} {T : xT} {O R : xO} {pc : Nat} {lv : List (Nat × Value)} {st0 rest : List Value} {kc ks kc2 ks2 mc ms : Nat} {Post : Option Value → xW → Prop} {y : MethodName} {b : ByteArray} {L : Nat} {r : Option FieldType} {n fr' lo' idx : Nat} {a r0 n0 o : Nat} {C : String} {x z : MethodName} {av' : List Value} (B : xOk Z G cc own nL fr lo ret) (M : xM y b L r n) (q1 : Cond.methodLink own idx y ∈ lw_all) (q0 : Cond.sameMethod y.cls y.cls y.name y.desc ∈ lw_all) (q2 : Cond.instanceMethod y ∈ lw_all) (hs : Cond.selects C x z ∈ lw_all) (hz : z.cls = y.cls) (hp : Cond.privateMethod y ∈ lw_tbl) (ht : T a = some (r0, n0, o)) (hnm : xNa r0 = some C) (hC : xCtr G y b L r fr' lo' mc ms (.ref a :: av') (T, O, R) Post) (hn : av'.length = n) (hst : av'.reverse ++ .ref a :: rest = st0) (hrest : (rest.map fun v => v.category).sum ≤ 8) (hfr : fr' + 1 ≤ fr) (hlo : 8 + (L + 11) + lo' ≤ lo) (hkc : kc2 + mc ≤ kc) (hks : ks2 + ms ≤ ks) (d : decode cc pc = .ok (.invokevirtual idx, 3)) (kk : ∀ (r : Option Value) (T2 : xT) (O2 R2 : xO), xLe (T, O, R) (T2, O2, R2) → Post r (T2, O2, R2) → xV Z (T2, O2, R2) (pc + 3) lv (r.toList ++ rest) kc2 ks2) : xV Z (T, O, R) pc lv st0 kc ks := by
  have hg := B.g
  subst hg
  refine g_run (a := (Value.ref a :: av').toArray) hkc hks (fun ls H locs cells slots hls h2 hf => ?_) kk
  have hsel := xw_selP B.st B.wm (za Z) hs hz hp q2 ⟨M.2.2.1, M.2.2.2.1⟩
  have hm : GoodIn lw_all (ws_ y b L r) := lw_meth M.1
  refine va_runU (C := C) (owner := y.cls) (x := y) (y := y) (As := av') (rest := rest) (n := n) (xfix B) (hC (zl Z) H.size B.fl B.st) ⟨⟨rfl, rfl, (xroom B hfr hlo).1, (xroom B hfr hlo).2, pay_in B.ws hm, List.mem_cons_self⟩, B.ws _ M.1, B.ws _ M.2.1, ⟨M.2.2.1, M.2.2.2.1⟩, fun sig h => ?_, B.ws _ q1, B.ws _ q0, va_Decl.of (B.ws _ q2) (B.ws _ M.1), hsel, B.ws _ q2⟩ (xprev B h2.1 ht hnm) rfl hn (hls.trans B.mx) hst.symm (xcat hrest) d hf
  have h3 := M.2.2.2.2
  rw [h] at h3
  exact (Option.some.inj h3).symm
/-- an instance of the JDK's own Preconditions.SIOOBE_FORMATTER -/
theorem xst_fm {G : xG} (hG : xSt G) : va_Zq "jdk/internal/util/Preconditions" "SIOOBE_FORMATTER" "Ljava/util/function/BiFunction;" (xA0 G.1) G.1 G.1.heap := by
  obtain ⟨⟨b, h1, h2⟩, -⟩ := hG
  exact va_Zqof (args := #[Value.ref b]) (h1 _ q1048) (h1 _ (lw_all_tbl q118)) (flat_of_before _ h2 (Cond.isRef (.static "jdk/internal/util/Preconditions" "SIOOBE_FORMATTER" "Ljava/util/function/BiFunction;")) (by decide +kernel)) (fun a ha q => absurd q (Nat.not_le.mpr ha))
theorem nI_shl0 (a : Nat) : nI a <<< (nI 0 &&& 31) = nI a := by
  rw [show (nI 0 &&& 31 : Int32) = 0 by decide]
  exact Int32.shiftLeft_zero
theorem nI_shr0 (a : Nat) : nI a >>> (nI 0 &&& 31) = nI a := by
  rw [show (nI 0 &&& 31 : Int32) = 0 by decide]
  exact Int32.shiftRight_zero
theorem nI_mx {a b : Nat} (ha : a < 2 ^ 31) (hb : b < 2 ^ 31) : (if nI a < nI b then nI b else nI a) = nI (max a b) := by
  by_cases h : a < b
  · rw [if_pos ((nI_ltI ha hb).mpr h), Nat.max_eq_right (by omega)]
  · rw [if_neg (fun q => h ((nI_ltI ha hb).mp q)), Nat.max_eq_left (by omega)]
theorem nI_i2b {c : Nat} (h : c < 128) : (nI c).toInt8.toInt32 = nI c := by
  have key : ∀ c, c < 128 → (nI c).toInt8.toInt32 = nI c := by decide
  exact key c h
theorem nI_byte {c : Nat} (h : c < 128) : narrow .byte (.int (nI c)) = .int (nI c) := by
  have key : ∀ c, c < 128 → (nI c).toInt8.toInt32 = nI c := by decide
  exact congrArg Value.int (key c h)
theorem nI_fits {c : Nat} (h : c < 128) : fits .byte (.int (nI c)) = true := by
  have key : ∀ c, c < 128 → fits .byte (.int (nI c)) = true := by decide
  exact key c h
theorem nI_ff {c : Nat} (h : c < 128) : nI c &&& nI 255 = nI c := by
  have key : ∀ c, c < 128 → nI c &&& nI 255 = nI c := by decide
  exact key c h
theorem nI_i2c {c : Nat} (h : c < 128) : ((nI c).toUInt32 % 65536).toInt32 = nI c := by
  have key : ∀ c, c < 128 → ((nI c).toUInt32 % 65536).toInt32 = nI c := by decide
  exact key c h
/-- a text in a StringBuilder, with its array -/
def xSe (Y : xY) (V : xVV) (I : xII) (r rv x : Nat) (l : List Nat) (id xv : Nat) : Prop := yAt Y r 0 x ∧ (V r 0 0 = .ref xv ∧ yAt Y rv id xv ∧ l.length ≤ yN Y rv id ∧ 16 ≤ yN Y rv id ∧ yN Y rv id ≤ 300 ∧ (∀ j, j < yN Y rv id → fits .byte (.int (I rv id j)) = true) ∧ ∀ j, j < l.length → I rv id j = nI (l.getD j 0)) ∧ V r 0 1 = .int (nI 0) ∧ (∃ z, V r 0 2 = .int z) ∧ V r 0 3 = .int (nI l.length)
theorem xSb.e {Y : xY} {V : xVV} {I : xII} {r rv x : Nat} {l : List Nat} (h : xSb Y V I r rv x l) : ∃ id xv, xSe Y V I r rv x l id xv := by
  obtain ⟨h0, ⟨id, xv, h1⟩, h2⟩ := h
  exact ⟨id, xv, h0, h1, h2⟩
theorem xSe.b {Y : xY} {V : xVV} {I : xII} {r rv x : Nat} {l : List Nat} {id xv : Nat} (h : xSe Y V I r rv x l id xv) : xSb Y V I r rv x l := ⟨h.1, ⟨id, xv, h.2.1⟩, h.2.2⟩
def sSbf (r rv : Nat) : Nat → Nat → Prop := fun r' o' => (r' = r ∧ o' = 0) ∨ r' = rv
def sbR (r rv : Nat) : Prop := r < 1000 ∧ r % 100 = 43 ∧ rv / 1000 = 3 ∧ idR rv ∧ okA rv
theorem c_J7_min {G : xG} {T : xT} {O R : xO} {Y : xY} {V : xVV} {I : xII} {J : xJJ} {A : xVV} {w0 : xW} {x y : Int32} (P : PX Y V I J A w0 T O R)  : xCtr G yJ7_min cJ7_min 2 (some Jvm.ClassFile.FieldType.int) 0 0 0 0 [.int x, .int y] (T, O, R) (xA (fun v T2 O2 R2 => v = .int (if y < x then y else x) ∧ T2 = T ∧ O2 = O ∧ R2 = R)) := by
  refine xCtr.ofF (by decide +kernel) (Nat.le_of_ble_eq_true rfl) ?_
  intro Z B E hz hnm
  change xV Z (T, O, R) 0 [(0, .int x), (1, .int y)] [] 0 0
  refine g_iload_n B 0 dJ7_min_0 rfl ?_
  refine g_iload_n B 1 dJ7_min_1 rfl ?_
  refine g_icmp_gt (tgt := 9) B dJ7_min_2 (by decide) (fun c1 => ?_) (fun c1 => ?_)
  · refine g_iload_n B 1 dJ7_min_9 rfl ?_
    refine g_iret B E rfl rfl dJ7_min_10 ?_
    exact ⟨_, rfl, by rw [if_pos c1], rfl, rfl, rfl⟩
  · refine g_iload_n B 0 dJ7_min_5 rfl ?_
    refine g_goto (tgt := 10) B dJ7_min_6 (by decide) ?_
    refine g_iret B E rfl rfl dJ7_min_10 ?_
    exact ⟨_, rfl, by rw [if_neg c1], rfl, rfl, rfl⟩
theorem c_J12_isLatin1 {G : xG} {T : xT} {O R : xO} {Y : xY} {V : xVV} {I : xII} {J : xJJ} {A : xVV} {w0 : xW} {r rv x id xv : Nat} {l : List Nat} (P : PX Y V I J A w0 T O R) (hR : sbR r rv) (S : xSe Y V I r rv x l id xv) : xCtr G yJ12_isLatin1 cJ12_isLatin1 1 (some Jvm.ClassFile.FieldType.boolean) 0 0 0 0 [.ref x] (T, O, R) (xA (fun v T2 O2 R2 => v = .int (nI 1) ∧ T2 = T ∧ O2 = O ∧ R2 = R)) := by
  have hS := S
  have hR2 := hR.2.2.1
  have hR3 := hR.1
  obtain ⟨g0, ⟨g1, g2, g3, g4, g5, gf, g6⟩, gc, ⟨z, gz⟩, gn⟩ := S
  refine xCtr.of (by decide +kernel) (Nat.le_of_ble_eq_true rfl) ?_
  intro Z B E hz hnm
  have hSt := by have h := B.st.2.2.2; rw [B.g] at h; exact h
  change xV Z (T, O, R) 0 [(0, .ref x)] [] 0 0
  obtain ⟨cp, hcp⟩ : ∃ cp, yN Y rv id = cp := ⟨_, rfl⟩
  have g3c : l.length ≤ cp := by rw [← hcp]; exact g3
  have g4c : 16 ≤ cp := by rw [← hcp]; exact g4
  have g5c : cp ≤ 300 := by rw [← hcp]; exact g5
  refine g_gets B hSt.2.2.2.1 q690 dJ12_isLatin1_0 ?_
  refine g_top (show Value.int 1 = .int (nI 1) from rfl) ?_
  refine g_if_eqN (tgt := 17) B (by omega) dJ12_isLatin1_3 (by decide) (fun e => absurd e (by decide)) (fun _ => ?_)
  refine g_aload_n B 0 dJ12_isLatin1_6 rfl ?_
  refine x_get B P g0 hR.1 (xrTv hR.2.1 (by decide)) F_J12_22_43 (by decide) gc dJ12_isLatin1_7 ?_
  refine g_if_neN (tgt := 17) B (by omega) dJ12_isLatin1_10 (by decide) (fun e => absurd e (by decide)) (fun _ => ?_)
  refine g_iconst (v := nI 1) B dJ12_isLatin1_13 (by decide) ?_
  refine g_goto (tgt := 18) B dJ12_isLatin1_14 (by decide) ?_
  refine g_iret B E rfl rfl dJ12_isLatin1_18 ?_
  exact ⟨_, rfl, rfl, rfl, rfl, rfl⟩
theorem c_J12_length {G : xG} {T : xT} {O R : xO} {Y : xY} {V : xVV} {I : xII} {J : xJJ} {A : xVV} {w0 : xW} {r rv x id xv : Nat} {l : List Nat} (P : PX Y V I J A w0 T O R) (hR : sbR r rv) (S : xSe Y V I r rv x l id xv) : xCtr G yJ12_length cJ12_length 1 (some Jvm.ClassFile.FieldType.int) 0 0 0 0 [.ref x] (T, O, R) (xA (fun v T2 O2 R2 => v = .int (nI l.length) ∧ T2 = T ∧ O2 = O ∧ R2 = R)) := by
  have hS := S
  have hR2 := hR.2.2.1
  have hR3 := hR.1
  obtain ⟨g0, ⟨g1, g2, g3, g4, g5, gf, g6⟩, gc, ⟨z, gz⟩, gn⟩ := S
  refine xCtr.of (by decide +kernel) (Nat.le_of_ble_eq_true rfl) ?_
  intro Z B E hz hnm
  change xV Z (T, O, R) 0 [(0, .ref x)] [] 0 0
  obtain ⟨cp, hcp⟩ : ∃ cp, yN Y rv id = cp := ⟨_, rfl⟩
  have g3c : l.length ≤ cp := by rw [← hcp]; exact g3
  have g4c : 16 ≤ cp := by rw [← hcp]; exact g4
  have g5c : cp ≤ 300 := by rw [← hcp]; exact g5
  refine g_aload_n B 0 dJ12_length_0 rfl ?_
  refine x_get B P g0 hR.1 (xrTv hR.2.1 (by decide)) F_J12_79_43 (by decide) gn dJ12_length_1 ?_
  refine g_iret B E rfl rfl dJ12_length_4 ?_
  exact ⟨_, rfl, rfl, rfl, rfl, rfl⟩
theorem c_J16_canEncode {G : xG} {T : xT} {O R : xO} {Y : xY} {V : xVV} {I : xII} {J : xJJ} {A : xVV} {w0 : xW} {c : Nat} (P : PX Y V I J A w0 T O R) (hc : c < 128) : xCtr G yJ16_canEncode cJ16_canEncode 1 (some Jvm.ClassFile.FieldType.boolean) 0 0 0 0 [.int (nI c)] (T, O, R) (xA (fun v T2 O2 R2 => v = .int (nI 1) ∧ T2 = T ∧ O2 = O ∧ R2 = R)) := by
  refine xCtr.of (by decide +kernel) (Nat.le_of_ble_eq_true rfl) ?_
  intro Z B E hz hnm
  change xV Z (T, O, R) 0 [(0, .int (nI c))] [] 0 0
  refine g_iload_n B 0 dJ16_canEncode_0 rfl ?_
  refine g_sipush (v := nI 255) B dJ16_canEncode_1 (by decide) ?_
  refine g_icmp_gtN (tgt := 11) B (by omega) (by omega) dJ16_canEncode_4 (by decide) (fun e => absurd e (by omega)) (fun _ => ?_)
  refine g_iconst (v := nI 1) B dJ16_canEncode_7 (by decide) ?_
  refine g_goto (tgt := 12) B dJ16_canEncode_8 (by decide) ?_
  refine g_iret B E rfl rfl dJ16_canEncode_12 ?_
  exact ⟨_, rfl, rfl, rfl, rfl, rfl⟩
theorem c_J6_newLength {G : xG} {T : xT} {O R : xO} {Y : xY} {V : xVV} {I : xII} {J : xJJ} {A : xVV} {w0 : xW} {a b c : Nat} (P : PX Y V I J A w0 T O R) (ha : a < 1000000) (hb : b < 1000000) (hc : 0 < c ∧ c < 1000000) : xCtr G yJ6_newLength cJ6_newLength 4 (some Jvm.ClassFile.FieldType.int) 1 21 0 0 [.int (nI a), .int (nI b), .int (nI c)] (T, O, R) (xA (fun v T2 O2 R2 => v = .int (nI (a + max b c)) ∧ T2 = T ∧ O2 = O ∧ R2 = R)) := by
  refine xCtr.of (by decide +kernel) (Nat.le_of_ble_eq_true rfl) ?_
  intro Z B E hz hnm
  change xV Z (T, O, R) 0 [(0, .int (nI a)), (1, .int (nI b)), (2, .int (nI c))] [] 0 0
  refine g_iload_n B 0 dJ6_newLength_0 rfl ?_
  refine g_iload_n B 1 dJ6_newLength_1 rfl ?_
  refine g_iload_n B 2 dJ6_newLength_2 rfl ?_
  refine g_callS (rest := [_]) B M_J7_max q412 q413 (c_J7_max P) rfl rfl (Nat.le_of_ble_eq_true rfl) (Nat.le_of_ble_eq_true rfl) (Nat.le_of_ble_eq_true rfl) (Nat.le_refl _) (Nat.le_refl _) dJ6_newLength_3 (xkA (fun v1 T1 O1 R1 le1 p1 => ?_))
  obtain ⟨rfl, eT1, eO1, eR1⟩ := p1
  obtain rfl := eT1.symm
  obtain rfl := eO1.symm
  obtain rfl := eR1.symm
  refine g_top (show Value.int (if nI b < nI c then nI c else nI b) = Value.int (nI (max b c)) from congrArg Value.int (nI_mx (by omega) (by omega))) ?_
  have hmx : max b c < 1000000 := by omega
  refine g_iaddN B dJ6_newLength_6 ?_
  refine g_istore_n (lv2 := [(3, _), (0, _), (1, _), (2, _)]) B dJ6_newLength_7 (by decide) rfl ?_
  refine g_iconst (v := nI 0) B dJ6_newLength_8 (by decide) ?_
  refine g_iload_n B 0 dJ6_newLength_9 rfl ?_
  refine g_icmp_geN (tgt := 21) B (by omega) (by omega) dJ6_newLength_10 (by decide) (fun e => absurd e (by omega)) (fun _ => ?_)
  refine g_iload_n B 0 dJ6_newLength_13 rfl ?_
  refine g_ldc (v := 2147483639) B q415 dJ6_newLength_14 ?_
  refine g_top (show Value.int 2147483639 = .int (nI 2147483639) from rfl) ?_
  refine g_icmp_gtN (tgt := 21) B (by omega) (by omega) dJ6_newLength_16 (by decide) (fun e => absurd e (by omega)) (fun _ => ?_)
  refine g_iload_n B 0 dJ6_newLength_19 rfl ?_
  refine g_iret B E rfl rfl dJ6_newLength_20 ?_
  exact ⟨_, rfl, rfl, rfl, rfl, rfl⟩
theorem c_J12_newCapacity {G : xG} {T : xT} {O R : xO} {Y : xY} {V : xVV} {I : xII} {J : xJJ} {A : xVV} {w0 : xW} {r rv x id xv : Nat} {l : List Nat} {m cp : Nat} (P : PX Y V I J A w0 T O R) (hR : sbR r rv) (S : xSe Y V I r rv x l id xv) (hcp : yN Y rv id = cp) (hm : cp < m ∧ m < 1000) : xCtr G yJ12_newCapacity cJ12_newCapacity 6 (some Jvm.ClassFile.FieldType.int) 2 44 0 0 [.ref x, .int (nI m)] (T, O, R) (xA (fun v T2 O2 R2 => v = .int (nI (cp + max (m - cp) (cp + 2))) ∧ T2 = T ∧ O2 = O ∧ R2 = R)) := by
  have hS := S
  have hR2 := hR.2.2.1
  have hR3 := hR.1
  obtain ⟨g0, ⟨g1, g2, g3, g4, g5, gf, g6⟩, gc, ⟨z, gz⟩, gn⟩ := S
  refine xCtr.of (by decide +kernel) (Nat.le_of_ble_eq_true rfl) ?_
  intro Z B E hz hnm
  change xV Z (T, O, R) 0 [(0, .ref x), (1, .int (nI m))] [] 0 0
  have g3c : l.length ≤ cp := by rw [← hcp]; exact g3
  have g4c : 16 ≤ cp := by rw [← hcp]; exact g4
  have g5c : cp ≤ 300 := by rw [← hcp]; exact g5
  refine g_aload_n B 0 dJ12_newCapacity_0 rfl ?_
  refine x_get B P g0 hR.1 (xrTv hR.2.1 (by decide)) F_J12_15_43 (by decide) g1 dJ12_newCapacity_1 ?_
  refine x_alen B P g2 (by omega) (by rw [hR.2.2.1]; rfl) hcp dJ12_newCapacity_4 ?_
  refine g_istore_n (lv2 := [(2, _), (0, _), (1, _)]) B dJ12_newCapacity_5 (by decide) rfl ?_
  refine g_iload_n B 2 dJ12_newCapacity_6 rfl ?_
  refine g_aload_n B 1 dJ12_newCapacity_7 rfl ?_
  refine x_get B P g0 hR.1 (xrTv hR.2.1 (by decide)) F_J12_22_43 (by decide) gc dJ12_newCapacity_8 ?_
  refine g_ishl B dJ12_newCapacity_11 ?_
  refine g_top (show Value.int ((nI m) <<< ((nI 0) &&& 31)) = Value.int (nI m) from congrArg Value.int (nI_shl0 _)) ?_
  refine g_istore_n (lv2 := [(3, _), (2, _), (0, _), (1, _)]) B dJ12_newCapacity_12 (by decide) rfl ?_
  refine g_iload_n B 0 dJ12_newCapacity_13 rfl ?_
  refine g_iload_n B 1 dJ12_newCapacity_14 rfl ?_
  refine g_isubN B (by omega) dJ12_newCapacity_15 ?_
  refine g_istore (lv2 := [(4, _), (3, _), (2, _), (0, _), (1, _)]) B dJ12_newCapacity_16 (by decide) rfl ?_
  refine g_iload_n B 2 dJ12_newCapacity_18 rfl ?_
  refine g_iload B 0 dJ12_newCapacity_19 rfl ?_
  refine g_iload_n B 2 dJ12_newCapacity_21 rfl ?_
  refine g_iconst (v := nI 2) B dJ12_newCapacity_22 (by decide) ?_
  refine g_aload_n B 3 dJ12_newCapacity_23 rfl ?_
  refine x_get B P g0 hR.1 (xrTv hR.2.1 (by decide)) F_J12_22_43 (by decide) gc dJ12_newCapacity_24 ?_
  refine g_ishl B dJ12_newCapacity_27 ?_
  refine g_top (show Value.int ((nI 2) <<< ((nI 0) &&& 31)) = Value.int (nI 2) from congrArg Value.int (nI_shl0 _)) ?_
  refine g_iaddN B dJ12_newCapacity_28 ?_
  refine g_callS (rest := []) B M_J6_newLength q1018 q410 (c_J6_newLength (a := cp) (b := m - cp) (c := cp + 2) P (by omega) (by omega) (by omega)) rfl rfl (Nat.le_of_ble_eq_true rfl) (Nat.le_of_ble_eq_true rfl) (Nat.le_of_ble_eq_true rfl) (Nat.le_refl _) (Nat.le_refl _) dJ12_newCapacity_29 (xkA (fun v1 T1 O1 R1 le1 p1 => ?_))
  obtain ⟨rfl, eT1, eO1, eR1⟩ := p1
  obtain rfl := eT1.symm
  obtain rfl := eO1.symm
  obtain rfl := eR1.symm
  refine g_istore (lv2 := [(5, _), (4, _), (3, _), (2, _), (0, _), (1, _)]) B dJ12_newCapacity_32 (by decide) rfl ?_
  refine g_iload B 0 dJ12_newCapacity_34 rfl ?_
  refine g_ldc (v := 2147483647) B q1019 dJ12_newCapacity_36 ?_
  refine g_top (show Value.int 2147483647 = .int (nI 2147483647) from rfl) ?_
  refine g_icmp_neN (tgt := 51) B (by omega) (by omega) dJ12_newCapacity_38 (by decide) (fun _ => ?_) (fun e => absurd e (by omega))
  refine g_iload B 0 dJ12_newCapacity_51 rfl ?_
  refine g_aload_n B 4 dJ12_newCapacity_53 rfl ?_
  refine x_get B P g0 hR.1 (xrTv hR.2.1 (by decide)) F_J12_22_43 (by decide) gc dJ12_newCapacity_54 ?_
  refine g_ishr B dJ12_newCapacity_57 ?_
  refine g_top (show Value.int ((nI (cp + max (m - cp) (cp + 2))) >>> ((nI 0) &&& 31)) = Value.int (nI (cp + max (m - cp) (cp + 2))) from congrArg Value.int (nI_shr0 _)) ?_
  refine g_iret B E rfl rfl dJ12_newCapacity_58 ?_
  exact ⟨_, rfl, rfl, rfl, rfl, rfl⟩
theorem c_J8_copyB {G : xG} {T : xT} {O R : xO} {Y : xY} {V : xVV} {I : xII} {J : xJJ} {A : xVV} {w0 : xW} {rv id xv n : Nat} {r : Nat} (P : PX Y V I J A w0 T O R) (hR : sbR r rv) (g2 : yAt Y rv id xv) (hn : yN Y rv id < n ∧ n < 1000) (gf : ∀ j, j < yN Y rv id → fits .byte (.int (I rv id j)) = true) : xCtr G yJ8_copyOf_3 cJ8_copyOf_3 3 (some (Jvm.ClassFile.FieldType.array Jvm.ClassFile.FieldType.byte)) 1 60 1 n [.ref xv, .int (nI n)] (T, O, R) (xA (xP w0 (fun v Y2 V2 I2 J2 A2 => ∃ q, v = .ref q ∧ V2 = V ∧ (J2 = J ∧ A2 = A) ∧ yAt Y2 rv q q ∧ yN Y2 rv q = n ∧ (∀ j, I2 rv q j = if j < yN Y rv id then I rv id j else 0) ∧ xFr (fun r2 _ => r2 = rv) Y V I J A Y2 V2 I2 J2 A2))) := by
  have hR2 := hR.2.2.1
  refine xCtr.of (by decide +kernel) (Nat.le_of_ble_eq_true rfl) ?_
  intro Z B E hz hnm
  change xV Z (T, O, R) 0 [(0, .ref xv), (1, .int (nI n))] [] 1 n
  obtain ⟨cp, hcp⟩ : ∃ cp, yN Y rv id = cp := ⟨_, rfl⟩
  rw [hcp] at hn gf
  refine g_iload_n B 1 dJ8_copyOf_3_0 rfl ?_
  refine g_aload_n B 0 dJ8_copyOf_3_1 rfl ?_
  refine x_alen B P g2 (by omega) (by rw [hR.2.2.1]; rfl) hcp dJ8_copyOf_3_2 ?_
  refine g_icmp_neN (tgt := 14) B (by omega) (by omega) dJ8_copyOf_3_3 (by decide) (fun _ => ?_) (fun e => absurd e (by omega))
  refine g_iload_n B 1 dJ8_copyOf_3_14 rfl ?_
  refine xV.room (kc' := 0 + 1) (ks' := 0 + n) (by omega) (by omega) ?_
  refine x_newaI (atype := .byte) (ty := .byte) (N := n) (kc := 0) (ks := 0) B P rv (fun q => q) hR.2.2.2.2 rfl (by rw [hR.2.2.1]; rfl) rfl (Or.inr (Or.inr hR.2.2.1)) q713 rfl (show n * 1 ≤ 536870912 by omega) (by omega) (fun q hq x => P.fresh hq _ _ hR.2.2.2.1) (fun _ => Or.inl (fun _ => rfl)) dJ8_copyOf_3_15 (fun q1 Y1 I1 T1 R1 hq1 le1 gr1 hf1 at1 hN1 hs1 hk1 P1 => ?_)
  have hne1 : ¬ (rv = rv ∧ id = q1) := fun e => hf1 xv (by rw [← e.2]; exact g2)
  have upo1 : I1 rv id = I rv id := upO hs1 hk1 hne1
  refine g_astore_n (lv2 := [(2, _), (0, _), (1, _)]) B dJ8_copyOf_3_17 (by decide) rfl ?_
  refine g_aload_n B 1 dJ8_copyOf_3_18 rfl ?_
  refine g_iconst (v := nI 0) B dJ8_copyOf_3_19 (by decide) ?_
  refine g_aload_n B 0 dJ8_copyOf_3_20 rfl ?_
  refine g_iconst (v := nI 0) B dJ8_copyOf_3_21 (by decide) ?_
  refine g_aload_n B 1 dJ8_copyOf_3_22 rfl ?_
  refine x_alen B P1 (le1.at g2) (by omega) (by rw [hR.2.2.1]; rfl) (le1.n g2 hcp) dJ8_copyOf_3_23 ?_
  refine g_iload_n B 2 dJ8_copyOf_3_24 rfl ?_
  refine g_callS (rest := [_, _, _, _]) B M_J7_min q467 q468 (c_J7_min P1) rfl rfl (Nat.le_of_ble_eq_true rfl) (Nat.le_of_ble_eq_true rfl) (Nat.le_of_ble_eq_true rfl) (Nat.le_refl _) (Nat.le_refl _) dJ8_copyOf_3_25 (xkA (fun v2 T2 O2 R2 le2 p2 => ?_))
  obtain ⟨rfl, eT2, eO2, eR2⟩ := p2
  obtain rfl := eT2.symm
  obtain rfl := eO2.symm
  obtain rfl := eR2.symm
  have hmn : (if nI n < nI cp then nI n else nI cp) = nI cp := if_neg (fun e => by have := (nI_ltI (by omega) (by omega)).mp e; omega)
  refine x_copy B P1 (le1.at g2) at1 (Or.inr (Or.inr hR.2.2.1)) (Or.inr (Or.inr hR.2.2.1)) (by rw [hR.2.2.1]; rfl) (by rw [hR.2.2.1]; rfl) rfl rfl rfl hmn (sp' := 0) (dp' := 0) (n' := cp) (by rw [(le1.n g2 hcp)]; omega) (by rw [hN1]; omega) (by rw [(le1.n g2 hcp)]; omega) (by rw [hN1]; omega) (fun j hj => by rw [Nat.zero_add]; exact (by rw [show I1 rv id = I rv id from upo1]; exact gf j hj)) q470 q472 q471 q114 (Nat.le_of_ble_eq_true rfl) (Nat.le_of_ble_eq_true rfl) dJ8_copyOf_3_28 (fun R3 I3 hs3 hk3 P3 => ?_)
  refine g_aload_n B 0 dJ8_copyOf_3_31 rfl ?_
  refine g_aret B E rfl (Or.inr ⟨_, rfl⟩) (Or.inr ⟨_, rfl⟩) dJ8_copyOf_3_32 ?_
  refine ⟨_, rfl, _, _, _, _, _, P3, q1, rfl, rfl, ⟨rfl, rfl⟩, at1, hN1, fun j => ?_, ?_⟩
  · rw [hs3, va_ups]; show (if 0 ≤ j ∧ j < 0 + cp then I1 rv id (0 + (j - 0)) else I1 rv q1 j) = _
    have e0 : I1 rv q1 j = 0 := by rw [hs1, va_ups]
    rw [e0, upo1, Nat.sub_zero, Nat.zero_add, Nat.zero_add, hcp]
    by_cases e : j < cp
    · rw [if_pos ⟨Nat.zero_le _, e⟩, if_pos e]
    · rw [if_neg (fun q => e q.2), if_neg e]
  · exact (xFr.nI (r := rv) (o := q1) rfl le1 gr1 hs1 hk1).tr (xFr.uI (r := rv) (o := q1) rfl hs3 hk3)
theorem le_sub0 {a b : Nat} (h : a ≤ b) (hb : b < 1000000) : nI a - nI b ≤ 0 := by
  have e : (nI a - nI b).toInt = (a : Int) - b := by
    rw [Int32.toInt_sub, nI_toInt (by omega), nI_toInt (by omega)]
    exact Int.bmod_eq_of_le (by omega) (by omega)
  rw [Int32.le_iff_toInt_le, e]
  show (a : Int) - b ≤ 0
  omega
theorem c_J12_ensure {G : xG} {T : xT} {O R : xO} {Y : xY} {V : xVV} {I : xII} {J : xJJ} {A : xVV} {w0 : xW} {r rv x id xv : Nat} {l : List Nat} {m : Nat} (P : PX Y V I J A w0 T O R) (hR : sbR r rv) (S : xSe Y V I r rv x l id xv) (hm : m ≤ 101) : xCtr G yJ12_ensureCapacityInternal cJ12_ensureCapacityInternal 3 none 3 82 1 400 [.ref x, .int (nI m)] (T, O, R) (xN (xPN w0 (fun Y2 V2 I2 J2 A2 => J2 = J ∧ A2 = A ∧ ∃ id2 xv2, xSe Y2 V2 I2 r rv x l id2 xv2 ∧ m ≤ yN Y2 rv id2 ∧ xFr (sSbf r rv) Y V I J A Y2 V2 I2 J2 A2))) := by
  have hS := S
  have hR2 := hR.2.2.1
  have hR3 := hR.1
  obtain ⟨g0, ⟨g1, g2, g3, g4, g5, gf, g6⟩, gc, ⟨z, gz⟩, gn⟩ := S
  refine xCtr.of (by decide +kernel) (Nat.le_of_ble_eq_true rfl) ?_
  intro Z B E hz hnm
  change xV Z (T, O, R) 0 [(0, .ref x), (1, .int (nI m))] [] 1 400
  obtain ⟨cp, hcp⟩ : ∃ cp, yN Y rv id = cp := ⟨_, rfl⟩
  have g3c : l.length ≤ cp := by rw [← hcp]; exact g3
  have g4c : 16 ≤ cp := by rw [← hcp]; exact g4
  have g5c : cp ≤ 300 := by rw [← hcp]; exact g5
  refine g_aload_n B 0 dJ12_ensureCapacityInternal_0 rfl ?_
  refine x_get B P g0 hR.1 (xrTv hR.2.1 (by decide)) F_J12_15_43 (by decide) g1 dJ12_ensureCapacityInternal_1 ?_
  refine x_alen B P g2 (by omega) (by rw [hR.2.2.1]; rfl) hcp dJ12_ensureCapacityInternal_4 ?_
  refine g_aload_n B 0 dJ12_ensureCapacityInternal_5 rfl ?_
  refine x_get B P g0 hR.1 (xrTv hR.2.1 (by decide)) F_J12_22_43 (by decide) gc dJ12_ensureCapacityInternal_6 ?_
  refine g_ishr B dJ12_ensureCapacityInternal_9 ?_
  refine g_top (show Value.int ((nI cp) >>> ((nI 0) &&& 31)) = Value.int (nI cp) from congrArg Value.int (nI_shr0 _)) ?_
  refine g_istore_n (lv2 := [(2, _), (0, _), (1, _)]) B dJ12_ensureCapacityInternal_10 (by decide) rfl ?_
  refine g_iload_n B 2 dJ12_ensureCapacityInternal_11 rfl ?_
  refine g_iload_n B 0 dJ12_ensureCapacityInternal_12 rfl ?_
  by_cases hmc : cp < m
  · refine g_isubN B (by omega) dJ12_ensureCapacityInternal_13 ?_
    refine g_if_leN (tgt := 38) B (by omega) dJ12_ensureCapacityInternal_14 (by decide) (fun e => absurd e (by omega)) (fun _ => ?_)
    refine g_aload_n B 1 dJ12_ensureCapacityInternal_17 rfl ?_
    refine g_aload_n B 1 dJ12_ensureCapacityInternal_18 rfl ?_
    refine x_get B P g0 hR.1 (xrTv hR.2.1 (by decide)) F_J12_15_43 (by decide) g1 dJ12_ensureCapacityInternal_19 ?_
    refine g_aload_n B 1 dJ12_ensureCapacityInternal_22 rfl ?_
    refine g_iload_n B 2 dJ12_ensureCapacityInternal_23 rfl ?_
    obtain ⟨n1, u1, ty1⟩ := P.ty g0 hR.1 (xrTv hR.2.1 (by decide))
    refine g_callP (rest := [_, _]) B (C := "java/lang/StringBuilder") M_J12_newCapacity q1014 q2923 q1016 q1033 rfl q1015 ty1 rfl (c_J12_newCapacity P hR hS hcp (by omega)) rfl rfl (Nat.le_of_ble_eq_true rfl) (Nat.le_of_ble_eq_true rfl) (Nat.le_of_ble_eq_true rfl) (Nat.le_refl _) (Nat.le_refl _) dJ12_ensureCapacityInternal_24 (xkA (fun v1 T1 O1 R1 le1 p1 => ?_))
    obtain ⟨rfl, eT1, eO1, eR1⟩ := p1
    obtain rfl := eT1.symm
    obtain rfl := eO1.symm
    obtain rfl := eR1.symm
    refine g_aload_n B 1 dJ12_ensureCapacityInternal_27 rfl ?_
    refine x_get B P g0 hR.1 (xrTv hR.2.1 (by decide)) F_J12_22_43 (by decide) gc dJ12_ensureCapacityInternal_28 ?_
    refine g_ishl B dJ12_ensureCapacityInternal_31 ?_
    refine g_top (show Value.int ((nI (cp + max (m - cp) (cp + 2))) <<< ((nI 0) &&& 31)) = Value.int (nI (cp + max (m - cp) (cp + 2))) from congrArg Value.int (nI_shl0 _)) ?_
    have hmx : cp + 2 ≤ max (m - cp) (cp + 2) ∧ max (m - cp) (cp + 2) ≤ 110 := by omega
    obtain ⟨nc, hnc⟩ : ∃ nc, nc = cp + max (m - cp) (cp + 2) := ⟨_, rfl⟩
    rw [← hnc]
    refine g_callS (kc2 := 0) (ks2 := 0) (rest := [_]) B M_J8_copyOf_3 q1020 q1021 (c_J8_copyB P hR g2 (by omega) gf) rfl rfl (Nat.le_of_ble_eq_true rfl) (Nat.le_of_ble_eq_true rfl) (Nat.le_of_ble_eq_true rfl) (Nat.le_refl _) (by omega) dJ12_ensureCapacityInternal_32 (xkA (fun v2 T2 O2 R2 le2 p2 => ?_))
    obtain ⟨Y2, V2, I2, J2, A2, P2, q2, rfl, eV2, ⟨eJ2, eA2⟩, at2, hN2, hv2, f2⟩ := p2
    obtain rfl := eV2.symm
    obtain rfl := eJ2.symm
    obtain rfl := eA2.symm
    refine x_put (q := (RJ13, TJ13, 4)) B P2 (f2.1.at g0) hR.1 (xrTv hR.2.1 (by decide)) F_J12_15_43 rfl rfl (tyJ13_ok 0 (by decide)) rfl rfl dJ12_ensureCapacityInternal_35 (fun O3 V3 hs3 hk3 P3 => ?_)
    refine g_vret B E rfl dJ12_ensureCapacityInternal_38 ?_
    have fz : xFr (sSbf r rv) Y V I J A Y2 V3 I2 J A := (f2.mono (fun r2 o2 e => Or.inr e)).tr (xFr.uV (r := r) (o := 0) (Or.inl ⟨rfl, rfl⟩) hs3 hk3)
    exact ⟨rfl, _, _, _, _, _, P3, rfl, rfl, q2, q2, ⟨f2.1.at g0, ⟨(rdS hs3), at2, by rw [hN2]; omega, by rw [hN2]; omega, by rw [hN2]; omega, fun j hj => by rw [hv2]; split; exact gf j (by assumption); rfl, fun j hj => by rw [hv2, if_pos (by omega)]; exact g6 j hj⟩, (rdK hs3 (by decide) gc), ⟨_, (rdK hs3 (by decide) gz)⟩, (rdK hs3 (by decide) gn)⟩, by rw [hN2]; omega, fz⟩
  · refine g_isub B dJ12_ensureCapacityInternal_13 ?_
    refine g_if_le (tgt := 38) B dJ12_ensureCapacityInternal_14 (by decide) (fun _ => ?_) (fun e => absurd (le_sub0 (by omega) (by omega)) e)
    refine g_vret B E rfl dJ12_ensureCapacityInternal_38 ?_
    exact ⟨rfl, _, _, _, _, _, P, rfl, rfl, id, xv, hS, by omega, xFr.rf⟩
theorem c_J10_checkIndexR {G : xG} {T : xT} {O R : xO} {Y : xY} {V : xVV} {I : xII} {J : xJJ} {A : xVV} {w0 : xW} {i n t : Nat} (P : PX Y V I J A w0 T O R) (hi : i < n) (hn : n < 2 ^ 31) : xCtr G yJ10_checkIndex cJ10_checkIndex 3 (some Jvm.ClassFile.FieldType.int) 0 0 0 0 [.int (nI i), .int (nI n), .ref t] (T, O, R) (xA (fun v T2 O2 R2 => v = .int (nI i) ∧ T2 = T ∧ O2 = O ∧ R2 = R)) := by
  refine xCtr.of (by decide +kernel) (Nat.le_of_ble_eq_true rfl) ?_
  intro Z B E hz hnm
  change xV Z (T, O, R) 0 [(0, .int (nI i)), (1, .int (nI n)), (2, .ref t)] [] 0 0
  refine g_iload_n B 0 dJ10_checkIndex_0 rfl ?_
  refine g_if_ltN (tgt := 9) B (by omega) dJ10_checkIndex_1 (by decide) ?_
  refine g_iload_n B 0 dJ10_checkIndex_4 rfl ?_
  refine g_iload_n B 1 dJ10_checkIndex_5 rfl ?_
  refine g_icmp_ltN (tgt := 16) B (by omega) (by omega) dJ10_checkIndex_6 (by decide) (fun _ => ?_) (fun e => absurd e (by omega))
  refine g_iload_n B 0 dJ10_checkIndex_16 rfl ?_
  refine g_iret B E rfl rfl dJ10_checkIndex_17 ?_
  exact ⟨_, rfl, rfl, rfl, rfl, rfl⟩
theorem c_J14_checkIndex {G : xG} {T : xT} {O R : xO} {Y : xY} {V : xVV} {I : xII} {J : xJJ} {A : xVV} {w0 : xW} {i n : Nat} (P : PX Y V I J A w0 T O R) (hi : i < n) (hn : n < 2 ^ 31) : xCtr G yJ14_checkIndex cJ14_checkIndex 2 none 1 22 0 0 [.int (nI i), .int (nI n)] (T, O, R) (xN (fun T2 O2 R2 => T2 = T ∧ O2 = O ∧ R2 = R)) := by
  refine xCtr.of (by decide +kernel) (Nat.le_of_ble_eq_true rfl) ?_
  intro Z B E hz hnm
  change xV Z (T, O, R) 0 [(0, .int (nI i)), (1, .int (nI n))] [] 0 0
  refine g_iload_n B 0 dJ14_checkIndex_0 rfl ?_
  refine g_iload_n B 1 dJ14_checkIndex_1 rfl ?_
  have hG : xSt G := by have h := B.st; rw [B.g] at h; exact h
  rcases xst_fm hG with hq | ⟨tq, hq⟩
  · refine g_gets B hq q1047 dJ14_checkIndex_2 ?_
    refine g_callS (rest := []) B M_J10_checkIndex q2064 q514 (c_J10_checkIndex P hi hn) rfl rfl (Nat.le_of_ble_eq_true rfl) (Nat.le_of_ble_eq_true rfl) (Nat.le_of_ble_eq_true rfl) (Nat.le_refl _) (Nat.le_refl _) dJ14_checkIndex_5 (xkA (fun v1 T1 O1 R1 le1 p1 => ?_))
    obtain ⟨rfl, eT1, eO1, eR1⟩ := p1
    obtain rfl := eT1.symm
    obtain rfl := eO1.symm
    obtain rfl := eR1.symm
    refine g_pop B dJ14_checkIndex_8 rfl ?_
    refine g_vret B E rfl dJ14_checkIndex_9 ?_
    exact ⟨rfl, rfl, rfl, rfl⟩
  · refine g_gets B hq q1047 dJ14_checkIndex_2 ?_
    refine g_callS (rest := []) B M_J10_checkIndex q2064 q514 (c_J10_checkIndexR P hi hn) rfl rfl (Nat.le_of_ble_eq_true rfl) (Nat.le_of_ble_eq_true rfl) (Nat.le_of_ble_eq_true rfl) (Nat.le_refl _) (Nat.le_refl _) dJ14_checkIndex_5 (xkA (fun v2 T2 O2 R2 le2 p2 => ?_))
    obtain ⟨rfl, eT2, eO2, eR2⟩ := p2
    obtain rfl := eT2.symm
    obtain rfl := eO2.symm
    obtain rfl := eR2.symm
    refine g_pop B dJ14_checkIndex_8 rfl ?_
    refine g_vret B E rfl dJ14_checkIndex_9 ?_
    exact ⟨rfl, rfl, rfl, rfl⟩
theorem nI_cnar {c : Nat} (h : c < 128) : narrow .char (.int (nI c)) = .int (nI c) := by
  have key : ∀ c, c < 128 → narrow .char (.int (nI c)) = .int (nI c) := by decide
  exact key c h
theorem c_J12_charAt {G : xG} {T : xT} {O R : xO} {Y : xY} {V : xVV} {I : xII} {J : xJJ} {A : xVV} {w0 : xW} {r rv x id xv : Nat} {l : List Nat} {i : Nat} (P : PX Y V I J A w0 T O R) (hR : sbR r rv) (S : xSe Y V I r rv x l id xv) (hi : i < l.length) (hc : l.getD i 0 < 128) : xCtr G yJ12_charAt cJ12_charAt 5 (some Jvm.ClassFile.FieldType.char) 2 43 0 0 [.ref x, .int (nI i)] (T, O, R) (xA (fun v T2 O2 R2 => v = .int (nI (l.getD i 0)) ∧ T2 = T ∧ O2 = O ∧ R2 = R)) := by
  have hS := S
  have hR2 := hR.2.2.1
  have hR3 := hR.1
  obtain ⟨g0, ⟨g1, g2, g3, g4, g5, gf, g6⟩, gc, ⟨z, gz⟩, gn⟩ := S
  refine xCtr.of (by decide +kernel) (Nat.le_of_ble_eq_true rfl) ?_
  intro Z B E hz hnm
  change xV Z (T, O, R) 0 [(0, .ref x), (1, .int (nI i))] [] 0 0
  obtain ⟨cp, hcp⟩ : ∃ cp, yN Y rv id = cp := ⟨_, rfl⟩
  have g3c : l.length ≤ cp := by rw [← hcp]; exact g3
  have g4c : 16 ≤ cp := by rw [← hcp]; exact g4
  have g5c : cp ≤ 300 := by rw [← hcp]; exact g5
  refine g_aload_n B 0 dJ12_charAt_0 rfl ?_
  refine x_get B P g0 hR.1 (xrTv hR.2.1 (by decide)) F_J12_22_43 (by decide) gc dJ12_charAt_1 ?_
  refine g_istore_n (lv2 := [(2, _), (0, _), (1, _)]) B dJ12_charAt_4 (by decide) rfl ?_
  refine g_aload_n B 1 dJ12_charAt_5 rfl ?_
  refine x_get B P g0 hR.1 (xrTv hR.2.1 (by decide)) F_J12_15_43 (by decide) g1 dJ12_charAt_6 ?_
  refine g_astore_n (lv2 := [(3, _), (2, _), (0, _), (1, _)]) B dJ12_charAt_9 (by decide) rfl ?_
  refine g_aload_n B 2 dJ12_charAt_10 rfl ?_
  refine x_get B P g0 hR.1 (xrTv hR.2.1 (by decide)) F_J12_79_43 (by decide) gn dJ12_charAt_11 ?_
  refine g_aload_n B 0 dJ12_charAt_14 rfl ?_
  refine x_alen B P g2 (by omega) (by rw [hR.2.2.1]; rfl) hcp dJ12_charAt_15 ?_
  refine g_iload_n B 1 dJ12_charAt_16 rfl ?_
  refine g_ishr B dJ12_charAt_17 ?_
  refine g_top (show Value.int ((nI cp) >>> ((nI 0) &&& 31)) = Value.int (nI cp) from congrArg Value.int (nI_shr0 _)) ?_
  refine g_callS (rest := []) B M_J7_min q2107 q468 (c_J7_min P) rfl rfl (Nat.le_of_ble_eq_true rfl) (Nat.le_of_ble_eq_true rfl) (Nat.le_of_ble_eq_true rfl) (Nat.le_refl _) (Nat.le_refl _) dJ12_charAt_18 (xkA (fun v1 T1 O1 R1 le1 p1 => ?_))
  obtain ⟨rfl, eT1, eO1, eR1⟩ := p1
  obtain rfl := eT1.symm
  obtain rfl := eO1.symm
  obtain rfl := eR1.symm
  refine g_top (show Value.int (if nI cp < nI l.length then nI cp else nI l.length) = Value.int (nI l.length) from congrArg Value.int (if_neg (fun e => by have := (nI_ltI (by omega) (by omega)).mp e; omega))) ?_
  refine g_istore (lv2 := [(4, _), (3, _), (2, _), (0, _), (1, _)]) B dJ12_charAt_21 (by decide) rfl ?_
  refine g_iload_n B 4 dJ12_charAt_23 rfl ?_
  refine g_iload B 0 dJ12_charAt_24 rfl ?_
  refine g_callS (rest := []) B M_J14_checkIndex q2108 q2062 (c_J14_checkIndex P hi (by omega)) rfl rfl (Nat.le_of_ble_eq_true rfl) (Nat.le_of_ble_eq_true rfl) (Nat.le_of_ble_eq_true rfl) (Nat.le_refl _) (Nat.le_refl _) dJ12_charAt_26 (xkN (fun T2 O2 R2 le2 p2 => ?_))
  obtain ⟨eT2, eO2, eR2⟩ := p2
  obtain rfl := eT2.symm
  obtain rfl := eO2.symm
  obtain rfl := eR2.symm
  refine g_iload_n B 2 dJ12_charAt_29 rfl ?_
  refine g_if_neN (tgt := 42) B (by omega) dJ12_charAt_30 (by decide) (fun e => absurd e (by decide)) (fun _ => ?_)
  refine g_aload_n B 1 dJ12_charAt_33 rfl ?_
  refine g_iload_n B 4 dJ12_charAt_34 rfl ?_
  refine x_ldB B P g2 hR.2.2.1 rfl hcp (by omega) (by omega) (g6 i hi) dJ12_charAt_35 ?_
  refine g_sipush (v := nI 255) B dJ12_charAt_36 (by decide) ?_
  refine g_iand B dJ12_charAt_39 ?_
  refine g_top (show Value.int ((nI (l.getD i 0)) &&& (nI 255)) = Value.int (nI (l.getD i 0)) from congrArg Value.int (nI_ff hc)) ?_
  refine g_i2c B dJ12_charAt_40 rfl ?_
  refine g_top (show Value.int ((((nI (l.getD i 0))).toUInt32 % 65536).toInt32) = Value.int (nI (l.getD i 0)) from congrArg Value.int (nI_i2c hc)) ?_
  refine g_iret B E rfl (nI_cnar hc) dJ12_charAt_41 ?_
  exact ⟨_, rfl, rfl, rfl, rfl, rfl⟩
theorem getD_app {l : List Nat} {c j : Nat} (hj : j < (l ++ [c]).length) : (j = l.length → (l ++ [c]).getD j 0 = c) ∧ (j ≠ l.length → j < l.length ∧ (l ++ [c]).getD j 0 = l.getD j 0) := by
  rw [List.length_append, List.length_singleton] at hj
  refine ⟨fun e => ?_, fun e => ⟨by omega, ?_⟩⟩
  · subst e; simp [List.getD_eq_getElem?_getD]
  · simp [List.getD_eq_getElem?_getD, List.getElem?_append_left (show j < l.length by omega)]
theorem c_J12_appendC {G : xG} {T : xT} {O R : xO} {Y : xY} {V : xVV} {I : xII} {J : xJJ} {A : xVV} {w0 : xW} {r rv x id xv : Nat} {l : List Nat} {c : Nat} (P : PX Y V I J A w0 T O R) (hR : sbR r rv) (S : xSe Y V I r rv x l id xv) (hl : l.length ≤ 90) (hc : c < 128) : xCtr G yJ12_append_2 cJ12_append_2 2 (some (Jvm.ClassFile.FieldType.object "java/lang/AbstractStringBuilder")) 4 104 1 400 [.ref x, .int (nI c)] (T, O, R) (xA (xP w0 (fun v Y2 V2 I2 J2 A2 => v = .ref x ∧ J2 = J ∧ A2 = A ∧ (∃ id2 xv2, xSe Y2 V2 I2 r rv x (l ++ [c]) id2 xv2) ∧ xFr (sSbf r rv) Y V I J A Y2 V2 I2 J2 A2))) := by
  have hS := S
  have hR2 := hR.2.2.1
  have hR3 := hR.1
  obtain ⟨g0, ⟨g1, g2, g3, g4, g5, gf, g6⟩, gc, ⟨z, gz⟩, gn⟩ := S
  refine xCtr.of (by decide +kernel) (Nat.le_of_ble_eq_true rfl) ?_
  intro Z B E hz hnm
  change xV Z (T, O, R) 0 [(0, .ref x), (1, .int (nI c))] [] 1 400
  obtain ⟨cp, hcp⟩ : ∃ cp, yN Y rv id = cp := ⟨_, rfl⟩
  have g3c : l.length ≤ cp := by rw [← hcp]; exact g3
  have g4c : 16 ≤ cp := by rw [← hcp]; exact g4
  have g5c : cp ≤ 300 := by rw [← hcp]; exact g5
  refine g_aload_n B 0 dJ12_append_2_0 rfl ?_
  refine g_aload_n B 0 dJ12_append_2_1 rfl ?_
  refine x_get B P g0 hR.1 (xrTv hR.2.1 (by decide)) F_J12_79_43 (by decide) gn dJ12_append_2_2 ?_
  refine g_iconst (v := nI 1) B dJ12_append_2_5 (by decide) ?_
  refine g_iaddN B dJ12_append_2_6 ?_
  obtain ⟨n1, u1, ty1⟩ := P.ty g0 hR.1 (xrTv hR.2.1 (by decide))
  refine g_callP (kc2 := 0) (ks2 := 0) (rest := []) B (C := "java/lang/StringBuilder") M_J12_ensureCapacityInternal q1010 q2922 q1012 q1033 rfl q1011 ty1 rfl (c_J12_ensure (m := l.length + 1) P hR hS (by omega)) rfl rfl (Nat.le_of_ble_eq_true rfl) (Nat.le_of_ble_eq_true rfl) (Nat.le_of_ble_eq_true rfl) (by decide) (by decide) dJ12_append_2_7 (xkN (fun T1 O1 R1 le1 p1 => ?_))
  obtain ⟨Y1, V1, I1, J1, A1, P1, eJ1, eA1, id1, xv1, S1, hm1, f1⟩ := p1
  obtain rfl := eJ1.symm
  obtain rfl := eA1.symm
  have hS1 := S1
  obtain ⟨g01, ⟨g11, g21, g31, g41, g51, gf1, g61⟩, gc1, ⟨z1, gz1⟩, gn1⟩ := S1
  obtain ⟨cp1, hcp1⟩ : ∃ cp, yN Y1 rv id1 = cp := ⟨_, rfl⟩
  refine g_aload_n B 0 dJ12_append_2_10 rfl ?_
  obtain ⟨n2, u2, ty2⟩ := P1.ty g01 hR.1 (xrTv hR.2.1 (by decide))
  refine g_callU (rest := []) B (C := "java/lang/StringBuilder") (owner := "java/lang/AbstractStringBuilder") M_J12_isLatin1 rfl q1030 q1032 q1031 q1033 ty2 rfl (c_J12_isLatin1 P1 hR hS1) rfl rfl (Nat.le_of_ble_eq_true rfl) (Nat.le_of_ble_eq_true rfl) (Nat.le_of_ble_eq_true rfl) (Nat.le_refl _) (Nat.le_refl _) dJ12_append_2_11 (xkA (fun v2 T2 O2 R2 le2 p2 => ?_))
  obtain ⟨rfl, eT2, eO2, eR2⟩ := p2
  obtain rfl := eT2.symm
  obtain rfl := eO2.symm
  obtain rfl := eR2.symm
  refine g_if_eqN (tgt := 45) B (by omega) dJ12_append_2_14 (by decide) (fun e => absurd e (by decide)) (fun _ => ?_)
  refine g_iload_n B 1 dJ12_append_2_17 rfl ?_
  refine g_callS (rest := []) B M_J16_canEncode q2052 q2053 (c_J16_canEncode P1 hc) rfl rfl (Nat.le_of_ble_eq_true rfl) (Nat.le_of_ble_eq_true rfl) (Nat.le_of_ble_eq_true rfl) (Nat.le_refl _) (Nat.le_refl _) dJ12_append_2_18 (xkA (fun v4 T4 O4 R4 le4 p4 => ?_))
  obtain ⟨rfl, eT4, eO4, eR4⟩ := p4
  obtain rfl := eT4.symm
  obtain rfl := eO4.symm
  obtain rfl := eR4.symm
  refine g_if_eqN (tgt := 45) B (by omega) dJ12_append_2_21 (by decide) (fun e => absurd e (by decide)) (fun _ => ?_)
  refine g_aload_n B 0 dJ12_append_2_24 rfl ?_
  refine x_get B P1 g01 hR.1 (xrTv hR.2.1 (by decide)) F_J12_15_43 (by decide) g11 dJ12_append_2_25 ?_
  refine g_aload_n B 0 dJ12_append_2_28 rfl ?_
  refine g_dup B dJ12_append_2_29 rfl ?_
  refine x_get B P1 g01 hR.1 (xrTv hR.2.1 (by decide)) F_J12_79_43 (by decide) gn1 dJ12_append_2_30 ?_
  refine g_dup_x1 B dJ12_append_2_33 rfl rfl ?_
  refine g_iconst (v := nI 1) B dJ12_append_2_34 (by decide) ?_
  refine g_iaddN B dJ12_append_2_35 ?_
  refine x_put (q := (RJ13, TJ13, 4)) B P1 g01 hR.1 (xrTv hR.2.1 (by decide)) F_J12_79_43 rfl rfl (tyJ13_ok 3 (by decide)) rfl rfl dJ12_append_2_36 (fun O6 V6 hs6 hk6 P6 => ?_)
  refine g_iload_n B 1 dJ12_append_2_39 rfl ?_
  refine g_i2b B dJ12_append_2_40 rfl ?_
  refine g_top (show Value.int (((nI c)).toInt8.toInt32) = Value.int (nI c) from congrArg Value.int (nI_i2b hc)) ?_
  refine x_stB B P6 g21 hR.2.2.1 rfl hcp1 (by omega) (by omega) (nI_byte hc) dJ12_append_2_41 (fun R7 I7 hs7 hk7 P7 => ?_)
  refine g_goto (tgt := 75) B dJ12_append_2_42 (by decide) ?_
  refine g_aload_n B 0 dJ12_append_2_75 rfl ?_
  refine g_aret B E rfl (Or.inl ⟨_, rfl⟩) (Or.inr ⟨_, rfl⟩) dJ12_append_2_76 ?_
  have fz : xFr (sSbf r rv) Y V I J A Y1 V6 I7 J A := (f1.tr (xFr.uV (r := r) (o := 0) (Or.inl ⟨rfl, rfl⟩) hs6 hk6)).tr (xFr.uI (r := rv) (o := id1) (Or.inr rfl) hs7 hk7)
  refine ⟨_, rfl, _, _, _, _, _, P7, rfl, rfl, rfl, ⟨id1, xv1, g01, ⟨(rdK hs6 (by decide) g11), g21, by rw [List.length_append]; exact hm1, g41, g51, fun j hj => ?_, fun j hj => ?_⟩, (rdK hs6 (by decide) gc1), ⟨_, (rdK hs6 (by decide) gz1)⟩, by rw [List.length_append]; exact (rdS hs6)⟩, fz⟩
  · rw [hs7, va_ups]
    by_cases e : j = l.length
    · rw [e, va_ups]; exact nI_fits hc
    · rw [va_upe e]; exact gf1 j hj
  · rw [hs7, va_ups]
    obtain ⟨k1, k2⟩ := getD_app hj
    by_cases e : j = l.length
    · rw [k1 e, e, va_ups]
    · rw [(k2 e).2, va_upe e]; exact g61 j (k2 e).1
theorem c_J12_setLength0 {G : xG} {T : xT} {O R : xO} {Y : xY} {V : xVV} {I : xII} {J : xJJ} {A : xVV} {w0 : xW} {r rv x id xv : Nat} {l : List Nat} (P : PX Y V I J A w0 T O R) (hR : sbR r rv) (S : xSe Y V I r rv x l id xv) : xCtr G yJ12_setLength cJ12_setLength 2 none 4 104 1 400 [.ref x, .int (nI 0)] (T, O, R) (xN (xPN w0 (fun Y2 V2 I2 J2 A2 => J2 = J ∧ A2 = A ∧ (∃ id2 xv2, xSe Y2 V2 I2 r rv x [] id2 xv2) ∧ xFr (sSbf r rv) Y V I J A Y2 V2 I2 J2 A2))) := by
  have hS := S
  have hR2 := hR.2.2.1
  have hR3 := hR.1
  obtain ⟨g0, ⟨g1, g2, g3, g4, g5, gf, g6⟩, gc, ⟨z, gz⟩, gn⟩ := S
  refine xCtr.of (by decide +kernel) (Nat.le_of_ble_eq_true rfl) ?_
  intro Z B E hz hnm
  change xV Z (T, O, R) 0 [(0, .ref x), (1, .int (nI 0))] [] 1 400
  obtain ⟨cp, hcp⟩ : ∃ cp, yN Y rv id = cp := ⟨_, rfl⟩
  have g3c : l.length ≤ cp := by rw [← hcp]; exact g3
  have g4c : 16 ≤ cp := by rw [← hcp]; exact g4
  have g5c : cp ≤ 300 := by rw [← hcp]; exact g5
  refine g_iload_n B 1 dJ12_setLength_0 rfl ?_
  refine g_if_geN (tgt := 13) B (by omega) dJ12_setLength_1 (by decide) ?_
  refine g_aload_n B 0 dJ12_setLength_13 rfl ?_
  refine g_iload_n B 1 dJ12_setLength_14 rfl ?_
  obtain ⟨n2, u2, ty2⟩ := P.ty g0 hR.1 (xrTv hR.2.1 (by decide))
  refine g_callP (kc2 := 0) (ks2 := 0) (rest := []) B (C := "java/lang/StringBuilder") M_J12_ensureCapacityInternal q1010 q2922 q1012 q1033 rfl q1011 ty2 rfl (c_J12_ensure (m := 0) P hR hS (by omega)) rfl rfl (Nat.le_of_ble_eq_true rfl) (Nat.le_of_ble_eq_true rfl) (Nat.le_of_ble_eq_true rfl) (by decide) (by decide) dJ12_setLength_15 (xkN (fun T2 O2 R2 le2 p2 => ?_))
  obtain ⟨Y2, V2, I2, J2, A2, P2, eJ2, eA2, id2, xv2, S2, hm2, f2⟩ := p2
  obtain rfl := eJ2.symm
  obtain rfl := eA2.symm
  have hS2 := S2
  obtain ⟨g02, ⟨g12, g22, g32, g42, g52, gf2, g62⟩, gc2, ⟨z2, gz2⟩, gn2⟩ := S2
  obtain ⟨cp2, hcp2⟩ : ∃ cp, yN Y2 rv id2 = cp := ⟨_, rfl⟩
  refine g_aload_n B 0 dJ12_setLength_18 rfl ?_
  refine x_get B P2 g02 hR.1 (xrTv hR.2.1 (by decide)) F_J12_79_43 (by decide) gn2 dJ12_setLength_19 ?_
  refine g_iload_n B 1 dJ12_setLength_22 rfl ?_
  refine g_icmp_geN (tgt := 63) B (by omega) (by omega) dJ12_setLength_23 (by decide) (fun _ => ?_) (fun e => absurd e (by omega))
  refine g_aload_n B 0 dJ12_setLength_63 rfl ?_
  refine x_get B P2 g02 hR.1 (xrTv hR.2.1 (by decide)) F_J12_79_43 (by decide) gn2 dJ12_setLength_64 ?_
  refine g_iload_n B 1 dJ12_setLength_67 rfl ?_
  refine g_icmp_leN (tgt := 76) B (by omega) (by omega) dJ12_setLength_68 (by decide) (fun c3 => ?_) (fun c3 => ?_)
  · refine g_aload_n B 0 dJ12_setLength_76 rfl ?_
    refine g_iload_n B 1 dJ12_setLength_77 rfl ?_
    refine x_put (q := (RJ13, TJ13, 4)) B P2 g02 hR.1 (xrTv hR.2.1 (by decide)) F_J12_79_43 rfl rfl (tyJ13_ok 3 (by decide)) rfl rfl dJ12_setLength_78 (fun O4 V4 hs4 hk4 P4 => ?_)
    refine g_vret B E rfl dJ12_setLength_81 ?_
    exact ⟨rfl, _, _, _, _, _, P4, rfl, rfl, ⟨id2, xv2, g02, ⟨(rdK hs4 (by decide) g12), g22, Nat.zero_le _, g42, g52, gf2, fun j hj => absurd hj (Nat.not_lt_zero j)⟩, (rdK hs4 (by decide) gc2), ⟨_, (rdK hs4 (by decide) gz2)⟩, (rdS hs4)⟩, (f2.tr (xFr.uV (r := r) (o := 0) (Or.inl ⟨rfl, rfl⟩) hs4 hk4))⟩
  · refine g_aload_n B 0 dJ12_setLength_71 rfl ?_
    refine g_iconst (v := nI 1) B dJ12_setLength_72 (by decide) ?_
    refine x_put (q := (RJ13, TJ13, 4)) B P2 g02 hR.1 (xrTv hR.2.1 (by decide)) F_J12_73_43 rfl rfl (tyJ13_ok 2 (by decide)) rfl rfl dJ12_setLength_73 (fun O5 V5 hs5 hk5 P5 => ?_)
    refine g_aload_n B 0 dJ12_setLength_76 rfl ?_
    refine g_iload_n B 1 dJ12_setLength_77 rfl ?_
    refine x_put (q := (RJ13, TJ13, 4)) B P5 g02 hR.1 (xrTv hR.2.1 (by decide)) F_J12_79_43 rfl rfl (tyJ13_ok 3 (by decide)) rfl rfl dJ12_setLength_78 (fun O6 V6 hs6 hk6 P6 => ?_)
    refine g_vret B E rfl dJ12_setLength_81 ?_
    exact ⟨rfl, _, _, _, _, _, P6, rfl, rfl, ⟨id2, xv2, g02, ⟨(rdK hs6 (by decide) (rdK hs5 (by decide) g12)), g22, Nat.zero_le _, g42, g52, gf2, fun j hj => absurd hj (Nat.not_lt_zero j)⟩, (rdK hs6 (by decide) (rdK hs5 (by decide) gc2)), ⟨_, (rdK hs6 (by decide) (rdS hs5))⟩, (rdS hs6)⟩, ((f2.tr (xFr.uV (r := r) (o := 0) (Or.inl ⟨rfl, rfl⟩) hs5 hk5)).tr (xFr.uV (r := r) (o := 0) (Or.inl ⟨rfl, rfl⟩) hs6 hk6))⟩
theorem c_J12_init {G : xG} {T : xT} {O R : xO} {Y : xY} {V : xVV} {I : xII} {J : xJJ} {A : xVV} {w0 : xW} {r rv x : Nat} (P : PX Y V I J A w0 T O R) (hR : sbR r rv) (g0 : yAt Y r 0 x) (i2 : V r 0 2 = .int 0) (i3 : V r 0 3 = .int 0) : xCtr G yJ12_init cJ12_init 2 none 1 20 1 16 [.ref x, .int (nI 16)] (T, O, R) (xN (xPN w0 (fun Y2 V2 I2 J2 A2 => J2 = J ∧ A2 = A ∧ (∃ id2 xv2, xSe Y2 V2 I2 r rv x [] id2 xv2) ∧ xFr (sSbf r rv) Y V I J A Y2 V2 I2 J2 A2))) := by
  have hR2 := hR.2.2.1
  have hR3 := hR.1
  refine xCtr.of (by decide +kernel) (Nat.le_of_ble_eq_true rfl) ?_
  intro Z B E hz hnm
  have hSt := by have h := B.st.2.2.2; rw [B.g] at h; exact h
  change xV Z (T, O, R) 0 [(0, .ref x), (1, .int (nI 16))] [] 1 16
  refine g_aload_n B 0 dJ12_init_0 rfl ?_
  refine g_objInit B q689 q161 q162 (by decide) (by decide) dJ12_init_1 ?_
  refine g_gets B hSt.2.2.2.1 q690 dJ12_init_4 ?_
  refine g_top (show Value.int 1 = .int (nI 1) from rfl) ?_
  refine g_if_eqN (tgt := 25) B (by omega) dJ12_init_7 (by decide) (fun e => absurd e (by decide)) (fun _ => ?_)
  refine g_aload_n B 0 dJ12_init_10 rfl ?_
  refine g_iload_n B 1 dJ12_init_11 rfl ?_
  refine x_newaI (atype := .byte) (ty := .byte) (N := 16) (kc := 0) (ks := 0) B P rv (fun q => q) hR.2.2.2.2 rfl (by rw [hR.2.2.1]; rfl) rfl (Or.inr (Or.inr hR.2.2.1)) q713 rfl (by decide) (by decide) (fun q hq x => P.fresh hq _ _ hR.2.2.2.1) (fun _ => Or.inl (fun _ => rfl)) dJ12_init_12 (fun q2 Y2 I2 T2 R2 hq2 le2 gr2 hf2 at2 hN2 hs2 hk2 P2 => ?_)
  refine x_put (q := (RJ13, TJ13, 4)) B P2 (le2.at g0) hR.1 (xrTv hR.2.1 (by decide)) F_J12_15_43 rfl rfl (tyJ13_ok 0 (by decide)) rfl rfl dJ12_init_14 (fun O3 V3 hs3 hk3 P3 => ?_)
  refine g_aload_n B 0 dJ12_init_17 rfl ?_
  refine g_iconst (v := nI 0) B dJ12_init_18 (by decide) ?_
  refine x_put (q := (RJ13, TJ13, 4)) B P3 (le2.at g0) hR.1 (xrTv hR.2.1 (by decide)) F_J12_22_43 rfl rfl (tyJ13_ok 1 (by decide)) rfl rfl dJ12_init_19 (fun O4 V4 hs4 hk4 P4 => ?_)
  refine g_goto (tgt := 38) B dJ12_init_22 (by decide) ?_
  refine g_vret B E rfl dJ12_init_38 ?_
  exact ⟨rfl, _, _, _, _, _, P4, rfl, rfl, ⟨q2, q2, le2.at g0, ⟨(rdK hs4 (by decide) (rdS hs3)), at2, Nat.zero_le _, by rw [hN2]; decide, by rw [hN2]; decide, fun j hj => by rw [hs2, va_ups]; rfl, fun j hj => absurd hj (Nat.not_lt_zero j)⟩, (rdS hs4), ⟨_, (rdK hs4 (by decide) (rdK hs3 (by decide) i2))⟩, (rdK hs4 (by decide) (rdK hs3 (by decide) i3))⟩, (((xFr.nI (r := rv) (o := q2) (Or.inr rfl) le2 gr2 hs2 hk2).tr (xFr.uV (r := r) (o := 0) (Or.inl ⟨rfl, rfl⟩) hs3 hk3)).tr (xFr.uV (r := r) (o := 0) (Or.inl ⟨rfl, rfl⟩) hs4 hk4))⟩
theorem c_J13_length {G : xG} {T : xT} {O R : xO} {Y : xY} {V : xVV} {I : xII} {J : xJJ} {A : xVV} {w0 : xW} {r rv x id xv : Nat} {l : List Nat} (P : PX Y V I J A w0 T O R) (hR : sbR r rv) (S : xSe Y V I r rv x l id xv) : xCtr G yJ13_length cJ13_length 1 (some Jvm.ClassFile.FieldType.int) 1 20 0 0 [.ref x] (T, O, R) (xA (fun v T2 O2 R2 => v = .int (nI l.length) ∧ T2 = T ∧ O2 = O ∧ R2 = R)) := by
  have g0 := S.1
  have hR3 := hR.1
  refine xCtr.of (by decide +kernel) (Nat.le_of_ble_eq_true rfl) ?_
  intro Z B E hz hnm
  change xV Z (T, O, R) 0 [(0, .ref x)] [] 0 0
  refine g_aload_n B 0 dJ13_length_0 rfl ?_
  obtain ⟨n1, u1, ty1⟩ := P.ty g0 hR.1 (xrTv hR.2.1 (by decide))
  refine g_callSU (rest := []) B M_J12_length q1129 q1125 q712 q1124 (by decide) ty1 rfl rfl (c_J12_length P hR S) rfl rfl (Nat.le_of_ble_eq_true rfl) (Nat.le_of_ble_eq_true rfl) (Nat.le_of_ble_eq_true rfl) (Nat.le_refl _) (Nat.le_refl _) dJ13_length_1 (xkA (fun v1 T1 O1 R1 le1 p1 => ?_))
  obtain ⟨rfl, eT1, eO1, eR1⟩ := p1
  obtain rfl := eT1.symm
  obtain rfl := eO1.symm
  obtain rfl := eR1.symm
  refine g_iret B E rfl rfl dJ13_length_4 ?_
  exact ⟨_, rfl, rfl, rfl, rfl, rfl⟩
theorem c_J13_appendC {G : xG} {T : xT} {O R : xO} {Y : xY} {V : xVV} {I : xII} {J : xJJ} {A : xVV} {w0 : xW} {r rv x id xv : Nat} {l : List Nat} {c : Nat} (P : PX Y V I J A w0 T O R) (hR : sbR r rv) (S : xSe Y V I r rv x l id xv) (hl : l.length ≤ 90) (hc : c < 128) : xCtr G yJ13_append_2 cJ13_append_2 2 (some (Jvm.ClassFile.FieldType.object "java/lang/StringBuilder")) 5 125 1 400 [.ref x, .int (nI c)] (T, O, R) (xA (xP w0 (fun v Y2 V2 I2 J2 A2 => v = .ref x ∧ J2 = J ∧ A2 = A ∧ (∃ id2 xv2, xSe Y2 V2 I2 r rv x (l ++ [c]) id2 xv2) ∧ xFr (sSbf r rv) Y V I J A Y2 V2 I2 J2 A2))) := by
  have g0 := S.1
  have hR3 := hR.1
  refine xCtr.of (by decide +kernel) (Nat.le_of_ble_eq_true rfl) ?_
  intro Z B E hz hnm
  change xV Z (T, O, R) 0 [(0, .ref x), (1, .int (nI c))] [] 1 400
  refine g_aload_n B 0 dJ13_append_2_0 rfl ?_
  refine g_iload_n B 1 dJ13_append_2_1 rfl ?_
  obtain ⟨n1, u1, ty1⟩ := P.ty g0 hR.1 (xrTv hR.2.1 (by decide))
  refine g_callSU (kc2 := 0) (ks2 := 0) (rest := []) B M_J12_append_2 q2049 q2930 q712 q2050 (by decide) ty1 rfl rfl (c_J12_appendC P hR S hl hc) rfl rfl (Nat.le_of_ble_eq_true rfl) (Nat.le_of_ble_eq_true rfl) (Nat.le_of_ble_eq_true rfl) (by decide) (by decide) dJ13_append_2_2 (xkA (fun v1 T1 O1 R1 le1 p1 => ?_))
  obtain ⟨Y1, V1, I1, J1, A1, P1, rfl, rfl, rfl, s1, f1⟩ := p1
  refine g_pop B dJ13_append_2_5 rfl ?_
  refine g_aload_n B 0 dJ13_append_2_6 rfl ?_
  refine g_aret B E rfl (Or.inl ⟨_, rfl⟩) (Or.inr ⟨_, rfl⟩) dJ13_append_2_7 ?_
  exact ⟨_, rfl, _, _, _, _, _, P1, rfl, rfl, rfl, s1, f1⟩
theorem c_J13_setLength0 {G : xG} {T : xT} {O R : xO} {Y : xY} {V : xVV} {I : xII} {J : xJJ} {A : xVV} {w0 : xW} {r rv x id xv : Nat} {l : List Nat} (P : PX Y V I J A w0 T O R) (hR : sbR r rv) (S : xSe Y V I r rv x l id xv) : xCtr G yJ13_setLength cJ13_setLength 2 none 5 125 1 400 [.ref x, .int (nI 0)] (T, O, R) (xN (xPN w0 (fun Y2 V2 I2 J2 A2 => J2 = J ∧ A2 = A ∧ (∃ id2 xv2, xSe Y2 V2 I2 r rv x [] id2 xv2) ∧ xFr (sSbf r rv) Y V I J A Y2 V2 I2 J2 A2))) := by
  have g0 := S.1
  have hR3 := hR.1
  refine xCtr.of (by decide +kernel) (Nat.le_of_ble_eq_true rfl) ?_
  intro Z B E hz hnm
  change xV Z (T, O, R) 0 [(0, .ref x), (1, .int (nI 0))] [] 1 400
  refine g_aload_n B 0 dJ13_setLength_0 rfl ?_
  refine g_iload_n B 1 dJ13_setLength_1 rfl ?_
  obtain ⟨n1, u1, ty1⟩ := P.ty g0 hR.1 (xrTv hR.2.1 (by decide))
  refine g_callSU (kc2 := 0) (ks2 := 0) (rest := []) B M_J12_setLength q2327 q2932 q712 q2328 (by decide) ty1 rfl rfl (c_J12_setLength0 P hR S) rfl rfl (Nat.le_of_ble_eq_true rfl) (Nat.le_of_ble_eq_true rfl) (Nat.le_of_ble_eq_true rfl) (by decide) (by decide) dJ13_setLength_2 (xkN (fun T1 O1 R1 le1 p1 => ?_))
  obtain ⟨Y1, V1, I1, J1, A1, P1, rfl, rfl, s1, f1⟩ := p1
  refine g_vret B E rfl dJ13_setLength_5 ?_
  exact ⟨rfl, _, _, _, _, _, P1, rfl, rfl, s1, f1⟩
theorem c_J13_charAt {G : xG} {T : xT} {O R : xO} {Y : xY} {V : xVV} {I : xII} {J : xJJ} {A : xVV} {w0 : xW} {r rv x id xv : Nat} {l : List Nat} {i : Nat} (P : PX Y V I J A w0 T O R) (hR : sbR r rv) (S : xSe Y V I r rv x l id xv) (hi : i < l.length) (hc : l.getD i 0 < 128) : xCtr G yJ13_charAt cJ13_charAt 2 (some Jvm.ClassFile.FieldType.char) 3 67 0 0 [.ref x, .int (nI i)] (T, O, R) (xA (fun v T2 O2 R2 => v = .int (nI (l.getD i 0)) ∧ T2 = T ∧ O2 = O ∧ R2 = R)) := by
  have g0 := S.1
  have hR3 := hR.1
  refine xCtr.of (by decide +kernel) (Nat.le_of_ble_eq_true rfl) ?_
  intro Z B E hz hnm
  change xV Z (T, O, R) 0 [(0, .ref x), (1, .int (nI i))] [] 0 0
  refine g_aload_n B 0 dJ13_charAt_0 rfl ?_
  refine g_iload_n B 1 dJ13_charAt_1 rfl ?_
  obtain ⟨n1, u1, ty1⟩ := P.ty g0 hR.1 (xrTv hR.2.1 (by decide))
  refine g_callSU (rest := []) B M_J12_charAt q2104 q2931 q712 q2105 (by decide) ty1 rfl rfl (c_J12_charAt P hR S hi hc) rfl rfl (Nat.le_of_ble_eq_true rfl) (Nat.le_of_ble_eq_true rfl) (Nat.le_of_ble_eq_true rfl) (Nat.le_refl _) (Nat.le_refl _) dJ13_charAt_2 (xkA (fun v1 T1 O1 R1 le1 p1 => ?_))
  obtain ⟨rfl, eT1, eO1, eR1⟩ := p1
  obtain rfl := eT1.symm
  obtain rfl := eO1.symm
  obtain rfl := eR1.symm
  refine g_iret B E rfl (nI_cnar hc) dJ13_charAt_5 ?_
  exact ⟨_, rfl, rfl, rfl, rfl, rfl⟩
theorem c_J13_init {G : xG} {T : xT} {O R : xO} {Y : xY} {V : xVV} {I : xII} {J : xJJ} {A : xVV} {w0 : xW} {r rv x : Nat} (P : PX Y V I J A w0 T O R) (hR : sbR r rv) (g0 : yAt Y r 0 x) (i2 : V r 0 2 = .int 0) (i3 : V r 0 3 = .int 0) : xCtr G yJ13_init cJ13_init 1 none 2 41 1 16 [.ref x] (T, O, R) (xN (xPN w0 (fun Y2 V2 I2 J2 A2 => J2 = J ∧ A2 = A ∧ (∃ id2 xv2, xSe Y2 V2 I2 r rv x [] id2 xv2) ∧ xFr (sSbf r rv) Y V I J A Y2 V2 I2 J2 A2))) := by
  have hR3 := hR.1
  refine xCtr.of (by decide +kernel) (Nat.le_of_ble_eq_true rfl) ?_
  intro Z B E hz hnm
  change xV Z (T, O, R) 0 [(0, .ref x)] [] 1 16
  refine g_aload_n B 0 dJ13_init_0 rfl ?_
  refine g_bipush (v := nI 16) B dJ13_init_1 (by decide) ?_
  refine g_callI (kc2 := 0) (ks2 := 0) (rest := []) B M_J12_init rfl q686 q687 (c_J12_init P hR g0 i2 i3) rfl rfl (Nat.le_of_ble_eq_true rfl) (Nat.le_of_ble_eq_true rfl) (Nat.le_of_ble_eq_true rfl) (by decide) (by decide) dJ13_init_3 (xkN (fun T1 O1 R1 le1 p1 => ?_))
  obtain ⟨Y1, V1, I1, J1, A1, P1, rfl, rfl, s1, f1⟩ := p1
  refine g_vret B E rfl dJ13_init_6 ?_
  exact ⟨rfl, _, _, _, _, _, P1, rfl, rfl, s1, f1⟩
