set_option maxRecDepth 100000
section XAD
variable {Z : xZ} {G : xG} {cc : ByteArray} {own : String} {nL fr lo : Nat} {ret : Option FieldType} {w : xW} {T : xT} {O R : xO} {pc : Nat} {lv : List (Nat × Value)} {st : List Value} {kc ks : Nat}
theorem g_copyA (B : xOk Z G cc own nL fr lo ret) {a0 a r0 n0 o0 r1 n1 o1 idx : Nat} {f g : Nat → Value} {sp dp n : Int32} {sp' dp' n' : Nat} (ha0 : T a0 = some (r0, n0, o0)) (ha1 : T a = some (r1, n1, o1)) (hr0 : xTy (r0 / 1000) = some (.object "java/lang/Object")) (hr1 : xTy (r1 / 1000) = some (.object "java/lang/Object")) (hf0 : R a0 = f) (hf1 : R a = g) (e1 : sp = nI sp') (e2 : dp = nI dp') (e3 : n = nI n') (h4 : sp' + n' ≤ n0) (h5 : dp' + n' ≤ n1) (hn0 : n0 < 2 ^ 31) (hn1 : n1 < 2 ^ 31) (hel : ∀ i, i < n' → f (sp' + i) = .null ∨ ∃ y tr tn tu, f (sp' + i) = .ref y ∧ T y = some (tr, tn, tu) ∧ xAsg tr (r1 / 1000)) (q1 : Cond.methodLink own idx arraycopyName ∈ lw_all) (q2 : Cond.native arraycopyName ∈ lw_all) (q3 : Cond.static arraycopyName ∈ lw_all) (q4 : Cond.initialized "java/lang/System" ∈ lw_all) (hfr : 1 ≤ fr) (hlo : (st.map fun v => v.category).sum + (nativeFrameWords "java/lang/System" "arraycopy" 5 + 11) ≤ lo) (d : decode cc pc = .ok (.invokestatic idx, 3)) (kk : xV Z (T, O, xUr R a (va_cpy f g sp' dp' n')) (pc + 3) lv st kc ks) : xV Z (T, O, R) pc lv (.int n :: .int dp :: .ref a :: .int sp :: .ref a0 :: st) kc ks := by
  intro ls H locs cells slots h1 h2
  subst e1 e2 e3
  have k1 : (nI sp').toNatClampNeg = sp' := nI_clamp (by omega)
  have k2 : (nI dp').toNatClampNeg = dp' := nI_clamp (by omega)
  have k3 : (nI n').toNatClampNeg = n' := nI_clamp (by omega)
  have c0 : H[a0]? = some (arrV ((zG Z).2.2.2.1 (r0 / 1000)) n0 f) := by
    have := (h2.1.1 a0 _ ha0).2.arr hr0
    rw [this]
    show some (arrV _ n0 (R a0)) = _
    rw [hf0]
  have c1 : H[a]? = some (arrV ((zG Z).2.2.2.1 (r1 / 1000)) n1 g) := by
    have := (h2.1.1 a _ ha1).2.arr hr1
    rw [this]
    show some (arrV _ n1 (R a)) = _
    rw [hf1]
  obtain ⟨k0', cm0, hk0, hkk0, -⟩ := B.ar hr0
  obtain ⟨k1', cm1, hk1, hkk1, -⟩ := B.ar hr1
  intro U hT X
  obtain ⟨vm', X', step⟩ := X.arraycopy B.ex B.ow (B.ws _ q1) (B.ws _ q2) (B.ws _ q3) (B.ws _ q4) (src := a0) (dst := a) (srcPos := nI sp') (destPos := nI dp') (n := nI n') (by rw [hT]; exact c0) (by rw [hT]; exact c1)
    (fun _ h => by cases h) (fun _ h => by cases h) (fun h => by cases h) (fun h => by cases h) hk0 hk1 hkk0 hkk1 rfl (nI_pos (by omega)) (nI_pos (by omega)) (nI_pos (by omega))
    (by rw [nI_toInt (by omega), nI_toInt (by omega), arrV_size]; omega)
    (by rw [nI_toInt (by omega), nI_toInt (by omega), arrV_size]; omega)
    (fun vm₁ hal i hi => by
      rw [k3] at hi
      have e : (arrV ((zG Z).2.2.2.1 (r0 / 1000)) n0 f).slots.getD ((nI sp').toNatClampNeg + i) .null = f (sp' + i) := by
        rw [k1, Array.getD_eq_getD_getElem?, arrV_read _ _ (by omega)]
        rfl
      rw [e]
      rcases hel i hi with hz | ⟨y, tr, tn, tu, hy, hty, nm, C, ty, hr, href, hC, hnm, hcast⟩
      · rw [hz]; exact ⟨rfl, trivial⟩
      · rw [hy]
        cases hr1.symm.trans hr
        obtain ⟨cv, kv, g1, g2, g3, g4⟩ := x_cell B h2.1 hty hnm
        obtain ⟨kA, comp, z1, z2, z3, z4⟩ := B.ar hr1
        cases hk1.symm.trans z1
        cases hkk1.symm.trans z2
        obtain ⟨k5, kcomp, k6⟩ := z4 C hC
        obtain ⟨cc0, t0, f1, f2, f3⟩ := Cond.castable_spec (va_Nw.use (A := #[]) rfl (xw_cast B.st B.wm hcast))
        cases g3.symm.trans f1
        cases k5.symm.trans f2
        obtain ⟨kC', hkC', -⟩ := hal.2.2 _ _ g4
        obtain ⟨kE', hkE', -⟩ := hal.2.2 _ _ k6
        refine ⟨rfl, cv, (show U.heap[y]? = some cv by rw [hT]; exact g1), (fun q h => by rw [g2] at h; cases h), ⟨kC', hkC'⟩, ⟨kE', hkE'⟩, ?_⟩
        show vm₁.assignable _ _ = true
        rw [hal.assignable]
        exact f3)
    (g := F0 (zm Z) pc ls (.int (nI n') :: .int (nI dp') :: .ref a :: .int (nI sp') :: .ref a0 :: st)) rfl h1.1 (rest := st) rfl (by rw [B.by]; exact d) (by rw [B.fm]; exact hfr) (by rw [B.lm]; show 2 * 0 + _ + _ ≤ _; omega)
  have e1 : copied (arrV ((zG Z).2.2.2.1 (r0 / 1000)) n0 f) (arrV ((zG Z).2.2.2.1 (r1 / 1000)) n1 g) (nI sp') (nI dp') (nI n') = arrV ((zG Z).2.2.2.1 (r1 / 1000)) n1 ((va_cpy f g sp' dp' n')) := by
    unfold copied
    rw [k1, k2, k3]
    exact va_copied (fun z => z) _ _ f g h4
  rw [e1] at X' step
  have hl : a < H.size := (Array.getElem?_eq_some_iff.mp c1).1
  generalize hcell : arrV ((zG Z).2.2.2.1 (r1 / 1000)) n1 ((va_cpy f g sp' dp' n')) = cell at X' step
  have hheap : ((U.setVm vm').setCell a cell).heap = H.setIfInBounds a cell := by rw [← hT]; rfl
  have oq : ∀ q : Nat, q ≠ a → (H.setIfInBounds a cell)[q]? = H[q]? := fun q hq => by simp [Array.getElem?_setIfInBounds, Ne.symm hq]
  obtain ⟨t, a1, b1⟩ := kk ls (H.setIfInBounds a cell) _ cells slots h1 ⟨⟨fun b t hb => ⟨(h2.1.1 b t hb).1, by
      by_cases hba : b = a
      · subst hba
        cases ha1.symm.trans hb
        have hp := xTy_pos hr1
        unfold xAt
        rw [if_neg (by show ¬ r1 < 1000; omega)]
        refine ⟨⟨_, hr1⟩, ?_⟩
        show (H.setIfInBounds b cell)[b]? = some (arrV _ n1 (xUr R b _ b))
        rw [xUr_s, hcell]
        simp [Array.getElem?_setIfInBounds, hl]
      · exact (h2.1.1 b t hb).2.kept (oq b hba) rfl (xUr_a hba)⟩, by simp; exact h2.1.2.1, fun x hx => by
      have hge := (h2.1.1 a _ ha1).1
      rw [oq x (by omega)]
      exact h2.1.2.2 x hx⟩, h2.2.1, ⟨by simp; exact h2.2.2.1.1, fun q g1 g2 => by
      rw [oq q (fun e => g2 (by rw [e]; exact h2.A ha1))]
      exact h2.2.2.1.2.1 q g1 g2, fun q hq => by
      rcases List.mem_append.mp hq with h | h
      · exact h2.2.2.1.2.2 q h
      · obtain ⟨z, -, hz⟩ := List.mem_map.mp h
        rw [← hz]
        exact h2.A ha1⟩, h2.2.2.2⟩ _ hheap X'
  exact ⟨t, step t a1, b1⟩
/-- the class object of Object[] -/
theorem xst_mi {G : xG} (hG : xSt G) : ∃ mi, va_Mi "[Ljava/lang/Object;" mi G.1 := by
  obtain ⟨⟨b, -, h2⟩, -⟩ := hG
  exact va_Mi.of (args := #[Value.ref b]) (flat_of_before _ h2 (Cond.isRef (.mirror "[Ljava/lang/Object;")) (by decide +kernel))
theorem g_ldcM (B : xOk Z G cc own nL fr lo ret) {idx mi : Nat} {C : String} (hM : va_Mi C mi G.1) (q : Cond.classLink own idx C ∈ lw_all) (d : decode cc pc = .ok (.ldc idx, 2)) (kk : xV Z w (pc + 2) lv (.ref mi :: st) kc ks) : xV Z w pc lv st kc ks := by
  intro ls H locs cells slots h1 h2
  have hg := B.g
  subst hg
  exact va_ldcM B.ex B.by B.ow (B.ws _ q) (va_Mi.moved B.wm.alike hM) d (kk ls H locs cells slots h1 h2)
theorem g_getC (B : xOk Z G cc own nL fr lo ret) {idx mi a r n o : Nat} (hM : va_Mi "[Ljava/lang/Object;" mi G.1) (ht : T a = some (r, n, o)) (hr : xTy (r / 1000) = some (.object "java/lang/Object")) (q : Cond.methodLink own idx ⟨"java/lang/Object", "getClass", "()Ljava/lang/Class;"⟩ ∈ lw_all) (hfr : 1 ≤ fr) (hst : (st.map fun v => v.category).sum + 14 ≤ lo) (d : decode cc pc = .ok (.invokevirtual idx, 3)) (kk : xV Z (T, O, R) (pc + 3) lv (.ref mi :: st) kc ks) : xV Z (T, O, R) pc lv (.ref a :: st) kc ks := by
  intro ls H locs cells slots h1 h2
  have hg := B.g
  subst hg
  have hc := (h2.1.1 a _ ht).2.arr hr
  obtain ⟨kA, comp, k1, k2, k3, k4⟩ := B.ar hr
  have hdc : (Cond.declares ⟨"java/lang/Object", "getClass", "()Ljava/lang/Class;"⟩).before (za Z) (zs Z) = true := by
    obtain ⟨⟨b, g1, -⟩, -⟩ := B.st
    exact (va_Dc.moved B.wm.alike (va_Dc.of (g1 _ q2982))).use
  exact va_getC (C := "[Ljava/lang/Object;") B.ex B.by h1.1.symm B.ow (B.ws _ q) hdc (B.ws _ q2981) (B.ws _ q423) (B.ws _ q460) (va_Mi.moved B.wm.alike hM) ⟨_, hc, rfl, k3⟩ (by rw [B.fm]; exact hfr) (by rw [B.lm]; exact hst) d (kk ls H locs cells slots h1 h2)
variable {Y : xY} {V : xVV} {I : xII} {J : xJJ} {A : xVV} {w0 : xW}
theorem x_copyA (B : xOk Z G cc own nL fr lo ret) (P : PX Y V I J A w0 T O R) {r o x r1 o1 x1 idx sp' dp' n' : Nat} {sp dp n : Int32} (h : yAt Y r o x) (h1 : yAt Y r1 o1 x1) (hr : r / 1000 = 5) (hr1 : r1 / 1000 = 5) (e1 : sp = nI sp') (e2 : dp = nI dp') (e3 : n = nI n') (h4 : sp' + n' ≤ yN Y r o) (h5 : dp' + n' ≤ yN Y r1 o1) (hn0 : yN Y r o < 2 ^ 31) (hn1 : yN Y r1 o1 < 2 ^ 31) (hel : ∀ i, i < n' → A r o (sp' + i) = .null ∨ ∃ y tr tn tu, A r o (sp' + i) = .ref y ∧ T y = some (tr, tn, tu) ∧ xAsg tr 5) (q1 : Cond.methodLink own idx arraycopyName ∈ lw_all) (q2 : Cond.native arraycopyName ∈ lw_all) (q3 : Cond.static arraycopyName ∈ lw_all) (q4 : Cond.initialized "java/lang/System" ∈ lw_all) (hfr : 1 ≤ fr) (hlo : (st.map fun v => v.category).sum + (nativeFrameWords "java/lang/System" "arraycopy" 5 + 11) ≤ lo) (d : decode cc pc = .ok (.invokestatic idx, 3)) (kk : ∀ (R1 : xO) (A1 : xVV), A1 r1 = va_up (A r1) o1 (va_cpy (A r o) (A r1 o1) sp' dp' n') → (∀ i, i ≠ r1 → A1 i = A i) → PX Y V I J A1 w0 T O R1 → xV Z (T, O, R1) (pc + 3) lv st kc ks) : xV Z (T, O, R) pc lv (.int n :: .int dp :: .ref x1 :: .int sp :: .ref x :: st) kc ks := by
  obtain ⟨t, u, g1, g2⟩ := P.tya h (by omega)
  obtain ⟨t1, u1, g3, g4⟩ := P.tya h1 (by omega)
  refine g_copyA B g1 g3 (by rw [g2, hr]; rfl) (by rw [g4, hr1]; rfl) (P.arA h (by omega)) (P.arA h1 (by omega)) e1 e2 e3 h4 h5 hn0 hn1 (fun i hi => by rw [g4, hr1]; exact hel i hi) q1 q2 q3 q4 hfr hlo d ?_
  exact kk _ _ va_ups (fun i hi => va_upe hi) (P.astA h1 (by omega) _)
end XAD
def alR (r rd : Nat) : Prop := r < 1000 ∧ r % 100 = 34 ∧ rd / 1000 = 5 ∧ idR rd ∧ okA rd
/-- may stand in an Object[] -/
def xObj (Y : xY) (b : Nat) : Prop := ∃ r o, yAt Y r o b ∧ r < 1000 ∧ xAsg (xrT (yK Y) r o) 5
theorem xObj.T {Y : xY} {V : xVV} {I : xII} {J : xJJ} {A : xVV} {w0 : xW} {T : xT} {O R : xO} {b : Nat} (h : xObj Y b) (P : PX Y V I J A w0 T O R) : ∃ tb nb ub, T b = some (tb, nb, ub) ∧ xAsg tb 5 := by
  obtain ⟨r, o, h1, h2, h3⟩ := h
  obtain ⟨n, u, ty⟩ := P.ty h1 h2 rfl
  exact ⟨_, n, u, ty, h3⟩
theorem xObj.le {Y Y1 : xY} {b : Nat} (h : xObj Y b) (le : yLe Y Y1) : xObj Y1 b := by
  obtain ⟨r, o, h1, h2, h3⟩ := h
  refine ⟨r, o, le.at h1, h2, ?_⟩
  have e : yK Y1 r o = yK Y r o := le.k h1 rfl
  unfold xrT at h3 ⊢
  rw [e]
  exact h3

theorem nI_shr1 {a : Nat} (h : a < 128) : nI a >>> (nI 1 &&& 31) = nI (a / 2) := by
  have key : ∀ a, a < 128 → nI a >>> (nI 1 &&& 31) = nI (a / 2) := by decide
  exact key a h
theorem c_J1_init {G : xG} {T : xT} {O R : xO} {Y : xY} {V : xVV} {I : xII} {J : xJJ} {A : xVV} {w0 : xW} {r x : Nat} (P : PX Y V I J A w0 T O R) (hr : r < 1000) (hx : r % 100 = 34) (g1 : yAt Y r 0 x) : xCtr G yJ1_init cJ1_init 1 none 2 40 0 0 [.ref x] (T, O, R) (xN (xPN w0 (fun Y2 V2 I2 J2 A2 => Y2 = Y ∧ I2 = I ∧ J2 = J ∧ A2 = A ∧ V2 r = va_up (V r) 0 (va_up (V r 0) 0 (.int (nI 0))) ∧ ∀ i, i ≠ r → V2 i = V i))) := by
  refine xCtr.of (by decide +kernel) (Nat.le_of_ble_eq_true rfl) ?_
  intro Z B E hz hnm
  change xV Z (T, O, R) 0 [(0, .ref x)] [] 0 0
  refine g_aload_n B 0 dJ1_init_0 rfl ?_
  refine g_callI (rest := []) B M_J0_init rfl q174 q175 (c_J0_init P) rfl rfl (Nat.le_of_ble_eq_true rfl) (Nat.le_of_ble_eq_true rfl) (Nat.le_of_ble_eq_true rfl) (Nat.le_refl _) (Nat.le_refl _) dJ1_init_1 (xkN (fun T1 O1 R1 le1 p1 => ?_))
  obtain ⟨eT1, eO1, eR1⟩ := p1
  obtain rfl := eT1.symm
  obtain rfl := eO1.symm
  obtain rfl := eR1.symm
  refine g_aload_n B 0 dJ1_init_4 rfl ?_
  refine g_iconst (v := nI 0) B dJ1_init_5 (by decide) ?_
  refine x_put (q := (RJ4, TJ4, 3)) B P g1 hr (xrTv hx (by decide)) F_J1_7_34 rfl rfl (tyJ4_ok 0 (by decide)) rfl rfl dJ1_init_6 (fun O2 V2 hs2 hk2 P2 => ?_)
  refine g_vret B E rfl dJ1_init_9 ?_
  exact ⟨rfl, _, _, _, _, _, P2, rfl, rfl, rfl, rfl, hs2, hk2⟩
theorem c_J1_initL {G : xG} {T : xT} {O R : xO} {Y : xY} {V : xVV} {I : xII} {J : xJJ} {A : xVV} {w0 : xW} {x : Nat} (P : PX Y V I J A w0 T O R) (g1 : yAt Y 33 0 x) : xCtr G yJ1_init cJ1_init 1 none 2 40 0 0 [.ref x] (T, O, R) (xN (xPN w0 (fun Y2 V2 I2 J2 A2 => Y2 = Y ∧ I2 = I ∧ J2 = J ∧ A2 = A ∧ V2 33 = va_up (V 33) 0 (va_up (V 33 0) 0 (.int (nI 0))) ∧ ∀ i, i ≠ 33 → V2 i = V i))) := by
  refine xCtr.of (by decide +kernel) (Nat.le_of_ble_eq_true rfl) ?_
  intro Z B E hz hnm
  change xV Z (T, O, R) 0 [(0, .ref x)] [] 0 0
  refine g_aload_n B 0 dJ1_init_0 rfl ?_
  refine g_callI (rest := []) B M_J0_init rfl q174 q175 (c_J0_init P) rfl rfl (Nat.le_of_ble_eq_true rfl) (Nat.le_of_ble_eq_true rfl) (Nat.le_of_ble_eq_true rfl) (Nat.le_refl _) (Nat.le_refl _) dJ1_init_1 (xkN (fun T1 O1 R1 le1 p1 => ?_))
  obtain ⟨eT1, eO1, eR1⟩ := p1
  obtain rfl := eT1.symm
  obtain rfl := eO1.symm
  obtain rfl := eR1.symm
  refine g_aload_n B 0 dJ1_init_4 rfl ?_
  refine g_iconst (v := nI 0) B dJ1_init_5 (by decide) ?_
  refine x_put (q := (RJ3, TJ3, 4)) B P g1 (by decide) rfl F_J1_7_33 rfl rfl (tyJ3_ok 0 (by decide)) rfl rfl dJ1_init_6 (fun O2 V2 hs2 hk2 P2 => ?_)
  refine g_vret B E rfl dJ1_init_9 ?_
  exact ⟨rfl, _, _, _, _, _, P2, rfl, rfl, rfl, rfl, hs2, hk2⟩
theorem c_J4_init {G : xG} {T : xT} {O R : xO} {Y : xY} {V : xVV} {I : xII} {J : xJJ} {A : xVV} {w0 : xW} {r rd x : Nat} (P : PX Y V I J A w0 T O R) (hR : alR r rd) (g1 : yAt Y r 0 x) (g3 : V r 0 2 = .int (nI 0)) : xCtr G yJ4_init cJ4_init 1 none 3 60 0 0 [.ref x] (T, O, R) (xN (xPN w0 (fun Y2 V2 I2 J2 A2 => Y2 = Y ∧ I2 = I ∧ J2 = J ∧ A2 = A ∧ xAl Y2 V2 A2 r rd x (G.2.2.2.2 0) [] ∧ xFr (s1 r 0) Y V I J A Y2 V2 I2 J2 A2))) := by
  refine xCtr.of (by decide +kernel) (Nat.le_of_ble_eq_true rfl) ?_
  intro Z B E hz hnm
  have hSt := by have h := B.st.2.2.2; rw [B.g] at h; exact h
  change xV Z (T, O, R) 0 [(0, .ref x)] [] 0 0
  refine g_aload_n B 0 dJ4_init_0 rfl ?_
  refine g_callI (rest := []) B M_J1_init rfl q204 q172 (c_J1_init P hR.1 hR.2.1 g1) rfl rfl (Nat.le_of_ble_eq_true rfl) (Nat.le_of_ble_eq_true rfl) (Nat.le_of_ble_eq_true rfl) (Nat.le_refl _) (Nat.le_refl _) dJ4_init_1 (xkN (fun T1 O1 R1 le1 p1 => ?_))
  obtain ⟨Y1, V1, I1, J1, A1, P1, eY1, eI1, eJ1, eA1, hv1, hq1⟩ := p1
  obtain rfl := eY1.symm
  obtain rfl := eI1.symm
  obtain rfl := eJ1.symm
  obtain rfl := eA1.symm
  have hk1 : ∀ i, i ≠ r → V1 i = V i := hq1
  refine g_aload_n B 0 dJ4_init_4 rfl ?_
  refine g_gets B hSt.1.1 q205 dJ4_init_5 ?_
  refine x_put (q := (RJ4, TJ4, 3)) B P1 g1 hR.1 (xrTv hR.2.1 (by decide)) F_J4_9_34 rfl rfl (tyJ4_ok 1 (by decide)) rfl rfl dJ4_init_8 (fun O2 V2 hs2 hk2 P2 => ?_)
  refine g_vret B E rfl dJ4_init_11 ?_
  exact ⟨rfl, _, _, _, _, _, P2, rfl, rfl, rfl, rfl, ⟨g1, ⟨_, (rdK hs2 (by decide) (rdS hv1))⟩, (rdK hs2 (by decide) (rdK hv1 (by decide) g3)), by decide, Or.inl ⟨rfl, (rdS hs2)⟩⟩, ((xFr.uV (r := r) (o := 0) ⟨rfl, rfl⟩ hv1 hk1).tr (xFr.uV (r := r) (o := 0) ⟨rfl, rfl⟩ hs2 hk2))⟩
theorem c_J8_copyOf_2 {G : xG} {T : xT} {O R : xO} {Y : xY} {V : xVV} {I : xII} {J : xJJ} {A : xVV} {w0 : xW} {rd id xd n : Nat} {r : Nat} {mi : Nat} (P : PX Y V I J A w0 T O R) (hR : alR r rd) (k2 : yAt Y rd id xd) (hn : yN Y rd id < n ∧ n < 1000) (hel : ∀ j, j < yN Y rd id → ∃ y, A rd id j = .ref y ∧ xObj Y y) (hM : va_Mi "[Ljava/lang/Object;" mi G.1) : xCtr G yJ8_copyOf_2 cJ8_copyOf_2 4 (some (Jvm.ClassFile.FieldType.array (Jvm.ClassFile.FieldType.object "java/lang/Object"))) 1 60 1 n [.ref xd, .int (nI n), .ref mi] (T, O, R) (xA (xP w0 (fun v Y2 V2 I2 J2 A2 => ∃ q, v = .ref q ∧ V2 = V ∧ (I2 = I ∧ J2 = J) ∧ yAt Y2 rd q q ∧ yN Y2 rd q = n ∧ (∀ j, A2 rd q j = if j < yN Y rd id then A rd id j else .null) ∧ xFr (fun r2 _ => r2 = rd) Y V I J A Y2 V2 I2 J2 A2))) := by
  refine xCtr.of (by decide +kernel) (Nat.le_of_ble_eq_true rfl) ?_
  intro Z B E hz hnm
  change xV Z (T, O, R) 0 [(0, .ref xd), (1, .int (nI n)), (2, .ref mi)] [] 1 n
  have hR2 := hR.2.2.1
  have hR3 := hR.1
  obtain ⟨cp, hcp⟩ : ∃ cp, yN Y rd id = cp := ⟨_, rfl⟩
  rw [hcp] at hn hel
  refine g_aload_n B 2 dJ8_copyOf_2_0 rfl ?_
  refine g_ldcM B hM q464 dJ8_copyOf_2_1 ?_
  refine g_acmp_ne (rx := some mi) (ry := some mi) (tgt := 13) B rfl rfl dJ8_copyOf_2_3 (by decide) (fun e => absurd rfl e) (fun _ => ?_)
  refine g_iload_n B 1 dJ8_copyOf_2_6 rfl ?_
  refine xV.room (kc' := 0 + 1) (ks' := 0 + n) (by omega) (by omega) ?_
  refine x_newq (N := n) (kc := 0) (ks := 0) B P rd (fun q => q) hR.2.2.2.2 (by rw [hR.2.2.1]; decide) (by rw [hR.2.2.1]; rfl) q466 q465 rfl (by omega) (fun q hq x => P.fresh hq _ _ hR.2.2.2.1) (fun _ => Or.inl (fun _ => rfl)) dJ8_copyOf_2_7 (fun q1 Y1 A1 T1 R1 hq1 le1 gr1 hf1 at1 hN1 hs1 hk1 P1 => ?_)
  have hne1 : ¬ (rd = rd ∧ id = q1) := fun e => hf1 xd (by rw [← e.2]; exact k2)
  have upo1 : A1 rd id = A rd id := upO hs1 hk1 hne1
  refine g_goto (tgt := 24) B dJ8_copyOf_2_10 (by decide) ?_
  refine g_astore_n (lv2 := [(3, _), (0, _), (1, _), (2, _)]) B dJ8_copyOf_2_24 (by decide) rfl ?_
  refine g_aload_n B 1 dJ8_copyOf_2_25 rfl ?_
  refine g_iconst (v := nI 0) B dJ8_copyOf_2_26 (by decide) ?_
  refine g_aload_n B 0 dJ8_copyOf_2_27 rfl ?_
  refine g_iconst (v := nI 0) B dJ8_copyOf_2_28 (by decide) ?_
  refine g_aload_n B 1 dJ8_copyOf_2_29 rfl ?_
  refine x_alen B P1 (le1.at k2) (by omega) (by rw [hR.2.2.1]; rfl) (le1.n k2 hcp) dJ8_copyOf_2_30 ?_
  refine g_iload_n B 2 dJ8_copyOf_2_31 rfl ?_
  refine g_callS (rest := [_, _, _, _]) B M_J7_min q467 q468 (c_J7_min P1) rfl rfl (Nat.le_of_ble_eq_true rfl) (Nat.le_of_ble_eq_true rfl) (Nat.le_of_ble_eq_true rfl) (Nat.le_refl _) (Nat.le_refl _) dJ8_copyOf_2_32 (xkA (fun v2 T2 O2 R2 le2 p2 => ?_))
  obtain ⟨rfl, eT2, eO2, eR2⟩ := p2
  obtain rfl := eT2.symm
  obtain rfl := eO2.symm
  obtain rfl := eR2.symm
  have hmn : (if nI n < nI cp then nI n else nI cp) = nI cp := if_neg (fun e => by have := (nI_ltI (by omega) (by omega)).mp e; omega)
  refine x_copyA B P1 (le1.at k2) at1 hR.2.2.1 hR.2.2.1 rfl rfl hmn (sp' := 0) (dp' := 0) (n' := cp) (by rw [(le1.n k2 hcp)]; omega) (by rw [hN1]; omega) (by rw [(le1.n k2 hcp)]; omega) (by rw [hN1]; omega) (fun j hj => by rw [Nat.zero_add, upo1]; obtain ⟨y, hy, ht⟩ := hel j hj; obtain ⟨tb, nb, ub, ht, hs⟩ := (ht.le le1).T P1; exact Or.inr ⟨y, tb, nb, ub, hy, ht, hs⟩) q470 q472 q471 q114 (Nat.le_of_ble_eq_true rfl) (Nat.le_of_ble_eq_true rfl) dJ8_copyOf_2_35 (fun R3 A3 hs3 hk3 P3 => ?_)
  refine g_aload_n B 0 dJ8_copyOf_2_38 rfl ?_
  refine g_aret B E rfl (Or.inr ⟨_, rfl⟩) (Or.inr ⟨_, rfl⟩) dJ8_copyOf_2_39 ?_
  refine ⟨_, rfl, _, _, _, _, _, P3, q1, rfl, rfl, ⟨rfl, rfl⟩, at1, hN1, fun j => ?_, ?_⟩
  · rw [hs3, va_ups]; show (if 0 ≤ j ∧ j < 0 + cp then A1 rd id (0 + (j - 0)) else A1 rd q1 j) = _
    have e0 : A1 rd q1 j = .null := by rw [hs1, va_ups]
    rw [e0, upo1, Nat.sub_zero, Nat.zero_add, Nat.zero_add, hcp]
    by_cases e : j < cp
    · rw [if_pos ⟨Nat.zero_le _, e⟩, if_pos e]
    · rw [if_neg (fun q => e q.2), if_neg e]
  · exact (xFr.nA (r := rd) (o := q1) rfl le1 gr1 hs1 hk1).tr (xFr.uA (r := rd) (o := q1) rfl hs3 hk3)
