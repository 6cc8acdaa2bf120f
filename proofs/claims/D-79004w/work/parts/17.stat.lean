set_option maxRecDepth 100000
/-! STATICS, TEXTS, COPIES -/
section XS
variable {Z : xZ} {G : xG} {cc : ByteArray} {own : String} {nL fr lo : Nat} {ret : Option FieldType} {w : xW} {T : xT} {O R : xO} {pc : Nat} {lv : List (Nat × Value)} {st : List Value} {kc ks : Nat}
theorem xOk.z (B : xOk Z G cc own nL fr lo ret) {C n d : String} {v : Value} (h : va_Z C n d v (xA0 (zG Z).1) (zG Z).1 (zG Z).1.heap) : va_Z C n d v (xA0 (zG Z).1) (zs Z) (zs Z).heap :=
  (va_Z.moved B.wm.alike h).kept (fun a h1 _ => B.hk a h1)
theorem xOk.t (B : xOk Z G cc own nL fr lo ret) {ty : FieldType} {t N : Nat} {f : Nat → Value} (h : va_T ty t N f (xA0 (zG Z).1) (zG Z).1 (zG Z).1.heap) : va_T ty t N f (xA0 (zG Z).1) (zs Z) (zs Z).heap :=
  (va_T.moved B.wm.alike h).kept (fun a h1 _ => B.hk a h1)
theorem g_gets (B : xOk Z G cc own nL fr lo ret) {idx : Nat} {C n d : String} {v : Value} (hZ : va_Z C n d v (xA0 G.1) G.1 G.1.heap) (q : Cond.fieldLink own idx C n d ∈ lw_all) (dd : decode cc pc = .ok (.getstatic idx, 3)) (kk : xV Z w (pc + 3) lv (v :: st) kc ks) : xV Z w pc lv st kc ks := by
  intro ls H locs cells slots h1 h2
  have hg := B.g
  subst hg
  exact va_gets B.ex B.by (B.z hZ) (h2.low B.hs B.hk) B.ow (B.ws _ q) (fun _ h => h) dd (kk ls H locs cells slots h1 h2)
/-- a static array's element, its length -/
theorem g_sbald (B : xOk Z G cc own nL fr lo ret) {t N : Nat} {f : Nat → Value} {i : Int32} {v : Value} (hT : va_T .byte t N f (xA0 G.1) G.1 G.1.heap) (hin : vp_in i N) (hv : f i.toNatClampNeg = v) (d : decode cc pc = .ok (.baload, 1)) (kk : xV Z w (pc + 1) lv (v :: st) kc ks) : xV Z w pc lv (.int i :: .ref t :: st) kc ks := by
  intro ls H locs cells slots h1 h2
  have hg := B.g
  subst hg
  exact va_tb B.ex B.by (B.t hT) (h2.low B.hs B.hk) hin hv d (kk ls H locs cells slots h1 h2)
theorem g_slen (B : xOk Z G cc own nL fr lo ret) {t N : Nat} {ty : FieldType} {f : Nat → Value} (hT : va_T ty t N f (xA0 G.1) G.1 G.1.heap) (d : decode cc pc = .ok (.arraylength, 1)) (kk : xV Z w (pc + 1) lv (.int (nI N) :: st) kc ks) : xV Z w pc lv (.ref t :: st) kc ks := by
  intro ls H locs cells slots h1 h2
  have hg := B.g
  subst hg
  exact va_tlen B.ex B.by (B.t hT) (h2.low B.hs B.hk) rfl d (kk ls H locs cells slots h1 h2)
/-- the text constant's address -/
theorem g_ldcS (B : xOk Z G cc own nL fr lo ret) {idx q : Nat} {tx : String} (h : vk_R own idx tx q G.1) (d : decode cc pc = .ok (.ldc idx, 2)) (kk : xV Z w (pc + 2) lv (.ref q :: st) kc ks) : xV Z w pc lv st kc ks := by
  intro ls H locs cells slots h1 h2
  have hg := B.g
  subst hg
  exact va_ldcS B.ex B.by B.ow (vk_R.warm B.wm h) d (kk ls H locs cells slots h1 h2)
/-- a text's field -/
theorem g_kget (B : xOk Z G cc own nL fr lo ret) {idx q : Nat} {o n d : String} {v : Value} (hE : va_OF o n d v q (xA0 G.1) G.1 G.1.heap) (hl : Cond.fieldLink own idx o n d ∈ lw_all) (dd : decode cc pc = .ok (.getfield idx, 3)) (kk : xV Z w (pc + 3) lv (v :: st) kc ks) : xV Z w pc lv (.ref q :: st) kc ks := by
  intro ls H locs cells slots h1 h2
  have hg := B.g
  subst hg
  exact vk_getf B.ex B.by ((va_OF.moved B.wm.alike hE).kept (fun a h1 _ => B.hk a h1)) (h2.low B.hs B.hk) B.ow (B.ws _ hl) (fun _ h => h) dd (kk ls H locs cells slots h1 h2)
/-- System.arraycopy between two arrays of numbers of one kind -/
theorem g_copy (B : xOk Z G cc own nL fr lo ret) {a0 a r0 n0 o0 r1 n1 o1 idx : Nat} {ty : FieldType} {f g : Nat → Int32} {sp dp n : Int32} {sp' dp' n' : Nat} (ha0 : T a0 = some (r0, n0, o0)) (ha1 : T a = some (r1, n1, o1)) (hr0 : xTy (r0 / 1000) = some ty) (hr1 : xTy (r1 / 1000) = some ty) (hprim : refKind ty = false) (hf0 : R a0 = xI f) (hf1 : R a = xI g) (e1 : sp = nI sp') (e2 : dp = nI dp') (e3 : n = nI n') (h4 : sp' + n' ≤ n0) (h5 : dp' + n' ≤ n1) (hn0 : n0 < 2 ^ 31) (hn1 : n1 < 2 ^ 31) (hfit : ∀ i, i < n' → fits ty (.int (f (sp' + i))) = true) (q1 : Cond.methodLink own idx arraycopyName ∈ lw_all) (q2 : Cond.native arraycopyName ∈ lw_all) (q3 : Cond.static arraycopyName ∈ lw_all) (q4 : Cond.initialized "java/lang/System" ∈ lw_all) (hfr : 1 ≤ fr) (hlo : (st.map fun v => v.category).sum + (nativeFrameWords "java/lang/System" "arraycopy" 5 + 11) ≤ lo) (d : decode cc pc = .ok (.invokestatic idx, 3)) (kk : xV Z (T, O, xUr R a (xI (va_cpy f g sp' dp' n'))) (pc + 3) lv st kc ks) : xV Z (T, O, R) pc lv (.int n :: .int dp :: .ref a :: .int sp :: .ref a0 :: st) kc ks := by
  intro ls H locs cells slots h1 h2
  subst e1 e2 e3
  have k1 : (nI sp').toNatClampNeg = sp' := nI_clamp (by omega)
  have k2 : (nI dp').toNatClampNeg = dp' := nI_clamp (by omega)
  have k3 : (nI n').toNatClampNeg = n' := nI_clamp (by omega)
  have c0 : H[a0]? = some (arrV ((zG Z).2.2.2.1 (r0 / 1000)) n0 (fun j => .int (f j))) := by
    have := (h2.1.1 a0 _ ha0).2.arr hr0
    rw [this]
    show some (arrV _ n0 (R a0)) = _
    rw [hf0]
    rfl
  have c1 : H[a]? = some (arrV ((zG Z).2.2.2.1 (r1 / 1000)) n1 (fun j => .int (g j))) := by
    have := (h2.1.1 a _ ha1).2.arr hr1
    rw [this]
    show some (arrV _ n1 (R a)) = _
    rw [hf1]
    rfl
  obtain ⟨k0', cm0, hk0, hkk0, -⟩ := B.ar hr0
  obtain ⟨k1', cm1, hk1, hkk1, -⟩ := B.ar hr1
  intro U hT X
  obtain ⟨vm', X', step⟩ := X.arraycopy B.ex B.ow (B.ws _ q1) (B.ws _ q2) (B.ws _ q3) (B.ws _ q4) (src := a0) (dst := a) (srcPos := nI sp') (destPos := nI dp') (n := nI n') (by rw [hT]; exact c0) (by rw [hT]; exact c1)
    (fun _ h => by cases h) (fun _ h => by cases h) (fun h => by cases h) (fun h => by cases h) hk0 hk1 hkk0 hkk1 (by simp [hprim]) (nI_pos (by omega)) (nI_pos (by omega)) (nI_pos (by omega))
    (by rw [nI_toInt (by omega), nI_toInt (by omega), arrV_size]; omega)
    (by rw [nI_toInt (by omega), nI_toInt (by omega), arrV_size]; omega)
    (fun vm₁ _ i hi => by
      rw [k3] at hi
      have e : (arrV ((zG Z).2.2.2.1 (r0 / 1000)) n0 (fun j => .int (f j))).slots.getD ((nI sp').toNatClampNeg + i) .null = .int (f (sp' + i)) := by
        rw [k1, Array.getD_eq_getD_getElem?, arrV_read _ _ (by omega)]
        rfl
      refine ⟨?_, ?_⟩
      · rw [e]
        exact hfit i hi
      · rw [e]
        exact trivial)
    (g := F0 (zm Z) pc ls (.int (nI n') :: .int (nI dp') :: .ref a :: .int (nI sp') :: .ref a0 :: st)) rfl h1.1 (rest := st) rfl (by rw [B.by]; exact d) (by rw [B.fm]; exact hfr) (by rw [B.lm]; show 2 * 0 + _ + _ ≤ _; omega)
  have e1 : copied (arrV ((zG Z).2.2.2.1 (r0 / 1000)) n0 (fun j => .int (f j))) (arrV ((zG Z).2.2.2.1 (r1 / 1000)) n1 (fun j => .int (g j))) (nI sp') (nI dp') (nI n') = arrV ((zG Z).2.2.2.1 (r1 / 1000)) n1 (xI (va_cpy f g sp' dp' n')) := by
    unfold copied
    rw [k1, k2, k3]
    exact va_copied (fun z => .int z) _ _ f g h4
  rw [e1] at X' step
  have hl : a < H.size := (Array.getElem?_eq_some_iff.mp c1).1
  generalize hcell : arrV ((zG Z).2.2.2.1 (r1 / 1000)) n1 (xI (va_cpy f g sp' dp' n')) = cell at X' step
  have hheap : ((U.setVm vm').setCell a cell).heap = H.setIfInBounds a cell := by rw [← hT]; rfl
  have oq : ∀ q : Nat, q ≠ a → (H.setIfInBounds a cell)[q]? = H[q]? := fun q hq => by simp [Array.getElem?_setIfInBounds, Ne.symm hq]
  obtain ⟨t, a1, b1⟩ := kk ls (H.setIfInBounds a cell) _ cells slots h1 ⟨⟨fun b t hb => ⟨(h2.1.1 b t hb).1, by
      by_cases hba : b = a
      · subst hba
        cases ha1.symm.trans hb
        have hp := xTy_pos hr1
        unfold xAt
        rw [if_neg (by show ¬ r1 < 1000; omega)]
        refine ⟨⟨ty, hr1⟩, ?_⟩
        show (H.setIfInBounds b cell)[b]? = some (arrV _ n1 (xUr R b _ b))
        rw [xUr_s, hcell]
        simp [Array.getElem?_setIfInBounds, hl]
      · exact (h2.1.1 b t hb).2.kept (oq b hba) rfl (xUr_a hba)⟩, by simp; exact h2.1.2.1, fun x hx => by
      have hge := (h2.1.1 a _ ha1).1
      rw [oq x (by omega)]
      exact h2.1.2.2 x hx⟩, h2.2.1, ⟨by simp; exact h2.2.2.1.1, fun q g1 g2 => by
      rw [oq q (fun e => g2 (by rw [e]; exact h2.A ha1))]
      exact h2.2.2.1.2.1 q g1 g2, fun q hq => by
      rcases List.mem_append.mp hq with h | h
      · exact h2.2.2.1.2.2 q h
      · obtain ⟨z, -, hz⟩ := List.mem_map.mp h
        rw [← hz]
        exact h2.A ha1⟩, h2.2.2.2⟩ _ hheap X'
  exact ⟨t, step t a1, b1⟩
end XS
