set_option maxRecDepth 100000
/-! NEW THINGS -/
def xUt (T : xT) (q : Nat) (t : Nat × Nat × Nat) : xT := fun b => if b = q then some t else T b
theorem xUt_s {T : xT} {q : Nat} {t : Nat × Nat × Nat} : xUt T q t q = some t := if_pos rfl
theorem xUt_a {T : xT} {q b : Nat} {t : Nat × Nat × Nat} (h : b ≠ q) : xUt T q t b = T b := if_neg h
theorem xUt_o {T : xT} {q b : Nat} {t u : Nat × Nat × Nat} (hq : T q = none) (h : T b = some u) : xUt T q t b = some u := by
  rw [xUt_a (fun e => by rw [e, hq] at h; cases h)]
  exact h
theorem xne_new {T : xT} {q b : Nat} {u : Nat × Nat × Nat} (hq : T q = none) (h : T b = some u) : b ≠ q := fun e => by rw [e, hq] at h; cases h
section XN
variable {Z : xZ} {G : xG} {cc : ByteArray} {own : String} {nL fr lo : Nat} {ret : Option FieldType} {w : xW} {T : xT} {O R : xO} {pc : Nat} {lv lv2 : List (Nat × Value)} {st : List Value} {kc ks : Nat}
/-- the world behind a new cell -/
theorem xIn.push {t : Nat × Nat × Nat} {O' R' : xO} {H H' : Heap} {locs : List Loc} {cells slots kc' ks' c' s' : Nat} (h2 : xIn Z w kc ks H locs cells slots) (hO : ∀ b, b ≠ H.size → O' b = w.2.1 b) (hR : ∀ b, b ≠ H.size → R' b = w.2.2 b) (e0 : xAt (zG Z) (xUt w.1 H.size t, O', R') H.size t H') (e2 : H'.size = H.size + 1) (e3 : ∀ q, q < H.size → H'[q]? = H[q]?) (hc : cells + kc = c' + kc') (hs : slots + ks = s' + ks') : xIn Z (xUt w.1 H.size t, O', R') kc' ks' H' locs c' s' := by
  have hsz := h2.2.2.1.1
  refine ⟨⟨fun b u hb => ?_, by rw [e2]; exact Nat.le_succ_of_le h2.1.2.1, fun x hx => ?_⟩, ⟨fun b u hb => xUt_o h2.1.fresh (h2.2.1.1 b u hb), fun b hb => ?_⟩, ⟨by rw [e2]; omega, fun q g1 g2 => ?_, h2.2.2.1.2.2⟩, by rw [← hc]; exact h2.2.2.2.1, by rw [← hs]; exact h2.2.2.2.2⟩
  · by_cases hbq : b = H.size
    · subst hbq
      rw [show (xUt w.1 H.size t, O', R').1 H.size = some t from xUt_s] at hb
      cases hb
      exact ⟨h2.1.2.1, e0⟩
    · rw [show (xUt w.1 H.size t, O', R').1 b = w.1 b from xUt_a hbq] at hb
      have hb2 := h2.1.1 b u hb
      exact ⟨hb2.1, hb2.2.kept (e3 b hb2.2.lt) (hO b hbq) (hR b hbq)⟩
  · rw [e3 x (Nat.lt_of_lt_of_le hx h2.1.2.1)]
    exact h2.1.2.2 x hx
  · by_cases hbq : b = H.size
    · subst hbq
      exact Or.inr hsz
    · exact h2.2.1.2 b (by rw [show (xUt w.1 H.size t, O', R').1 b = w.1 b from xUt_a hbq] at hb; exact hb)
  · rw [e3 q (Nat.lt_of_lt_of_le g1 hsz)]
    exact h2.2.2.1.2.1 q g1 g2
/-- 'new': its role r, its owner o (as you like); its fields are blank -/
theorem g_new (B : xOk Z G cc own nL fr lo ret) {r idx N : Nat} {C : String} {TT : u_T} (o : Nat) (ty : Nat → FieldType) (hq : xC r = some (C, TT, N)) (hty : ∀ k, k < N → parseFieldDescriptor (TT k).2.2.1 = some (ty k)) (q1 : Cond.classLink own idx C ∈ lw_all) (q2 : Cond.instantiable C N ∈ lw_all) (q3 : Cond.initialized C ∈ lw_all) (d : decode cc pc = .ok (.new idx, 3)) (kk : ∀ q : Nat, T q = none → xV Z (xUt T q (r, 0, o), xUr O q (fun p => defaultValue (ty (p - xPb r))), R) (pc + 3) lv (.ref q :: st) kc ks) : xV Z (T, O, R) pc lv st (kc + 1) (ks + N) := by
  intro ls H locs cells slots h1 h2
  have hKn := B.kn hq
  obtain ⟨hin, -, -⟩ := xcls_ok hq
  refine W.newcK B.ex B.by B.ow (B.ws _ q1) (B.ws _ q2) (B.ws _ q3) rfl d (by have := h2.2.2.2.1; omega) (by have := h2.2.2.2.2; omega) hKn.2.1 rfl fun H1 kC hkC e1 z1 o1 => ?_
  refine kk H.size h2.1.fresh ls H1 locs (cells + 1) (slots + N) h1 (h2.push (fun b hb => xUr_a hb) (fun b hb => rfl) ?_ z1 o1 (by omega) (by omega))
  unfold xAt
  rw [if_pos (xC_lt hq)]
  refine ⟨_, hq, (u_born ty B.ws hin hKn hkC e1 hty).to fun j hj => ?_⟩
  show _ = xUr _ _ _ H.size _
  rw [xUr_s, Nat.add_sub_cancel_left]
theorem xnewarr (B : xOk Z G cc own nL fr lo ret) {k : Nat} {ty : FieldType} (hk : xTy k = some ty) {cA : ClassId} (h : (zs Z).vm.findClass ("[" ++ ty.toString) = some cA) : cA = (zG Z).2.2.2.1 k := by
  obtain ⟨kA, comp, h1, h2, h3, h4⟩ := B.ar hk
  exact Option.some.inj (h.symm.trans h3)
/-- a new array of numbers, of kind k and role r -/
theorem g_newa (B : xOk Z G cc own nL fr lo ret) {atype : ArrayType} {x : Int32} {N : Nat} (r o : Nat) {ty : FieldType} (hk : newarray.typeOf atype = ty) (hr : xTy (r / 1000) = some ty) (q : Cond.arrayClass ty ∈ lw_all) (hx : x = nI N) (hN : N * componentBytes ty ≤ 536870912) (hN2 : N < 2 ^ 31) (d : decode cc pc = .ok (.newarray atype, 2)) (kk : ∀ q : Nat, T q = none → xV Z (xUt T q (r, N, o), O, xUr R q (fun _ => defaultValue ty)) (pc + 2) lv (.ref q :: st) kc ks) : xV Z (T, O, R) pc lv (.int x :: st) (kc + 1) (ks + N) := by
  intro ls H locs cells slots h1 h2
  subst hk
  subst hx
  refine va_newaK B.ex B.by (B.ws _ q) rfl d rfl (nI_pos hN2) (nI_clamp hN2) hN (by have := h2.2.2.2.1; omega) (by have := h2.2.2.2.2; omega) rfl fun H1 cA e1 z1 o1 hA hf => ?_
  have hc := xnewarr B hr hf
  subst hc
  refine kk H.size h2.1.fresh ls H1 locs (cells + 1) (slots + N) h1 (h2.push (fun b hb => rfl) (fun b hb => xUr_a hb) ?_ z1 o1 (by omega) (by omega))
  have hp := xTy_pos hr
  unfold xAt
  rw [if_neg (by show ¬ r < 1000; omega)]
  refine ⟨⟨_, hr⟩, ?_⟩
  rw [e1]
  show some (arrV _ N _) = some (arrV _ N (xUr _ _ _ H.size))
  rw [xUr_s]
/-- a new array of references -/
theorem g_newq (B : xOk Z G cc own nL fr lo ret) {idx : Nat} {x : Int32} {N : Nat} {C : String} (r o : Nat) (hr : xTy (r / 1000) = some (.object C)) (q1 : Cond.classLink own idx C ∈ lw_all) (q2 : Cond.arrayOver (.object C) ∈ lw_tbl) (hx : x = nI N) (hN : N * 4 ≤ 536870912) (d : decode cc pc = .ok (.anewarray idx, 3)) (kk : ∀ q : Nat, T q = none → xV Z (xUt T q (r, N, o), O, xUr R q (fun _ => .null)) (pc + 3) lv (.ref q :: st) kc ks) : xV Z (T, O, R) pc lv (.int x :: st) (kc + 1) (ks + N) := by
  intro ls H locs cells slots h1 h2
  subst hx
  have hN2 : N < 2 ^ 31 := by omega
  have hov : va_AO C (zs Z) := by
    obtain ⟨⟨b, g1, -⟩, -⟩ := B.st
    exact va_AO.moved B.wm.alike (va_AO.of (g1 _ q2))
  have hcl : (nI N).toNatClampNeg = N := nI_clamp hN2
  refine W.anew B.ex B.by B.ow (B.ws _ q1) (va_AO.use hov) rfl d rfl (nI_pos hN2) (by rw [hcl]; exact hN) (by have := h2.2.2.2.1; omega) (by rw [hcl]; have := h2.2.2.2.2; omega) fun cA kA comp f1 f2 f3 f4 => ?_
  have hc := xnewarr B hr f1
  subst hc
  rw [hcl]
  generalize hH1 : H.push ({ cls := (zG Z).2.2.2.1 (r / 1000), slots := Array.replicate N .null, vm := .none } : Cell) = H1
  have z1 : H1.size = H.size + 1 := by rw [← hH1, Array.size_push]
  have e1 : H1[H.size]? = some (arrV ((zG Z).2.2.2.1 (r / 1000)) N (fun _ => .null)) := by rw [← hH1, Array.getElem?_push_size, ← arrV_new]
  have o1 : ∀ q : Nat, q < H.size → H1[q]? = H[q]? := fun q hq => by rw [← hH1, Array.getElem?_push, if_neg (Nat.ne_of_lt hq)]
  refine kk H.size h2.1.fresh ls H1 locs (cells + 1) (slots + N) h1 (h2.push (fun b hb => rfl) (fun b hb => xUr_a hb) ?_ z1 o1 (by omega) (by omega))
  have hp := xTy_pos hr
  unfold xAt
  rw [if_neg (by show ¬ r < 1000; omega)]
  refine ⟨⟨_, hr⟩, ?_⟩
  rw [e1]
  show some (arrV _ N _) = some (arrV _ N (xUr _ _ _ H.size))
  rw [xUr_s]
/-- Object's constructor -/
theorem g_objInit (B : xOk Z G cc own nL fr lo ret) {a idx : Nat} (q1 : Cond.methodLink own idx Lib.objectInit ∈ lw_all) (q2 : Cond.instanceMethod Lib.objectInit ∈ lw_all) (q3 : Cond.code Lib.objectInit ⟨#[0xb1]⟩ 1 none ∈ lw_all) (hf : 1 ≤ fr) (hl : (st.map fun v => v.category).sum + 12 ≤ lo) (d : decode cc pc = .ok (.invokespecial idx, 3)) (kk : xV Z (T, O, R) (pc + 3) lv st kc ks) : xV Z (T, O, R) pc lv (.ref a :: st) kc ks := by
  intro ls H locs cells slots h1 h2
  refine W.objInit B.ex B.by B.ow (B.ws _ q1) (B.ws _ q2) (B.ws _ q3) rfl h1.1 rfl d (by rw [B.fm]; exact hf) (by rw [B.lm]; simpa [JFrame.monitorRoom] using hl) (kk ls H locs cells slots h1 h2)
/-! CASTS -/
theorem g_cast (B : xOk Z G cc own nL fr lo ret) {a r n o idx : Nat} {nm C : String} (ht : T a = some (r, n, o)) (hn : xNa r = some C) (q1 : Cond.classLink own idx nm ∈ lw_all) (q2 : Cond.castable C nm ∈ lw_tbl) (d : decode cc pc = .ok (.checkcast idx, 3)) (kk : xV Z (T, O, R) (pc + 3) lv (.ref a :: st) kc ks) : xV Z (T, O, R) pc lv (.ref a :: st) kc ks := by
  intro ls H locs cells slots h1 h2
  obtain ⟨cv, kv, g1, g2, g3, g4⟩ := x_cell B h2.1 ht hn
  exact va_castY B.ex B.by B.ow (B.ws _ q1) (xw_cast B.st B.wm q2) ⟨cv, g1, by rw [g2]; rfl, g3⟩ d (kk ls H locs cells slots h1 h2)
/-- a cast to the thing's own class -/
theorem g_castS (B : xOk Z G cc own nL fr lo ret) {a r n o idx : Nat} {q : vw_C} (ht : T a = some (r, n, o)) (hq : xC r = some q) (q1 : Cond.classLink own idx q.1 ∈ lw_all) (d : decode cc pc = .ok (.checkcast idx, 3)) (kk : xV Z (T, O, R) (pc + 3) lv (.ref a :: st) kc ks) : xV Z (T, O, R) pc lv (.ref a :: st) kc ks := by
  intro ls H locs cells slots h1 h2
  obtain ⟨cv, kv, g1, g2, g3, g4⟩ := x_cell B h2.1 ht (nm := q.1) (by unfold xNa; rw [if_pos (xC_lt hq), hq]; rfl)
  exact va_castS B.ex B.by B.ow (B.ws _ q1) (B.kn hq).2 ⟨cv, g1, by rw [g2]; rfl, g3⟩ d (kk ls H locs cells slots h1 h2)
theorem g_castN (B : xOk Z G cc own nL fr lo ret) {idx : Nat} (d : decode cc pc = .ok (.checkcast idx, 3)) (kk : xV Z (T, O, R) (pc + 3) lv (.null :: st) kc ks) : xV Z (T, O, R) pc lv (.null :: st) kc ks := g_go (fun ls H locs cells slots h1 k0 => lv_castN B.ex B.by d k0) kk
theorem g_instS (B : xOk Z G cc own nL fr lo ret) {a r n o idx : Nat} {q : vw_C} (ht : T a = some (r, n, o)) (hq : xC r = some q) (q1 : Cond.classLink own idx q.1 ∈ lw_all) (d : decode cc pc = .ok (.instanceof idx, 3)) (kk : xV Z (T, O, R) (pc + 3) lv (.int 1 :: st) kc ks) : xV Z (T, O, R) pc lv (.ref a :: st) kc ks := by
  intro ls H locs cells slots h1 h2
  obtain ⟨cv, kv, g1, g2, g3, g4⟩ := x_cell B h2.1 ht (nm := q.1) (by unfold xNa; rw [if_pos (xC_lt hq), hq]; rfl)
  exact va_instS B.ex B.by B.ow (B.ws _ q1) (B.kn hq).2 ⟨cv, g1, by rw [g2]; rfl, g3⟩ d (kk ls H locs cells slots h1 h2)
theorem g_instN (B : xOk Z G cc own nL fr lo ret) {idx : Nat} (d : decode cc pc = .ok (.instanceof idx, 3)) (kk : xV Z (T, O, R) (pc + 3) lv (.int 0 :: st) kc ks) : xV Z (T, O, R) pc lv (.null :: st) kc ks := g_go (fun ls H locs cells slots h1 k0 => lv_instN B.ex B.by d k0) kk
end XN
/-! CONTRACTS -/
def xQc (G : xG) (w0 : xW) (Post : Option Value → xW → Prop) : Array Value → State → Outcome → State → Prop := fun _ u oc t => (∃ (r : Option Value) (w : xW), oc = .returned r ∧ Post r w ∧ xHp G w t.heap ∧ xGr w0 u.heap.size w) ∧ va_F (xFree w0 u.heap.size) u t
def xEnd (Z : xZ) (Post : Option Value → xW → Prop) : Prop := zQ Z = MQ (zb Z) (xQc (zG Z) (z0 Z) Post) (za Z) (zs Z) (zR Z).cells (zR Z).slots (zA Z)
/-- THE CONTRACT of the method y at the arguments av in the world w: in any run it returns, and Post holds of its answer and the world behind it; it makes at most mc cells of ms slots -/
def xCtr (G : xG) (y : MethodName) (cc : ByteArray) (nL : Nat) (ret : Option FieldType) (fr lo mc ms : Nat) (av : List Value) (w : xW) (Post : Option Value → xW → Prop) : Prop :=
  ∀ (l : Launch) (sz : Nat), l.flags = flags0 → xSt G → Met l y (ws_ y cc nL ret) ({ frames := fr, cells := mc, slots := ms, locals := lo }) (va_Pc av (fun U => U.heap.size = sz ∧ G.1.WarmedH U.vm ∧ xHp G w U.heap)) (xQc G w Post) mc ms (xFree w sz)
/-- an answer, and none -/
def xA (P : Value → xT → xO → xO → Prop) : Option Value → xW → Prop := fun r w => ∃ v, r = some v ∧ P v w.1 w.2.1 w.2.2
def xN (P : xT → xO → xO → Prop) : Option Value → xW → Prop := fun r w => r = none ∧ P w.1 w.2.1 w.2.2
theorem xCtr.of {G : xG} {y : MethodName} {cc : ByteArray} {nL : Nat} {ret : Option FieldType} {fr lo mc ms : Nat} {av : List Value} {w : xW} {Post : Option Value → xW → Prop} (hy : plainName y.cls = true) (hlen : (lg_sl av).length ≤ nL) (body : ∀ Z : xZ, xOk Z G cc y.cls nL fr lo ret → xEnd Z Post → z0 Z = w → (zme Z).name = y.name → xV Z w 0 (lv_args 0 av) [] mc ms) : xCtr G y cc nL ret fr lo mc ms av w Post := by
  intro l sz hl hG
  refine Met.ofW (cc := cc) (maxL := nL) (ret := ret) hy rfl ?_
  intro p e s m args below meth c s₁ B hml hv
  obtain ⟨rfl, hsz, hW, hP⟩ := hv
  subst hsz
  have hent := lv_entry av hlen
  rw [lg_entry_eq]
  refine body ((p, l, e, (headSpec (ws_ y cc nL ret) ({ frames := fr, cells := mc, slots := ms, locals := lo })).room, s, m, av.toArray, below, meth, c), G, w, MQ below (xQc G w Post) av.toArray s mc ms (xFree w s.heap.size)) ⟨rfl, B.exec, B.bytes, hml, findClass_of_methodNamed B.named, B.notSynchronized, B.returns, rfl, rfl, hl, hG, hW, hP.2.1, hP.2.2⟩ rfl rfl (name_of_methodNamed B.named B.method).1 _ s.heap [] 0 0 (by rw [show (zc _).maxLocals = nL from hml]; exact hent) ⟨hP, ⟨fun _ _ h => h, fun a ha => Or.inl ha⟩, va_S.rf, Nat.le_of_eq (Nat.zero_add _), Nat.le_of_eq (Nat.zero_add _)⟩
theorem xCtr.post {G : xG} {y : MethodName} {cc : ByteArray} {nL : Nat} {ret : Option FieldType} {fr lo mc ms : Nat} {av : List Value} {w : xW} {Post Post' : Option Value → xW → Prop} (h : xCtr G y cc nL ret fr lo mc ms av w Post) (hp : ∀ r w', (∀ (a : Nat) (t : Nat × Nat × Nat), w.1 a = some t → w'.1 a = some t) → Post r w' → Post' r w') : xCtr G y cc nL ret fr lo mc ms av w Post' := by
  intro l sz hl hG p e ha hc hk s m args below hf happ hP hK
  obtain ⟨t, o, h1, h2, h3, ⟨⟨r, w', e1, e2, e3, e4⟩, e5⟩, h4⟩ := h l sz hl hG p e ha hc hk s m args below hf happ hP hK
  exact ⟨t, o, h1, h2, h3, ⟨⟨r, w', e1, hp r w' e4.1 e2, e3, e4⟩, e5⟩, h4⟩
section XE
variable {Z : xZ} {G : xG} {cc : ByteArray} {own : String} {nL fr lo : Nat} {ret : Option FieldType} {w : xW} {T : xT} {O R : xO} {pc : Nat} {lv lv2 : List (Nat × Value)} {st : List Value} {kc ks : Nat} {Post : Option Value → xW → Prop}
theorem xend {H : Heap} {locs : List Loc} {cells slots : Nat} {r : Option Value} (h2 : xIn Z w kc ks H locs cells slots) (hp : Post r w) (t : State) (ht : t.heap = H) : xQc (zG Z) (z0 Z) Post (za Z) (zs Z) (.returned r) t :=
  ⟨⟨r, w, rfl, hp, by rw [ht]; exact h2.1, h2.2.1⟩, h2.2.2.1.F ht⟩
theorem g_iret (B : xOk Z G cc own nL fr lo ret) (E : xEnd Z Post) {ty : FieldType} {x : Int32} (hr : ret = some ty) (hn : narrow ty (.int x) = .int x) (d : decode cc pc = .ok (.ireturn, 1)) (hp : Post (some (.int x)) (T, O, R)) : xV Z (T, O, R) pc lv [.int x] kc ks := by
  intro ls H locs cells slots h1 h2
  show W _ _ _ _ _ _ _ _ _ _ _ _ _ _ (zQ Z) _
  rw [E]
  refine W.widen (k := (zR Z).cells) (n := (zR Z).slots) (by have := h2.2.2.2.1; omega) (by have := h2.2.2.2.2; omega) ?_
  exact W.zret (v := x) B.ex B.by (by rw [B.rt]; exact hr) hn (fun t ht hW => xend h2 hp t ht) h2.2.2.1.2.2 d B.lk
theorem g_lret (B : xOk Z G cc own nL fr lo ret) (E : xEnd Z Post) {x : Int64} (hr : ret = some .long) (d : decode cc pc = .ok (.lreturn, 1)) (hp : Post (some (.long x)) (T, O, R)) : xV Z (T, O, R) pc lv [.long x] kc ks := by
  intro ls H locs cells slots h1 h2
  show W _ _ _ _ _ _ _ _ _ _ _ _ _ _ (zQ Z) _
  rw [E]
  refine W.widen (k := (zR Z).cells) (n := (zR Z).slots) (by have := h2.2.2.2.1; omega) (by have := h2.2.2.2.2; omega) ?_
  exact W.lret (v := x) B.ex B.by (by rw [B.rt]; exact hr) (fun t ht hW => xend h2 hp t ht) h2.2.2.1.2.2 d B.lk
theorem g_vret (B : xOk Z G cc own nL fr lo ret) (E : xEnd Z Post) (hr : ret = none) (d : decode cc pc = .ok (.return_, 1)) (hp : Post none (T, O, R)) : xV Z (T, O, R) pc lv [] kc ks := by
  intro ls H locs cells slots h1 h2
  show W _ _ _ _ _ _ _ _ _ _ _ _ _ _ (zQ Z) _
  rw [E]
  refine W.widen (k := (zR Z).cells) (n := (zR Z).slots) (by have := h2.2.2.2.1; omega) (by have := h2.2.2.2.2; omega) ?_
  exact W.vret B.ex B.by (by rw [B.rt]; exact hr) (fun t ht hW => xend h2 hp t ht) h2.2.2.1.2.2 d B.lk
theorem g_aret (B : xOk Z G cc own nL fr lo ret) (E : xEnd Z Post) {rt : FieldType} {v : Value} (hr : ret = some rt) (hrt : (∃ n, rt = .object n) ∨ ∃ t, rt = .array t) (hv : v = .null ∨ ∃ a, v = .ref a) (d : decode cc pc = .ok (.areturn, 1)) (hp : Post (some v) (T, O, R)) : xV Z (T, O, R) pc lv [v] kc ks := by
  intro ls H locs cells slots h1 h2
  show W _ _ _ _ _ _ _ _ _ _ _ _ _ _ (zQ Z) _
  rw [E]
  refine W.widen (k := (zR Z).cells) (n := (zR Z).slots) (by have := h2.2.2.2.1; omega) (by have := h2.2.2.2.2; omega) ?_
  exact W.aret B.ex B.by (by rw [B.rt]; exact hr) hrt hv (fun t ht hW => xend h2 hp t ht) h2.2.2.1.2.2 d B.lk
end XE
