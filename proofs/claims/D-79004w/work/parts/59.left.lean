set_option maxRecDepth 100000
/-! CONTRACTS THAT GIVE BACK WHAT THEY DID NOT USE: the post speaks of the room that is left -/
def hS (H : Heap) : Nat := H.foldl (fun n c => n + c.slots.size) 0
theorem slotsTrue_eq {s : State} (h : s.slotsTrue = true) : s.slotsUsed = hS s.heap := by
  unfold State.slotsTrue at h
  exact beq_iff_eq.mp h
section XL
variable {p : Program} {l : Launch} {e : Env} {R : Room} {s : State} {m : MethodId} {args : Array Value} {below : List Frame} {meth : Method} {c : Code} {T : State} {locs : List Loc} {cells slots : Nat}
theorem stand_hS (X : Stand p l e R s m args below meth c T locs cells slots) : hS T.heap = hS s.heap + ((T.heap.toList.drop s.heap.size).map (·.slots.size)).sum ∧ hS T.heap ≤ hS s.heap + slots := by
  have h0 : s.slotsTrue = true := by
    have h := X.room
    simp only [State.hasRoom, Bool.and_eq_true] at h
    exact h.2
  have h1 := slotsTrue_eq X.book
  have h2 := slotsTrue_eq h0
  have h3 : T.slotsUsed = s.slotsUsed + _ := X.same.2.2.2.1
  have h4 := X.used
  refine ⟨?_, by omega⟩
  rw [← h1, ← h2]
  exact h3
theorem stand_tight {k n : Nat} (X : Stand p l e R s m args below meth c T locs cells slots) (h1 : T.heap.size ≤ s.heap.size + k) (h2 : hS T.heap ≤ hS s.heap + n) : Stand p l e R s m args below meth c T locs k n :=
  { X with same := ⟨X.same.1, X.same.2.1, h1, X.same.2.2.2.1, by
      have h := (stand_hS X).1
      have h3 : ((T.heap.toList.drop s.heap.size).map (·.slots.size)).sum ≤ n := by omega
      exact h3, X.same.2.2.2.2.2⟩ }
end XL
/-- the end of a method that says what is left -/
def xQl (G : xG) (w0 : xW) (mc ms : Nat) (Post : Option Value → xW → Nat → Nat → Prop) : Array Value → State → Outcome → State → Prop := fun _ u oc t => (∃ (r : Option Value) (w : xW) (kl sl : Nat), oc = .returned r ∧ Post r w kl sl ∧ xHp G w t.heap ∧ xGr w0 u.heap.size w ∧ t.heap.size + kl ≤ u.heap.size + mc ∧ hS t.heap + sl ≤ hS u.heap + ms) ∧ va_F (xFree w0 u.heap.size) u t
def xEndL (Z : xZ) (Post : Option Value → xW → Nat → Nat → Prop) : Prop := zQ Z = MQ (zb Z) (xQl (zG Z) (z0 Z) (zR Z).cells (zR Z).slots Post) (za Z) (zs Z) (zR Z).cells (zR Z).slots (zA Z)
def xCtrL (G : xG) (y : MethodName) (cc : ByteArray) (nL : Nat) (ret : Option FieldType) (fr lo mc ms : Nat) (av : List Value) (w : xW) (Post : Option Value → xW → Nat → Nat → Prop) : Prop :=
  ∀ (l : Launch) (sz : Nat), l.flags = flags0 → xSt G → Met l y (ws_ y cc nL ret) ({ frames := fr, cells := mc, slots := ms, locals := lo }) (va_Pc av (fun U => U.heap.size = sz ∧ G.1.WarmedH U.vm ∧ xHp G w U.heap)) (xQl G w mc ms Post) mc ms (xFree w sz)
/-- an answer with what is left, and none -/
def xAL (P : Value → xT → xO → xO → Nat → Nat → Prop) : Option Value → xW → Nat → Nat → Prop := fun r w kl sl => ∃ v, r = some v ∧ P v w.1 w.2.1 w.2.2 kl sl
def xNL (P : xT → xO → xO → Nat → Nat → Prop) : Option Value → xW → Nat → Nat → Prop := fun r w kl sl => r = none ∧ P w.1 w.2.1 w.2.2 kl sl
theorem xCtrL.of {G : xG} {y : MethodName} {cc : ByteArray} {nL : Nat} {ret : Option FieldType} {fr lo mc ms : Nat} {av : List Value} {w : xW} {Post : Option Value → xW → Nat → Nat → Prop} (hy : plainName y.cls = true) (hlen : (lg_sl av).length ≤ nL) (body : ∀ Z : xZ, xOk Z G cc y.cls nL fr lo ret → xEndL Z Post → z0 Z = w → (zme Z).name = y.name → xV Z w 0 (lv_args 0 av) [] mc ms) : xCtrL G y cc nL ret fr lo mc ms av w Post := by
  intro l sz hl hG
  refine Met.ofW (cc := cc) (maxL := nL) (ret := ret) hy rfl ?_
  intro p e s m args below meth c s₁ B hml hv
  obtain ⟨rfl, hsz, hW, hP⟩ := hv
  subst hsz
  have hent := lv_entry av hlen
  rw [lg_entry_eq]
  refine body ((p, l, e, (headSpec (ws_ y cc nL ret) ({ frames := fr, cells := mc, slots := ms, locals := lo })).room, s, m, av.toArray, below, meth, c), G, w, MQ below (xQl G w mc ms Post) av.toArray s mc ms (xFree w s.heap.size)) ⟨rfl, B.exec, B.bytes, hml, findClass_of_methodNamed B.named, B.notSynchronized, B.returns, rfl, rfl, hl, hG, hW, hP.2.1, hP.2.2⟩ rfl rfl (name_of_methodNamed B.named B.method).1 _ s.heap [] 0 0 (by rw [show (zc _).maxLocals = nL from hml]; exact hent) ⟨hP, ⟨fun _ _ h => h, fun a ha => Or.inl ha⟩, va_S.rf, Nat.le_of_eq (Nat.zero_add _), Nat.le_of_eq (Nat.zero_add _)⟩
section XEL
variable {Z : xZ} {G : xG} {cc : ByteArray} {own : String} {nL fr lo : Nat} {ret : Option FieldType} {w : xW} {T : xT} {O R : xO} {pc : Nat} {lv lv2 : List (Nat × Value)} {st : List Value} {kc ks : Nat} {Post : Option Value → xW → Nat → Nat → Prop}
theorem xendL {H : Heap} {locs : List Loc} {cells slots : Nat} {r : Option Value} (h2 : xIn Z w kc ks H locs cells slots) (hp : Post r w kc ks) (hc : H.size ≤ (zs Z).heap.size + cells) (hs : hS H ≤ hS (zs Z).heap + slots) (t : State) (ht : t.heap = H) : xQl (zG Z) (z0 Z) (zR Z).cells (zR Z).slots Post (za Z) (zs Z) (.returned r) t :=
  ⟨⟨r, w, kc, ks, rfl, hp, by rw [ht]; exact h2.1, h2.2.1, by rw [ht]; have := h2.2.2.2.1; omega, by rw [ht]; have := h2.2.2.2.2; omega⟩, h2.2.2.1.F ht⟩
theorem xsz {H : Heap} {locs : List Loc} {cells slots : Nat} {T : State} (hT : T.heap = H) (X : Stand (zp Z) (zl Z) (ze Z) (zR Z) (zs Z) (zm Z) (za Z) (zb Z) (zme Z) (zc Z) T locs cells slots) : H.size ≤ (zs Z).heap.size + cells ∧ hS H ≤ hS (zs Z).heap + slots := by
  subst hT
  exact ⟨X.heapSize, (stand_hS X).2⟩
theorem g_iretL (B : xOk Z G cc own nL fr lo ret) (E : xEndL Z Post) {ty : FieldType} {x : Int32} (hr : ret = some ty) (hn : narrow ty (.int x) = .int x) (d : decode cc pc = .ok (.ireturn, 1)) (hp : Post (some (.int x)) (T, O, R) kc ks) : xV Z (T, O, R) pc lv [.int x] kc ks := by
  intro ls H locs cells slots h1 h2 T0 hT0 X0
  obtain ⟨g1, g2⟩ := xsz hT0 X0
  refine (?_ : W (zp Z) (zl Z) (ze Z) (zR Z) (zs Z) (zm Z) (za Z) (zb Z) (zme Z) (zc Z) H locs cells slots (zQ Z) _) T0 hT0 X0
  rw [show zQ Z = _ from E]
  refine W.widen (k := (zR Z).cells) (n := (zR Z).slots) (by have := h2.2.2.2.1; omega) (by have := h2.2.2.2.2; omega) ?_
  exact W.zret (v := x) B.ex B.by (by rw [B.rt]; exact hr) hn (fun t ht hW => xendL h2 hp g1 g2 t ht) h2.2.2.1.2.2 d B.lk
theorem g_vretL (B : xOk Z G cc own nL fr lo ret) (E : xEndL Z Post) (hr : ret = none) (d : decode cc pc = .ok (.return_, 1)) (hp : Post none (T, O, R) kc ks) : xV Z (T, O, R) pc lv [] kc ks := by
  intro ls H locs cells slots h1 h2 T0 hT0 X0
  obtain ⟨g1, g2⟩ := xsz hT0 X0
  refine (?_ : W (zp Z) (zl Z) (ze Z) (zR Z) (zs Z) (zm Z) (za Z) (zb Z) (zme Z) (zc Z) H locs cells slots (zQ Z) _) T0 hT0 X0
  rw [show zQ Z = _ from E]
  refine W.widen (k := (zR Z).cells) (n := (zR Z).slots) (by have := h2.2.2.2.1; omega) (by have := h2.2.2.2.2; omega) ?_
  exact W.vret B.ex B.by (by rw [B.rt]; exact hr) (fun t ht hW => xendL h2 hp g1 g2 t ht) h2.2.2.1.2.2 d B.lk
theorem g_aretL (B : xOk Z G cc own nL fr lo ret) (E : xEndL Z Post) {rt : FieldType} {v : Value} (hr : ret = some rt) (hrt : (∃ n, rt = .object n) ∨ ∃ t, rt = .array t) (hv : v = .null ∨ ∃ a, v = .ref a) (d : decode cc pc = .ok (.areturn, 1)) (hp : Post (some v) (T, O, R) kc ks) : xV Z (T, O, R) pc lv [v] kc ks := by
  intro ls H locs cells slots h1 h2 T0 hT0 X0
  obtain ⟨g1, g2⟩ := xsz hT0 X0
  refine (?_ : W (zp Z) (zl Z) (ze Z) (zR Z) (zs Z) (zm Z) (za Z) (zb Z) (zme Z) (zc Z) H locs cells slots (zQ Z) _) T0 hT0 X0
  rw [show zQ Z = _ from E]
  refine W.widen (k := (zR Z).cells) (n := (zR Z).slots) (by have := h2.2.2.2.1; omega) (by have := h2.2.2.2.2; omega) ?_
  exact W.aret B.ex B.by (by rw [B.rt]; exact hr) hrt hv (fun t ht hW => xendL h2 hp g1 g2 t ht) h2.2.2.1.2.2 d B.lk
end XEL
section XCL
variable {Z : xZ} {G : xG} {cc : ByteArray} {own : String} {nL fr lo : Nat} {ret : Option FieldType} {w : xW} {T : xT} {O R : xO} {pc : Nat} {lv lv2 : List (Nat × Value)} {st st0 rest : List Value} {kc ks kc2 ks2 mc ms : Nat} {Post : Option Value → xW → Nat → Nat → Prop}
theorem g_runL {a : Array Value} (hkc : kc2 + mc ≤ kc) (hks : ks2 + ms ≤ ks) (hr : ∀ (ls : Array Slot) (H : Heap) (locs : List Loc) (cells slots : Nat), ls.size = (zc Z).maxLocals → xIn Z w kc ks H locs cells slots → (cells + mc ≤ (zR Z).cells ∧ slots + ms ≤ (zR Z).slots) → va_Run (zp Z) (zl Z) (ze Z) (zR Z) (zs Z) (zm Z) (za Z) (zb Z) (zme Z) (zc Z) H locs cells slots mc ms (F0 (zm Z) pc ls st0) rest (xQl (zG Z) w mc ms Post a) (xFree w H.size)) (kk : ∀ (r : Option Value) (T2 : xT) (O2 R2 : xO) (kl sl : Nat), xLe w (T2, O2, R2) → Post r (T2, O2, R2) kl sl → xV Z (T2, O2, R2) (pc + 3) lv (r.toList ++ rest) (kc2 + kl) (ks2 + sl)) : xV Z w pc lv st0 kc ks := by
  intro ls H locs cells slots h1 h2 T hT X
  obtain ⟨g1, g2⟩ := xsz hT X
  obtain ⟨v, u, t, T', L, h0, X', hL, e1, e2, ⟨⟨r, w', kl, sl, hv, hp, hh, hg, hc1, hc2⟩, hF⟩, stp⟩ := hr ls H locs cells slots h1.1 h2 ⟨by have := h2.2.2.2.1; omega, by have := h2.2.2.2.2; omega⟩ T hT X
  cases hv
  have hb := h2.back (kc2 := kc2) (ks2 := ks2) hkc hks h0 e1 hL hh hg hF
  have hz1 : kl ≤ cells + mc := by
    have h3 := hF.1
    have h4 : u.heap.size = H.size := by rw [h0]
    omega
  have hz2 : sl ≤ slots + ms ∧ hS T'.heap ≤ hS (zs Z).heap + (slots + ms - sl) := by
    have h3 := (stand_hS X').1
    have h4 : hS u.heap = hS H := by rw [h0]
    rw [e1] at h3 ⊢
    omega
  have hz3 : T'.heap.size ≤ (zs Z).heap.size + (cells + mc - kl) := by
    have h4 : u.heap.size = H.size := by rw [h0]
    rw [e1]
    omega
  have X2 := stand_tight (k := cells + mc - kl) (n := slots + ms - sl) X' hz3 hz2.2
  obtain ⟨t2, a1, b1⟩ := kk v w'.1 w'.2.1 w'.2.2 kl sl hg.1 hp ls T'.heap (locs ++ L) _ _ h1 ⟨hb.1, hb.2.1, hb.2.2.1, by have := hb.2.2.2.1; omega, by have := hb.2.2.2.2; omega⟩ T' rfl X2
  exact ⟨t2, stp t2 a1, b1⟩
variable {y : MethodName} {b : ByteArray} {L : Nat} {r : Option FieldType} {n fr' lo' idx : Nat} {av : List Value}
theorem g_callSL (B : xOk Z G cc own nL fr lo ret) (M : xM y b L r n) (q1 : Cond.methodLink own idx y ∈ lw_all) (q2 : Cond.static y ∈ lw_all) (hC : xCtrL G y b L r fr' lo' mc ms av (T, O, R) Post) (hn : av.length = n) (hst : av.reverse ++ rest = st0) (hrest : (rest.map fun v => v.category).sum ≤ 8) (hfr : fr' + 1 ≤ fr) (hlo : 8 + (L + 11) + lo' ≤ lo) (hkc : kc2 + mc ≤ kc) (hks : ks2 + ms ≤ ks) (d : decode cc pc = .ok (.invokestatic idx, 3)) (kk : ∀ (r : Option Value) (T2 : xT) (O2 R2 : xO) (kl sl : Nat), xLe (T, O, R) (T2, O2, R2) → Post r (T2, O2, R2) kl sl → xV Z (T2, O2, R2) (pc + 3) lv (r.toList ++ rest) (kc2 + kl) (ks2 + sl)) : xV Z (T, O, R) pc lv st0 kc ks := by
  have hg := B.g
  subst hg
  refine g_runL (a := av.toArray) hkc hks (fun ls H locs cells slots hls h2 hf => ?_) kk
  exact va_runS (As := av) (rest := rest) (xfix B) (hC (zl Z) H.size B.fl B.st) (va_cwS n B.ws (lw_S q1 q2 M.2.1 M.1) rfl rfl rfl M.2.2 (xroom B hfr hlo)) (xpre B h2.1) rfl hn (hls.trans B.mx) hst.symm (xcat hrest) d hf
theorem g_callIL {a : Nat} {av' : List Value} (B : xOk Z G cc own nL fr lo ret) (M : xM y b L none n) (hy : y.name = "<init>") (q1 : Cond.methodLink own idx y ∈ lw_all) (q2 : Cond.instanceMethod y ∈ lw_all) (hC : xCtrL G y b L none fr' lo' mc ms (.ref a :: av') (T, O, R) Post) (hn : av'.length = n) (hst : av'.reverse ++ .ref a :: rest = st0) (hrest : (rest.map fun v => v.category).sum ≤ 8) (hfr : fr' + 1 ≤ fr) (hlo : 8 + (L + 11) + lo' ≤ lo) (hkc : kc2 + mc ≤ kc) (hks : ks2 + ms ≤ ks) (d : decode cc pc = .ok (.invokespecial idx, 3)) (kk : ∀ (r : Option Value) (T2 : xT) (O2 R2 : xO) (kl sl : Nat), xLe (T, O, R) (T2, O2, R2) → Post r (T2, O2, R2) kl sl → xV Z (T2, O2, R2) (pc + 3) lv (r.toList ++ rest) (kc2 + kl) (ks2 + sl)) : xV Z (T, O, R) pc lv st0 kc ks := by
  have hg := B.g
  subst hg
  refine g_runL (a := (Value.ref a :: av').toArray) hkc hks (fun ls H locs cells slots hls h2 hf => ?_) kk
  exact va_runI (As := av') (rest := rest) (xfix B) (hC (zl Z) H.size B.fl B.st) (cwI n B.ws (lw_meth M.1) rfl rfl rfl (B.ws _ M.2.1) (B.ws _ q1) (B.ws _ q2) hy M.2.2 (xroom B hfr hlo)) (xpre B h2.1) rfl hn (hls.trans B.mx) hst.symm (xcat hrest) d hf
theorem g_callVL {a r0 n0 o : Nat} {av' : List Value} (B : xOk Z G cc own nL fr lo ret) (M : xM y b L r n) (q1 : Cond.methodLink own idx y ∈ lw_all) (q2 : Cond.instanceMethod y ∈ lw_all) (q3 : Cond.selects y.cls y y ∈ lw_all) (ht : T a = some (r0, n0, o)) (hnm : xNa r0 = some y.cls) (hC : xCtrL G y b L r fr' lo' mc ms (.ref a :: av') (T, O, R) Post) (hn : av'.length = n) (hst : av'.reverse ++ .ref a :: rest = st0) (hrest : (rest.map fun v => v.category).sum ≤ 8) (hfr : fr' + 1 ≤ fr) (hlo : 8 + (L + 11) + lo' ≤ lo) (hkc : kc2 + mc ≤ kc) (hks : ks2 + ms ≤ ks) (d : decode cc pc = .ok (.invokevirtual idx, 3)) (kk : ∀ (r : Option Value) (T2 : xT) (O2 R2 : xO) (kl sl : Nat), xLe (T, O, R) (T2, O2, R2) → Post r (T2, O2, R2) kl sl → xV Z (T2, O2, R2) (pc + 3) lv (r.toList ++ rest) (kc2 + kl) (ks2 + sl)) : xV Z (T, O, R) pc lv st0 kc ks := by
  have hg := B.g
  subst hg
  refine g_runL (a := (Value.ref a :: av').toArray) hkc hks (fun ls H locs cells slots hls h2 hf => ?_) kk
  exact va_runV (As := av') (rest := rest) (xfix B) (hC (zl Z) H.size B.fl B.st) (cwV n B.ws (lw_V q1 q2 q3 M.2.1 M.1) rfl rfl rfl ⟨rfl, M.2.2⟩ (xroom B hfr hlo)) (xprev B h2.1 ht hnm) rfl hn (hls.trans B.mx) hst.symm (xcat hrest) d hf
theorem g_callVNL {a r0 n0 o : Nat} {host : String} {av' : List Value} (B : xOk Z G cc own nL fr lo ret) (M : xM y b L r n) (q1 : Cond.methodLinkNest own idx y host ∈ lw_tbl) (q2 : Cond.instanceMethod y ∈ lw_all) (q3 : Cond.selects y.cls y y ∈ lw_all) (ht : T a = some (r0, n0, o)) (hnm : xNa r0 = some y.cls) (hC : xCtrL G y b L r fr' lo' mc ms (.ref a :: av') (T, O, R) Post) (hn : av'.length = n) (hst : av'.reverse ++ .ref a :: rest = st0) (hrest : (rest.map fun v => v.category).sum ≤ 8) (hfr : fr' + 1 ≤ fr) (hlo : 8 + (L + 11) + lo' ≤ lo) (hkc : kc2 + mc ≤ kc) (hks : ks2 + ms ≤ ks) (d : decode cc pc = .ok (.invokevirtual idx, 3)) (kk : ∀ (r : Option Value) (T2 : xT) (O2 R2 : xO) (kl sl : Nat), xLe (T, O, R) (T2, O2, R2) → Post r (T2, O2, R2) kl sl → xV Z (T2, O2, R2) (pc + 3) lv (r.toList ++ rest) (kc2 + kl) (ks2 + sl)) : xV Z (T, O, R) pc lv st0 kc ks := by
  have hg := B.g
  subst hg
  refine g_runL (a := (Value.ref a :: av').toArray) hkc hks (fun ls H locs cells slots hls h2 hf => ?_) kk
  exact va_runVN (As := av') (rest := rest) (xfix B) (hC (zl Z) H.size B.fl B.st) ⟨va_cnB n B.ws (lw_meth M.1) rfl rfl rfl (va_Nw.of rfl (xw_metN B.st B.wm (za Z) q1)) (B.ws _ M.2.1) M.2.2 (xroom B hfr hlo), B.ws _ q2, B.ws _ q3⟩ (xprev B h2.1 ht hnm) rfl hn (hls.trans B.mx) hst.symm (xcat hrest) d hf
theorem g_callSNL {host : String} (B : xOk Z G cc own nL fr lo ret) (M : xM y b L r n) (q1 : Cond.methodLinkNest own idx y host ∈ lw_tbl) (q2 : Cond.static y ∈ lw_all) (hC : xCtrL G y b L r fr' lo' mc ms av (T, O, R) Post) (hn : av.length = n) (hst : av.reverse ++ rest = st0) (hrest : (rest.map fun v => v.category).sum ≤ 8) (hfr : fr' + 1 ≤ fr) (hlo : 8 + (L + 11) + lo' ≤ lo) (hkc : kc2 + mc ≤ kc) (hks : ks2 + ms ≤ ks) (d : decode cc pc = .ok (.invokestatic idx, 3)) (kk : ∀ (r : Option Value) (T2 : xT) (O2 R2 : xO) (kl sl : Nat), xLe (T, O, R) (T2, O2, R2) → Post r (T2, O2, R2) kl sl → xV Z (T2, O2, R2) (pc + 3) lv (r.toList ++ rest) (kc2 + kl) (ks2 + sl)) : xV Z (T, O, R) pc lv st0 kc ks := by
  have hg := B.g
  subst hg
  refine g_runL (a := av.toArray) hkc hks (fun ls H locs cells slots hls h2 hf => ?_) kk
  exact va_runSN (As := av) (rest := rest) (xfix B) (hC (zl Z) H.size B.fl B.st) ⟨va_cnB n B.ws (lw_meth M.1) rfl rfl rfl (va_Nw.of rfl (xw_metN B.st B.wm (za Z) q1)) (B.ws _ M.2.1) M.2.2 (xroom B hfr hlo), B.ws _ q2, trivial⟩ (xpre B h2.1) rfl hn (hls.trans B.mx) hst.symm (xcat hrest) d hf
theorem g_callINL {a : Nat} {host : String} {av' : List Value} (B : xOk Z G cc own nL fr lo ret) (M : xM y b L none n) (hy : y.name = "<init>") (q1 : Cond.methodLinkNest own idx y host ∈ lw_tbl) (q2 : Cond.instanceMethod y ∈ lw_all) (hC : xCtrL G y b L none fr' lo' mc ms (.ref a :: av') (T, O, R) Post) (hn : av'.length = n) (hst : av'.reverse ++ .ref a :: rest = st0) (hrest : (rest.map fun v => v.category).sum ≤ 8) (hfr : fr' + 1 ≤ fr) (hlo : 8 + (L + 11) + lo' ≤ lo) (hkc : kc2 + mc ≤ kc) (hks : ks2 + ms ≤ ks) (d : decode cc pc = .ok (.invokespecial idx, 3)) (kk : ∀ (r : Option Value) (T2 : xT) (O2 R2 : xO) (kl sl : Nat), xLe (T, O, R) (T2, O2, R2) → Post r (T2, O2, R2) kl sl → xV Z (T2, O2, R2) (pc + 3) lv (r.toList ++ rest) (kc2 + kl) (ks2 + sl)) : xV Z (T, O, R) pc lv st0 kc ks := by
  have hg := B.g
  subst hg
  refine g_runL (a := (Value.ref a :: av').toArray) hkc hks (fun ls H locs cells slots hls h2 hf => ?_) kk
  exact va_runIN (As := av') (rest := rest) (xfix B) (hC (zl Z) H.size B.fl B.st) ⟨va_cnB n B.ws (lw_meth M.1) rfl rfl rfl (va_Nw.of rfl (xw_metN B.st B.wm (za Z) q1)) (B.ws _ M.2.1) M.2.2 (xroom B hfr hlo), hy, B.ws _ q2⟩ (xpre B h2.1) rfl hn (hls.trans B.mx) hst.symm (xcat hrest) d hf
theorem xkAL {P : Value → xT → xO → xO → Nat → Nat → Prop} (k : ∀ (v : Value) (T2 : xT) (O2 R2 : xO) (kl sl : Nat), xLe w (T2, O2, R2) → P v T2 O2 R2 kl sl → xV Z (T2, O2, R2) pc lv (v :: rest) (kc2 + kl) (ks2 + sl)) : ∀ (r : Option Value) (T2 : xT) (O2 R2 : xO) (kl sl : Nat), xLe w (T2, O2, R2) → xAL P r (T2, O2, R2) kl sl → xV Z (T2, O2, R2) pc lv (r.toList ++ rest) (kc2 + kl) (ks2 + sl) := by
  intro r T2 O2 R2 kl sl h ⟨v, e, hp⟩
  subst e
  exact k v T2 O2 R2 kl sl h hp
theorem xkNL {P : xT → xO → xO → Nat → Nat → Prop} (k : ∀ (T2 : xT) (O2 R2 : xO) (kl sl : Nat), xLe w (T2, O2, R2) → P T2 O2 R2 kl sl → xV Z (T2, O2, R2) pc lv rest (kc2 + kl) (ks2 + sl)) : ∀ (r : Option Value) (T2 : xT) (O2 R2 : xO) (kl sl : Nat), xLe w (T2, O2, R2) → xNL P r (T2, O2, R2) kl sl → xV Z (T2, O2, R2) pc lv (r.toList ++ rest) (kc2 + kl) (ks2 + sl) := by
  intro r T2 O2 R2 kl sl h ⟨e, hp⟩
  subst e
  exact k T2 O2 R2 kl sl h hp
end XCL
