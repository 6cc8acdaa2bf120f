set_option maxRecDepth 100000
/-- what the tables say of a method: its code, its class ready, how many arguments -/
def xM (y : MethodName) (b : ByteArray) (L : Nat) (r : Option FieldType) (n : Nat) : Prop := Cond.code y b L r ∈ lw_all ∧ Cond.initialized y.cls ∈ lw_all ∧ y.cls ≠ "java/lang/invoke/MethodHandle" ∧ y.cls ≠ "java/lang/invoke/VarHandle" ∧ (parseMethodDescriptor y.desc).map (fun d => d.parameters.length) = some n
section XCALL
variable {Z : xZ} {G : xG} {cc : ByteArray} {own : String} {nL fr lo : Nat} {ret : Option FieldType} {w : xW} {T : xT} {O R : xO} {pc : Nat} {lv lv2 : List (Nat × Value)} {st st0 rest : List Value} {kc ks kc2 ks2 mc ms : Nat} {Post : Option Value → xW → Prop}
def xLe (w w' : xW) : Prop := ∀ (a : Nat) (t : Nat × Nat × Nat), w.1 a = some t → w'.1 a = some t
theorem xIn.back {H H' : Heap} {locs L : List Loc} {cells slots : Nat} {w' : xW} {u t : State} (h2 : xIn Z w kc ks H locs cells slots) (hkc : kc2 + mc ≤ kc) (hks : ks2 + ms ≤ ks) (h0 : u.heap = H) (e1 : H' = t.heap) (hL : ∀ q ∈ L, xFree w H.size q.base) (hh : xHp (zG Z) w' t.heap) (hg : xGr w u.heap.size w') (hF : va_F (xFree w u.heap.size) u t) : xIn Z w' kc2 ks2 H' (locs ++ L) (cells + mc) (slots + ms) := by
  subst h0
  have hsz := h2.2.2.1.1
  have hfr : ∀ q, xFree w u.heap.size q → zA Z q := fun q hq => by
    rcases hq with h | h
    · exact h2.2.1.2 q h
    · exact Or.inr (Nat.le_trans hsz h)
  refine ⟨by rw [e1]; exact hh, ⟨fun a t ha => hg.1 a t (h2.2.1.1 a t ha), fun a ha => hfr a (hg.2 a ha)⟩, ⟨by rw [e1]; exact Nat.le_trans hsz hF.1, fun q g1 g2 => ?_, fun q hq => ?_⟩, by have := h2.2.2.2.1; omega, by have := h2.2.2.2.2; omega⟩
  · rw [e1, hF.2 q (Nat.lt_of_lt_of_le g1 hsz) (fun z => g2 (hfr q z))]
    exact h2.2.2.1.2.1 q g1 g2
  · rcases List.mem_append.mp hq with h | h
    · exact h2.2.2.1.2.2 q h
    · exact hfr _ (hL q h)
theorem g_run {a : Array Value} (hkc : kc2 + mc ≤ kc) (hks : ks2 + ms ≤ ks) (hr : ∀ (ls : Array Slot) (H : Heap) (locs : List Loc) (cells slots : Nat), ls.size = (zc Z).maxLocals → xIn Z w kc ks H locs cells slots → (cells + mc ≤ (zR Z).cells ∧ slots + ms ≤ (zR Z).slots) → va_Run (zp Z) (zl Z) (ze Z) (zR Z) (zs Z) (zm Z) (za Z) (zb Z) (zme Z) (zc Z) H locs cells slots mc ms (F0 (zm Z) pc ls st0) rest (xQc (zG Z) w Post a) (xFree w H.size)) (kk : ∀ (r : Option Value) (T2 : xT) (O2 R2 : xO), xLe w (T2, O2, R2) → Post r (T2, O2, R2) → xV Z (T2, O2, R2) (pc + 3) lv (r.toList ++ rest) kc2 ks2) : xV Z w pc lv st0 kc ks := by
  intro ls H locs cells slots h1 h2 T hT X
  obtain ⟨v, u, t, T', L, h0, X', hL, e1, e2, ⟨⟨r, w', hv, hp, hh, hg⟩, hF⟩, stp⟩ := hr ls H locs cells slots h1.1 h2 ⟨by have := h2.2.2.2.1; omega, by have := h2.2.2.2.2; omega⟩ T hT X
  cases hv
  obtain ⟨t2, a1, b1⟩ := kk v w'.1 w'.2.1 w'.2.2 hg.1 hp ls T'.heap (locs ++ L) (cells + mc) (slots + ms) h1 (h2.back hkc hks h0 e1 hL hh hg hF) T' rfl X'
  exact ⟨t2, stp t2 a1, b1⟩
theorem g_run5 {a : Array Value} (hkc : kc2 + mc ≤ kc) (hks : ks2 + ms ≤ ks) (hr : ∀ (ls : Array Slot) (H : Heap) (locs : List Loc) (cells slots : Nat), ls.size = (zc Z).maxLocals → xIn Z w kc ks H locs cells slots → (cells + mc ≤ (zR Z).cells ∧ slots + ms ≤ (zR Z).slots) → va_Run5 (zp Z) (zl Z) (ze Z) (zR Z) (zs Z) (zm Z) (za Z) (zb Z) (zme Z) (zc Z) H locs cells slots mc ms (F0 (zm Z) pc ls st0) rest (xQc (zG Z) w Post a) (xFree w H.size)) (kk : ∀ (r : Option Value) (T2 : xT) (O2 R2 : xO), xLe w (T2, O2, R2) → Post r (T2, O2, R2) → xV Z (T2, O2, R2) (pc + 5) lv (r.toList ++ rest) kc2 ks2) : xV Z w pc lv st0 kc ks := by
  intro ls H locs cells slots h1 h2 T hT X
  obtain ⟨v, u, t, T', L, h0, X', hL, e1, e2, ⟨⟨r, w', hv, hp, hh, hg⟩, hF⟩, stp⟩ := hr ls H locs cells slots h1.1 h2 ⟨by have := h2.2.2.2.1; omega, by have := h2.2.2.2.2; omega⟩ T hT X
  cases hv
  obtain ⟨t2, a1, b1⟩ := kk v w'.1 w'.2.1 w'.2.2 hg.1 hp ls T'.heap (locs ++ L) (cells + mc) (slots + ms) h1 (h2.back hkc hks h0 e1 hL hh hg hF) T' rfl X'
  exact ⟨t2, stp t2 a1, b1⟩
theorem xblind {G : xG} {sz : Nat} {av : List Value} : FrameBlind (va_Pc av (fun U => U.heap.size = sz ∧ G.1.WarmedH U.vm ∧ xHp G w U.heap)) := fun a U g mk q => ⟨q.1, q.2.1, q.2.2.1, q.2.2.2⟩
theorem xpre (B : xOk Z G cc own nL fr lo ret) {av : List Value} {H : Heap} (hH : xHp (zG Z) w H) : PreS (zs Z) H (va_Pc av (fun U => U.heap.size = H.size ∧ (zG Z).1.WarmedH U.vm ∧ xHp (zG Z) w U.heap)) av :=
  ⟨xblind, fun U hU hW => ⟨rfl, by rw [hU], State.WarmedH.trans B.wm hW, by rw [hU]; exact hH⟩⟩
theorem xfix (B : xOk Z G cc own nL fr lo ret) : CallFix (zp Z) (zm Z) (zc Z) cc nL (zs Z) (za Z) lw_all own := ⟨B.ex, B.by, B.mx, B.ow, B.ws⟩
variable {y : MethodName} {b : ByteArray} {L : Nat} {r : Option FieldType} {n fr' lo' idx : Nat} {av : List Value}
theorem xroom (B : xOk Z G cc own nL fr lo ret) (hfr : fr' + 1 ≤ fr) (hlo : 8 + (L + 11) + lo' ≤ lo) : fr' + 1 ≤ (zR Z).frames ∧ 8 + (L + 11) + lo' ≤ (zR Z).locals := ⟨by rw [B.fm]; exact hfr, by rw [B.lm]; exact hlo⟩
theorem xcat (h : (rest.map fun v => v.category).sum ≤ 8) {ls : Array Slot} {m : MethodId} : 2 * (F0 m pc ls st0).monitorRoom + (rest.map fun v => v.category).sum ≤ 8 := lv_room (pc := pc) (ls := ls) (m := m) (rest := st0) h
/-- a static call -/
theorem g_callS (B : xOk Z G cc own nL fr lo ret) (M : xM y b L r n) (q1 : Cond.methodLink own idx y ∈ lw_all) (q2 : Cond.static y ∈ lw_all) (hC : xCtr G y b L r fr' lo' mc ms av (T, O, R) Post) (hn : av.length = n) (hst : av.reverse ++ rest = st0) (hrest : (rest.map fun v => v.category).sum ≤ 8) (hfr : fr' + 1 ≤ fr) (hlo : 8 + (L + 11) + lo' ≤ lo) (hkc : kc2 + mc ≤ kc) (hks : ks2 + ms ≤ ks) (d : decode cc pc = .ok (.invokestatic idx, 3)) (kk : ∀ (r : Option Value) (T2 : xT) (O2 R2 : xO), xLe (T, O, R) (T2, O2, R2) → Post r (T2, O2, R2) → xV Z (T2, O2, R2) (pc + 3) lv (r.toList ++ rest) kc2 ks2) : xV Z (T, O, R) pc lv st0 kc ks := by
  have hg := B.g
  subst hg
  refine g_run (a := av.toArray) hkc hks (fun ls H locs cells slots hls h2 hf => ?_) kk
  exact va_runS (As := av) (rest := rest) (xfix B) (hC (zl Z) H.size B.fl B.st) (va_cwS n B.ws (lw_S q1 q2 M.2.1 M.1) rfl rfl rfl M.2.2 (xroom B hfr hlo)) (xpre B h2.1) rfl hn (hls.trans B.mx) hst.symm (xcat hrest) d hf
/-- a constructor's call -/
theorem g_callI {a : Nat} {av' : List Value} (B : xOk Z G cc own nL fr lo ret) (M : xM y b L none n) (hy : y.name = "<init>") (q1 : Cond.methodLink own idx y ∈ lw_all) (q2 : Cond.instanceMethod y ∈ lw_all) (hC : xCtr G y b L none fr' lo' mc ms (.ref a :: av') (T, O, R) Post) (hn : av'.length = n) (hst : av'.reverse ++ .ref a :: rest = st0) (hrest : (rest.map fun v => v.category).sum ≤ 8) (hfr : fr' + 1 ≤ fr) (hlo : 8 + (L + 11) + lo' ≤ lo) (hkc : kc2 + mc ≤ kc) (hks : ks2 + ms ≤ ks) (d : decode cc pc = .ok (.invokespecial idx, 3)) (kk : ∀ (r : Option Value) (T2 : xT) (O2 R2 : xO), xLe (T, O, R) (T2, O2, R2) → Post r (T2, O2, R2) → xV Z (T2, O2, R2) (pc + 3) lv (r.toList ++ rest) kc2 ks2) : xV Z (T, O, R) pc lv st0 kc ks := by
  have hg := B.g
  subst hg
  refine g_run (a := (Value.ref a :: av').toArray) hkc hks (fun ls H locs cells slots hls h2 hf => ?_) kk
  exact va_runI (As := av') (rest := rest) (xfix B) (hC (zl Z) H.size B.fl B.st) (cwI n B.ws (lw_meth M.1) rfl rfl rfl (B.ws _ M.2.1) (B.ws _ q1) (B.ws _ q2) hy M.2.2 (xroom B hfr hlo)) (xpre B h2.1) rfl hn (hls.trans B.mx) hst.symm (xcat hrest) d hf
theorem xprev (B : xOk Z G cc own nL fr lo ret) {C : String} {a r0 n0 o : Nat} {av' : List Value} {H : Heap} (hH : xHp (zG Z) w H) (ht : w.1 a = some (r0, n0, o)) (hnm : xNa r0 = some C) : PreV (zs Z) H C a (va_Pc (.ref a :: av') (fun U => U.heap.size = H.size ∧ (zG Z).1.WarmedH U.vm ∧ xHp (zG Z) w U.heap)) av' := by
  obtain ⟨cell, kC, g1, g2, g3, g4⟩ := x_cell B hH ht hnm
  exact ⟨xblind, ⟨cell, g1, by rw [g2]; rfl, g3⟩, fun U hU hW => ⟨rfl, by rw [hU], State.WarmedH.trans B.wm hW, by rw [hU]; exact hH⟩⟩
/-- a call through an object of the method's own class -/
theorem g_callV {a r0 n0 o : Nat} {av' : List Value} (B : xOk Z G cc own nL fr lo ret) (M : xM y b L r n) (q1 : Cond.methodLink own idx y ∈ lw_all) (q2 : Cond.instanceMethod y ∈ lw_all) (q3 : Cond.selects y.cls y y ∈ lw_all) (ht : T a = some (r0, n0, o)) (hnm : xNa r0 = some y.cls) (hC : xCtr G y b L r fr' lo' mc ms (.ref a :: av') (T, O, R) Post) (hn : av'.length = n) (hst : av'.reverse ++ .ref a :: rest = st0) (hrest : (rest.map fun v => v.category).sum ≤ 8) (hfr : fr' + 1 ≤ fr) (hlo : 8 + (L + 11) + lo' ≤ lo) (hkc : kc2 + mc ≤ kc) (hks : ks2 + ms ≤ ks) (d : decode cc pc = .ok (.invokevirtual idx, 3)) (kk : ∀ (r : Option Value) (T2 : xT) (O2 R2 : xO), xLe (T, O, R) (T2, O2, R2) → Post r (T2, O2, R2) → xV Z (T2, O2, R2) (pc + 3) lv (r.toList ++ rest) kc2 ks2) : xV Z (T, O, R) pc lv st0 kc ks := by
  have hg := B.g
  subst hg
  refine g_run (a := (Value.ref a :: av').toArray) hkc hks (fun ls H locs cells slots hls h2 hf => ?_) kk
  exact va_runV (As := av') (rest := rest) (xfix B) (hC (zl Z) H.size B.fl B.st) (cwV n B.ws (lw_V q1 q2 q3 M.2.1 M.1) rfl rfl rfl ⟨rfl, M.2.2⟩ (xroom B hfr hlo)) (xprev B h2.1 ht hnm) rfl hn (hls.trans B.mx) hst.symm (xcat hrest) d hf
/-- a nest mate's private method -/
theorem g_callVN {a r0 n0 o : Nat} {host : String} {av' : List Value} (B : xOk Z G cc own nL fr lo ret) (M : xM y b L r n) (q1 : Cond.methodLinkNest own idx y host ∈ lw_tbl) (q2 : Cond.instanceMethod y ∈ lw_all) (q3 : Cond.selects y.cls y y ∈ lw_all) (ht : T a = some (r0, n0, o)) (hnm : xNa r0 = some y.cls) (hC : xCtr G y b L r fr' lo' mc ms (.ref a :: av') (T, O, R) Post) (hn : av'.length = n) (hst : av'.reverse ++ .ref a :: rest = st0) (hrest : (rest.map fun v => v.category).sum ≤ 8) (hfr : fr' + 1 ≤ fr) (hlo : 8 + (L + 11) + lo' ≤ lo) (hkc : kc2 + mc ≤ kc) (hks : ks2 + ms ≤ ks) (d : decode cc pc = .ok (.invokevirtual idx, 3)) (kk : ∀ (r : Option Value) (T2 : xT) (O2 R2 : xO), xLe (T, O, R) (T2, O2, R2) → Post r (T2, O2, R2) → xV Z (T2, O2, R2) (pc + 3) lv (r.toList ++ rest) kc2 ks2) : xV Z (T, O, R) pc lv st0 kc ks := by
  have hg := B.g
  subst hg
  refine g_run (a := (Value.ref a :: av').toArray) hkc hks (fun ls H locs cells slots hls h2 hf => ?_) kk
  exact va_runVN (As := av') (rest := rest) (xfix B) (hC (zl Z) H.size B.fl B.st) ⟨va_cnB n B.ws (lw_meth M.1) rfl rfl rfl (va_Nw.of rfl (xw_metN B.st B.wm (za Z) q1)) (B.ws _ M.2.1) M.2.2 (xroom B hfr hlo), B.ws _ q2, B.ws _ q3⟩ (xprev B h2.1 ht hnm) rfl hn (hls.trans B.mx) hst.symm (xcat hrest) d hf
theorem g_callSN {host : String} (B : xOk Z G cc own nL fr lo ret) (M : xM y b L r n) (q1 : Cond.methodLinkNest own idx y host ∈ lw_tbl) (q2 : Cond.static y ∈ lw_all) (hC : xCtr G y b L r fr' lo' mc ms av (T, O, R) Post) (hn : av.length = n) (hst : av.reverse ++ rest = st0) (hrest : (rest.map fun v => v.category).sum ≤ 8) (hfr : fr' + 1 ≤ fr) (hlo : 8 + (L + 11) + lo' ≤ lo) (hkc : kc2 + mc ≤ kc) (hks : ks2 + ms ≤ ks) (d : decode cc pc = .ok (.invokestatic idx, 3)) (kk : ∀ (r : Option Value) (T2 : xT) (O2 R2 : xO), xLe (T, O, R) (T2, O2, R2) → Post r (T2, O2, R2) → xV Z (T2, O2, R2) (pc + 3) lv (r.toList ++ rest) kc2 ks2) : xV Z (T, O, R) pc lv st0 kc ks := by
  have hg := B.g
  subst hg
  refine g_run (a := av.toArray) hkc hks (fun ls H locs cells slots hls h2 hf => ?_) kk
  exact va_runSN (As := av) (rest := rest) (xfix B) (hC (zl Z) H.size B.fl B.st) ⟨va_cnB n B.ws (lw_meth M.1) rfl rfl rfl (va_Nw.of rfl (xw_metN B.st B.wm (za Z) q1)) (B.ws _ M.2.1) M.2.2 (xroom B hfr hlo), B.ws _ q2, trivial⟩ (xpre B h2.1) rfl hn (hls.trans B.mx) hst.symm (xcat hrest) d hf
theorem g_callIN {a : Nat} {host : String} {av' : List Value} (B : xOk Z G cc own nL fr lo ret) (M : xM y b L none n) (hy : y.name = "<init>") (q1 : Cond.methodLinkNest own idx y host ∈ lw_tbl) (q2 : Cond.instanceMethod y ∈ lw_all) (hC : xCtr G y b L none fr' lo' mc ms (.ref a :: av') (T, O, R) Post) (hn : av'.length = n) (hst : av'.reverse ++ .ref a :: rest = st0) (hrest : (rest.map fun v => v.category).sum ≤ 8) (hfr : fr' + 1 ≤ fr) (hlo : 8 + (L + 11) + lo' ≤ lo) (hkc : kc2 + mc ≤ kc) (hks : ks2 + ms ≤ ks) (d : decode cc pc = .ok (.invokespecial idx, 3)) (kk : ∀ (r : Option Value) (T2 : xT) (O2 R2 : xO), xLe (T, O, R) (T2, O2, R2) → Post r (T2, O2, R2) → xV Z (T2, O2, R2) (pc + 3) lv (r.toList ++ rest) kc2 ks2) : xV Z (T, O, R) pc lv st0 kc ks := by
  have hg := B.g
  subst hg
  refine g_run (a := (Value.ref a :: av').toArray) hkc hks (fun ls H locs cells slots hls h2 hf => ?_) kk
  exact va_runIN (As := av') (rest := rest) (xfix B) (hC (zl Z) H.size B.fl B.st) ⟨va_cnB n B.ws (lw_meth M.1) rfl rfl rfl (va_Nw.of rfl (xw_metN B.st B.wm (za Z) q1)) (B.ws _ M.2.1) M.2.2 (xroom B hfr hlo), hy, B.ws _ q2⟩ (xpre B h2.1) rfl hn (hls.trans B.mx) hst.symm (xcat hrest) d hf
/-- a method x, named by the call, that the object's class C answers by y: y is x's owner's own -/
theorem g_callU {a r0 n0 o : Nat} {C owner : String} {x : MethodName} {av' : List Value} (B : xOk Z G cc own nL fr lo ret) (M : xM y b L r n) (hyx : y = ⟨owner, x.name, x.desc⟩) (q1 : Cond.methodLink own idx x ∈ lw_all) (q0 : Cond.sameMethod x.cls owner x.name x.desc ∈ lw_all) (q2 : Cond.instanceMethod y ∈ lw_all) (q3 : Cond.selects C x y ∈ lw_all) (ht : T a = some (r0, n0, o)) (hnm : xNa r0 = some C) (hC : xCtr G y b L r fr' lo' mc ms (.ref a :: av') (T, O, R) Post) (hn : av'.length = n) (hst : av'.reverse ++ .ref a :: rest = st0) (hrest : (rest.map fun v => v.category).sum ≤ 8) (hfr : fr' + 1 ≤ fr) (hlo : 8 + (L + 11) + lo' ≤ lo) (hkc : kc2 + mc ≤ kc) (hks : ks2 + ms ≤ ks) (d : decode cc pc = .ok (.invokevirtual idx, 3)) (kk : ∀ (r : Option Value) (T2 : xT) (O2 R2 : xO), xLe (T, O, R) (T2, O2, R2) → Post r (T2, O2, R2) → xV Z (T2, O2, R2) (pc + 3) lv (r.toList ++ rest) kc2 ks2) : xV Z (T, O, R) pc lv st0 kc ks := by
  have hg := B.g
  subst hg
  refine g_run (a := (Value.ref a :: av').toArray) hkc hks (fun ls H locs cells slots hls h2 hf => ?_) kk
  subst hyx
  refine va_runU (C := C) (owner := owner) (x := x) (As := av') (rest := rest) (xfix B) (hC (zl Z) H.size B.fl B.st) (va_cwU n B.ws (lw_app (fun w hw => ?_) (lw_meth M.1)) rfl rfl rfl rfl M.2.2 (xroom B hfr hlo)) (xprev B h2.1 ht hnm) rfl hn (hls.trans B.mx) hst.symm (xcat hrest) d hf
  simp only [List.mem_cons, List.not_mem_nil, or_false] at hw
  rcases hw with e | e | e | e | e
  · rw [e]; exact q1
  · rw [e]; exact q0
  · rw [e]; exact q3
  · rw [e]; exact q2
  · rw [e]; exact M.2.1
/-- .. y overrides the owner's method, which has code -/
theorem g_callO {a r0 n0 o : Nat} {C owner : String} {x : MethodName} {av' : List Value} {b0 : ByteArray} {m0 : Nat} {rr0 : Option FieldType} (B : xOk Z G cc own nL fr lo ret) (M : xM y b L r n) (hx : owner ≠ "java/lang/invoke/MethodHandle" ∧ owner ≠ "java/lang/invoke/VarHandle" ∧ (parseMethodDescriptor x.desc).map (fun d => d.parameters.length) = some n) (q1 : Cond.methodLink own idx x ∈ lw_all) (q0 : Cond.sameMethod x.cls owner x.name x.desc ∈ lw_all) (q4 : Cond.instanceMethod ⟨owner, x.name, x.desc⟩ ∈ lw_all) (q5 : Cond.code ⟨owner, x.name, x.desc⟩ b0 m0 rr0 ∈ lw_all) (q2 : Cond.instanceMethod y ∈ lw_all) (q3 : Cond.selects C x y ∈ lw_all) (ht : T a = some (r0, n0, o)) (hnm : xNa r0 = some C) (hC : xCtr G y b L r fr' lo' mc ms (.ref a :: av') (T, O, R) Post) (hn : av'.length = n) (hst : av'.reverse ++ .ref a :: rest = st0) (hrest : (rest.map fun v => v.category).sum ≤ 8) (hfr : fr' + 1 ≤ fr) (hlo : 8 + (L + 11) + lo' ≤ lo) (hkc : kc2 + mc ≤ kc) (hks : ks2 + ms ≤ ks) (d : decode cc pc = .ok (.invokevirtual idx, 3)) (kk : ∀ (r : Option Value) (T2 : xT) (O2 R2 : xO), xLe (T, O, R) (T2, O2, R2) → Post r (T2, O2, R2) → xV Z (T2, O2, R2) (pc + 3) lv (r.toList ++ rest) kc2 ks2) : xV Z (T, O, R) pc lv st0 kc ks := by
  have hg := B.g
  subst hg
  refine g_run (a := (Value.ref a :: av').toArray) hkc hks (fun ls H locs cells slots hls h2 hf => ?_) kk
  refine va_runU (C := C) (owner := owner) (x := x) (As := av') (rest := rest) (xfix B) (hC (zl Z) H.size B.fl B.st) (va_cwO n B.ws (lw_app (fun w hw => ?_) (lw_meth M.1)) rfl rfl rfl q5 hx (xroom B hfr hlo)) (xprev B h2.1 ht hnm) rfl hn (hls.trans B.mx) hst.symm (xcat hrest) d hf
  simp only [List.mem_cons, List.not_mem_nil, or_false] at hw
  rcases hw with e | e | e | e | e | e
  · rw [e]; exact q1
  · rw [e]; exact q0
  · rw [e]; exact q4
  · rw [e]; exact q3
  · rw [e]; exact q2
  · rw [e]; exact M.2.1
/-- .. the owner's method has no body -/
theorem g_callA {a r0 n0 o : Nat} {C owner : String} {x : MethodName} {av' : List Value} (B : xOk Z G cc own nL fr lo ret) (M : xM y b L r n) (hx : owner ≠ "java/lang/invoke/MethodHandle" ∧ owner ≠ "java/lang/invoke/VarHandle" ∧ (parseMethodDescriptor x.desc).map (fun d => d.parameters.length) = some n) (q1 : Cond.methodLink own idx x ∈ lw_all) (q0 : Cond.sameMethod x.cls owner x.name x.desc ∈ lw_all) (q4 : Cond.declares ⟨owner, x.name, x.desc⟩ ∈ lw_tbl) (q2 : Cond.instanceMethod y ∈ lw_all) (q3 : Cond.selects C x y ∈ lw_all) (ht : T a = some (r0, n0, o)) (hnm : xNa r0 = some C) (hC : xCtr G y b L r fr' lo' mc ms (.ref a :: av') (T, O, R) Post) (hn : av'.length = n) (hst : av'.reverse ++ .ref a :: rest = st0) (hrest : (rest.map fun v => v.category).sum ≤ 8) (hfr : fr' + 1 ≤ fr) (hlo : 8 + (L + 11) + lo' ≤ lo) (hkc : kc2 + mc ≤ kc) (hks : ks2 + ms ≤ ks) (d : decode cc pc = .ok (.invokevirtual idx, 3)) (kk : ∀ (r : Option Value) (T2 : xT) (O2 R2 : xO), xLe (T, O, R) (T2, O2, R2) → Post r (T2, O2, R2) → xV Z (T2, O2, R2) (pc + 3) lv (r.toList ++ rest) kc2 ks2) : xV Z (T, O, R) pc lv st0 kc ks := by
  have hg := B.g
  subst hg
  refine g_run (a := (Value.ref a :: av').toArray) hkc hks (fun ls H locs cells slots hls h2 hf => ?_) kk
  have hdz : va_Nw (.declares ⟨owner, x.name, x.desc⟩) (zs Z) := by
    obtain ⟨⟨b, g1, -⟩, -⟩ := B.st
    exact va_Nw.warmD B.wm (va_Nw.of rfl (g1 _ q4))
  refine va_runU (C := C) (owner := owner) (x := x) (As := av') (rest := rest) (xfix B) (hC (zl Z) H.size B.fl B.st) (va_cwA n B.ws (lw_app (fun w hw => ?_) (lw_meth M.1)) rfl rfl rfl hdz hx (xroom B hfr hlo)) (xprev B h2.1 ht hnm) rfl hn (hls.trans B.mx) hst.symm (xcat hrest) d hf
  simp only [List.mem_cons, List.not_mem_nil, or_false] at hw
  rcases hw with e | e | e | e | e
  · rw [e]; exact q1
  · rw [e]; exact q0
  · rw [e]; exact q3
  · rw [e]; exact q2
  · rw [e]; exact M.2.1
/-- a call through an interface -/
theorem g_callF {a r0 n0 o cnt : Nat} {q : vw_C} {x : MethodName} {av' : List Value} (B : xOk Z G cc own nL fr lo ret) (M : xM y b L r n) (hx : x.cls ≠ "java/lang/invoke/MethodHandle" ∧ x.cls ≠ "java/lang/invoke/VarHandle" ∧ (parseMethodDescriptor x.desc).map (fun d => d.parameters.length) = some n) (q1 : Cond.methodLink own idx x ∈ lw_all) (q2 : Cond.instanceMethod y ∈ lw_all) (q3 : Cond.selects q.1 x y ∈ lw_all) (k1 : Cond.declares x ∈ lw_tbl) (k2 : Cond.interfaceMethod x.cls x.cls x.name x.desc ∈ lw_tbl) (k3 : Cond.publicMethod y ∈ lw_tbl) (k4 : Cond.unhidden q.1 x.name x.desc ∈ lw_tbl) (k5 : Cond.castable q.1 x.cls ∈ lw_tbl) (ht : T a = some (r0, n0, o)) (hq : xC r0 = some q) (hC : xCtr G y b L r fr' lo' mc ms (.ref a :: av') (T, O, R) Post) (hn : av'.length = n) (hst : av'.reverse ++ .ref a :: rest = st0) (hrest : (rest.map fun v => v.category).sum ≤ 8) (hfr : fr' + 1 ≤ fr) (hlo : 8 + (L + 11) + lo' ≤ lo) (hkc : kc2 + mc ≤ kc) (hks : ks2 + ms ≤ ks) (d : decode cc pc = .ok (.invokeinterface idx cnt, 5)) (kk : ∀ (r : Option Value) (T2 : xT) (O2 R2 : xO), xLe (T, O, R) (T2, O2, R2) → Post r (T2, O2, R2) → xV Z (T2, O2, R2) (pc + 5) lv (r.toList ++ rest) kc2 ks2) : xV Z (T, O, R) pc lv st0 kc ks := by
  have hg := B.g
  subst hg
  refine g_run5 (a := (Value.ref a :: av').toArray) hkc hks (fun ls H locs cells slots hls h2 hf => ?_) kk
  refine va_runF (C := q.1) (x := x) (As := av') (rest := rest) (B.kn hq).2 (xfix B) (hC (zl Z) H.size B.fl B.st) (va_cwF n B.ws (lw_app (fun w hw => ?_) (lw_meth M.1)) rfl rfl rfl (xw_face B.st B.wm ⟨hx.1, hx.2.1⟩ k1 k2 k3 k4 k5) hx (xroom B hfr hlo)) (xprev B h2.1 ht (by unfold xNa; rw [if_pos (xC_lt hq), hq]; rfl)) rfl hn (hls.trans B.mx) hst.symm (xcat hrest) d hf
  simp only [List.mem_cons, List.not_mem_nil, or_false] at hw
  rcases hw with e | e | e | e
  · rw [e]; exact q1
  · rw [e]; exact q3
  · rw [e]; exact q2
  · rw [e]; exact M.2.1
end XCALL
/-- a call's continuation, by its kind of answer -/
theorem xkA {Z : xZ} {w : xW} {pc : Nat} {lv : List (Nat × Value)} {rest : List Value} {kc ks : Nat} {P : Value → xT → xO → xO → Prop} (k : ∀ (v : Value) (T2 : xT) (O2 R2 : xO), xLe w (T2, O2, R2) → P v T2 O2 R2 → xV Z (T2, O2, R2) pc lv (v :: rest) kc ks) : ∀ (r : Option Value) (T2 : xT) (O2 R2 : xO), xLe w (T2, O2, R2) → xA P r (T2, O2, R2) → xV Z (T2, O2, R2) pc lv (r.toList ++ rest) kc ks := by
  intro r T2 O2 R2 h1 h2
  obtain ⟨v, rfl, hp⟩ := h2
  exact k v T2 O2 R2 h1 hp
theorem xkN {Z : xZ} {w : xW} {pc : Nat} {lv : List (Nat × Value)} {rest : List Value} {kc ks : Nat} {P : xT → xO → xO → Prop} (k : ∀ (T2 : xT) (O2 R2 : xO), xLe w (T2, O2, R2) → P T2 O2 R2 → xV Z (T2, O2, R2) pc lv rest kc ks) : ∀ (r : Option Value) (T2 : xT) (O2 R2 : xO), xLe w (T2, O2, R2) → xN P r (T2, O2, R2) → xV Z (T2, O2, R2) pc lv (r.toList ++ rest) kc ks := by
  intro r T2 O2 R2 h1 h2
  obtain ⟨rfl, hp⟩ := h2
  exact k T2 O2 R2 h1 hp
