set_option maxRecDepth 100000
/-! reading through the stores -/
theorem xs {O : xO} {a k : Nat} {v : Value} : xUp O a k v a k = v := xUp_s
theorem xk {O : xO} {a k b j : Nat} {v x : Value} (h : j ≠ k) (e : O b j = x) : xUp O a k v b j = x := (xUp_k h).trans e
theorem xa {O : xO} {a k b j : Nat} {v x : Value} (h : b ≠ a) (e : O b j = x) : xUp O a k v b j = x := (xUp_a h).trans e
theorem xrs {R : xO} {a : Nat} {f : Nat → Value} : xUr R a f a = f := xUr_s
theorem xr {R : xO} {a b : Nat} {f g : Nat → Value} (h : b ≠ a) (e : R b = g) : xUr R a f b = g := (xUr_a h).trans e
theorem xos {O : xO} {q j : Nat} {f : Nat → Value} {x : Value} (e : f j = x) : xUr O q f q j = x := (congrFun xUr_s j).trans e
theorem xo {O : xO} {q b j : Nat} {f : Nat → Value} {x : Value} (h : b ≠ q) (e : O b j = x) : xUr O q f b j = x := (congrFun (xUr_a h) j).trans e
theorem xnt {T : xT} {a b r1 n1 o1 r2 n2 o2 : Nat} (ha : T a = some (r1, n1, o1)) (hb : T b = some (r2, n2, o2)) (h : r1 ≠ r2) : a ≠ b := fun e => by
  subst e
  cases ha.symm.trans hb
  exact h rfl
/-- .. the owners differ -/
theorem xno {T : xT} {a b r1 n1 o1 r2 n2 o2 : Nat} (ha : T a = some (r1, n1, o1)) (hb : T b = some (r2, n2, o2)) (h : o1 ≠ o2) : a ≠ b := fun e => by
  subst e
  cases ha.symm.trans hb
  exact h rfl
theorem xI_up {f : Nat → Int32} {k : Nat} {x : Int32} : updV (xI f) k (.int x) = xI (va_up f k x) := funext fun j => by
  by_cases h : j = k <;> simp [updV, xI, va_up, h]
theorem xJ_up {f : Nat → Int64} {k : Nat} {x : Int64} : updV (xJ f) k (.long x) = xJ (va_up f k x) := funext fun j => by
  by_cases h : j = k <;> simp [updV, xJ, va_up, h]
theorem xQ_up {f : Nat → Option Nat} {k : Nat} {x : Nat} : updV (xQ f) k (.ref x) = xQ (va_up f k (some x)) := funext fun j => by
  by_cases h : j = k <;> simp [updV, xQ, va_up, va_rf, h]
theorem xQ_upN {f : Nat → Option Nat} {k : Nat} : updV (xQ f) k .null = xQ (va_up f k none) := funext fun j => by
  by_cases h : j = k <;> simp [updV, xQ, va_up, va_rf, h]
section XF
variable {Z : xZ} {G : xG} {cc : ByteArray} {own : String} {nL fr lo : Nat} {ret : Option FieldType} {T : xT} {O R : xO} {pc : Nat} {lv : List (Nat × Value)} {st : List Value} {kc ks : Nat} {a r n o : Nat}
theorem g_ialdI (B : xOk Z G cc own nL fr lo ret) {i : Int32} {f : Nat → Int32} (ht : T a = some (r, n, o)) (hr : r / 1000 = 1) (hf : R a = xI f) (hin : vp_in i n) (d : decode cc pc = .ok (.iaload, 1)) (kk : xV Z (T, O, R) (pc + 1) lv (.int (f i.toNatClampNeg) :: st) kc ks) : xV Z (T, O, R) pc lv (.int i :: .ref a :: st) kc ks := g_iald B ht hr hin (congrFun hf _) d kk
theorem g_zaldI (B : xOk Z G cc own nL fr lo ret) {i : Int32} {f : Nat → Int32} (ht : T a = some (r, n, o)) (hr : r / 1000 = 2) (hf : R a = xI f) (hin : vp_in i n) (d : decode cc pc = .ok (.baload, 1)) (kk : xV Z (T, O, R) (pc + 1) lv (.int (f i.toNatClampNeg) :: st) kc ks) : xV Z (T, O, R) pc lv (.int i :: .ref a :: st) kc ks := g_zald B ht hr hin (congrFun hf _) d kk
theorem g_baldI (B : xOk Z G cc own nL fr lo ret) {i : Int32} {f : Nat → Int32} (ht : T a = some (r, n, o)) (hr : r / 1000 = 3) (hf : R a = xI f) (hin : vp_in i n) (d : decode cc pc = .ok (.baload, 1)) (kk : xV Z (T, O, R) (pc + 1) lv (.int (f i.toNatClampNeg) :: st) kc ks) : xV Z (T, O, R) pc lv (.int i :: .ref a :: st) kc ks := g_bald B ht hr hin (congrFun hf _) d kk
theorem g_laldJ (B : xOk Z G cc own nL fr lo ret) {i : Int32} {f : Nat → Int64} (ht : T a = some (r, n, o)) (hr : r / 1000 = 4) (hf : R a = xJ f) (hin : vp_in i n) (d : decode cc pc = .ok (.laload, 1)) (kk : xV Z (T, O, R) (pc + 1) lv (.long (f i.toNatClampNeg) :: st) kc ks) : xV Z (T, O, R) pc lv (.int i :: .ref a :: st) kc ks := g_lald B ht hr hin (congrFun hf _) d kk
theorem g_aaldQ (B : xOk Z G cc own nL fr lo ret) {i : Int32} {f : Nat → Option Nat} {ty : FieldType} {v : Value} (ht : T a = some (r, n, o)) (hr : xTy (r / 1000) = some ty) (href : ty.isReference = true) (hf : R a = xQ f) (hin : vp_in i n) (hv : va_rf (f i.toNatClampNeg) = v) (d : decode cc pc = .ok (.aaload, 1)) (kk : xV Z (T, O, R) (pc + 1) lv (v :: st) kc ks) : xV Z (T, O, R) pc lv (.int i :: .ref a :: st) kc ks := g_aald B ht hr href hin ((congrFun hf _).trans hv) d kk
theorem g_iastI (B : xOk Z G cc own nL fr lo ret) {i x : Int32} {f : Nat → Int32} (ht : T a = some (r, n, o)) (hr : r / 1000 = 1) (hf : R a = xI f) (hin : vp_in i n) (d : decode cc pc = .ok (.iastore, 1)) (kk : xV Z (T, O, xUr R a (xI (va_up f i.toNatClampNeg x))) (pc + 1) lv st kc ks) : xV Z (T, O, R) pc lv (.int x :: .int i :: .ref a :: st) kc ks := g_iast B ht hr hin d (by rw [hf, xI_up]; exact kk)
theorem g_zastI (B : xOk Z G cc own nL fr lo ret) {i x y : Int32} {f : Nat → Int32} (ht : T a = some (r, n, o)) (hr : r / 1000 = 2) (hf : R a = xI f) (hin : vp_in i n) (hx : narrow .boolean (.int x) = .int y) (d : decode cc pc = .ok (.bastore, 1)) (kk : xV Z (T, O, xUr R a (xI (va_up f i.toNatClampNeg y))) (pc + 1) lv st kc ks) : xV Z (T, O, R) pc lv (.int x :: .int i :: .ref a :: st) kc ks := g_zast B ht hr hin hx d (by rw [hf, xI_up]; exact kk)
theorem g_bastI (B : xOk Z G cc own nL fr lo ret) {i x y : Int32} {f : Nat → Int32} (ht : T a = some (r, n, o)) (hr : r / 1000 = 3) (hf : R a = xI f) (hin : vp_in i n) (hx : narrow .byte (.int x) = .int y) (d : decode cc pc = .ok (.bastore, 1)) (kk : xV Z (T, O, xUr R a (xI (va_up f i.toNatClampNeg y))) (pc + 1) lv st kc ks) : xV Z (T, O, R) pc lv (.int x :: .int i :: .ref a :: st) kc ks := g_bast B ht hr hin hx d (by rw [hf, xI_up]; exact kk)
theorem g_lastJ (B : xOk Z G cc own nL fr lo ret) {i : Int32} {x : Int64} {f : Nat → Int64} (ht : T a = some (r, n, o)) (hr : r / 1000 = 4) (hf : R a = xJ f) (hin : vp_in i n) (d : decode cc pc = .ok (.lastore, 1)) (kk : xV Z (T, O, xUr R a (xJ (va_up f i.toNatClampNeg x))) (pc + 1) lv st kc ks) : xV Z (T, O, R) pc lv (.long x :: .int i :: .ref a :: st) kc ks := g_last B ht hr hin d (by rw [hf, xJ_up]; exact kk)
theorem g_aastQ (B : xOk Z G cc own nL fr lo ret) {b rb nb ob : Nat} {i : Int32} {f : Nat → Option Nat} (ht : T a = some (r, n, o)) (hb : T b = some (rb, nb, ob)) (hs : xAsg rb (r / 1000)) (hf : R a = xQ f) (hin : vp_in i n) (d : decode cc pc = .ok (.aastore, 1)) (kk : xV Z (T, O, xUr R a (xQ (va_up f i.toNatClampNeg (some b)))) (pc + 1) lv st kc ks) : xV Z (T, O, R) pc lv (.ref b :: .int i :: .ref a :: st) kc ks := g_aast B ht hb hs hin d (by rw [hf, xQ_up]; exact kk)
theorem g_aastQN (B : xOk Z G cc own nL fr lo ret) {C : String} {i : Int32} {f : Nat → Option Nat} (ht : T a = some (r, n, o)) (hr : xTy (r / 1000) = some (.object C)) (hf : R a = xQ f) (hin : vp_in i n) (d : decode cc pc = .ok (.aastore, 1)) (kk : xV Z (T, O, xUr R a (xQ (va_up f i.toNatClampNeg none))) (pc + 1) lv st kc ks) : xV Z (T, O, R) pc lv (.null :: .int i :: .ref a :: st) kc ks := g_aastN B ht hr hin d (by rw [hf, xQ_upN]; exact kk)
end XF
/-- the world stays -/
def xSame (T : xT) (O R : xO) (P : Value → Prop) : Value → xT → xO → xO → Prop := fun v T2 O2 R2 => P v ∧ T2 = T ∧ O2 = O ∧ R2 = R
theorem vp_in0 {n : Nat} {i : Int32} (h1 : 0 ≤ i.toInt) (h2 : i.toInt < n) : vp_in i n := vp_in_iff.mpr ⟨h1, h2⟩
