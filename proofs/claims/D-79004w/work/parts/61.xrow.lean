set_option maxRecDepth 100000
/-! rows over the component's things -/
theorem rdS {α : Type} {f g : Nat → Nat → Nat → α} {r o k : Nat} {v : α} (h : f r = va_up (g r) o (va_up (g r o) k v)) : f r o k = v := by rw [h, va_ups, va_ups]
theorem rdK {α : Type} {f g : Nat → Nat → Nat → α} {r o k j : Nat} {v w : α} (h : f r = va_up (g r) o (va_up (g r o) k v)) (hj : j ≠ k) (e : g r o j = w) : f r o j = w := by rw [h, va_ups, va_upe hj, e]
theorem rdO {α : Type} {f g : Nat → Nat → Nat → α} {r o o' j : Nat} {u : Nat → α} {w : α} (h : f r = va_up (g r) o u) (ho : o' ≠ o) (e : g r o' j = w) : f r o' j = w := by rw [h, va_upe ho, e]
theorem rdR {α : Type} {f g : Nat → Nat → Nat → α} {r r' o j : Nat} {w : α} (h : ∀ i, i ≠ r → f i = g i) (hr : r' ≠ r) (e : g r' o j = w) : f r' o j = w := by rw [h r' hr, e]
theorem rdN {α : Type} {f g : Nat → Nat → Nat → α} {r o j : Nat} {u : Nat → α} {w : α} (h : f r = va_up (g r) o u) (e : u j = w) : f r o j = w := by rw [h, va_ups, e]
/-- what there was, is -/
def yLe (Y Y1 : xY) : Prop := ∀ r o x, yAt Y r o x → yAt Y1 r o x ∧ yN Y1 r o = yN Y r o ∧ yK Y1 r o = yK Y r o
theorem yLe.rf {Y : xY} : yLe Y Y := fun _ _ _ h => ⟨h, rfl, rfl⟩
theorem yLe.tr {Y1 Y2 Y3 : xY} (h : yLe Y1 Y2) (g : yLe Y2 Y3) : yLe Y1 Y3 := fun r o x hx => by
  obtain ⟨h1, h2, h3⟩ := h r o x hx
  obtain ⟨g1, g2, g3⟩ := g r o x h1
  exact ⟨g1, g2.trans h2, g3.trans h3⟩
theorem yLe.at {Y Y1 : xY} (h : yLe Y Y1) {r o x : Nat} (hx : yAt Y r o x) : yAt Y1 r o x := (h r o x hx).1
theorem yLe.n {Y Y1 : xY} (h : yLe Y Y1) {r o x n : Nat} (hx : yAt Y r o x) (e : yN Y r o = n) : yN Y1 r o = n := (h r o x hx).2.1.trans e
theorem yLe.k {Y Y1 : xY} (h : yLe Y Y1) {r o x n : Nat} (hx : yAt Y r o x) (e : yK Y r o = n) : yK Y1 r o = n := (h r o x hx).2.2.trans e
theorem yLe.new {Y : xY} {r o x K n : Nat} (hf : ∀ x, ¬ yAt Y r o x) : yLe Y (yNew Y r o x K n) := fun r' o' x' hx => by
  have hn : ¬ (r' = r ∧ o' = o) := fun e => by obtain ⟨rfl, rfl⟩ := e; exact hf _ hx
  exact ⟨yNew_o hx, upno hn, upno hn⟩
theorem yNew_gr {Y : xY} {r o q K n : Nat} : ∀ r' o' x', yAt (yNew Y r o q K n) r' o' x' → yAt Y r' o' x' ∨ (r' = r ∧ o' = o ∧ x' = q) := fun r' o' x' h => h.symm
/-- .. and what is new is in S -/
def yLs (S : Nat → Nat → Prop) (Y Y1 : xY) : Prop := yLe Y Y1 ∧ ∀ r o x, yAt Y1 r o x → yAt Y r o x ∨ S r o
theorem yLs.rf {S : Nat → Nat → Prop} {Y : xY} : yLs S Y Y := ⟨yLe.rf, fun _ _ _ h => Or.inl h⟩
theorem yLs.tr {S : Nat → Nat → Prop} {Y1 Y2 Y3 : xY} (h : yLs S Y1 Y2) (g : yLs S Y2 Y3) : yLs S Y1 Y3 := ⟨h.1.tr g.1, fun r o x hx => by
  rcases g.2 r o x hx with e | e
  · exact h.2 r o x e
  · exact Or.inr e⟩
theorem yLs.at {S : Nat → Nat → Prop} {Y Y1 : xY} (h : yLs S Y Y1) {r o x : Nat} (hx : yAt Y r o x) : yAt Y1 r o x := (h.1 r o x hx).1
theorem yLs.n {S : Nat → Nat → Prop} {Y Y1 : xY} (h : yLs S Y Y1) {r o x n : Nat} (hx : yAt Y r o x) (e : yN Y r o = n) : yN Y1 r o = n := h.1.n hx e
theorem yLs.k {S : Nat → Nat → Prop} {Y Y1 : xY} (h : yLs S Y Y1) {r o x n : Nat} (hx : yAt Y r o x) (e : yK Y r o = n) : yK Y1 r o = n := h.1.k hx e
theorem yLs.no {S : Nat → Nat → Prop} {Y Y1 : xY} (h : yLs S Y Y1) {r o : Nat} (hf : ∀ x, ¬ yAt Y r o x) (hs : ¬ S r o) : ∀ x, ¬ yAt Y1 r o x := fun x hx => by
  rcases h.2 r o x hx with e | e
  · exact hf x e
  · exact hs e
theorem yGr.no {Y Y1 : xY} {r o q r2 o2 : Nat} (g : ∀ r' o' x', yAt Y1 r' o' x' → yAt Y r' o' x' ∨ (r' = r ∧ o' = o ∧ x' = q)) (hf : ∀ x, ¬ yAt Y r2 o2 x) (hn : ¬ (r2 = r ∧ o2 = o)) : ∀ x, ¬ yAt Y1 r2 o2 x := fun x hx => by
  rcases g _ _ _ hx with e | e
  · exact hf x e
  · exact hn ⟨e.1, e.2.1⟩
section XROW
variable {Z : xZ} {G : xG} {cc : ByteArray} {own : String} {nL fr lo : Nat} {ret : Option FieldType} {T : xT} {O R : xO} {pc : Nat} {lv lv2 : List (Nat × Value)} {st : List Value} {kc ks : Nat} {Y : xY} {V : xVV} {I : xII} {J : xJJ} {A : xVV} {w0 : xW} {r o x idx k t : Nat}
theorem x_get (B : xOk Z G cc own nL fr lo ret) (P : PX Y V I J A w0 T O R) {v : Value} (h : yAt Y r o x) (hr : r < 1000) (ht : xrT (yK Y) r o = t) (f : xFld own idx t k) (hk : k < 32) (hv : V r o k = v) (d : decode cc pc = .ok (.getfield idx, 3)) (kk : xV Z (T, O, R) (pc + 3) lv (v :: st) kc ks) : xV Z (T, O, R) pc lv (.ref x :: st) kc ks := by
  obtain ⟨n, u, h1⟩ := P.ty h hr ht
  exact g_get B f h1 rfl (P.fld h hr ht hk hv) d kk
theorem x_put {q : vw_C} {ty : FieldType} {v : Value} (B : xOk Z G cc own nL fr lo ret) (P : PX Y V I J A w0 T O R) (h : yAt Y r o x) (hr : r < 1000) (ht : xrT (yK Y) r o = t) (f : xFld own idx t k) (hq : xC t = some q) (hfin : (q.2.1 k).2.2.2 = false) (hty : parseFieldDescriptor (q.2.1 k).2.2.1 = some ty) (hn : narrow ty v = v) (hfit : fits ty v = true) (d : decode cc pc = .ok (.putfield idx, 3)) (kk : ∀ (O1 : xO) (V1 : xVV), V1 r = va_up (V r) o (va_up (V r o) k v) → (∀ i, i ≠ r → V1 i = V i) → PX Y V1 I J A w0 T O1 R → xV Z (T, O1, R) (pc + 3) lv st kc ks) : xV Z (T, O, R) pc lv (v :: .ref x :: st) kc ks := by
  obtain ⟨n, u, h1⟩ := P.ty h hr ht
  exact g_put B f hq hfin hty hn hfit h1 rfl d (kk _ _ va_ups (fun i hi => va_upe hi) (P.put h hr ht v))
theorem x_putF {q : vw_C} {ty : FieldType} {v : Value} (B : xOk Z G cc own nL fr lo ret) (P : PX Y V I J A w0 T O R) (hin : (zme Z).name = "<init>") (h : yAt Y r o x) (hr : r < 1000) (ht : xrT (yK Y) r o = t) (hq : xC t = some q) (hk : k < q.2.2) (hlink : Cond.fieldLink own idx (q.2.1 k).1 (q.2.1 k).2.1 (q.2.1 k).2.2.1 ∈ lw_all) (hfin : (q.2.1 k).2.2.2 = true) (hdecl : (q.2.1 k).1 = own) (hty : parseFieldDescriptor (q.2.1 k).2.2.1 = some ty) (hn : narrow ty v = v) (hfit : fits ty v = true) (d : decode cc pc = .ok (.putfield idx, 3)) (kk : ∀ (O1 : xO) (V1 : xVV), V1 r = va_up (V r) o (va_up (V r o) k v) → (∀ i, i ≠ r → V1 i = V i) → PX Y V1 I J A w0 T O1 R → xV Z (T, O1, R) (pc + 3) lv st kc ks) : xV Z (T, O, R) pc lv (v :: .ref x :: st) kc ks := by
  obtain ⟨n, u, h1⟩ := P.ty h hr ht
  exact g_putF B hin hq hk hlink hfin hdecl hty hn hfit h1 rfl d (kk _ _ va_ups (fun i hi => va_upe hi) (P.put h hr ht v))
/-! arrays -/
variable {n j : Nat} {i : Int32}
theorem x_alen (B : xOk Z G cc own nL fr lo ret) (P : PX Y V I J A w0 T O R) {ty : FieldType} (h : yAt Y r o x) (hr : 1000 ≤ r) (hty : xTy (r / 1000) = some ty) (hn : yN Y r o = n) (d : decode cc pc = .ok (.arraylength, 1)) (kk : xV Z (T, O, R) (pc + 1) lv (.int (nI n) :: st) kc ks) : xV Z (T, O, R) pc lv (.ref x :: st) kc ks := by
  obtain ⟨t, u, h1, h2⟩ := P.tya h hr
  subst hn
  exact g_alen B h1 (by rw [h2]; exact hty) d kk
theorem x_ldI (B : xOk Z G cc own nL fr lo ret) (P : PX Y V I J A w0 T O R) {v : Int32} (h : yAt Y r o x) (hr : r / 1000 = 1) (hi : i = nI j) (hn : yN Y r o = n) (hj : j < n) (hl : n < 2 ^ 31) (hv : I r o j = v) (d : decode cc pc = .ok (.iaload, 1)) (kk : xV Z (T, O, R) (pc + 1) lv (.int v :: st) kc ks) : xV Z (T, O, R) pc lv (.int i :: .ref x :: st) kc ks := by
  obtain ⟨t, u, h1, h2⟩ := P.tya h (by omega)
  subst hi; subst hn
  refine g_ialdI B h1 (h2.trans hr) (P.arI h (Or.inl hr)) (vp_in_nI hj hl) d ?_
  rw [nI_clamp (by omega), hv]
  exact kk
theorem x_ldB (B : xOk Z G cc own nL fr lo ret) (P : PX Y V I J A w0 T O R) {v : Int32} (h : yAt Y r o x) (hr : r / 1000 = 3) (hi : i = nI j) (hn : yN Y r o = n) (hj : j < n) (hl : n < 2 ^ 31) (hv : I r o j = v) (d : decode cc pc = .ok (.baload, 1)) (kk : xV Z (T, O, R) (pc + 1) lv (.int v :: st) kc ks) : xV Z (T, O, R) pc lv (.int i :: .ref x :: st) kc ks := by
  obtain ⟨t, u, h1, h2⟩ := P.tya h (by omega)
  subst hi; subst hn
  refine g_baldI B h1 (h2.trans hr) (P.arI h (Or.inr (Or.inr hr))) (vp_in_nI hj hl) d ?_
  rw [nI_clamp (by omega), hv]
  exact kk
theorem x_ldJ (B : xOk Z G cc own nL fr lo ret) (P : PX Y V I J A w0 T O R) {v : Int64} (h : yAt Y r o x) (hr : r / 1000 = 4) (hi : i = nI j) (hn : yN Y r o = n) (hj : j < n) (hl : n < 2 ^ 31) (hv : J r o j = v) (d : decode cc pc = .ok (.laload, 1)) (kk : xV Z (T, O, R) (pc + 1) lv (.long v :: st) kc ks) : xV Z (T, O, R) pc lv (.int i :: .ref x :: st) kc ks := by
  obtain ⟨t, u, h1, h2⟩ := P.tya h (by omega)
  subst hi; subst hn
  refine g_laldJ B h1 (h2.trans hr) (P.arJ h hr) (vp_in_nI hj hl) d ?_
  rw [nI_clamp (by omega), hv]
  exact kk
theorem x_ldA (B : xOk Z G cc own nL fr lo ret) (P : PX Y V I J A w0 T O R) {v : Value} {ty : FieldType} (h : yAt Y r o x) (hr : 5 ≤ r / 1000) (hty : xTy (r / 1000) = some ty) (href : ty.isReference = true) (hi : i = nI j) (hn : yN Y r o = n) (hj : j < n) (hl : n < 2 ^ 31) (hv : A r o j = v) (d : decode cc pc = .ok (.aaload, 1)) (kk : xV Z (T, O, R) (pc + 1) lv (v :: st) kc ks) : xV Z (T, O, R) pc lv (.int i :: .ref x :: st) kc ks := by
  obtain ⟨t, u, h1, h2⟩ := P.tya h (by omega)
  subst hi; subst hn
  exact g_aald B h1 (by rw [h2]; exact hty) href (vp_in_nI hj hl) (by rw [P.arA h hr, nI_clamp (by omega)]; exact hv) d kk
theorem x_stI (B : xOk Z G cc own nL fr lo ret) (P : PX Y V I J A w0 T O R) {v : Int32} (h : yAt Y r o x) (hr : r / 1000 = 1) (hi : i = nI j) (hn : yN Y r o = n) (hj : j < n) (hl : n < 2 ^ 31) (d : decode cc pc = .ok (.iastore, 1)) (kk : ∀ (R1 : xO) (I1 : xII), I1 r = va_up (I r) o (va_up (I r o) j v) → (∀ i, i ≠ r → I1 i = I i) → PX Y V I1 J A w0 T O R1 → xV Z (T, O, R1) (pc + 1) lv st kc ks) : xV Z (T, O, R) pc lv (.int v :: .int i :: .ref x :: st) kc ks := by
  obtain ⟨t, u, h1, h2⟩ := P.tya h (by omega)
  subst hi; subst hn
  refine g_iastI B h1 (h2.trans hr) (P.arI h (Or.inl hr)) (vp_in_nI hj hl) d ?_
  rw [nI_clamp (by omega)]
  exact kk _ _ va_ups (fun i hi => va_upe hi) (P.astI h (Or.inl hr) _)
theorem x_stB (B : xOk Z G cc own nL fr lo ret) (P : PX Y V I J A w0 T O R) {v v' : Int32} (h : yAt Y r o x) (hr : r / 1000 = 3) (hi : i = nI j) (hn : yN Y r o = n) (hj : j < n) (hl : n < 2 ^ 31) (hx : narrow .byte (.int v) = .int v') (d : decode cc pc = .ok (.bastore, 1)) (kk : ∀ (R1 : xO) (I1 : xII), I1 r = va_up (I r) o (va_up (I r o) j v') → (∀ i, i ≠ r → I1 i = I i) → PX Y V I1 J A w0 T O R1 → xV Z (T, O, R1) (pc + 1) lv st kc ks) : xV Z (T, O, R) pc lv (.int v :: .int i :: .ref x :: st) kc ks := by
  obtain ⟨t, u, h1, h2⟩ := P.tya h (by omega)
  subst hi; subst hn
  refine g_bastI B h1 (h2.trans hr) (P.arI h (Or.inr (Or.inr hr))) (vp_in_nI hj hl) hx d ?_
  rw [nI_clamp (by omega)]
  exact kk _ _ va_ups (fun i hi => va_upe hi) (P.astI h (Or.inr (Or.inr hr)) _)
theorem x_stJ (B : xOk Z G cc own nL fr lo ret) (P : PX Y V I J A w0 T O R) {v : Int64} (h : yAt Y r o x) (hr : r / 1000 = 4) (hi : i = nI j) (hn : yN Y r o = n) (hj : j < n) (hl : n < 2 ^ 31) (d : decode cc pc = .ok (.lastore, 1)) (kk : ∀ (R1 : xO) (J1 : xJJ), J1 r = va_up (J r) o (va_up (J r o) j v) → (∀ i, i ≠ r → J1 i = J i) → PX Y V I J1 A w0 T O R1 → xV Z (T, O, R1) (pc + 1) lv st kc ks) : xV Z (T, O, R) pc lv (.long v :: .int i :: .ref x :: st) kc ks := by
  obtain ⟨t, u, h1, h2⟩ := P.tya h (by omega)
  subst hi; subst hn
  refine g_lastJ B h1 (h2.trans hr) (P.arJ h hr) (vp_in_nI hj hl) d ?_
  rw [nI_clamp (by omega)]
  exact kk _ _ va_ups (fun i hi => va_upe hi) (P.astJ h hr _)
theorem x_stA (B : xOk Z G cc own nL fr lo ret) (P : PX Y V I J A w0 T O R) {b tb nb ub : Nat} (h : yAt Y r o x) (hr : 5 ≤ r / 1000) (hb : T b = some (tb, nb, ub)) (hs : xAsg tb (r / 1000)) (hi : i = nI j) (hn : yN Y r o = n) (hj : j < n) (hl : n < 2 ^ 31) (d : decode cc pc = .ok (.aastore, 1)) (kk : ∀ (R1 : xO) (A1 : xVV), A1 r = va_up (A r) o (va_up (A r o) j (.ref b)) → (∀ i, i ≠ r → A1 i = A i) → PX Y V I J A1 w0 T O R1 → xV Z (T, O, R1) (pc + 1) lv st kc ks) : xV Z (T, O, R) pc lv (.ref b :: .int i :: .ref x :: st) kc ks := by
  obtain ⟨t, u, h1, h2⟩ := P.tya h (by omega)
  subst hi; subst hn
  refine g_aast B h1 hb (by rw [h2]; exact hs) (vp_in_nI hj hl) d ?_
  rw [nI_clamp (by omega), P.arA h hr]
  exact kk _ _ va_ups (fun i hi => va_upe hi) (P.astA h hr _)
theorem x_stAN (B : xOk Z G cc own nL fr lo ret) (P : PX Y V I J A w0 T O R) {C : String} (h : yAt Y r o x) (hr : 5 ≤ r / 1000) (hty : xTy (r / 1000) = some (.object C)) (hi : i = nI j) (hn : yN Y r o = n) (hj : j < n) (hl : n < 2 ^ 31) (d : decode cc pc = .ok (.aastore, 1)) (kk : ∀ (R1 : xO) (A1 : xVV), A1 r = va_up (A r) o (va_up (A r o) j .null) → (∀ i, i ≠ r → A1 i = A i) → PX Y V I J A1 w0 T O R1 → xV Z (T, O, R1) (pc + 1) lv st kc ks) : xV Z (T, O, R) pc lv (.null :: .int i :: .ref x :: st) kc ks := by
  obtain ⟨t, u, h1, h2⟩ := P.tya h (by omega)
  subst hi; subst hn
  refine g_aastN B h1 (by rw [h2]; exact hty) (vp_in_nI hj hl) d ?_
  rw [nI_clamp (by omega), P.arA h hr]
  exact kk _ _ va_ups (fun i hi => va_upe hi) (P.astA h hr _)
/-! new things; the owner: a function of the address -/
def okT (t : Nat) : Prop := t ≠ 12 ∧ t < 1000
theorem okT.m {t : Nat} (h : okT t) : ¬ isM t := fun e => by unfold isM at e; unfold okT at h; omega
def okA (t : Nat) : Prop := 1000 ≤ t ∧ (t < 1100 ∨ (1200 ≤ t ∧ t < 2100) ∨ 2200 ≤ t)
theorem okA.m {t : Nat} (h : okA t) : ¬ isM t := fun e => by unfold isM at e; unfold okA at h; omega
theorem x_new {N : Nat} {C : String} {TT : u_T} (B : xOk Z G cc own nL fr lo ret) (P : PX Y V I J A w0 T O R) (r K : Nat) (ow : Nat → Nat) (hr : r < 1000) (ht : (if r % 100 = 4 then opR K else r % 100) = t) (hok : okT t) (ty : Nat → FieldType) (hq : xC t = some (C, TT, N)) (hty : ∀ k, k < N → parseFieldDescriptor (TT k).2.2.1 = some (ty k)) (q1 : Cond.classLink own idx C ∈ lw_all) (q2 : Cond.instantiable C N ∈ lw_all) (q3 : Cond.initialized C ∈ lw_all) (hf : ∀ q, T q = none → ∀ x, ¬ yAt Y r (ow q) x) (hid : idR r → ∀ q, ow q = q) (d : decode cc pc = .ok (.new idx, 3)) (kk : ∀ (q : Nat) (Y1 : xY) (V1 : xVV) (T1 : xT) (O1 : xO), T q = none → yLe Y Y1 → (∀ r' o' x', yAt Y1 r' o' x' → yAt Y r' o' x' ∨ (r' = r ∧ o' = ow q ∧ x' = q)) → (∀ x, ¬ yAt Y r (ow q) x) → yAt Y1 r (ow q) q → yK Y1 r (ow q) = K → V1 r = va_up (V r) (ow q) (fun k => defaultValue (ty k)) → (∀ i, i ≠ r → V1 i = V i) → PX Y1 V1 I J A w0 T1 O1 R → xV Z (T1, O1, R) (pc + 3) lv (.ref q :: st) kc ks) : xV Z (T, O, R) pc lv st (kc + 1) (ks + N) := by
  refine g_new B 0 ty hq hty q1 q2 q3 d fun q hq0 => ?_
  have hK : yK (yNew Y r (ow q) q K 0) r (ow q) = K := upyes
  refine kk q (yNew Y r (ow q) q K 0) (va_up V r (va_up (V r) (ow q) (fun k => defaultValue (ty k)))) _ _ hq0 (yLe.new (hf q hq0)) yNew_gr (hf q hq0) yNew_at hK va_ups (fun i hi => va_upe hi) ?_
  exact P.new hq0 (hf q hq0) (fun hi => Or.inl (hid hi q)) (fun b hb => xUr_a hb) (fun b hb => rfl) hok.m (fun _ => by unfold xrT; rw [hK]; exact ht.symm) (fun h => by omega) (fun _ _ e => upno e) (fun _ _ _ => rfl) (fun _ _ _ => rfl) (fun _ _ _ => rfl) (fun _ k hk => by rw [upyes, xUr_s, Nat.add_sub_cancel_left]) (fun h => by omega) (fun h => by omega) (fun h => by omega)
theorem x_newaI {atype : ArrayType} {N : Nat} {ty : FieldType} (B : xOk Z G cc own nL fr lo ret) (P : PX Y V I J A w0 T O R) (r : Nat) (ow : Nat → Nat) (hok : okA r) (hk : newarray.typeOf atype = ty) (hty : xTy (r / 1000) = some ty) (hd : defaultValue ty = .int 0) (hr : r / 1000 = 1 ∨ r / 1000 = 2 ∨ r / 1000 = 3) (qa : Cond.arrayClass ty ∈ lw_all) (hx : i = nI N) (hN : N * componentBytes ty ≤ 536870912) (hN2 : N < 2 ^ 31) (hf : ∀ q, T q = none → ∀ x, ¬ yAt Y r (ow q) x) (hid : idR r → (∀ q, ow q = q) ∨ ∀ q, T (ow q) ≠ none) (d : decode cc pc = .ok (.newarray atype, 2)) (kk : ∀ (q : Nat) (Y1 : xY) (I1 : xII) (T1 : xT) (R1 : xO), T q = none → yLe Y Y1 → (∀ r' o' x', yAt Y1 r' o' x' → yAt Y r' o' x' ∨ (r' = r ∧ o' = ow q ∧ x' = q)) → (∀ x, ¬ yAt Y r (ow q) x) → yAt Y1 r (ow q) q → yN Y1 r (ow q) = N → I1 r = va_up (I r) (ow q) (fun _ => 0) → (∀ i, i ≠ r → I1 i = I i) → PX Y1 V I1 J A w0 T1 O R1 → xV Z (T1, O, R1) (pc + 2) lv (.ref q :: st) kc ks) : xV Z (T, O, R) pc lv (.int i :: st) (kc + 1) (ks + N) := by
  refine g_newa B r 0 hk hty qa hx hN hN2 d fun q hq0 => ?_
  have h1 : 1000 ≤ r := hok.1
  refine kk q (yNew Y r (ow q) q 0 N) (va_up I r (va_up (I r) (ow q) (fun _ => 0))) _ _ hq0 (yLe.new (hf q hq0)) yNew_gr (hf q hq0) yNew_at upyes va_ups (fun i hi => va_upe hi) ?_
  exact P.new hq0 (hf q hq0) (fun hi => by rcases hid hi with e | e; exact Or.inl (e q); exact Or.inr (e q)) (fun b hb => rfl) (fun b hb => xUr_a hb) hok.m (fun h => by omega) (fun _ => rfl) (fun _ _ _ => rfl) (fun _ _ e => upno e) (fun _ _ _ => rfl) (fun _ _ _ => rfl) (fun h => by omega) (fun _ => by rw [xUr_s, upyes, hd]; rfl) (fun h => by omega) (fun h => by omega)
theorem x_newaJ {N : Nat} (B : xOk Z G cc own nL fr lo ret) (P : PX Y V I J A w0 T O R) (r : Nat) (ow : Nat → Nat) (hok : okA r) (hr : r / 1000 = 4) (qa : Cond.arrayClass .long ∈ lw_all) (hx : i = nI N) (hN : N * 8 ≤ 536870912) (hN2 : N < 2 ^ 31) (hf : ∀ q, T q = none → ∀ x, ¬ yAt Y r (ow q) x) (hid : ¬ idR r) (d : decode cc pc = .ok (.newarray .long, 2)) (kk : ∀ (q : Nat) (Y1 : xY) (J1 : xJJ) (T1 : xT) (R1 : xO), T q = none → yLe Y Y1 → (∀ r' o' x', yAt Y1 r' o' x' → yAt Y r' o' x' ∨ (r' = r ∧ o' = ow q ∧ x' = q)) → (∀ x, ¬ yAt Y r (ow q) x) → yAt Y1 r (ow q) q → yN Y1 r (ow q) = N → J1 r = va_up (J r) (ow q) (fun _ => 0) → (∀ i, i ≠ r → J1 i = J i) → PX Y1 V I J1 A w0 T1 O R1 → xV Z (T1, O, R1) (pc + 2) lv (.ref q :: st) kc ks) : xV Z (T, O, R) pc lv (.int i :: st) (kc + 1) (ks + N) := by
  refine g_newa (ty := .long) B r 0 rfl (by rw [hr]; rfl) qa hx hN hN2 d fun q hq0 => ?_
  have h1 : 1000 ≤ r := hok.1
  refine kk q (yNew Y r (ow q) q 0 N) (va_up J r (va_up (J r) (ow q) (fun _ => 0))) _ _ hq0 (yLe.new (hf q hq0)) yNew_gr (hf q hq0) yNew_at upyes va_ups (fun i hi => va_upe hi) ?_
  exact P.new hq0 (hf q hq0) (fun hi => absurd hi hid) (fun b hb => rfl) (fun b hb => xUr_a hb) hok.m (fun h => by omega) (fun _ => rfl) (fun _ _ _ => rfl) (fun _ _ _ => rfl) (fun _ _ e => upno e) (fun _ _ _ => rfl) (fun h => by omega) (fun h => by omega) (fun _ => by rw [xUr_s, upyes]; rfl) (fun h => by omega)
theorem x_newq {N : Nat} {C : String} (B : xOk Z G cc own nL fr lo ret) (P : PX Y V I J A w0 T O R) (r : Nat) (ow : Nat → Nat) (hok : okA r) (hr : 5 ≤ r / 1000) (hty : xTy (r / 1000) = some (.object C)) (q1 : Cond.classLink own idx C ∈ lw_all) (q2 : Cond.arrayOver (.object C) ∈ lw_tbl) (hx : i = nI N) (hN : N * 4 ≤ 536870912) (hf : ∀ q, T q = none → ∀ x, ¬ yAt Y r (ow q) x) (hid : idR r → (∀ q, ow q = q) ∨ ∀ q, T (ow q) ≠ none) (d : decode cc pc = .ok (.anewarray idx, 3)) (kk : ∀ (q : Nat) (Y1 : xY) (A1 : xVV) (T1 : xT) (R1 : xO), T q = none → yLe Y Y1 → (∀ r' o' x', yAt Y1 r' o' x' → yAt Y r' o' x' ∨ (r' = r ∧ o' = ow q ∧ x' = q)) → (∀ x, ¬ yAt Y r (ow q) x) → yAt Y1 r (ow q) q → yN Y1 r (ow q) = N → A1 r = va_up (A r) (ow q) (fun _ => .null) → (∀ i, i ≠ r → A1 i = A i) → PX Y1 V I J A1 w0 T1 O R1 → xV Z (T1, O, R1) (pc + 3) lv (.ref q :: st) kc ks) : xV Z (T, O, R) pc lv (.int i :: st) (kc + 1) (ks + N) := by
  refine g_newq B r 0 hty q1 q2 hx hN d fun q hq0 => ?_
  have h1 : 1000 ≤ r := hok.1
  refine kk q (yNew Y r (ow q) q 0 N) (va_up A r (va_up (A r) (ow q) (fun _ => .null))) _ _ hq0 (yLe.new (hf q hq0)) yNew_gr (hf q hq0) yNew_at upyes va_ups (fun i hi => va_upe hi) ?_
  exact P.new hq0 (hf q hq0) (fun hi => by rcases hid hi with e | e; exact Or.inl (e q); exact Or.inr (e q)) (fun b hb => rfl) (fun b hb => xUr_a hb) hok.m (fun h => by omega) (fun _ => rfl) (fun _ _ _ => rfl) (fun _ _ _ => rfl) (fun _ _ _ => rfl) (fun _ _ e => upno e) (fun h => by omega) (fun h => by omega) (fun h => by omega) (fun _ => by rw [xUr_s, upyes])
end XROW
/-- a contract's post over the component's things -/
def xP (w0 : xW) (Q : Value → xY → xVV → xII → xJJ → xVV → Prop) : Value → xT → xO → xO → Prop := fun v T O R => ∃ (Y : xY) (V : xVV) (I : xII) (J : xJJ) (A : xVV), PX Y V I J A w0 T O R ∧ Q v Y V I J A
def xPN (w0 : xW) (Q : xY → xVV → xII → xJJ → xVV → Prop) : xT → xO → xO → Prop := fun T O R => ∃ (Y : xY) (V : xVV) (I : xII) (J : xJJ) (A : xVV), PX Y V I J A w0 T O R ∧ Q Y V I J A
/-- what there was is as it was, but for S; what is new is in S -/
def xFr (S : Nat → Nat → Prop) (Y : xY) (V : xVV) (I : xII) (J : xJJ) (A : xVV) (Y1 : xY) (V1 : xVV) (I1 : xII) (J1 : xJJ) (A1 : xVV) : Prop :=
  yLs S Y Y1 ∧ ∀ r o x, yAt Y r o x → ¬ S r o → V1 r o = V r o ∧ I1 r o = I r o ∧ J1 r o = J r o ∧ A1 r o = A r o
section XFR
variable {S S2 : Nat → Nat → Prop} {Y Y1 Y2 : xY} {V V1 V2 : xVV} {I I1 I2 : xII} {J J1 J2 : xJJ} {A A1 A2 : xVV}
theorem xFr.rf : xFr S Y V I J A Y V I J A := ⟨yLs.rf, fun _ _ _ _ _ => ⟨rfl, rfl, rfl, rfl⟩⟩
theorem xFr.tr (h : xFr S Y V I J A Y1 V1 I1 J1 A1) (g : xFr S Y1 V1 I1 J1 A1 Y2 V2 I2 J2 A2) : xFr S Y V I J A Y2 V2 I2 J2 A2 := by
  refine ⟨h.1.tr g.1, fun r o x hx hs => ?_⟩
  obtain ⟨h1, h2, h3, h4⟩ := h.2 r o x hx hs
  obtain ⟨g1, g2, g3, g4⟩ := g.2 r o x (h.1.at hx) hs
  exact ⟨g1.trans h1, g2.trans h2, g3.trans h3, g4.trans h4⟩
theorem xFr.mono (hS : ∀ r o, S r o → S2 r o) (h : xFr S Y V I J A Y1 V1 I1 J1 A1) : xFr S2 Y V I J A Y1 V1 I1 J1 A1 := ⟨⟨h.1.1, fun r o x hx => (h.1.2 r o x hx).imp_right (hS r o)⟩, fun r o x hx hs => h.2 r o x hx (fun q => hs (hS r o q))⟩
theorem upO {α : Type} {f g : Nat → Nat → Nat → α} {r o r' o' : Nat} {u : Nat → α} (h : f r = va_up (g r) o u) (h2 : ∀ i, i ≠ r → f i = g i) (hn : ¬ (r' = r ∧ o' = o)) : f r' o' = g r' o' := by
  by_cases e : r' = r
  · subst e; rw [h, va_upe (fun q => hn ⟨rfl, q⟩)]
  · rw [h2 r' e]
theorem xFr.uV {r o : Nat} {u : Nat → Value} (hS : S r o) (h : V1 r = va_up (V r) o u) (h2 : ∀ i, i ≠ r → V1 i = V i) : xFr S Y V I J A Y V1 I J A := ⟨yLs.rf, fun r' o' _ _ hs => ⟨upO h h2 (fun e => hs (by rw [e.1, e.2]; exact hS)), rfl, rfl, rfl⟩⟩
theorem xFr.uI {r o : Nat} {u : Nat → Int32} (hS : S r o) (h : I1 r = va_up (I r) o u) (h2 : ∀ i, i ≠ r → I1 i = I i) : xFr S Y V I J A Y V I1 J A := ⟨yLs.rf, fun r' o' _ _ hs => ⟨rfl, upO h h2 (fun e => hs (by rw [e.1, e.2]; exact hS)), rfl, rfl⟩⟩
theorem xFr.uJ {r o : Nat} {u : Nat → Int64} (hS : S r o) (h : J1 r = va_up (J r) o u) (h2 : ∀ i, i ≠ r → J1 i = J i) : xFr S Y V I J A Y V I J1 A := ⟨yLs.rf, fun r' o' _ _ hs => ⟨rfl, rfl, upO h h2 (fun e => hs (by rw [e.1, e.2]; exact hS)), rfl⟩⟩
theorem xFr.uA {r o : Nat} {u : Nat → Value} (hS : S r o) (h : A1 r = va_up (A r) o u) (h2 : ∀ i, i ≠ r → A1 i = A i) : xFr S Y V I J A Y V I J A1 := ⟨yLs.rf, fun r' o' _ _ hs => ⟨rfl, rfl, rfl, upO h h2 (fun e => hs (by rw [e.1, e.2]; exact hS))⟩⟩
theorem xFr.nV {r o q : Nat} {u : Nat → Value} (hS : S r o) (le : yLe Y Y1) (g : ∀ r' o' x', yAt Y1 r' o' x' → yAt Y r' o' x' ∨ (r' = r ∧ o' = o ∧ x' = q)) (h : V1 r = va_up (V r) o u) (h2 : ∀ i, i ≠ r → V1 i = V i) : xFr S Y V I J A Y1 V1 I J A := ⟨⟨le, fun r' o' x hx => (g r' o' x hx).imp_right (fun e => by rw [e.1, e.2.1]; exact hS)⟩, fun r' o' x hx hs => ⟨upO h h2 (fun e => hs (by rw [e.1, e.2]; exact hS)), rfl, rfl, rfl⟩⟩
theorem xFr.nI {r o q : Nat} {u : Nat → Int32} (hS : S r o) (le : yLe Y Y1) (g : ∀ r' o' x', yAt Y1 r' o' x' → yAt Y r' o' x' ∨ (r' = r ∧ o' = o ∧ x' = q)) (h : I1 r = va_up (I r) o u) (h2 : ∀ i, i ≠ r → I1 i = I i) : xFr S Y V I J A Y1 V I1 J A := ⟨⟨le, fun r' o' x hx => (g r' o' x hx).imp_right (fun e => by rw [e.1, e.2.1]; exact hS)⟩, fun r' o' x hx hs => ⟨rfl, upO h h2 (fun e => hs (by rw [e.1, e.2]; exact hS)), rfl, rfl⟩⟩
theorem xFr.nJ {r o q : Nat} {u : Nat → Int64} (hS : S r o) (le : yLe Y Y1) (g : ∀ r' o' x', yAt Y1 r' o' x' → yAt Y r' o' x' ∨ (r' = r ∧ o' = o ∧ x' = q)) (h : J1 r = va_up (J r) o u) (h2 : ∀ i, i ≠ r → J1 i = J i) : xFr S Y V I J A Y1 V I J1 A := ⟨⟨le, fun r' o' x hx => (g r' o' x hx).imp_right (fun e => by rw [e.1, e.2.1]; exact hS)⟩, fun r' o' x hx hs => ⟨rfl, rfl, upO h h2 (fun e => hs (by rw [e.1, e.2]; exact hS)), rfl⟩⟩
theorem xFr.nA {r o q : Nat} {u : Nat → Value} (hS : S r o) (le : yLe Y Y1) (g : ∀ r' o' x', yAt Y1 r' o' x' → yAt Y r' o' x' ∨ (r' = r ∧ o' = o ∧ x' = q)) (h : A1 r = va_up (A r) o u) (h2 : ∀ i, i ≠ r → A1 i = A i) : xFr S Y V I J A Y1 V I J A1 := ⟨⟨le, fun r' o' x hx => (g r' o' x hx).imp_right (fun e => by rw [e.1, e.2.1]; exact hS)⟩, fun r' o' x hx hs => ⟨rfl, rfl, rfl, upO h h2 (fun e => hs (by rw [e.1, e.2]; exact hS))⟩⟩
end XFR
