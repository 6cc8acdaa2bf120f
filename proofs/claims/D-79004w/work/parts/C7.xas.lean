set_option maxRecDepth 100000
section XAS
variable {Z : xZ} {G : xG} {cc : ByteArray} {own : String} {nL fr lo : Nat} {ret : Option FieldType} {w : xW} {T : xT} {O R : xO} {pc : Nat} {lv : List (Nat × Value)} {st : List Value} {kc ks : Nat}
theorem asg_self (vm : Vm) (c : ClassId) : vm.assignable c c = true := by
  show vm.assignableAux (255 + 1) c c = true
  rw [Vm.assignableAux]
  simp only [beq_self_eq_true, Bool.true_or]
/-- things of role r are of the very class that arrays of kind k hold -/
def xAsE (r k : Nat) : Prop := ∃ (C : String) (ty : FieldType), xTy k = some ty ∧ ty.isReference = true ∧ xNm ty = some C ∧ xNa r = some C
theorem xAsE.arr {t q k : Nat} {ty tq : FieldType} {C : String} (ht : 1000 ≤ t) (hq : t / 1000 = q) (h1 : xTy k = some ty) (h2 : ty.isReference = true) (h3 : xNm ty = some C) (h4 : xTy q = some tq) (h5 : "[" ++ tq.toString = C) : xAsE t k := by
  refine ⟨C, ty, h1, h2, h3, ?_⟩
  unfold xNa
  rw [if_neg (by omega), hq, h4, ← h5]
  rfl
theorem g_aastE (B : xOk Z G cc own nL fr lo ret) {a r n o b rb nb ob : Nat} {i : Int32} (ht : T a = some (r, n, o)) (hb : T b = some (rb, nb, ob)) (hs : xAsE rb (r / 1000)) (hin : vp_in i n) (d : decode cc pc = .ok (.aastore, 1)) (kk : xV Z (T, O, xUr R a (updV (R a) i.toNatClampNeg (.ref b))) (pc + 1) lv st kc ks) : xV Z (T, O, R) pc lv (.ref b :: .int i :: .ref a :: st) kc ks := by
  intro ls H locs cells slots h1 h2
  obtain ⟨C, ty, hr, href, hC, hnm⟩ := hs
  have hc := (h2.1.1 a _ ht).2.arr hr
  obtain ⟨cv, kv, g1, g2, g3, g4⟩ := x_cell B h2.1 hb hnm
  obtain ⟨kA, comp, k1, k2, k3, k4⟩ := B.ar hr
  obtain ⟨k5, kcomp, k6⟩ := k4 C hC
  have hcc : cv.cls = comp := Option.some.inj (g3.symm.trans k5)
  exact W.aast B.ex B.by hc (fun q h => by cases h) (fun h => by cases h) k1 k2 href k6 ⟨fun q => hin (Or.inl q), by show _ < (arrV _ _ _).slots.size; rw [arrV_size]; exact Nat.not_le.mp fun q => hin (Or.inr q)⟩ g1 (fun q h => by rw [g2] at h; cases h) g4 (by rw [hcc]; exact asg_self _ _) rfl rfl d fun H' e1 e2 e3 => kk ls H' _ cells slots h1 (h2.ast ht hr e1 e2 e3)
theorem va_AOA.moved {t : FieldType} {u U : State} (hvm : u.vm.Alike U.vm) (h : (Cond.arrayOver (.array t)).before #[] u = true) : (Cond.arrayOver (.array t)).before #[] U = true := by
  obtain ⟨comp, c, k, h1, h2, h3, h4, h5⟩ := arrayOverA_spec h
  obtain ⟨k', hk', he⟩ := hvm.2.2 _ _ h3
  have hi : (U.vm.classes.findIdx? fun (x : Class) => match x.kind with | .array component _ => component == comp | _ => false) = some c := by
    rw [hvm.findIdx?_eq _ (fun _ => rfl)]
    exact h2
  have hkind : k'.kind = .array comp (.array t) := by rw [he]; exact h4
  have f1 : U.vm.findClass (FieldType.array t).toString = some comp := by rw [hvm.findClass]; exact h1
  have f2 : U.vm.findClass ("[" ++ (FieldType.array t).toString) = some c := by rw [hvm.findClass]; exact h5
  unfold Cond.before Cond.holds
  simp only [Cond.value]
  rw [f1, Option.bind_some]
  refine (congrArg (fun o : Option Nat => (o.bind (fun c => (U.vm.classes[c]?).map fun (k : Class) => match k.kind with | .array _ ty => decide (ty = FieldType.array t) && decide (U.vm.findClass ("[" ++ (FieldType.array t).toString) = some c) | _ => false) == some true)) hi).trans ?_
  simp [hk', hkind, f2]
theorem g_newqA (B : xOk Z G cc own nL fr lo ret) {idx : Nat} {x : Int32} {N : Nat} {C : String} {t : FieldType} (r o : Nat) (hr : xTy (r / 1000) = some (.array t)) (hC : (FieldType.array t).toString = C) (q1 : Cond.classLink own idx C ∈ lw_all) (q2 : Cond.arrayOver (.array t) ∈ lw_tbl) (hx : x = nI N) (hN : N * 4 ≤ 536870912) (d : decode cc pc = .ok (.anewarray idx, 3)) (kk : ∀ q : Nat, T q = none → xV Z (xUt T q (r, N, o), O, xUr R q (fun _ => .null)) (pc + 3) lv (.ref q :: st) kc ks) : xV Z (T, O, R) pc lv (.int x :: st) (kc + 1) (ks + N) := by
  intro ls H locs cells slots h1 h2
  subst hx
  have hN2 : N < 2 ^ 31 := by omega
  subst hC
  have hov : (Cond.arrayOver (.array t)).before #[] (zs Z) = true := by
    obtain ⟨⟨b, g1, -⟩, -⟩ := B.st
    exact va_AOA.moved B.wm.alike (g1 _ q2)
  have hcl : (nI N).toNatClampNeg = N := nI_clamp hN2
  refine W.anewA B.ex B.by B.ow (B.ws _ q1) hov rfl d rfl (nI_pos hN2) (by rw [hcl]; exact hN) (by have := h2.2.2.2.1; omega) (by rw [hcl]; have := h2.2.2.2.2; omega) fun cA kA comp f1 f2 f3 f4 => ?_
  have hc := xnewarr B hr f1
  subst hc
  rw [hcl]
  generalize hH1 : H.push ({ cls := (zG Z).2.2.2.1 (r / 1000), slots := Array.replicate N .null, vm := .none } : Cell) = H1
  have z1 : H1.size = H.size + 1 := by rw [← hH1, Array.size_push]
  have e1 : H1[H.size]? = some (arrV ((zG Z).2.2.2.1 (r / 1000)) N (fun _ => .null)) := by rw [← hH1, Array.getElem?_push_size, ← arrV_new]
  have o1 : ∀ q : Nat, q < H.size → H1[q]? = H[q]? := fun q hq => by rw [← hH1, Array.getElem?_push, if_neg (Nat.ne_of_lt hq)]
  refine kk H.size h2.1.fresh ls H1 locs (cells + 1) (slots + N) h1 (h2.push (fun b hb => rfl) (fun b hb => xUr_a hb) ?_ z1 o1 (by omega) (by omega))
  have hp := xTy_pos hr
  unfold xAt
  rw [if_neg (by show ¬ r < 1000; omega)]
  refine ⟨⟨_, hr⟩, ?_⟩
  rw [e1]
  show some (arrV _ N _) = some (arrV _ N (xUr _ _ _ H.size))
  rw [xUr_s]
variable {Y : xY} {V : xVV} {I : xII} {J : xJJ} {A : xVV} {w0 : xW} {r o x j n : Nat} {i : Int32}
theorem x_stE (B : xOk Z G cc own nL fr lo ret) (P : PX Y V I J A w0 T O R) {b tb nb ub : Nat} (h : yAt Y r o x) (hr : 5 ≤ r / 1000) (hb : T b = some (tb, nb, ub)) (hs : xAsE tb (r / 1000)) (hi : i = nI j) (hn : yN Y r o = n) (hj : j < n) (hl : n < 2 ^ 31) (d : decode cc pc = .ok (.aastore, 1)) (kk : ∀ (R1 : xO) (A1 : xVV), A1 r = va_up (A r) o (va_up (A r o) j (.ref b)) → (∀ i, i ≠ r → A1 i = A i) → PX Y V I J A1 w0 T O R1 → xV Z (T, O, R1) (pc + 1) lv st kc ks) : xV Z (T, O, R) pc lv (.ref b :: .int i :: .ref x :: st) kc ks := by
  obtain ⟨t, u, h1, h2⟩ := P.tya h (by omega)
  subst hi; subst hn
  refine g_aastE B h1 hb (by rw [h2]; exact hs) (vp_in_nI hj hl) d ?_
  rw [nI_clamp (by omega), P.arA h hr]
  exact kk _ _ va_ups (fun i hi => va_upe hi) (P.astA h hr _)
theorem x_newqA {N idx : Nat} {C : String} {t : FieldType} (B : xOk Z G cc own nL fr lo ret) (P : PX Y V I J A w0 T O R) (r : Nat) (ow : Nat → Nat) (hok : okA r) (hr : 5 ≤ r / 1000) (hty : xTy (r / 1000) = some (.array t)) (hC : (FieldType.array t).toString = C) (q1 : Cond.classLink own idx C ∈ lw_all) (q2 : Cond.arrayOver (.array t) ∈ lw_tbl) (hx : i = nI N) (hN : N * 4 ≤ 536870912) (hf : ∀ q, T q = none → ∀ x, ¬ yAt Y r (ow q) x) (hid : idR r → (∀ q, ow q = q) ∨ ∀ q, T (ow q) ≠ none) (d : decode cc pc = .ok (.anewarray idx, 3)) (kk : ∀ (q : Nat) (Y1 : xY) (A1 : xVV) (T1 : xT) (R1 : xO), T q = none → yLe Y Y1 → (∀ r' o' x', yAt Y1 r' o' x' → yAt Y r' o' x' ∨ (r' = r ∧ o' = ow q ∧ x' = q)) → (∀ x, ¬ yAt Y r (ow q) x) → yAt Y1 r (ow q) q → yN Y1 r (ow q) = N → A1 r = va_up (A r) (ow q) (fun _ => .null) → (∀ i, i ≠ r → A1 i = A i) → PX Y1 V I J A1 w0 T1 O R1 → xV Z (T1, O, R1) (pc + 3) lv (.ref q :: st) kc ks) : xV Z (T, O, R) pc lv (.int i :: st) (kc + 1) (ks + N) := by
  refine g_newqA B r 0 hty hC q1 q2 hx hN d fun q hq0 => ?_
  have h1 : 1000 ≤ r := hok.1
  refine kk q (yNew Y r (ow q) q 0 N) (va_up A r (va_up (A r) (ow q) (fun _ => .null))) _ _ hq0 (yLe.new (hf q hq0)) yNew_gr (hf q hq0) yNew_at upyes va_ups (fun i hi => va_upe hi) ?_
  exact P.new hq0 (hf q hq0) (fun hi => by rcases hid hi with e | e; exact Or.inl (e q); exact Or.inr (e q)) (fun b hb => rfl) (fun b hb => xUr_a hb) hok.m (fun h => by omega) (fun _ => rfl) (fun _ _ _ => rfl) (fun _ _ _ => rfl) (fun _ _ _ => rfl) (fun _ _ e => upno e) (fun h => by omega) (fun h => by omega) (fun h => by omega) (fun _ => by rw [xUr_s, upyes])
end XAS
