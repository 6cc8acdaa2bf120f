set_option maxRecDepth 100000
/-! FIELDS -/
/-- the class own's entry idx names field k of the class of role r -/
def xFld (own : String) (idx r k : Nat) : Prop := ∃ q : vw_C, xC r = some q ∧ k < q.2.2 ∧ ∀ (G : xG) (U : State) (args : Array Value), xSt G → G.1.WarmedH U.vm → ∃ ref : String, (∀ x, U.fieldFound? (q.2.1 k).1 (q.2.1 k).2.1 (q.2.1 k).2.2.1 = some x → U.fieldFound? ref (q.2.1 k).2.1 (q.2.1 k).2.2.1 = some x) ∧ ((Cond.fieldLink own idx ref (q.2.1 k).2.1 (q.2.1 k).2.2.1).before args U = true ∨ ∃ host : String, (Cond.fieldLinkNest own idx ref (q.2.1 k).2.1 (q.2.1 k).2.2.1 host).before args U = true)
theorem xFld.mk {own : String} {idx r k : Nat} {q : vw_C} (hq : xC r = some q) (hk : k < q.2.2) (hw : Cond.fieldLink own idx (q.2.1 k).1 (q.2.1 k).2.1 (q.2.1 k).2.2.1 ∈ lw_all) : xFld own idx r k :=
  ⟨q, hq, hk, fun _ _ args hG hW => ⟨_, fun _ h => h, Or.inl (xw_all hG hW args _ hw)⟩⟩
theorem xFld.mkS {own ref : String} {idx r k : Nat} {q : vw_C} (hq : xC r = some q) (hk : k < q.2.2) (hs : Cond.sameField ref (q.2.1 k).1 (q.2.1 k).2.1 (q.2.1 k).2.2.1 ∈ lw_all) (hw : Cond.fieldLink own idx ref (q.2.1 k).2.1 (q.2.1 k).2.2.1 ∈ lw_all) : xFld own idx r k :=
  ⟨q, hq, hk, fun _ _ args hG hW => ⟨ref, fun x h => u_same (xw_all hG hW args _ hs) x h, Or.inl (xw_all hG hW args _ hw)⟩⟩
theorem xFld.mkN {own host : String} {idx r k : Nat} {q : vw_C} (hq : xC r = some q) (hk : k < q.2.2) (hw : Cond.fieldLinkNest own idx (q.2.1 k).1 (q.2.1 k).2.1 (q.2.1 k).2.2.1 host ∈ lw_tbl) : xFld own idx r k :=
  ⟨q, hq, hk, fun _ _ args hG hW => ⟨_, fun _ h => h, Or.inr ⟨host, xw_fldN hG hW args hw⟩⟩⟩
section XH
variable {Z : xZ} {G : xG} {cc : ByteArray} {own : String} {nL fr lo : Nat} {ret : Option FieldType} {w : xW} {T : xT} {O R : xO} {pc : Nat} {lv lv2 : List (Nat × Value)} {st : List Value} {kc ks : Nat}
theorem g_get (B : xOk Z G cc own nL fr lo ret) {a r n o idx k pl : Nat} {v : Value} (f : xFld own idx r k) (ht : T a = some (r, n, o)) (hpl : xPb r + k = pl) (hv : O a pl = v) (d : decode cc pc = .ok (.getfield idx, 3)) (kk : xV Z (T, O, R) (pc + 3) lv (v :: st) kc ks) : xV Z (T, O, R) pc lv (.ref a :: st) kc ks := by
  intro ls H locs cells slots h1 h2
  obtain ⟨q, hq, hk, hf⟩ := f
  obtain ⟨ref, hsame, hlink⟩ := hf (zG Z) (zs Z) (za Z) B.st B.wm
  obtain ⟨cell, q1, q2, q3, q4⟩ := (h2.1.1 a _ ht).2.obj hq
  obtain ⟨hS, hfc, kC, hkC, hkind⟩ := B.kn hq
  obtain ⟨hin, -, -⟩ := xcls_ok hq
  obtain ⟨cf, kf, fi, fd, hi, hsl⟩ := hS k hk
  have hst := (u_facts hfc hkC (u_lays B.ws hin hk) hi).1
  have hval : cell.slots[fd.slot]? = some v := by
    rw [hsl, q4 k hk, ← hv, ← hpl]
  rcases hlink with hl | ⟨host, hl⟩
  · exact W.getf B.ex B.by B.ow hl (hsame _ hi) hst q1 (by rw [q3]; exact fun h => by cases h) hval rfl rfl d (kk ls H locs cells slots h1 h2)
  · exact va_Wgetf B.ex B.by B.ow hl (hsame _ hi) hst q1 (by rw [q3]; exact fun h => by cases h) hval rfl rfl d (kk ls H locs cells slots h1 h2)
theorem xap (B : xOk Z G cc own nL fr lo ret) {r : Nat} {q : vw_C} (hq : xC r = some q) : ∀ x y, x < q.2.2 → y < q.2.2 → x ≠ y → ((zG Z).2.2.1 r) x ≠ ((zG Z).2.2.1 r) y := by
  intro x y hx hy hne
  obtain ⟨hin, ⟨ty, hty⟩, hnm⟩ := xcls_ok hq
  obtain ⟨hS, -⟩ := B.kn hq
  obtain ⟨_, _, _, fa, hia, ea⟩ := hS x hx
  obtain ⟨_, _, _, fb, hib, eb⟩ := hS y hy
  rw [← ea, ← eb]
  refine u_apart (u_lays B.ws hin hx) (u_lays B.ws hin hy) hia hib ?_
  rw [(State.fieldFound?_type hia (hty x hx)).1, (State.fieldFound?_type hib (hty y hy)).1]
  exact hnm x hx y hy hne
/-- the world behind a store into a field -/
theorem xIn.put {a r n o k pl : Nat} {v : Value} {H H' : Heap} {locs : List Loc} {cells slots fs : Nat} {q : vw_C} {cell : Cell} (h2 : xIn Z w kc ks H locs cells slots) (hap : ∀ x y, x < q.2.2 → y < q.2.2 → x ≠ y → ((zG Z).2.2.1 r) x ≠ ((zG Z).2.2.1 r) y) (ht : w.1 a = some (r, n, o)) (hq : xC r = some q) (hk : k < q.2.2) (hpl : xPb r + k = pl) (q2 : cell.cls = (zG Z).2.1 r) (q3 : cell.vm = .none) (q4 : ∀ j, j < q.2.2 → cell.slots[(zG Z).2.2.1 r j]? = some (w.2.1 a (xPb r + j))) (e1 : H'[a]? = some (cell.setSlot ((zG Z).2.2.1 r k) v)) (e2 : H'.size = H.size) (e3 : ∀ q, q ≠ a → H'[q]? = H[q]?) : xIn Z (w.1, xUp w.2.1 a pl v, w.2.2) kc ks H' (locs ++ [⟨a, fs⟩]) cells slots := by
  refine ⟨⟨fun b t hb => ⟨(h2.1.1 b t hb).1, ?_⟩, by rw [e2]; exact h2.1.2.1, fun x hx => ?_⟩, h2.2.1, h2.2.2.1.put e2 e3 (h2.A ht), h2.2.2.2⟩
  · by_cases hba : b = a
    · subst hba
      cases ht.symm.trans hb
      unfold xAt
      rw [if_pos (xC_lt hq)]
      refine ⟨q, hq, t_OB.to (V := updV (fun j => w.2.1 b (xPb r + j)) k v) ⟨_, e1, q2, q3, t_set q4 hap hk v⟩ (fun j hj => ?_)⟩
      by_cases hjk : j = k
      · subst hjk
        simp [updV, xUp, hpl]
      · have : xPb r + j ≠ pl := by omega
        simp [updV, xUp, hjk, this]
    · exact (h2.1.1 b t hb).2.kept (e3 b hba) (xUp_r hba) rfl
  · have hge := (h2.1.1 a _ ht).1
    rw [e3 x (by omega)]
    exact h2.1.2.2 x hx
theorem g_put (B : xOk Z G cc own nL fr lo ret) {a r n o idx k pl : Nat} {v : Value} {ty : FieldType} {q : vw_C} (f : xFld own idx r k) (hq : xC r = some q) (hfin : (q.2.1 k).2.2.2 = false) (hty : parseFieldDescriptor (q.2.1 k).2.2.1 = some ty) (hn : narrow ty v = v) (hfit : fits ty v = true) (ht : T a = some (r, n, o)) (hpl : xPb r + k = pl) (d : decode cc pc = .ok (.putfield idx, 3)) (kk : xV Z (T, xUp O a pl v, R) (pc + 3) lv st kc ks) : xV Z (T, O, R) pc lv (v :: .ref a :: st) kc ks := by
  intro ls H locs cells slots h1 h2
  obtain ⟨q', hq', hk, hf⟩ := f
  cases hq.symm.trans hq'
  obtain ⟨ref, hsame, hlink⟩ := hf (zG Z) (zs Z) (za Z) B.st B.wm
  obtain ⟨cell, q1, q2, q3, q4⟩ := (h2.1.1 a _ ht).2.obj hq
  obtain ⟨hS, hfc, kC, hkC, hkind⟩ := B.kn hq
  obtain ⟨hin, -, -⟩ := xcls_ok hq
  obtain ⟨cf, kf, fi, fd, hi, hsl⟩ := hS k hk
  have hlay := B.ws _ (hin _ (u_in_lay hk))
  unfold u_lay at hlay
  rw [if_neg (by rw [hfin]; decide)] at hlay
  have hst := (u_facts hfc hkC (u_lays B.ws hin hk) hi).1
  have h6 := u_store hfc hkC hkind hlay hi hty hn hfit
  have hap := xap B hq
  rcases hlink with hl | ⟨host, hl⟩
  · refine W.putK B.ex B.by (f := fd) ⟨B.ow, hl, ⟨_, _, _, hsame _ hi⟩, hst⟩ (by rw [q2]; exact h6) q1 q3 (by rw [hsl]; exact k2_hasslot (q4 k hk)) rfl rfl d fun H' e1 e2 e3 => ?_
    rw [hsl] at e1 ⊢
    exact kk ls H' _ cells slots h1 (h2.put hap ht hq hk hpl q2 q3 q4 e1 e2 e3)
  · refine va_WputK B.ex B.by B.ow hl (hsame _ hi) hst (by rw [q2]; exact h6) q1 q3 (by rw [hsl]; exact k2_hasslot (q4 k hk)) rfl rfl d fun H' e1 e2 e3 => ?_
    rw [hsl] at e1 ⊢
    exact kk ls H' _ cells slots h1 (h2.put hap ht hq hk hpl q2 q3 q4 e1 e2 e3)
theorem g_putF (B : xOk Z G cc own nL fr lo ret) {a r n o idx k pl : Nat} {v : Value} {ty : FieldType} {q : vw_C} (hin2 : (zme Z).name = "<init>") (hq : xC r = some q) (hk : k < q.2.2) (hlink : Cond.fieldLink own idx (q.2.1 k).1 (q.2.1 k).2.1 (q.2.1 k).2.2.1 ∈ lw_all) (hfin : (q.2.1 k).2.2.2 = true) (hdecl : (q.2.1 k).1 = own) (hty : parseFieldDescriptor (q.2.1 k).2.2.1 = some ty) (hn : narrow ty v = v) (hfit : fits ty v = true) (ht : T a = some (r, n, o)) (hpl : xPb r + k = pl) (d : decode cc pc = .ok (.putfield idx, 3)) (kk : xV Z (T, xUp O a pl v, R) (pc + 3) lv st kc ks) : xV Z (T, O, R) pc lv (v :: .ref a :: st) kc ks := by
  intro ls H locs cells slots h1 h2
  obtain ⟨cell, q1, q2, q3, q4⟩ := (h2.1.1 a _ ht).2.obj hq
  obtain ⟨hS, hfc, kC, hkC, hkind⟩ := B.kn hq
  obtain ⟨hin, -, -⟩ := xcls_ok hq
  obtain ⟨cf, kf, fi, fd, hi, hsl⟩ := hS k hk
  have hlay := B.ws _ (hin _ (u_in_lay hk))
  unfold u_lay at hlay
  rw [if_pos hfin] at hlay
  have hst := (u_facts hfc hkC (u_lays B.ws hin hk) hi).1
  have hcf : (zm Z).cls = cf := by
    obtain ⟨_, _, c', _, _, _, -, -, hf', -, -, -, hown2, -⟩ := Cond.laysFinal_spec hlay
    have e1 : c' = cf := by have := hi.symm.trans hf'; simp at this; exact this.1.symm
    rw [hdecl] at hown2
    rw [← e1]; exact Option.some.inj (B.ow.symm.trans hown2)
  have h6 := u_fits hfc hkC hkind (Or.inr hlay) hi hty hn hfit
  have hap := xap B hq
  refine W.putFinK B.ex B.by B.ow (B.ws _ hlink) hi hst hcf hin2 (by rw [q2]; exact h6) q1 q3 (by rw [hsl]; exact k2_hasslot (q4 k hk)) rfl rfl d fun H' e1 e2 e3 => ?_
  rw [hsl] at e1 ⊢
  exact kk ls H' _ cells slots h1 (h2.put hap ht hq hk hpl q2 q3 q4 e1 e2 e3)
/-! ARRAYS -/
theorem g_alen (B : xOk Z G cc own nL fr lo ret) {a r n o : Nat} {ty : FieldType} (ht : T a = some (r, n, o)) (hr : xTy (r / 1000) = some ty) (d : decode cc pc = .ok (.arraylength, 1)) (kk : xV Z (T, O, R) (pc + 1) lv (.int (nI n) :: st) kc ks) : xV Z (T, O, R) pc lv (.ref a :: st) kc ks := by
  intro ls H locs cells slots h1 h2
  have hc := (h2.1.1 a _ ht).2.arr hr
  exact W.alen (n := nI n) B.ex B.by hc ((B.ar hr).of n (R a)) (by rw [arrV_size]; rfl) rfl rfl d (kk ls H locs cells slots h1 h2)
theorem xarr_rd {cA : ClassId} {n : Nat} {V : Nat → Value} {i : Int32} {v : Value} (hin : vp_in i n) (hv : V i.toNatClampNeg = v) : (arrV cA n V).slots[i.toNatClampNeg]? = some v := by
  rw [arrV_read _ _ (Nat.not_le.mp fun q => hin (Or.inr q)), hv]
theorem xarr_in {cA : ClassId} {n : Nat} {V : Nat → Value} {i : Int32} (hin : vp_in i n) : ¬ (i < 0 ∨ (arrV cA n V).slots.size ≤ i.toNatClampNeg) := by
  rw [arrV_size]; exact hin
theorem g_iald (B : xOk Z G cc own nL fr lo ret) {a r n o : Nat} {i : Int32} {v : Value} (ht : T a = some (r, n, o)) (hr : r / 1000 = 1) (hin : vp_in i n) (hv : R a i.toNatClampNeg = v) (d : decode cc pc = .ok (.iaload, 1)) (kk : xV Z (T, O, R) (pc + 1) lv (v :: st) kc ks) : xV Z (T, O, R) pc lv (.int i :: .ref a :: st) kc ks := by
  intro ls H locs cells slots h1 h2
  have hr2 : xTy (r / 1000) = some .int := by rw [hr]; rfl
  have hc := (h2.1.1 a _ ht).2.arr hr2
  exact W.iald B.ex B.by hc ((B.ar hr2).of n (R a)) (fun q => by cases q) (xarr_in hin) (xarr_rd hin hv) rfl rfl d (kk ls H locs cells slots h1 h2)
theorem g_zald (B : xOk Z G cc own nL fr lo ret) {a r n o : Nat} {i : Int32} {v : Value} (ht : T a = some (r, n, o)) (hr : r / 1000 = 2) (hin : vp_in i n) (hv : R a i.toNatClampNeg = v) (d : decode cc pc = .ok (.baload, 1)) (kk : xV Z (T, O, R) (pc + 1) lv (v :: st) kc ks) : xV Z (T, O, R) pc lv (.int i :: .ref a :: st) kc ks := by
  intro ls H locs cells slots h1 h2
  have hr2 : xTy (r / 1000) = some .boolean := by rw [hr]; rfl
  have hc := (h2.1.1 a _ ht).2.arr hr2
  exact W.zald B.ex B.by hc ((B.ar hr2).of n (R a)) (fun q => by cases q) (xarr_in hin) (xarr_rd hin hv) rfl rfl d (kk ls H locs cells slots h1 h2)
theorem g_bald (B : xOk Z G cc own nL fr lo ret) {a r n o : Nat} {i : Int32} {v : Value} (ht : T a = some (r, n, o)) (hr : r / 1000 = 3) (hin : vp_in i n) (hv : R a i.toNatClampNeg = v) (d : decode cc pc = .ok (.baload, 1)) (kk : xV Z (T, O, R) (pc + 1) lv (v :: st) kc ks) : xV Z (T, O, R) pc lv (.int i :: .ref a :: st) kc ks := by
  intro ls H locs cells slots h1 h2
  have hr2 : xTy (r / 1000) = some .byte := by rw [hr]; rfl
  have hc := (h2.1.1 a _ ht).2.arr hr2
  exact W.bald B.ex B.by hc ((B.ar hr2).of n (R a)) (fun q => by cases q) (xarr_in hin) (xarr_rd hin hv) rfl rfl d (kk ls H locs cells slots h1 h2)
theorem g_lald (B : xOk Z G cc own nL fr lo ret) {a r n o : Nat} {i : Int32} {v : Value} (ht : T a = some (r, n, o)) (hr : r / 1000 = 4) (hin : vp_in i n) (hv : R a i.toNatClampNeg = v) (d : decode cc pc = .ok (.laload, 1)) (kk : xV Z (T, O, R) (pc + 1) lv (v :: st) kc ks) : xV Z (T, O, R) pc lv (.int i :: .ref a :: st) kc ks := by
  intro ls H locs cells slots h1 h2
  have hr2 : xTy (r / 1000) = some .long := by rw [hr]; rfl
  have hc := (h2.1.1 a _ ht).2.arr hr2
  exact W.lald B.ex B.by hc ((B.ar hr2).of n (R a)) (fun q => by cases q) (xarr_in hin) (xarr_rd hin hv) rfl rfl d (kk ls H locs cells slots h1 h2)
theorem g_aald (B : xOk Z G cc own nL fr lo ret) {a r n o : Nat} {i : Int32} {v : Value} {ty : FieldType} (ht : T a = some (r, n, o)) (hr : xTy (r / 1000) = some ty) (href : ty.isReference = true) (hin : vp_in i n) (hv : R a i.toNatClampNeg = v) (d : decode cc pc = .ok (.aaload, 1)) (kk : xV Z (T, O, R) (pc + 1) lv (v :: st) kc ks) : xV Z (T, O, R) pc lv (.int i :: .ref a :: st) kc ks := by
  intro ls H locs cells slots h1 h2
  have hc := (h2.1.1 a _ ht).2.arr hr
  exact W.aald B.ex B.by hc ((B.ar hr).of n (R a)) href (fun q => by cases q) (xarr_in hin) (xarr_rd hin hv) rfl rfl d (kk ls H locs cells slots h1 h2)
/-- the world behind a store into an array -/
theorem xIn.ast {a r n o j : Nat} {v : Value} {ty : FieldType} {H H' : Heap} {locs : List Loc} {cells slots : Nat} (h2 : xIn Z w kc ks H locs cells slots) (ht : w.1 a = some (r, n, o)) (hr : xTy (r / 1000) = some ty) (e1 : H'[a]? = some ((arrV ((zG Z).2.2.2.1 (r / 1000)) n (w.2.2 a)).setSlot j v)) (e2 : H'.size = H.size) (e3 : ∀ q, q ≠ a → H'[q]? = H[q]?) : xIn Z (w.1, w.2.1, xUr w.2.2 a (updV (w.2.2 a) j v)) kc ks H' (locs ++ [⟨a, j⟩]) cells slots := by
  refine ⟨⟨fun b t hb => ⟨(h2.1.1 b t hb).1, ?_⟩, by rw [e2]; exact h2.1.2.1, fun x hx => ?_⟩, h2.2.1, h2.2.2.1.put e2 e3 (h2.A ht), h2.2.2.2⟩
  · by_cases hba : b = a
    · subst hba
      cases ht.symm.trans hb
      have hp := xTy_pos hr
      unfold xAt
      rw [if_neg (by show ¬ r < 1000; omega)]
      refine ⟨⟨ty, hr⟩, ?_⟩
      rw [e1, arrV_store]
      show some (arrV _ n _) = some (arrV _ n (xUr _ _ _ b))
      rw [xUr_s]
    · exact (h2.1.1 b t hb).2.kept (e3 b hba) rfl (xUr_a hba)
  · have hge := (h2.1.1 a _ ht).1
    rw [e3 x (by omega)]
    exact h2.1.2.2 x hx
theorem g_iast (B : xOk Z G cc own nL fr lo ret) {a r n o : Nat} {i x : Int32} (ht : T a = some (r, n, o)) (hr : r / 1000 = 1) (hin : vp_in i n) (d : decode cc pc = .ok (.iastore, 1)) (kk : xV Z (T, O, xUr R a (updV (R a) i.toNatClampNeg (.int x))) (pc + 1) lv st kc ks) : xV Z (T, O, R) pc lv (.int x :: .int i :: .ref a :: st) kc ks := by
  intro ls H locs cells slots h1 h2
  have hr2 : xTy (r / 1000) = some .int := by rw [hr]; rfl
  have hc := (h2.1.1 a _ ht).2.arr hr2
  exact W.iast B.ex B.by hc ((B.ar hr2).of n (R a)) (fun q => by cases q) (xarr_in hin) rfl rfl d (fun H' e1 e2 e3 => kk ls H' _ cells slots h1 (h2.ast ht hr2 e1 e2 e3))
theorem g_zast (B : xOk Z G cc own nL fr lo ret) {a r n o : Nat} {i x y : Int32} (ht : T a = some (r, n, o)) (hr : r / 1000 = 2) (hin : vp_in i n) (hx : narrow .boolean (.int x) = .int y) (d : decode cc pc = .ok (.bastore, 1)) (kk : xV Z (T, O, xUr R a (updV (R a) i.toNatClampNeg (.int y))) (pc + 1) lv st kc ks) : xV Z (T, O, R) pc lv (.int x :: .int i :: .ref a :: st) kc ks := by
  intro ls H locs cells slots h1 h2
  have hr2 : xTy (r / 1000) = some .boolean := by rw [hr]; rfl
  have hc := (h2.1.1 a _ ht).2.arr hr2
  exact W.zast B.ex B.by hc ((B.ar hr2).of n (R a)) (fun q => by cases q) (xarr_in hin) rfl rfl d (fun H' e1 e2 e3 => kk ls H' _ cells slots h1 (h2.ast ht hr2 (by rw [← hx]; exact e1) e2 e3))
theorem g_bast (B : xOk Z G cc own nL fr lo ret) {a r n o : Nat} {i x y : Int32} (ht : T a = some (r, n, o)) (hr : r / 1000 = 3) (hin : vp_in i n) (hx : narrow .byte (.int x) = .int y) (d : decode cc pc = .ok (.bastore, 1)) (kk : xV Z (T, O, xUr R a (updV (R a) i.toNatClampNeg (.int y))) (pc + 1) lv st kc ks) : xV Z (T, O, R) pc lv (.int x :: .int i :: .ref a :: st) kc ks := by
  intro ls H locs cells slots h1 h2
  have hr2 : xTy (r / 1000) = some .byte := by rw [hr]; rfl
  have hc := (h2.1.1 a _ ht).2.arr hr2
  exact W.bast B.ex B.by hc ((B.ar hr2).of n (R a)) (fun q => by cases q) (xarr_in hin) rfl rfl d (fun H' e1 e2 e3 => kk ls H' _ cells slots h1 (h2.ast ht hr2 (by rw [← hx]; exact e1) e2 e3))
theorem g_last (B : xOk Z G cc own nL fr lo ret) {a r n o : Nat} {i : Int32} {x : Int64} (ht : T a = some (r, n, o)) (hr : r / 1000 = 4) (hin : vp_in i n) (d : decode cc pc = .ok (.lastore, 1)) (kk : xV Z (T, O, xUr R a (updV (R a) i.toNatClampNeg (.long x))) (pc + 1) lv st kc ks) : xV Z (T, O, R) pc lv (.long x :: .int i :: .ref a :: st) kc ks := by
  intro ls H locs cells slots h1 h2
  have hr2 : xTy (r / 1000) = some .long := by rw [hr]; rfl
  have hc := (h2.1.1 a _ ht).2.arr hr2
  exact W.last B.ex B.by hc ((B.ar hr2).of n (R a)) (fun q => by cases q) (xarr_in hin) rfl rfl d (fun H' e1 e2 e3 => kk ls H' _ cells slots h1 (h2.ast ht hr2 e1 e2 e3))
/-- the class's name of a thing of role r: an object's class, or an array's -/
def xNa (r : Nat) : Option String := if r < 1000 then (xC r).map (fun q => q.1) else (xTy (r / 1000)).map (fun t => "[" ++ t.toString)
/-- things of role r may stand in arrays of kind k -/
def xAsg (r k : Nat) : Prop := ∃ (nm C : String) (ty : FieldType), xTy k = some ty ∧ ty.isReference = true ∧ xNm ty = some C ∧ xNa r = some nm ∧ Cond.castable nm C ∈ lw_tbl
/-- the cell of a thing of role r -/
theorem x_cell (B : xOk Z G cc own nL fr lo ret) {H : Heap} {a r n o : Nat} {nm : String} (h : xHp (zG Z) w H) (ht : w.1 a = some (r, n, o)) (hn : xNa r = some nm) : ∃ (cell : Cell) (kC : Class), H[a]? = some cell ∧ cell.vm = .none ∧ (zs Z).vm.findClass nm = some cell.cls ∧ (zs Z).vm.classes[cell.cls]? = some kC := by
  unfold xNa at hn
  split at hn
  · rename_i hl
    obtain ⟨q, hq, rfl⟩ := Option.map_eq_some_iff.mp hn
    obtain ⟨cell, q1, q2, q3, q4⟩ := (h.1 a _ ht).2.obj hq
    obtain ⟨hS, hfc, kC, hkC, hkind⟩ := B.kn hq
    exact ⟨cell, kC, q1, q3, by rw [q2]; exact hfc, by rw [q2]; exact hkC⟩
  · rename_i hl
    obtain ⟨ty, hty, rfl⟩ := Option.map_eq_some_iff.mp hn
    have hc := (h.1 a _ ht).2.arr hty
    obtain ⟨kA, comp, h1, h2, h3, h4⟩ := B.ar hty
    exact ⟨_, kA, hc, rfl, h3, h1⟩
theorem g_aast (B : xOk Z G cc own nL fr lo ret) {a r n o b rb nb ob : Nat} {i : Int32} (ht : T a = some (r, n, o)) (hb : T b = some (rb, nb, ob)) (hs : xAsg rb (r / 1000)) (hin : vp_in i n) (d : decode cc pc = .ok (.aastore, 1)) (kk : xV Z (T, O, xUr R a (updV (R a) i.toNatClampNeg (.ref b))) (pc + 1) lv st kc ks) : xV Z (T, O, R) pc lv (.ref b :: .int i :: .ref a :: st) kc ks := by
  intro ls H locs cells slots h1 h2
  obtain ⟨nm, C, ty, hr, href, hC, hnm, hcast⟩ := hs
  have hc := (h2.1.1 a _ ht).2.arr hr
  obtain ⟨cv, kv, g1, g2, g3, g4⟩ := x_cell B h2.1 hb hnm
  obtain ⟨kA, comp, k1, k2, k3, k4⟩ := B.ar hr
  obtain ⟨k5, kcomp, k6⟩ := k4 C hC
  obtain ⟨c0, t0, f1, f2, f3⟩ := Cond.castable_spec (va_Nw.use (A := #[]) rfl (xw_cast B.st B.wm hcast))
  cases g3.symm.trans f1
  cases k5.symm.trans f2
  exact W.aast B.ex B.by hc (fun q h => by cases h) (fun h => by cases h) k1 k2 href k6 ⟨fun q => hin (Or.inl q), by show _ < (arrV _ _ _).slots.size; rw [arrV_size]; exact Nat.not_le.mp fun q => hin (Or.inr q)⟩ g1 (fun q h => by rw [g2] at h; cases h) g4 f3 rfl rfl d fun H' e1 e2 e3 => kk ls H' _ cells slots h1 (h2.ast ht hr e1 e2 e3)
theorem g_aastN (B : xOk Z G cc own nL fr lo ret) {a r n o : Nat} {C : String} {i : Int32} (ht : T a = some (r, n, o)) (hr : xTy (r / 1000) = some (.object C)) (hin : vp_in i n) (d : decode cc pc = .ok (.aastore, 1)) (kk : xV Z (T, O, xUr R a (updV (R a) i.toNatClampNeg .null)) (pc + 1) lv st kc ks) : xV Z (T, O, R) pc lv (.null :: .int i :: .ref a :: st) kc ks := by
  intro ls H locs cells slots h1 h2
  have hc := (h2.1.1 a _ ht).2.arr hr
  exact va_WaastN (C := C) B.ex B.by hc ((B.ar hr).of n (R a)) (fun h => by cases h) (xarr_in hin) rfl rfl d fun H' e1 e2 e3 => kk ls H' _ cells slots h1 (h2.ast ht hr e1 e2 e3)
end XH
