set_option maxRecDepth 100000
/-! one thing of a group changes -/
theorem XIn.one {S : Nat → Nat → Prop} {Y Y1 : xY} {V V1 : xVV} {I I1 : xII} {J J1 : xJJ} {A A1 : xVV} {n o i : Nat} {p : Nat → Nat} {ls ls' : Nat → Nat → List aRec} {sp sp' : Nat → Nat → Nat → Bool} {pt pt' : Nat → Nat → Nat} {hd hd' : Nat → Nat → Bool} (d : XIn Y V I J n p ls sp pt hd) (f : xFr S Y V I J A Y1 V1 I1 J1 A1) (hS : ∀ r c, S r c → gIn r → c = 3 * o + i) (hp : ∀ o, o < n → p o ≤ 3) (hi : i < 3) (e : ∀ x y, ¬ (x = o ∧ y = i) → ls' x y = ls x y ∧ sp' x y = sp x y ∧ pt' x y = pt x y ∧ hd' x y = hd x y) (k : ∃ x, xIs Y1 V1 I1 J1 o i x (ls' o i) (sp' o i) (pt' o i) (hd' o i)) : XIn Y1 V1 I1 J1 n p ls' sp' pt' hd' := fun x hx y hy => by
  by_cases q : x = o ∧ y = i
  · obtain ⟨rfl, rfl⟩ := q; exact k
  · obtain ⟨e1, e2, e3, e4⟩ := e x y q
    obtain ⟨z, g⟩ := d x hx y hy
    rw [e1, e2, e3, e4]
    have := hp x hx
    exact ⟨z, g.fr f (fun r hr s => by have := hS r _ s hr; omega)⟩
theorem XCt.one {S : Nat → Nat → Prop} {Y Y1 : xY} {V V1 : xVV} {I I1 : xII} {J J1 : xJJ} {A A1 : xVV} {n o i : Nat} {p : Nat → Nat} {ct ct' : Nat → Nat → Nat → Nat} {al al' : Nat → Nat → Bool} (d : XCt Y V n p ct al) (f : xFr S Y V I J A Y1 V1 I1 J1 A1) (h1 : ∀ c, S 101 c → c = 3 * o + i) (h2 : ∀ c, S 2 c → c / 3 = 3 * o + i) (hp : ∀ o, o < n → p o ≤ 3) (hi : i < 3) (e : ∀ v x y, ¬ (x = o ∧ y = i) → ct' v x y = ct v x y ∧ al' x y = al x y) (k : ∃ x q, xVc Y1 V1 101 2 (3 * o + i) x q ∧ q 0 = nI (ct' 0 o i) ∧ q 2 = nI (ct' 2 o i) ∧ (al' o i = true → q 1 = nI (ct' 1 o i))) : XCt Y1 V1 n p ct' al' := fun x hx y hy => by
  by_cases q : x = o ∧ y = i
  · obtain ⟨rfl, rfl⟩ := q; exact k
  · obtain ⟨z, w, g, g0, g2, g1⟩ := d x hx y hy
    rw [(e 0 x y q).1, (e 1 x y q).1, (e 2 x y q).1, (e 0 x y q).2]
    have := hp x hx
    exact ⟨z, w, g.fr f (fun s => by have := h1 _ s; omega) (fun v hv s => by have := h2 _ s; omega), g0, g2, g1⟩
theorem XOp.one {S : Nat → Nat → Prop} {Y Y1 : xY} {V V1 : xVV} {I I1 : xII} {J J1 : xJJ} {A A1 : xVV} {n o : Nat} {op op' : Nat → Nat × Int32 × Int32 × Nat} {stt stt' : Nat → Nat → Int32} (d : XOp Y V n op stt) (f : xFr S Y V I J A Y1 V1 I1 J1 A1) (h1 : ∀ c, S 4 c → c = o) (e : ∀ x, x ≠ o → op' x = op x ∧ ∀ k, stt' k x = stt k x) (k : ∃ x, xOp Y1 V1 o x (op' o) (fun k => stt' k o)) : XOp Y1 V1 n op' stt' := fun x hx => by
  by_cases q : x = o
  · subst q; exact k
  · obtain ⟨z, g⟩ := d x hx
    rw [(e x q).1, show (fun k => stt' k x) = (fun k => stt k x) from funext (e x q).2]
    exact ⟨z, g.fr f (fun s => q (h1 _ s))⟩
theorem XKs.one {S : Nat → Nat → Prop} {Y Y1 : xY} {V V1 : xVV} {I I1 : xII} {J J1 : xJJ} {A A1 : xVV} {n o : Nat} {p : Nat → Nat} {st st' : Nat → Nat → Nat → Option (Int32 × Int32)} {al : Nat → Nat → Bool} (d : XKs Y V I J n p st al) (f : xFr S Y V I J A Y1 V1 I1 J1 A1) (h0 : ∀ c, S 1 c → c = o) (h1 : ∀ r c, S r c → r = 6 ∨ r = 35 ∨ r = 4001 ∨ r = 1021 ∨ r = 1022 → c / 3 = o) (e : ∀ v x key, x ≠ o → st' v x key = st v x key) (k : ∃ x q, xVk Y1 V1 I1 J1 1 6 35 4001 1021 1022 o x q ∧ (∀ key, key < 16 → q 0 key = st' 0 o key ∧ q 2 key = st' 2 o key) ∧ ∀ key, key < 16 → al o (aHome key (p o)) = true → q 1 key = st' 1 o key) : XKs Y1 V1 I1 J1 n p st' al := fun x hx => by
  by_cases q : x = o
  · subst q; exact k
  · obtain ⟨z, w, g, g0, g1⟩ := d x hx
    refine ⟨z, w, g.fr f (fun s => q (h0 _ s)) (fun r v hv hr s => q (by have := h1 _ _ s (by omega); omega)), fun key hk => ?_, fun key hk ha => ?_⟩
    · rw [e 0 x key q, e 2 x key q]; exact g0 key hk
    · rw [e 1 x key q]; exact g1 key hk ha
/-! the places that batches take -/
theorem sum_up {f g : Nat → Nat} {k : Nat} (h : ∀ c, c ≠ k → g c = f c) : ∀ n, ((List.range n).map g).sum + (if k < n then f k else 0) = ((List.range n).map f).sum + (if k < n then g k else 0)
  | 0 => by simp
  | n + 1 => by
    have ih := sum_up h n
    rw [List.range_succ, List.map_append, List.map_append, List.sum_append, List.sum_append]
    simp only [List.map_cons, List.map_nil, List.sum_cons, List.sum_nil]
    by_cases e : k = n
    · subst e
      simp only [Nat.lt_irrefl, if_false, Nat.lt_succ_self, if_true] at ih ⊢
      omega
    · have := h n (fun q => e q.symm)
      by_cases q : k < n
      · rw [if_pos q, if_pos q] at ih
        rw [if_pos (by omega), if_pos (by omega)]
        omega
      · rw [if_neg q, if_neg q] at ih
        rw [if_neg (by omega), if_neg (by omega)]
        omega
theorem mLn_inv {o i j : Nat} (hi : i < 3) (hj : j < 3) : mLn o i j / 9 = o ∧ mLn o i j / 3 % 3 = i ∧ mLn o i j % 3 = j := by unfold mLn; omega
theorem usum_up {ch : Nat → Nat → Nat → aCh} {o i j : Nat} {c : aCh} (ho : o < 6) (hi : i < 3) (hj : j < 3) : usum (up3 ch o i j c) + (ch o i j).1.length = usum ch + c.1.length := by
  obtain ⟨e1, e2, e3⟩ := mLn_inv (o := o) hi hj
  have h := sum_up (f := fun c => 1 + (ch (c / 9) (c / 3 % 3) (c % 3)).1.length) (g := fun k => 1 + ((up3 ch o i j c) (k / 9) (k / 3 % 3) (k % 3)).1.length) (k := mLn o i j) (fun k hk => by
    rw [up3_n (fun q => hk (by unfold mLn; omega))]) 54
  have hl : mLn o i j < 54 := by unfold mLn; omega
  rw [if_pos hl, if_pos hl] at h
  rw [e1, e2, e3, up3_s] at h
  unfold usum
  omega
theorem sum_le {f : Nat → Nat} {b : Nat} (h : ∀ c, f c ≤ b) : ∀ n, ((List.range n).map f).sum ≤ b * n
  | 0 => by simp
  | n + 1 => by
    have ih := sum_le h n
    have := h n
    rw [List.range_succ, List.map_append, List.sum_append]
    simp only [List.map_cons, List.map_nil, List.sum_cons, List.sum_nil]
    rw [Nat.mul_succ]
    omega
theorem usum_le {ch : Nat → Nat → Nat → aCh} (h : ∀ o i j, (ch o i j).1.length ≤ 4) : usum ch ≤ 270 := by
  have := sum_le (f := fun c => 1 + (ch (c / 9) (c / 3 % 3) (c % 3)).1.length) (b := 5) (fun c => by have := h (c / 9) (c / 3 % 3) (c % 3); omega) 54
  unfold usum
  omega
theorem mLn_inj {o i j o' i' j' : Nat} (hi : i < 3) (hj : j < 3) (hi' : i' < 3) (hj' : j' < 3) (e : mLn o i j = mLn o' i' j') : o = o' ∧ i = i' ∧ j = j' := by unfold mLn at e; omega
/-- a step of one channel -/
theorem XCh.one {Y Y1 : xY} {V V1 : xVV} {I I1 : xII} {J J1 : xJJ} {A A1 : xVV} {n o i j x xl fi fi2 ob2 : Nat} {p : Nat → Nat} {ch : Nat → Nat → Nat → aCh} {bo : Nat → Nat} {bq : Nat → List Nat} {sp sp2 : List (Nat × Nat)} {lc : Nat → Nat} {c2 : aCh} {bs2 : List Nat}
    (HC : ∀ o i j, o + 1 < n → i < p o → j < p (o + 1) → (∃ x, xCh Y V I A (mLn o i j) x (ch o i j) (bo (mLn o i j)) (bq (mLn o i j))) ∧ (lCh (bo (mLn o i j)) (bq (mLn o i j)) sp).Nodup ∧ ∀ b, b ∈ bo (mLn o i j) :: bq (mLn o i j) → lc b = mLn o i j) (hls : ∀ q, q ∈ sp → lc q.2 = 54) (hfi : fi + sp.length + usum ch = 378) (hn : n ≤ 6) (hp : ∀ o, o < n → p o ≤ 3) (ho : o + 1 < n) (hi : i < p o) (hj : j < p (o + 1))
    (C2 : xCh Y1 V1 I1 A1 (mLn o i j) x c2 ob2 bs2) (ds2 : xSp Y1 V1 xl sp2) (sb2 : xSB Y1 V1 sp2) (lo : lOk Y (lCh (bo (mLn o i j)) (bq (mLn o i j)) sp) (lCh ob2 bs2 sp2)) (f : xFr (sCh Y (mLn o i j) (lCh (bo (mLn o i j)) (bq (mLn o i j)) sp)) Y V I J A Y1 V1 I1 J1 A1) (hb : fi2 + sp2.length + c2.1.length = fi + sp.length + (ch o i j).1.length) : XCh Y1 V1 I1 A1 n p (up3 ch o i j c2) fi2 := by
  have hp1 := hp o (by omega)
  have hp2 := hp (o + 1) ho
  have hL : ∀ b, b ∈ lCh (bo (mLn o i j)) (bq (mLn o i j)) sp → lc b = mLn o i j ∨ lc b = 54 := fun b hb => by
    rcases List.mem_append.mp hb with q | q
    · exact Or.inl ((HC o i j ho hi hj).2.2 b q)
    · obtain ⟨y, hy, rfl⟩ := List.mem_map.mp q
      exact Or.inr (hls y hy)
  have hm : mLn o i j < 54 := by unfold mLn; omega
  -- what the other channels hold is not of the lists
  have key : ∀ o' i' j', o' + 1 < n → i' < p o' → j' < p (o' + 1) → ¬ (o' = o ∧ i' = i ∧ j' = j) → mLn o' i' j' ≠ mLn o i j ∧ ∀ b, b ∈ bo (mLn o' i' j') :: bq (mLn o' i' j') → b ∉ lCh (bo (mLn o i j)) (bq (mLn o i j)) sp ∧ b ∉ lCh ob2 bs2 sp2 ∧ yAt Y 11 b b := fun o' i' j' h1 h2 h3 hne => by
    have q1 := hp o' (by omega)
    have q2 := hp (o' + 1) h1
    have hm' : mLn o' i' j' < 54 := by unfold mLn; omega
    have hn2 : mLn o' i' j' ≠ mLn o i j := fun e => hne (mLn_inj (by omega) (by omega) (by omega) (by omega) e)
    refine ⟨hn2, fun b hb => ?_⟩
    obtain ⟨⟨x', g1⟩, g2, g3⟩ := HC o' i' j' h1 h2 h3
    have hbl := g3 b hb
    have hat : yAt Y 11 b b := by
      rcases List.mem_cons.mp hb with e | e
      · rw [e]; exact g1.2.2.1.2.1.1
      · exact (xQs.mem _ _ g1.2.2.2.2.2.2 b e).1
    have hno : b ∉ lCh (bo (mLn o i j)) (bq (mLn o i j)) sp := fun e => by
      rcases hL b e with q | q <;> omega
    refine ⟨hno, fun e => ?_, hat⟩
    rcases lo.2 b e with q | q
    · exact hno q
    · exact q b hat
  have hus := usum_up (ch := ch) (c := c2) (o := o) (i := i) (j := j) (by omega) (by omega) (by omega)
  have hnd := lo.1
  refine ⟨fun h => if h = mLn o i j then ob2 else bo h, fun h => if h = mLn o i j then bs2 else bq h, sp2, fun b => if b ∈ ob2 :: bs2 then mLn o i j else if b ∈ sp2.map (fun q => q.2) then 54 else lc b, xl, fun o' i' j' h1 h2 h3 => ?_, ds2, sb2, fun q hq => ?_, by omega⟩
  · by_cases e : o' = o ∧ i' = i ∧ j' = j
    · obtain ⟨rfl, rfl, rfl⟩ := e
      simp only [if_true]
      rw [up3_s]
      exact ⟨⟨x, C2⟩, hnd, fun b hb => if_pos hb⟩
    · obtain ⟨k1, k2⟩ := key o' i' j' h1 h2 h3 e
      obtain ⟨⟨x', g1⟩, g2, g3⟩ := HC o' i' j' h1 h2 h3
      simp only [if_neg k1]
      rw [up3_n e]
      refine ⟨⟨x', g1.fr f ⟨fun s => ?_, fun s => ?_, fun s => ?_⟩ (fun b hb r hr s => ?_)⟩, ?_, fun b hb => ?_⟩
      · rcases s with s | s | s
        · omega
        · omega
        · have := rB_no s.1; omega
      · rcases s with s | s | s
        · omega
        · omega
        · have := rB_no s.1; omega
      · rcases s with s | s | s
        · omega
        · omega
        · have := rB_no s.1; omega
      · have hbm : b ∈ bo (mLn o' i' j') :: bq (mLn o' i' j') := by
          rcases hb with q | q
          · rw [q]; exact List.mem_cons_self
          · exact List.mem_cons_of_mem _ q
        obtain ⟨z1, z2, z3⟩ := k2 b hbm
        have := rB_no hr
        rcases s with s | s | s
        · omega
        · omega
        · rcases s.2 with q | q
          · exact z1 q
          · exact q b z3
      · unfold lCh at g2 ⊢
        rw [List.nodup_append] at g2 ⊢
        unfold lCh at hnd
        rw [List.nodup_append] at hnd
        refine ⟨g2.1, hnd.2.1, fun b hb c hc => ?_⟩
        intro e2
        subst e2
        exact (k2 b hb).2.1 (List.mem_append.mpr (Or.inr hc))
      · have z := k2 b hb
        rw [if_neg (fun q => z.2.1 (List.mem_append.mpr (Or.inl q))), if_neg (fun q => z.2.1 (List.mem_append.mpr (Or.inr q)))]
        exact g3 b hb
  · have hq2 : q.2 ∈ sp2.map (fun q => q.2) := List.mem_map.mpr ⟨q, hq, rfl⟩
    have hno : q.2 ∉ ob2 :: bs2 := fun e => by
      unfold lCh at hnd
      rw [List.nodup_append] at hnd
      exact hnd.2.2 _ e _ hq2 rfl
    show (if q.2 ∈ ob2 :: bs2 then _ else if q.2 ∈ sp2.map (fun q => q.2) then 54 else _) = 54
    rw [if_neg hno, if_pos hq2]
/-- what a method with leftovers leaves: the new state, and room for what is still to come -/
def xRL (w0 : xW) (Y : xY) (b : aA) (tk x0 g0 : Nat) : xT → xO → xO → Nat → Nat → Prop := fun T2 O2 R2 kl sl => ∃ (Y2 : xY) (V2 : xVV) (I2 : xII) (J2 : xJJ) (A2 : xVV) (fi2 ps2 : Nat), PX Y2 V2 I2 J2 A2 w0 T2 O2 R2 ∧ yLe Y Y2 ∧ RepX b tk x0 g0 fi2 ps2 Y2 V2 I2 J2 A2 ∧ 4 * fi2 + ps2 ≤ kl ∧ 18 * fi2 + ps2 ≤ sl
def xR (w0 : xW) (Y : xY) (b : aA) (tk x0 g0 fi ps : Nat) : xT → xO → xO → Prop := fun T2 O2 R2 => ∃ (Y2 : xY) (V2 : xVV) (I2 : xII) (J2 : xJJ) (A2 : xVV), PX Y2 V2 I2 J2 A2 w0 T2 O2 R2 ∧ yLe Y Y2 ∧ RepX b tk x0 g0 fi ps Y2 V2 I2 J2 A2
