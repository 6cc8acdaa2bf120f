set_option maxRecDepth 100000
/-! THE WORLD: types (role, length, owner), fields (address, place), arrays (address, index) -/
abbrev xT : Type := Nat → Option (Nat × Nat × Nat)
abbrev xO : Type := Nat → Nat → Value
abbrev xW : Type := xT × xO × xO
abbrev xG : Type := State × (Nat → ClassId) × (Nat → Nat → Nat) × (Nat → ClassId) × (Nat → Nat)
/-- the classes by their roles -/
def xC : Nat → Option vw_C
  | 0 => some (RX0, TX0, 23)
  | 1 => some (RX1, TX1, 3)
  | 2 => some (RX2, TX2, 1)
  | 3 => some (RX3, TX3, 4)
  | 5 => some (RX5, TX5, 9)
  | 6 => some (RX6, TX6, 3)
  | 8 => some (RX8, TX8, 9)
  | 9 => some (RX9, TX9, 13)
  | 10 => some (RX10, TX10, 5)
  | 11 => some (RX11, TX11, 6)
  | 12 => some (RX12, TX12, 81)
  | 13 => some (RX13, TX13, 3)
  | 14 => some (RX14, TX14, 7)
  | 15 => some (RX15, TX15, 9)
  | 16 => some (RX16, TX16, 9)
  | 17 => some (RX17, TX17, 9)
  | 18 => some (RX18, TX18, 9)
  | 19 => some (RX19, TX19, 9)
  | 20 => some (RX20, TX20, 9)
  | 21 => some (RX21, TX21, 9)
  | 22 => some (RX22, TX22, 4)
  | 23 => some (RX23, TX23, 8)
  | 33 => some (RJ3, TJ3, 4)
  | 34 => some (RJ4, TJ4, 3)
  | 35 => some (RJ5, TJ5, 3)
  | 41 => some (RJ11, TJ11, 3)
  | 43 => some (RJ13, TJ13, 4)
  | 50 => some (RJ20, TJ20, 4)
  | 53 => some (RJ23, TJ23, 3)
  | _ => none
def xPb (r : Nat) : Nat := if r = 8 ∨ (15 ≤ r ∧ r ≤ 21) then 640 else 128 * r
theorem xC_lt {r : Nat} {q : vw_C} (h : xC r = some q) : r < 1000 := by
  unfold xC at h
  split at h <;> first | omega | cases h
/-- what each class's words are -/
def xClsOk (q : vw_C) : Prop := (∀ w ∈ u_ws q.1 q.2.1 q.2.2, w ∈ lw_all) ∧ (∃ ty : Nat → FieldType, ∀ k, k < q.2.2 → parseFieldDescriptor (q.2.1 k).2.2.1 = some (ty k)) ∧ ∀ a, a < q.2.2 → ∀ b, b < q.2.2 → a ≠ b → (q.2.1 a).2.1 ≠ (q.2.1 b).2.1
theorem xcls_0 : xClsOk (RX0, TX0, 23) := ⟨in_X0, ⟨tyX0, tyX0_ok⟩, nmX0⟩
theorem xcls_1 : xClsOk (RX1, TX1, 3) := ⟨in_X1, ⟨tyX1, tyX1_ok⟩, nmX1⟩
theorem xcls_2 : xClsOk (RX2, TX2, 1) := ⟨in_X2, ⟨tyX2, tyX2_ok⟩, nmX2⟩
theorem xcls_3 : xClsOk (RX3, TX3, 4) := ⟨in_X3, ⟨tyX3, tyX3_ok⟩, nmX3⟩
theorem xcls_5 : xClsOk (RX5, TX5, 9) := ⟨in_X5, ⟨tyX5, tyX5_ok⟩, nmX5⟩
theorem xcls_6 : xClsOk (RX6, TX6, 3) := ⟨in_X6, ⟨tyX6, tyX6_ok⟩, nmX6⟩
theorem xcls_8 : xClsOk (RX8, TX8, 9) := ⟨in_X8, ⟨tyX8, tyX8_ok⟩, nmX8⟩
theorem xcls_9 : xClsOk (RX9, TX9, 13) := ⟨in_X9, ⟨tyX9, tyX9_ok⟩, nmX9⟩
theorem xcls_10 : xClsOk (RX10, TX10, 5) := ⟨in_X10, ⟨tyX10, tyX10_ok⟩, nmX10⟩
theorem xcls_11 : xClsOk (RX11, TX11, 6) := ⟨in_X11, ⟨tyX11, tyX11_ok⟩, nmX11⟩
theorem xcls_12 : xClsOk (RX12, TX12, 81) := ⟨in_X12, ⟨tyX12, tyX12_ok⟩, nmX12⟩
theorem xcls_13 : xClsOk (RX13, TX13, 3) := ⟨in_X13, ⟨tyX13, tyX13_ok⟩, nmX13⟩
theorem xcls_14 : xClsOk (RX14, TX14, 7) := ⟨in_X14, ⟨tyX14, tyX14_ok⟩, nmX14⟩
theorem xcls_15 : xClsOk (RX15, TX15, 9) := ⟨in_X15, ⟨tyX15, tyX15_ok⟩, nmX15⟩
theorem xcls_16 : xClsOk (RX16, TX16, 9) := ⟨in_X16, ⟨tyX16, tyX16_ok⟩, nmX16⟩
theorem xcls_17 : xClsOk (RX17, TX17, 9) := ⟨in_X17, ⟨tyX17, tyX17_ok⟩, nmX17⟩
theorem xcls_18 : xClsOk (RX18, TX18, 9) := ⟨in_X18, ⟨tyX18, tyX18_ok⟩, nmX18⟩
theorem xcls_19 : xClsOk (RX19, TX19, 9) := ⟨in_X19, ⟨tyX19, tyX19_ok⟩, nmX19⟩
theorem xcls_20 : xClsOk (RX20, TX20, 9) := ⟨in_X20, ⟨tyX20, tyX20_ok⟩, nmX20⟩
theorem xcls_21 : xClsOk (RX21, TX21, 9) := ⟨in_X21, ⟨tyX21, tyX21_ok⟩, nmX21⟩
theorem xcls_22 : xClsOk (RX22, TX22, 4) := ⟨in_X22, ⟨tyX22, tyX22_ok⟩, nmX22⟩
theorem xcls_23 : xClsOk (RX23, TX23, 8) := ⟨in_X23, ⟨tyX23, tyX23_ok⟩, nmX23⟩
theorem xcls_33 : xClsOk (RJ3, TJ3, 4) := ⟨in_J3, ⟨tyJ3, tyJ3_ok⟩, nmJ3⟩
theorem xcls_34 : xClsOk (RJ4, TJ4, 3) := ⟨in_J4, ⟨tyJ4, tyJ4_ok⟩, nmJ4⟩
theorem xcls_35 : xClsOk (RJ5, TJ5, 3) := ⟨in_J5, ⟨tyJ5, tyJ5_ok⟩, nmJ5⟩
theorem xcls_41 : xClsOk (RJ11, TJ11, 3) := ⟨in_J11, ⟨tyJ11, tyJ11_ok⟩, nmJ11⟩
theorem xcls_43 : xClsOk (RJ13, TJ13, 4) := ⟨in_J13, ⟨tyJ13, tyJ13_ok⟩, nmJ13⟩
theorem xcls_50 : xClsOk (RJ20, TJ20, 4) := ⟨in_J20, ⟨tyJ20, tyJ20_ok⟩, nmJ20⟩
theorem xcls_53 : xClsOk (RJ23, TJ23, 3) := ⟨in_J23, ⟨tyJ23, tyJ23_ok⟩, nmJ23⟩
theorem xcls_ok {r : Nat} {q : vw_C} (h : xC r = some q) : xClsOk q := by
  unfold xC at h
  split at h
  · cases h; exact xcls_0
  · cases h; exact xcls_1
  · cases h; exact xcls_2
  · cases h; exact xcls_3
  · cases h; exact xcls_5
  · cases h; exact xcls_6
  · cases h; exact xcls_8
  · cases h; exact xcls_9
  · cases h; exact xcls_10
  · cases h; exact xcls_11
  · cases h; exact xcls_12
  · cases h; exact xcls_13
  · cases h; exact xcls_14
  · cases h; exact xcls_15
  · cases h; exact xcls_16
  · cases h; exact xcls_17
  · cases h; exact xcls_18
  · cases h; exact xcls_19
  · cases h; exact xcls_20
  · cases h; exact xcls_21
  · cases h; exact xcls_22
  · cases h; exact xcls_23
  · cases h; exact xcls_33
  · cases h; exact xcls_34
  · cases h; exact xcls_35
  · cases h; exact xcls_41
  · cases h; exact xcls_43
  · cases h; exact xcls_50
  · cases h; exact xcls_53
  · cases h
def xTy : Nat → Option FieldType
  | 1 => some .int
  | 2 => some .boolean
  | 3 => some .byte
  | 4 => some .long
  | 5 => some (.object "java/lang/Object")
  | 6 => some (.object "PipelineSimulator$Instance")
  | 7 => some (.array (.object "PipelineSimulator$Instance"))
  | 8 => some (.object "PipelineSimulator$Channel")
  | 9 => some (.array (.object "PipelineSimulator$Channel"))
  | 10 => some (.array (.array (.object "PipelineSimulator$Channel")))
  | _ => none
/-- the name of an array's component class -/
def xNm : FieldType → Option String
  | .object C => some C
  | .array t => some ("[" ++ t.toString)
  | _ => none
def xAr (U : State) (cA : ClassId) (ty : FieldType) : Prop := ∃ (kA : Class) (comp : ClassId), U.vm.classes[cA]? = some kA ∧ kA.kind = .array comp ty ∧ U.vm.findClass ("[" ++ ty.toString) = some cA ∧ ∀ nm, xNm ty = some nm → U.vm.findClass nm = some comp ∧ ∃ kc : Class, U.vm.classes[comp]? = some kc
theorem xAr.moved {u U : State} (hvm : u.vm.Alike U.vm) {cA : ClassId} {ty : FieldType} (h : xAr u cA ty) : xAr U cA ty := by
  obtain ⟨kA, comp, h1, h2, h3, h4⟩ := h
  obtain ⟨k', hk', he⟩ := hvm.2.2 _ _ h1
  refine ⟨k', comp, hk', by rw [he]; exact h2, by rw [hvm.findClass]; exact h3, fun nm hnm => ?_⟩
  obtain ⟨g1, kc, g2⟩ := h4 nm hnm
  obtain ⟨kc', g3, -⟩ := hvm.2.2 _ _ g2
  exact ⟨by rw [hvm.findClass]; exact g1, kc', g3⟩
theorem xAr.of {U : State} {cA : ClassId} {ty : FieldType} (h : xAr U cA ty) : ArrOfT U cA ty := by
  obtain ⟨kA, comp, h1, h2, -⟩ := h
  exact fun n z => ⟨fun k h => (by cases h), kA, h1, comp, h2⟩
/-- the statics and texts that the run reads: ArrayList's empty array at gs 0, the digits at gs 1, gs 2, the letters' text at gs 3 over gs 4 -/
def xA0 (s : State) : Nat → Prop := fun q => s.heap.size ≤ q
def xStat (s : State) (gs : Nat → Nat) : Prop :=
  (va_Z "java/util/ArrayList" "DEFAULTCAPACITY_EMPTY_ELEMENTDATA" "[Ljava/lang/Object;" (.ref (gs 0)) (xA0 s) s s.heap ∧ va_T (.object "java/lang/Object") (gs 0) 0 (fun _ => .null) (xA0 s) s s.heap) ∧
  (va_Z "java/lang/Integer" "DigitOnes" "[B" (.ref (gs 1)) (xA0 s) s s.heap ∧ va_T .byte (gs 1) 100 (fun j => .int (nI (48 + j % 10))) (xA0 s) s s.heap) ∧
  (va_Z "java/lang/Integer" "DigitTens" "[B" (.ref (gs 2)) (xA0 s) s s.heap ∧ va_T .byte (gs 2) 100 (fun j => .int (nI (48 + j / 10))) (xA0 s) s s.heap) ∧
  va_Z "java/lang/String" "COMPACT_STRINGS" "Z" (.int 1) (xA0 s) s s.heap ∧ va_Z "java/util/BitSet" "$assertionsDisabled" "Z" (.int 1) (xA0 s) s s.heap ∧
  (vk_R "PipelineSimulator$Parser" 61 "mfkcsdr" (gs 3) s ∧ vk_R "PipelineSimulator$Operator" 32 "mfkcsdr" (gs 3) s ∧ vk_S 1 [7] [[109, 102, 107, 99, 115, 100, 114]] (fun _ => gs 3) (fun _ => gs 4) (xA0 s) s s.heap) ∧
  va_Zq "java/lang/Throwable" "UNASSIGNED_STACK" "[Ljava/lang/StackTraceElement;" (xA0 s) s s.heap ∧ va_Zq "java/lang/Throwable" "SUPPRESSED_SENTINEL" "Ljava/util/List;" (xA0 s) s s.heap
/-- the run's start: the tables' words, the premises, the classes and the array classes -/
def xSt (G : xG) : Prop := (∃ b : Nat, (∀ w ∈ lw_tbl, w.before #[Value.ref b] G.1 = true) ∧ (Jvm.Cond.and given_1 narrow_1).before #[Value.ref b] G.1 = true) ∧ (∀ (k : Nat) (q : vw_C), xC k = some q → u_Kn G.1 q.1 q.2.1 q.2.2 (G.2.1 k) (G.2.2.1 k)) ∧ (∀ (k : Nat) (ty : FieldType), xTy k = some ty → xAr G.1 (G.2.2.2.1 k) ty) ∧ xStat G.1 G.2.2.2.2
theorem xw_all {G : xG} {U : State} (hG : xSt G) (hW : G.1.WarmedH U.vm) (a : Array Value) : ∀ w ∈ lw_all, w.before a U = true := by
  obtain ⟨⟨b, h1, -⟩, -⟩ := hG
  exact fun w hw => word_at hW (good_of_word (List.mem_filter.mp hw).2) (h1 w (lw_all_tbl hw))
theorem xw_fldN {G : xG} {U : State} (hG : xSt G) (hW : G.1.WarmedH U.vm) (a : Array Value) {own : String} {i : Nat} {c n d h : String} (hw : Cond.fieldLinkNest own i c n d h ∈ lw_tbl) : (Cond.fieldLinkNest own i c n d h).before a U = true := by
  obtain ⟨⟨b, h1, -⟩, -⟩ := hG
  exact va_Nw.use rfl (va_Nw.warmF hW (va_Nw.of rfl (h1 _ hw)))
theorem xw_metN {G : xG} {U : State} (hG : xSt G) (hW : G.1.WarmedH U.vm) (a : Array Value) {own : String} {i : Nat} {y : MethodName} {h : String} (hw : Cond.methodLinkNest own i y h ∈ lw_tbl) : (Cond.methodLinkNest own i y h).before a U = true := by
  obtain ⟨⟨b, h1, -⟩, -⟩ := hG
  exact va_Nw.use rfl (va_Nw.warmM hW (va_Nw.of rfl (h1 _ hw)))
theorem xw_cast {G : xG} {U : State} (hG : xSt G) (hW : G.1.WarmedH U.vm) {C T : String} (hw : Cond.castable C T ∈ lw_tbl) : va_Nw (.castable C T) U := by
  obtain ⟨⟨b, h1, -⟩, -⟩ := hG
  exact va_Nw.warmC hW (va_Nw.of rfl (h1 _ hw))
theorem xw_face {G : xG} {U : State} (hG : xSt G) (hW : G.1.WarmedH U.vm) {C : String} {x y : MethodName} (hx : x.cls ≠ "java/lang/invoke/MethodHandle" ∧ x.cls ≠ "java/lang/invoke/VarHandle") (k1 : Cond.declares x ∈ lw_tbl) (k2 : Cond.interfaceMethod x.cls x.cls x.name x.desc ∈ lw_tbl) (k3 : Cond.publicMethod y ∈ lw_tbl) (k4 : Cond.unhidden C x.name x.desc ∈ lw_tbl) (k5 : Cond.castable C x.cls ∈ lw_tbl) : va_Fw C x y U := by
  obtain ⟨⟨b, h1, -⟩, -⟩ := hG
  exact va_Fw.moved hx hW.alike (va_Fw.of (h1 _ k1) (h1 _ k2) (h1 _ k3) (h1 _ k4) (h1 _ k5))
/-- one thing of the world, in the heap -/
def xAt (G : xG) (w : xW) (a : Nat) (t : Nat × Nat × Nat) (H : Heap) : Prop :=
  if t.1 < 1000 then ∃ q : vw_C, xC t.1 = some q ∧ t_OB a (G.2.1 t.1) q.2.2 (G.2.2.1 t.1) H (fun j => w.2.1 a (xPb t.1 + j))
  else (∃ ty, xTy (t.1 / 1000) = some ty) ∧ H[a]? = some (arrV (G.2.2.2.1 (t.1 / 1000)) t.2.1 (w.2.2 a))
def xHp (G : xG) (w : xW) (H : Heap) : Prop := (∀ (a : Nat) (t : Nat × Nat × Nat), w.1 a = some t → G.1.heap.size ≤ a ∧ xAt G w a t H) ∧ G.1.heap.size ≤ H.size ∧ ∀ q : Nat, q < G.1.heap.size → H[q]? = G.1.heap[q]?
theorem xAt.obj {G : xG} {w : xW} {a : Nat} {t : Nat × Nat × Nat} {H : Heap} (h : xAt G w a t H) {q : vw_C} (hq : xC t.1 = some q) : t_OB a (G.2.1 t.1) q.2.2 (G.2.2.1 t.1) H (fun j => w.2.1 a (xPb t.1 + j)) := by
  unfold xAt at h
  rw [if_pos (xC_lt hq)] at h
  obtain ⟨q', h1, h2⟩ := h
  cases hq.symm.trans h1
  exact h2
theorem xTy_pos {k : Nat} {ty : FieldType} (h : xTy k = some ty) : 1 ≤ k := by
  rcases Nat.eq_zero_or_pos k with e | e
  · subst e; cases h
  · exact e
theorem xAt.arr {G : xG} {w : xW} {a : Nat} {t : Nat × Nat × Nat} {H : Heap} (h : xAt G w a t H) {ty : FieldType} (hq : xTy (t.1 / 1000) = some ty) : H[a]? = some (arrV (G.2.2.2.1 (t.1 / 1000)) t.2.1 (w.2.2 a)) := by
  have hp := xTy_pos hq
  unfold xAt at h
  rw [if_neg (by omega)] at h
  exact h.2
theorem xAt.lt {G : xG} {w : xW} {a : Nat} {t : Nat × Nat × Nat} {H : Heap} (h : xAt G w a t H) : a < H.size := by
  unfold xAt at h
  split at h
  · obtain ⟨q, -, cell, h2, -⟩ := h
    exact (Array.getElem?_eq_some_iff.mp h2).1
  · exact (Array.getElem?_eq_some_iff.mp h.2).1
theorem xAt.kept {G : xG} {w w' : xW} {a : Nat} {t : Nat × Nat × Nat} {H H' : Heap} (h : xAt G w a t H) (e : H'[a]? = H[a]?) (e1 : w'.2.1 a = w.2.1 a) (e2 : w'.2.2 a = w.2.2 a) : xAt G w' a t H' := by
  unfold xAt at h ⊢
  split at h
  · rename_i hl
    rw [if_pos hl, e1]
    obtain ⟨q, h1, h2⟩ := h
    exact ⟨q, h1, h2.kept e⟩
  · rename_i hl
    rw [if_neg hl, e2, e]
    exact h
theorem xHp.fresh {G : xG} {w : xW} {H : Heap} (h : xHp G w H) : w.1 H.size = none := by
  cases e : w.1 H.size with
  | none => rfl
  | some t => exact absurd (h.1 _ _ e).2.lt (Nat.lt_irrefl _)
/-- which cells may change: the world's, and those that are new -/
def xFree (w : xW) (sz : Nat) : Nat → Prop := fun q => w.1 q ≠ none ∨ sz ≤ q
def xGr (w0 : xW) (sz : Nat) (w : xW) : Prop := (∀ (a : Nat) (t : Nat × Nat × Nat), w0.1 a = some t → w.1 a = some t) ∧ ∀ a : Nat, w.1 a ≠ none → xFree w0 sz a
def xUp (O : xO) (a k : Nat) (v : Value) : xO := fun b j => if b = a ∧ j = k then v else O b j
theorem xUp_s {O : xO} {a k : Nat} {v : Value} : xUp O a k v a k = v := if_pos ⟨rfl, rfl⟩
theorem xUp_k {O : xO} {a k b j : Nat} {v : Value} (h : j ≠ k) : xUp O a k v b j = O b j := if_neg (fun e => h e.2)
theorem xUp_a {O : xO} {a k b j : Nat} {v : Value} (h : b ≠ a) : xUp O a k v b j = O b j := if_neg (fun e => h e.1)
theorem xUp_r {O : xO} {a k b : Nat} {v : Value} (h : b ≠ a) : xUp O a k v b = O b := funext fun _ => xUp_a h
def xUr (R : xO) (a : Nat) (f : Nat → Value) : xO := fun b => if b = a then f else R b
theorem xUr_s {R : xO} {a : Nat} {f : Nat → Value} : xUr R a f a = f := if_pos rfl
theorem xUr_a {R : xO} {a b : Nat} {f : Nat → Value} (h : b ≠ a) : xUr R a f b = R b := if_neg h
def xI (f : Nat → Int32) : Nat → Value := fun j => .int (f j)
def xJ (f : Nat → Int64) : Nat → Value := fun j => .long (f j)
def xQ (f : Nat → Option Nat) : Nat → Value := fun j => va_rf (f j)
/-! THE JUDGEMENT -/
abbrev xX : Type := Program × Launch × Env × Room × State × MethodId × Array Value × List Frame × Method × Code
abbrev xZ : Type := xX × xG × xW × (State → Prop)
abbrev zp (Z : xZ) : Program := Z.1.1
abbrev zl (Z : xZ) : Launch := Z.1.2.1
abbrev ze (Z : xZ) : Env := Z.1.2.2.1
abbrev zR (Z : xZ) : Room := Z.1.2.2.2.1
abbrev zs (Z : xZ) : State := Z.1.2.2.2.2.1
abbrev zm (Z : xZ) : MethodId := Z.1.2.2.2.2.2.1
abbrev za (Z : xZ) : Array Value := Z.1.2.2.2.2.2.2.1
abbrev zb (Z : xZ) : List Frame := Z.1.2.2.2.2.2.2.2.1
abbrev zme (Z : xZ) : Method := Z.1.2.2.2.2.2.2.2.2.1
abbrev zc (Z : xZ) : Code := Z.1.2.2.2.2.2.2.2.2.2
abbrev zG (Z : xZ) : xG := Z.2.1
abbrev z0 (Z : xZ) : xW := Z.2.2.1
abbrev zQ (Z : xZ) : State → Prop := Z.2.2.2
abbrev zA (Z : xZ) : Nat → Prop := xFree (z0 Z) (zs Z).heap.size
abbrev zW (Z : xZ) (H : Heap) (locs : List Loc) (cells slots : Nat) (g : JFrame) : Prop := W (zp Z) (zl Z) (ze Z) (zR Z) (zs Z) (zm Z) (za Z) (zb Z) (zme Z) (zc Z) H locs cells slots (zQ Z) g
/-- what stands between an entry and the world: the heap holds it, it has grown rightly, nothing else was written, room is left -/
def xIn (Z : xZ) (w : xW) (kc ks : Nat) (H : Heap) (locs : List Loc) (cells slots : Nat) : Prop := xHp (zG Z) w H ∧ xGr (z0 Z) (zs Z).heap.size w ∧ va_S (zA Z) (zs Z).heap H locs ∧ cells + kc ≤ (zR Z).cells ∧ slots + ks ≤ (zR Z).slots
/-- THE JUDGEMENT: from the frame at pc, with locals lv, stack st, in the world w, with room for kc cells of ks slots left, the method comes to its end -/
def xV (Z : xZ) (w : xW) (pc : Nat) (lv : List (Nat × Value)) (st : List Value) (kc ks : Nat) : Prop :=
  ∀ (ls : Array Slot) (H : Heap) (locs : List Loc) (cells slots : Nat), lv_has ls (zc Z).maxLocals lv → xIn Z w kc ks H locs cells slots → zW Z H locs cells slots (F0 (zm Z) pc ls st)
/-- what holds of the method all through its run -/
def xOk (Z : xZ) (G : xG) (cc : ByteArray) (own : String) (nL fr lo : Nat) (ret : Option FieldType) : Prop :=
  zG Z = G ∧ (zp Z).tables.exec = Jvm.exec ∧ (zc Z).code = cc ∧ (zc Z).maxLocals = nL ∧ (zs Z).vm.findClass own = some (zm Z).cls ∧ (zme Z).locks = false ∧ (zme Z).sig.returnType = ret ∧ (zR Z).frames = fr ∧ (zR Z).locals = lo ∧ (zl Z).flags = flags0 ∧ xSt (zG Z) ∧ (zG Z).1.WarmedH (zs Z).vm ∧ (zG Z).1.heap.size ≤ (zs Z).heap.size ∧ (∀ q : Nat, q < (zG Z).1.heap.size → (zs Z).heap[q]? = (zG Z).1.heap[q]?)
section XOK
variable {Z : xZ} {G : xG} {cc : ByteArray} {own : String} {nL fr lo : Nat} {ret : Option FieldType}
theorem xOk.g (B : xOk Z G cc own nL fr lo ret) : zG Z = G := B.1
theorem xOk.ex (B : xOk Z G cc own nL fr lo ret) : (zp Z).tables.exec = Jvm.exec := B.2.1
theorem xOk.by (B : xOk Z G cc own nL fr lo ret) : (zc Z).code = cc := B.2.2.1
theorem xOk.mx (B : xOk Z G cc own nL fr lo ret) : (zc Z).maxLocals = nL := B.2.2.2.1
theorem xOk.ow (B : xOk Z G cc own nL fr lo ret) : (zs Z).vm.findClass own = some (zm Z).cls := B.2.2.2.2.1
theorem xOk.lk (B : xOk Z G cc own nL fr lo ret) : (zme Z).locks = false := B.2.2.2.2.2.1
theorem xOk.rt (B : xOk Z G cc own nL fr lo ret) : (zme Z).sig.returnType = ret := B.2.2.2.2.2.2.1
theorem xOk.fm (B : xOk Z G cc own nL fr lo ret) : (zR Z).frames = fr := B.2.2.2.2.2.2.2.1
theorem xOk.lm (B : xOk Z G cc own nL fr lo ret) : (zR Z).locals = lo := B.2.2.2.2.2.2.2.2.1
theorem xOk.fl (B : xOk Z G cc own nL fr lo ret) : (zl Z).flags = flags0 := B.2.2.2.2.2.2.2.2.2.1
theorem xOk.st (B : xOk Z G cc own nL fr lo ret) : xSt (zG Z) := B.2.2.2.2.2.2.2.2.2.2.1
theorem xOk.wm (B : xOk Z G cc own nL fr lo ret) : (zG Z).1.WarmedH (zs Z).vm := B.2.2.2.2.2.2.2.2.2.2.2.1
theorem xOk.hs (B : xOk Z G cc own nL fr lo ret) : (zG Z).1.heap.size ≤ (zs Z).heap.size := B.2.2.2.2.2.2.2.2.2.2.2.2.1
theorem xOk.hk (B : xOk Z G cc own nL fr lo ret) : ∀ q : Nat, q < (zG Z).1.heap.size → (zs Z).heap[q]? = (zG Z).1.heap[q]? := B.2.2.2.2.2.2.2.2.2.2.2.2.2
theorem xOk.ws (B : xOk Z G cc own nL fr lo ret) : ∀ w ∈ lw_all, w.before (za Z) (zs Z) = true := xw_all B.st B.wm _
theorem xOk.kn (B : xOk Z G cc own nL fr lo ret) {k : Nat} {q : vw_C} (h : xC k = some q) : u_Kn (zs Z) q.1 q.2.1 q.2.2 ((zG Z).2.1 k) ((zG Z).2.2.1 k) := u_Kn_moved B.wm.alike (B.st.2.1 k q h)
theorem xOk.ar (B : xOk Z G cc own nL fr lo ret) {k : Nat} {ty : FieldType} (h : xTy k = some ty) : xAr (zs Z) ((zG Z).2.2.2.1 k) ty := (B.st.2.2.1 k ty h).moved B.wm.alike
end XOK
/-- what lies below the run's start stays -/
theorem xIn.low {Z : xZ} {w : xW} {kc ks : Nat} {H : Heap} {locs : List Loc} {cells slots : Nat} (h : xIn Z w kc ks H locs cells slots) (hs : (zG Z).1.heap.size ≤ (zs Z).heap.size) (hk : ∀ q : Nat, q < (zG Z).1.heap.size → (zs Z).heap[q]? = (zG Z).1.heap[q]?) : va_S (xA0 (zG Z).1) (zs Z).heap H locs := by
  have hA : ∀ q, zA Z q → xA0 (zG Z).1 q := fun q hq => by
    rcases hq with e | e
    · cases e0 : (z0 Z).1 q with
      | none => exact absurd e0 e
      | some t => exact (h.1.1 q t (h.2.1.1 q t e0)).1
    · exact Nat.le_trans hs e
  refine ⟨h.2.2.1.1, fun q g1 g2 => ?_, fun l hl => hA _ (h.2.2.1.2.2 l hl)⟩
  have hq : q < (zG Z).1.heap.size := Nat.not_le.mp g2
  rw [h.1.2.2 q hq, hk q hq]
theorem xIn.A {Z : xZ} {w : xW} {kc ks : Nat} {H : Heap} {locs : List Loc} {cells slots : Nat} (h : xIn Z w kc ks H locs cells slots) {a : Nat} {t : Nat × Nat × Nat} (ha : w.1 a = some t) : zA Z a := h.2.1.2 a (by rw [ha]; exact fun h => nomatch h)
theorem xV.w {Z : xZ} {w : xW} {pc : Nat} {lv lv' : List (Nat × Value)} {st : List Value} {kc ks : Nat} (ps : List Nat) (hp : ps.filterMap (fun k => lv[k]?) = lv') (h : xV Z w pc lv' st kc ks) : xV Z w pc lv st kc ks := fun ls H locs cells slots h1 h2 => h ls H locs cells slots (lv_sub h1 ps hp) h2
theorem xV.room {Z : xZ} {w : xW} {pc : Nat} {lv : List (Nat × Value)} {st : List Value} {kc ks kc' ks' : Nat} (h1 : kc' ≤ kc) (h2 : ks' ≤ ks) (h : xV Z w pc lv st kc' ks') : xV Z w pc lv st kc ks := fun ls H locs cells slots g1 g2 => h ls H locs cells slots g1 ⟨g2.1, g2.2.1, g2.2.2.1, Nat.le_trans (Nat.add_le_add_left h1 _) g2.2.2.2.1, Nat.le_trans (Nat.add_le_add_left h2 _) g2.2.2.2.2⟩
