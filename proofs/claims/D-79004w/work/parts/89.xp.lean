set_option maxRecDepth 100000
/-- a contract out of a walk, also for classes some of whose methods the machine runs by itself -/
theorem metOfWF {l : Launch} {y : MethodName} {ws ws' : List Cond} {rm : Room} {Pc : Array Value → State → Prop} {Qc : Array Value → State → Outcome → State → Prop} {mc ms : Nat} {free : Addr → Prop} {cc : ByteArray} {maxL : Nat} {ret : Option FieldType}
    (hy : plainFor y = true) (hw : ws = Cond.code y cc maxL ret :: ws')
    (body : ∀ p e s m args below meth c s₁, BodyLoose p l y (headSpec ws rm) cc maxL ret e s m args below meth c s₁ → c.maxLocals = maxL → Pc args s →
      W p l e (headSpec ws rm).room s m args below meth c s.heap [] 0 0 (MQ below Qc args s mc ms free) (entryFrame m args maxL)) : Met l y ws rm Pc Qc mc ms free := by
  refine MetFree.of_bodySF (code := cc) (maxLocals := maxL) (ret := ret) hy ?_ ?_
  · intro args s m h hn
    obtain ⟨meth, c, h1, h2, h3, h4, h5, h6, -, -⟩ := Cond.code_spec hn (atoms_spec (ws := ws) h _ (by rw [hw]; exact List.mem_cons_self))
    exact ⟨meth, c, h1, h2, h3, h4, h5, h6⟩
  · intro p e s m args below meth c s₁ B hml hP _
    have hh0 : s₁.heap = s.heap := by rw [B.state]; rfl
    obtain ⟨t, a1, o, b1, b2, b3⟩ := body p e s m args below meth c s₁ B hml hP s₁ hh0 (Stand.of_body B)
    exact ⟨t, o, a1, b1, b2, ⟨b3.1, b3.2⟩⟩
theorem xCtr.ofF {G : xG} {y : MethodName} {cc : ByteArray} {nL : Nat} {ret : Option FieldType} {fr lo mc ms : Nat} {av : List Value} {w : xW} {Post : Option Value → xW → Prop} (hy : plainFor y = true) (hlen : (lg_sl av).length ≤ nL) (body : ∀ Z : xZ, xOk Z G cc y.cls nL fr lo ret → xEnd Z Post → z0 Z = w → (zme Z).name = y.name → xV Z w 0 (lv_args 0 av) [] mc ms) : xCtr G y cc nL ret fr lo mc ms av w Post := by
  intro l sz hl hG
  refine metOfWF (cc := cc) (maxL := nL) (ret := ret) hy rfl ?_
  intro p e s m args below meth c s₁ B hml hv
  obtain ⟨rfl, hsz, hW, hP⟩ := hv
  subst hsz
  have hent := lv_entry av hlen
  rw [lg_entry_eq]
  refine body ((p, l, e, (headSpec (ws_ y cc nL ret) ({ frames := fr, cells := mc, slots := ms, locals := lo })).room, s, m, av.toArray, below, meth, c), G, w, MQ below (xQc G w Post) av.toArray s mc ms (xFree w s.heap.size)) ⟨rfl, B.exec, B.bytes, hml, findClass_of_methodNamed B.named, B.notSynchronized, B.returns, rfl, rfl, hl, hG, hW, hP.2.1, hP.2.2⟩ rfl rfl (name_of_methodNamed B.named B.method).1 _ s.heap [] 0 0 (by rw [show (zc _).maxLocals = nL from hml]; exact hent) ⟨hP, ⟨fun _ _ h => h, fun a ha => Or.inl ha⟩, va_S.rf, Nat.le_of_eq (Nat.zero_add _), Nat.le_of_eq (Nat.zero_add _)⟩
theorem xor16 (x : Int32) : (0 ≤ x ^^^ (nI 16)) ↔ (0 ≤ x) := by
  rw [Int32.le_iff_toInt_le, Int32.le_iff_toInt_le]
  have h : ∀ z : Int32, (0 : Int32).toInt ≤ z.toInt ↔ z.toBitVec.msb = false := fun z => by
    rw [BitVec.msb_eq_toInt]
    show (0 : Int) ≤ z.toBitVec.toInt ↔ _
    rw [decide_eq_false_iff_not]
    omega
  rw [h, h, Int32.toBitVec_xor, BitVec.msb_xor, show (nI 16).toBitVec.msb = false from rfl, Bool.xor_false]
theorem fm_lem (x : Int32) (c : 0 ≤ x) : x - x / nI 16 * nI 16 = nI (aRk x) := by
  have h := rest_lem x
  have h2 := rest_toInt x
  have hx : 0 ≤ x.toInt := by rw [Int32.le_iff_toInt_le] at c; exact c
  rw [if_pos (by rw [Int32.le_iff_toInt_le, h2]; exact Int.tmod_nonneg 16 hx)] at h
  exact h
theorem fm_neg (x : Int32) (c : ¬ 0 ≤ x) (h0 : ¬ x - x / nI 16 * nI 16 = 0) : x - x / nI 16 * nI 16 + nI 16 = nI (aRk x) := by
  have h := rest_lem x
  have h2 := rest_toInt x
  have hx : x.toInt < 0 := by rw [Int32.le_iff_toInt_le] at c; exact Int.not_le.mp c
  rw [if_neg (fun e => by
    rw [Int32.le_iff_toInt_le, h2] at e
    have hs : x.toInt.tmod 16 ≤ 0 := by
      have := Int.tmod_nonneg 16 (show 0 ≤ -x.toInt by omega)
      rw [Int.neg_tmod] at this
      omega
    exact h0 (Int32.toInt_inj.mp (by rw [show nI 16 = 16 from rfl, h2]; exact Int.le_antisymm hs e)))] at h
  exact h
theorem fm_zero (x : Int32) (h0 : x - x / nI 16 * nI 16 = 0) : x - x / nI 16 * nI 16 = nI (aRk x) := by
  have h := rest_lem x
  rw [show (16 : Int32) = nI 16 from rfl, if_pos (by rw [h0]; decide)] at h
  exact h
theorem c_J7_floorMod {G : xG} {T : xT} {O R : xO} {Y : xY} {V : xVV} {I : xII} {J : xJJ} {A : xVV} {w0 : xW} {x : Int32} (P : PX Y V I J A w0 T O R)  : xCtr G yJ7_floorMod cJ7_floorMod 3 (some Jvm.ClassFile.FieldType.int) 0 0 0 0 [.int x, .int (nI 16)] (T, O, R) (xA (fun v T2 O2 R2 => v = .int (nI (aRk x)) ∧ T2 = T ∧ O2 = O ∧ R2 = R)) := by
  refine xCtr.ofF (by decide +kernel) (Nat.le_of_ble_eq_true rfl) ?_
  intro Z B E hz hnm
  change xV Z (T, O, R) 0 [(0, .int x), (1, .int (nI 16))] [] 0 0
  refine g_iload_n B 0 dJ7_floorMod_0 rfl ?_
  refine g_iload_n B 1 dJ7_floorMod_1 rfl ?_
  refine g_irem B (by decide) dJ7_floorMod_2 ?_
  refine g_istore_n (lv2 := [(2, _), (0, _), (1, _)]) B dJ7_floorMod_3 (by decide) rfl ?_
  refine g_iload_n B 1 dJ7_floorMod_4 rfl ?_
  refine g_iload_n B 2 dJ7_floorMod_5 rfl ?_
  refine g_ixor B dJ7_floorMod_6 ?_
  refine g_if_ge (tgt := 18) B dJ7_floorMod_7 (by decide) (fun c1 => ?_) (fun c1 => ?_)
  · refine g_iload_n B 0 dJ7_floorMod_18 rfl ?_
    refine g_iret B E rfl rfl dJ7_floorMod_19 ?_
    exact ⟨_, rfl, congrArg Value.int (fm_lem x ((xor16 x).mp c1)), rfl, rfl, rfl⟩
  · refine g_iload_n B 0 dJ7_floorMod_10 rfl ?_
    refine g_if_eq (tgt := 18) B dJ7_floorMod_11 (by decide) (fun c2 => ?_) (fun c2 => ?_)
    · refine g_iload_n B 0 dJ7_floorMod_18 rfl ?_
      refine g_iret B E rfl rfl dJ7_floorMod_19 ?_
      exact ⟨_, rfl, congrArg Value.int (fm_zero x c2), rfl, rfl, rfl⟩
    · refine g_iload_n B 0 dJ7_floorMod_14 rfl ?_
      refine g_iload_n B 2 dJ7_floorMod_15 rfl ?_
      refine g_iadd B dJ7_floorMod_16 ?_
      refine g_iret B E rfl rfl dJ7_floorMod_17 ?_
      exact ⟨_, rfl, congrArg Value.int (fm_neg x (fun e => c1 ((xor16 x).mpr e)) c2), rfl, rfl, rfl⟩
theorem c_J7_max {G : xG} {T : xT} {O R : xO} {Y : xY} {V : xVV} {I : xII} {J : xJJ} {A : xVV} {w0 : xW} {x y : Int32} (P : PX Y V I J A w0 T O R)  : xCtr G yJ7_max cJ7_max 2 (some Jvm.ClassFile.FieldType.int) 0 0 0 0 [.int x, .int y] (T, O, R) (xA (fun v T2 O2 R2 => v = .int (if x < y then y else x) ∧ T2 = T ∧ O2 = O ∧ R2 = R)) := by
  refine xCtr.ofF (by decide +kernel) (Nat.le_of_ble_eq_true rfl) ?_
  intro Z B E hz hnm
  change xV Z (T, O, R) 0 [(0, .int x), (1, .int y)] [] 0 0
  refine g_iload_n B 0 dJ7_max_0 rfl ?_
  refine g_iload_n B 1 dJ7_max_1 rfl ?_
  refine g_icmp_lt (tgt := 9) B dJ7_max_2 (by decide) (fun c1 => ?_) (fun c1 => ?_)
  · refine g_iload_n B 1 dJ7_max_9 rfl ?_
    refine g_iret B E rfl rfl dJ7_max_10 ?_
    exact ⟨_, rfl, by rw [if_pos c1], rfl, rfl, rfl⟩
  · refine g_iload_n B 0 dJ7_max_5 rfl ?_
    refine g_goto (tgt := 10) B dJ7_max_6 (by decide) ?_
    refine g_iret B E rfl rfl dJ7_max_10 ?_
    exact ⟨_, rfl, by rw [if_neg c1], rfl, rfl, rfl⟩
