set_option maxRecDepth 100000
theorem xOp.inc {Y : xY} {V V1 : xVV} {o x k : Nat} {op : Nat × Int32 × Int32 × Nat} {st : Nat → Nat → Int32} (hk : k < 4) (d : xOp Y V o x op (fun k => st k o)) (hs : V1 4 = va_up (V 4) o (va_up (V 4 o) (5 + k) (.int (st k o + nI 1)))) : xOp Y V1 o x op (fun j => up2 st k o (st k o + 1) j o) := by
  obtain ⟨d0, d1, d2, d3, d4, d5, ⟨xv, d6, d7⟩, d8, d9, d10, d11⟩ := d
  have hst : ∀ j, j < 4 → V 4 o (5 + j) = .int (st j o) := fun j hj => by rcases (show j = 0 ∨ j = 1 ∨ j = 2 ∨ j = 3 by omega) with rfl | rfl | rfl | rfl; exact d8; exact d9; exact d10; exact d11
  have key : ∀ j, j < 4 → V1 4 o (5 + j) = .int (up2 st k o (st k o + 1) j o) := fun j hj => by
    by_cases e : j = k
    · subst e; rw [up2_s]; exact rdS hs
    · rw [up2_n (fun q => e q.1)]; exact rdK hs (by omega) (hst j hj)
  exact ⟨d0, d1, rdK hs (by omega) d2, rdK hs (by omega) d3, rdK hs (by omega) d4, rdK hs (by omega) d5, ⟨xv, rdK hs (by omega) d6, d7⟩, key 0 (by decide), key 1 (by decide), key 2 (by decide), key 3 (by decide)⟩
/-- an operator's number goes up -/
theorem RepX.incr {a : aA} {tk x0 g0 fi ps o xo k : Nat} {Y : xY} {V V1 : xVV} {I : xII} {J : xJJ} {A : xVV} (H : RepX a tk x0 g0 fi ps Y V I J A) (hk : k < 4) (d : xOp Y V o xo (a.op o) (fun k => a.stt k o)) (hs : V1 4 = va_up (V 4) o (va_up (V 4 o) (5 + k) (.int (a.stt k o + nI 1)))) (hkk : ∀ i, i ≠ 4 → V1 i = V i) : RepX (a.inc k o) tk x0 g0 fi ps Y V1 I J A := by
  have f : xFr (s1 4 o) Y V I J A Y V1 I J A := xFr.uV ⟨rfl, rfl⟩ hs hkk
  exact H.w_stt (q := up2 a.stt k o (a.stt k o + 1)) f (fun r o e => e.1) (H.Op.one (o := o) f (fun c e => e.2) (fun x hx => ⟨rfl, fun j => up2_n (fun q => hx q.2)⟩) ⟨xo, xOp.inc hk d hs⟩)
theorem mRecs_one {l : List aRec} {c f : Nat} {k b : Nat} {v : Int32} {g1 g2 g3 h1 h2 h3 : Nat → Int32} (h : mRecs l f g1 g2 g3) (e1 : h1 = va_up g1 (f + l.length) (nI k)) (e2 : h2 = va_up g2 (f + l.length) v) (e3 : h3 = va_up g3 (f + l.length) (nI b)) : mRecs (l ++ [(k, v, b)]) f h1 h2 h3 := fun j hj => by
  subst e1; subst e2; subst e3
  by_cases e : j = l.length
  · subst e
    rw [va_ups, va_ups, va_ups]
    simp [List.getD_eq_getElem?_getD]
  · have hj2 : j < l.length := by simp at hj; omega
    rw [va_upe (by omega), va_upe (by omega), va_upe (by omega)]
    obtain ⟨q1, q2, q3⟩ := h j hj2
    simp only [List.getD_eq_getElem?_getD, List.getElem?_append_left hj2] at q1 q2 q3 ⊢
    exact ⟨q1, q2, q3⟩
def sI9 (c : Nat) : Nat → Nat → Prop := fun r o => o = c ∧ (r = 9 ∨ r = 1011 ∨ r = 1012 ∨ r = 1013)
theorem c_X9_emit {G : xG} {T : xT} {O R : xO} {Y : xY} {V : xVV} {I : xII} {J : xJJ} {A : xVV} {w0 : xW} {a : aA} {tk x0 g0 fi ps : Nat} {o i x : Nat} {key bb : Nat} {v : Int32} (P : PX Y V I J A w0 T O R) (H : RepX a tk x0 g0 fi ps Y V I J A) (hp3 : ∀ o, o < a.n → a.p o ≤ 3) (ho : o < a.n) (hi : i < a.p o) (hx : yAt Y 9 (3 * o + i) x) (hl2 : (a.ls o i).length ≤ 2) (hbt : V 9 (3 * o + i) 7 = .int (nI bb)) (hor : a.ls o i = [] ∨ V 9 (3 * o + i) 5 = .int (nI 0)) : xCtr G yX9_emit cX9_emit 3 none 4 84 0 0 [.ref x, .int (nI key), .int v] (T, O, R) (xN (fun T2 O2 R2 => ∃ (V2 : xVV) (I2 : xII), PX Y V2 I2 J A w0 T2 O2 R2 ∧ RepX (a.emit o i (key, v, bb)) tk x0 g0 fi ps Y V2 I2 J A ∧ V2 9 (3 * o + i) 7 = .int (nI bb) ∧ V2 9 (3 * o + i) 5 = .int (nI 0))) := by
  refine xCtr.of (by decide +kernel) (Nat.le_of_ble_eq_true rfl) ?_
  intro Z B E hz hnm
  change xV Z (T, O, R) 0 [(0, .ref x), (1, .int (nI key)), (2, .int v)] [] 0 0
  have hll : (a.ls o i).length ≤ 2 := hl2
  obtain ⟨h0, ⟨⟨pa0, pb0, pc0⟩, ⟨pa5, pb5, pc5⟩, ⟨pa6, pb6, pc6⟩, ⟨pa8, pb8, pc8⟩, ⟨pa9, pb9, pc9⟩, ⟨pa10, pb10, pc10⟩, ⟨pa11, pb11, pc11⟩, ⟨pa12, pb12, pc12⟩, ⟨pa13, pb13, pc13⟩, ⟨pa20, pb20, pc20⟩, ⟨pa21, pb21, pc21⟩, ⟨pa22, pb22, pc22⟩⟩, ⟨nq1, nq2, nq3, nq4⟩, nq7, nq14, nq15, nq16, nq17, nq18, nq19⟩ := H.Si
  obtain ⟨xi, ki⟩ := H.In o ho i hi
  have ei : xi = x := P.fn ki.1 hx
  rw [ei] at ki
  have ⟨i0, ⟨i1, i2⟩, ⟨⟨y1, i3, i4⟩, i5⟩, ⟨⟨y2, i6, i7⟩, i8⟩, ⟨⟨y3, i9, i10⟩, i11⟩, ⟨fm, i12, i13, i14, i15⟩, ⟨bt, i16⟩, i17, ⟨yb, i18, i19⟩, i20, ⟨yv, i21, i22⟩, yz, i23, i24⟩ := ki
  have i25 : V 9 (3 * o + i) 12 = .ref x0 := i23.trans (congrArg Value.ref (P.fn i24 h0))
  obtain ⟨xos, kos⟩ := H.Op o ho
  have ⟨k0s, k1s, k2s, k3s, k4s, k5s, ⟨xks, k6s, k7s⟩, k8s, k9s, k10s, k11s⟩ := kos
  have k1s : yK Y 4 o = a.kd o := k1s
  have k2s : V 4 o 0 = .int (nI (a.kd o)) := k2s
  have k3s : V 4 o 1 = .int (a.pa o) := k3s
  have k4s : V 4 o 2 = .int (a.pb o) := k4s
  have k5s : V 4 o 3 = .int (nI (a.p o)) := k5s
  by_cases hnil : a.ls o i = []
  · have hlen0 : (a.ls o i).length = 0 := by rw [hnil]; rfl
    refine g_aload_n B 0 dX9_emit_0 rfl ?_
    refine x_get B P hx (by decide) rfl F_X9_67_9 (by decide) i12 dX9_emit_1 ?_
    refine g_aload_n B 0 dX9_emit_4 rfl ?_
    refine x_get B P hx (by decide) rfl F_X9_64_9 (by decide) i13 dX9_emit_5 ?_
    refine g_icmp_neN (tgt := 21) B (by omega) (by omega) dX9_emit_8 (by decide) (fun e => absurd (by omega) e) (fun _ => ?_)
    refine g_aload_n B 0 dX9_emit_11 rfl ?_
    refine g_iconst (v := nI 0) B dX9_emit_12 (by decide) ?_
    refine x_put (q := (RX9, TX9, 13)) B P hx (by decide) rfl F_X9_67_9 rfl rfl (tyX9_ok 5 (by decide)) rfl rfl dX9_emit_13 (fun O1 V1 hs1 hk1 P1 => ?_)
    refine g_aload_n B 0 dX9_emit_16 rfl ?_
    refine g_iconst (v := nI 0) B dX9_emit_17 (by decide) ?_
    refine x_put (q := (RX9, TX9, 13)) B P1 hx (by decide) rfl F_X9_64_9 rfl rfl (tyX9_ok 6 (by decide)) rfl rfl dX9_emit_18 (fun O2 V2 hs2 hk2 P2 => ?_)
    refine g_aload_n B 0 dX9_emit_21 rfl ?_
    refine x_get B P2 hx (by decide) rfl F_X9_15_9 (by decide) (rdK hs2 (by decide) (rdK hs1 (by decide) i4)) dX9_emit_22 ?_
    refine g_aload_n B 0 dX9_emit_25 rfl ?_
    refine x_get B P2 hx (by decide) rfl F_X9_64_9 (by decide) (rdS hs2) dX9_emit_26 ?_
    refine g_iload_n B 1 dX9_emit_29 rfl ?_
    refine x_stI B P2 i3 (by decide) rfl i5 (by first | omega | (simp <;> omega)) (by first | omega | (simp <;> omega)) dX9_emit_30 (fun R3 I3 hs3 hk3 P3 => ?_)
    refine g_aload_n B 0 dX9_emit_31 rfl ?_
    refine x_get B P3 hx (by decide) rfl F_X9_19_9 (by decide) (rdK hs2 (by decide) (rdK hs1 (by decide) i7)) dX9_emit_32 ?_
    refine g_aload_n B 0 dX9_emit_35 rfl ?_
    refine x_get B P3 hx (by decide) rfl F_X9_64_9 (by decide) (rdS hs2) dX9_emit_36 ?_
    refine g_iload_n B 2 dX9_emit_39 rfl ?_
    refine x_stI B P3 i6 (by decide) rfl i8 (by first | omega | (simp <;> omega)) (by first | omega | (simp <;> omega)) dX9_emit_40 (fun R4 I4 hs4 hk4 P4 => ?_)
    refine g_aload_n B 0 dX9_emit_41 rfl ?_
    refine x_get B P4 hx (by decide) rfl F_X9_22_9 (by decide) (rdK hs2 (by decide) (rdK hs1 (by decide) i10)) dX9_emit_42 ?_
    refine g_aload_n B 0 dX9_emit_45 rfl ?_
    refine x_get B P4 hx (by decide) rfl F_X9_64_9 (by decide) (rdS hs2) dX9_emit_46 ?_
    refine g_aload_n B 0 dX9_emit_49 rfl ?_
    refine x_get B P4 hx (by decide) rfl F_X9_70_9 (by decide) (rdK hs2 (by decide) (rdK hs1 (by decide) hbt)) dX9_emit_50 ?_
    refine x_stI B P4 i9 (by decide) rfl i11 (by first | omega | (simp <;> omega)) (by first | omega | (simp <;> omega)) dX9_emit_53 (fun R5 I5 hs5 hk5 P5 => ?_)
    refine g_aload_n B 0 dX9_emit_54 rfl ?_
    refine g_dup B dX9_emit_55 rfl ?_
    refine x_get B P5 hx (by decide) rfl F_X9_64_9 (by decide) (rdS hs2) dX9_emit_56 ?_
    refine g_iconst (v := nI 1) B dX9_emit_59 (by decide) ?_
    refine g_iaddN B dX9_emit_60 ?_
    refine x_put (q := (RX9, TX9, 13)) B P5 hx (by decide) rfl F_X9_64_9 rfl rfl (tyX9_ok 6 (by decide)) rfl rfl dX9_emit_61 (fun O6 V6 hs6 hk6 P6 => ?_)
    refine g_aload_n B 0 dX9_emit_64 rfl ?_
    obtain ⟨n7, u7, ty7⟩ := P6.ty hx (by decide) rfl
    have fz : xFr (sI9 (3 * o + i)) Y V I J A Y V6 I5 J A := ((xFr.uV (S := sI9 (3 * o + i)) (r := 9) (o := 3 * o + i) (by unfold sI9; omega) hs1 hk1).tr ((xFr.uV (S := sI9 (3 * o + i)) (r := 9) (o := 3 * o + i) (by unfold sI9; omega) hs2 hk2).tr ((xFr.uI (S := sI9 (3 * o + i)) (r := 1011) (o := 3 * o + i) (by unfold sI9; omega) hs3 hk3).tr ((xFr.uI (S := sI9 (3 * o + i)) (r := 1012) (o := 3 * o + i) (by unfold sI9; omega) hs4 hk4).tr ((xFr.uI (S := sI9 (3 * o + i)) (r := 1013) (o := 3 * o + i) (by unfold sI9; omega) hs5 hk5).tr (xFr.uV (S := sI9 (3 * o + i)) (r := 9) (o := 3 * o + i) (by unfold sI9; omega) hs6 hk6))))))
    have e1 : I5 1011 (3 * o + i) = va_up (I 1011 (3 * o + i)) (0 + (a.ls o i).length) (nI key) := by
      have q0 := (congrFun (hk5 1011 (by decide)) (3 * o + i)).trans ((congrFun (hk4 1011 (by decide)) (3 * o + i)).trans ((congrFun hs3 (3 * o + i)).trans va_ups))
      rw [q0]
      exact congrArg (fun z => va_up (I 1011 (3 * o + i)) z (nI key)) (by rw [hnil]; rfl)
    have e2 : I5 1012 (3 * o + i) = va_up (I 1012 (3 * o + i)) (0 + (a.ls o i).length) (v) := by
      have q0 := (congrFun (hk5 1012 (by decide)) (3 * o + i)).trans ((congrFun hs4 (3 * o + i)).trans va_ups)
      rw [q0]; rw [(hk3 1012 (by decide))]
      exact congrArg (fun z => va_up (I 1012 (3 * o + i)) z (v)) (by rw [hnil]; rfl)
    have e3 : I5 1013 (3 * o + i) = va_up (I 1013 (3 * o + i)) (0 + (a.ls o i).length) (nI bb) := by
      have q0 := (congrFun hs5 (3 * o + i)).trans va_ups
      rw [q0]; rw [((hk4 1013 (by decide)).trans (hk3 1013 (by decide)))]
      exact congrArg (fun z => va_up (I 1013 (3 * o + i)) z (nI bb)) (by rw [hnil]; rfl)
    have kn : xIs Y V6 I5 J o i x (a.ls o i ++ [(key, v, bb)]) (a.sp o i) (a.pt o i) (a.hd o i) := ⟨i0, ⟨(rdK hs6 (by decide) (rdK hs2 (by decide) (rdK hs1 (by decide) i1))), (rdK hs6 (by decide) (rdK hs2 (by decide) (rdK hs1 (by decide) i2)))⟩, ⟨⟨y1, i3, (rdK hs6 (by decide) (rdK hs2 (by decide) (rdK hs1 (by decide) i4)))⟩, i5⟩, ⟨⟨y2, i6, (rdK hs6 (by decide) (rdK hs2 (by decide) (rdK hs1 (by decide) i7)))⟩, i8⟩, ⟨⟨y3, i9, (rdK hs6 (by decide) (rdK hs2 (by decide) (rdK hs1 (by decide) i10)))⟩, i11⟩, ⟨0, (rdK hs6 (by decide) (rdK hs2 (by decide) (rdS hs1))), ((rdS hs6)).trans (congrArg (fun z => Value.int (nI z)) (by rw [hnil]; rfl)), (by rw [hnil]; show 0 + 1 ≤ 3; decide), mRecs_one (c := 0) (by rw [hnil]; exact fun k hk => absurd hk (Nat.not_lt_zero _)) e1 e2 e3⟩, ⟨_, (rdK hs6 (by decide) (rdK hs2 (by decide) (rdK hs1 (by decide) hbt)))⟩, (rdK hs6 (by decide) (rdK hs2 (by decide) (rdK hs1 (by decide) i17))), ⟨yb, (rdK hs6 (by decide) (rdK hs2 (by decide) (rdK hs1 (by decide) i18))), i19.fr fz (fun e => by unfold sI9 at e; omega) (fun e => by unfold sI9 at e; omega)⟩, (rdK hs6 (by decide) (rdK hs2 (by decide) (rdK hs1 (by decide) i20))), ⟨yv, (rdK hs6 (by decide) (rdK hs2 (by decide) (rdK hs1 (by decide) i21))), i22⟩, x0, (rdK hs6 (by decide) (rdK hs2 (by decide) (rdK hs1 (by decide) i25))), h0⟩
    have H1 : RepX (a.w_ls (up2 a.ls o i (a.ls o i ++ [(key, v, bb)]))) tk x0 g0 fi ps Y V6 I5 J A := H.w_ls (q := up2 a.ls o i (a.ls o i ++ [(key, v, bb)])) fz (fun r o e => by unfold sI9 at e; unfold gIn; omega) (H.In.one (o := o) (i := i) fz (fun r c e _ => by unfold sI9 at e; exact e.1) hp3 (by have := hp3 o ho; omega) (fun x y hn => ⟨up2_n hn, rfl, rfl, rfl⟩) ⟨x, by rw [up2_s]; exact kn⟩)
    obtain ⟨b, hb⟩ : ∃ b, b = a.w_ls (up2 a.ls o i (a.ls o i ++ [(key, v, bb)])) := ⟨_, rfl⟩
    rw [← hb] at H1
    have bn : b.n = a.n := by rw [hb]; rfl
    have bpo : b.p o = a.p o := by rw [hb]; rfl
    have bop : b.op o = a.op o := by rw [hb]; rfl
    have bst : b.stt = a.stt := by rw [hb]; rfl
    have hf0 := (rdK hs6 (by decide) (rdK hs2 (by decide) (rdS hs1)))
    have hf7 := (rdK hs6 (by decide) (rdK hs2 (by decide) (rdK hs1 (by decide) hbt)))
    have ko2 := kos.fr fz (fun e => by unfold sI9 at e; omega)
    refine g_callV (rest := []) B M_X9_self q1391 q1393 qs26 ty7 rfl (c_X9_self P6 H1 (by rw [bn]; exact ho) (by rw [bpo]; exact hi) hx k0s) rfl rfl (Nat.le_of_ble_eq_true rfl) (Nat.le_of_ble_eq_true rfl) (Nat.le_of_ble_eq_true rfl) (Nat.le_refl _) (Nat.le_refl _) dX9_emit_65 (xkA (fun v7 T7 O7 R7 le7 p7 => ?_))
    obtain ⟨rfl, eT7, eO7, eR7⟩ := p7
    obtain rfl := eT7.symm
    obtain rfl := eO7.symm
    obtain rfl := eR7.symm
    refine g_dup B dX9_emit_68 rfl ?_
    refine x_get B P6 k0s (by decide) rfl (FO_X9_77 _) (by decide) ko2.2.2.2.2.2.2.2.2.1 dX9_emit_69 ?_
    refine g_iconst (v := nI 1) B dX9_emit_72 (by decide) ?_
    refine g_iadd B dX9_emit_73 ?_
    obtain ⟨q8, hq8, hf8, ht8⟩ := opQ (yK Y 4 o) 6 (by decide)
    refine x_put B P6 k0s (by decide) rfl (FO_X9_77 _) hq8 hf8 ht8 rfl rfl dX9_emit_74 (fun O8 V8 hs8 hk8 P8 => ?_)
    refine g_vret B E rfl dX9_emit_77 ?_
    have H2 : RepX (b.inc 1 o) tk x0 g0 fi ps Y V8 I5 J A := H1.incr (k := 1) (xo := xos) (by decide) (by rw [bop, bst]; exact ko2) (by rw [bst]; exact hs8) hk8
    exact ⟨rfl, _, _, P8, (by rw [hb] at H2; exact H2), rdR hk8 (by decide) hf7, rdR hk8 (by decide) hf0⟩
  · have hz0 : V 9 (3 * o + i) 5 = .int (nI 0) := by rcases hor with q | q; exact absurd q hnil; exact q
    have hf5 : fm = 0 := by
      have q := i12.symm.trans hz0; injection q with q; exact (nI_eq (by omega) (by decide)).mp q
    have hlen0 : (a.ls o i).length ≠ 0 := fun e => hnil (List.eq_nil_of_length_eq_zero e)
    refine g_aload_n B 0 dX9_emit_0 rfl ?_
    refine x_get B P hx (by decide) rfl F_X9_67_9 (by decide) i12 dX9_emit_1 ?_
    refine g_aload_n B 0 dX9_emit_4 rfl ?_
    refine x_get B P hx (by decide) rfl F_X9_64_9 (by decide) i13 dX9_emit_5 ?_
    refine g_icmp_neN (tgt := 21) B (by omega) (by omega) dX9_emit_8 (by decide) (fun _ => ?_) (fun e => absurd e (by omega))
    refine g_aload_n B 0 dX9_emit_21 rfl ?_
    refine x_get B P hx (by decide) rfl F_X9_15_9 (by decide) i4 dX9_emit_22 ?_
    refine g_aload_n B 0 dX9_emit_25 rfl ?_
    refine x_get B P hx (by decide) rfl F_X9_64_9 (by decide) i13 dX9_emit_26 ?_
    refine g_iload_n B 1 dX9_emit_29 rfl ?_
    refine x_stI B P i3 (by decide) rfl i5 (by first | omega | (simp <;> omega)) (by first | omega | (simp <;> omega)) dX9_emit_30 (fun R9 I9 hs9 hk9 P9 => ?_)
    refine g_aload_n B 0 dX9_emit_31 rfl ?_
    refine x_get B P9 hx (by decide) rfl F_X9_19_9 (by decide) i7 dX9_emit_32 ?_
    refine g_aload_n B 0 dX9_emit_35 rfl ?_
    refine x_get B P9 hx (by decide) rfl F_X9_64_9 (by decide) i13 dX9_emit_36 ?_
    refine g_iload_n B 2 dX9_emit_39 rfl ?_
    refine x_stI B P9 i6 (by decide) rfl i8 (by first | omega | (simp <;> omega)) (by first | omega | (simp <;> omega)) dX9_emit_40 (fun R10 I10 hs10 hk10 P10 => ?_)
    refine g_aload_n B 0 dX9_emit_41 rfl ?_
    refine x_get B P10 hx (by decide) rfl F_X9_22_9 (by decide) i10 dX9_emit_42 ?_
    refine g_aload_n B 0 dX9_emit_45 rfl ?_
    refine x_get B P10 hx (by decide) rfl F_X9_64_9 (by decide) i13 dX9_emit_46 ?_
    refine g_aload_n B 0 dX9_emit_49 rfl ?_
    refine x_get B P10 hx (by decide) rfl F_X9_70_9 (by decide) hbt dX9_emit_50 ?_
    refine x_stI B P10 i9 (by decide) rfl i11 (by first | omega | (simp <;> omega)) (by first | omega | (simp <;> omega)) dX9_emit_53 (fun R11 I11 hs11 hk11 P11 => ?_)
    refine g_aload_n B 0 dX9_emit_54 rfl ?_
    refine g_dup B dX9_emit_55 rfl ?_
    refine x_get B P11 hx (by decide) rfl F_X9_64_9 (by decide) i13 dX9_emit_56 ?_
    refine g_iconst (v := nI 1) B dX9_emit_59 (by decide) ?_
    refine g_iaddN B dX9_emit_60 ?_
    refine x_put (q := (RX9, TX9, 13)) B P11 hx (by decide) rfl F_X9_64_9 rfl rfl (tyX9_ok 6 (by decide)) rfl rfl dX9_emit_61 (fun O12 V12 hs12 hk12 P12 => ?_)
    refine g_aload_n B 0 dX9_emit_64 rfl ?_
    obtain ⟨n13, u13, ty13⟩ := P12.ty hx (by decide) rfl
    have fz : xFr (sI9 (3 * o + i)) Y V I J A Y V12 I11 J A := ((xFr.uI (S := sI9 (3 * o + i)) (r := 1011) (o := 3 * o + i) (by unfold sI9; omega) hs9 hk9).tr ((xFr.uI (S := sI9 (3 * o + i)) (r := 1012) (o := 3 * o + i) (by unfold sI9; omega) hs10 hk10).tr ((xFr.uI (S := sI9 (3 * o + i)) (r := 1013) (o := 3 * o + i) (by unfold sI9; omega) hs11 hk11).tr (xFr.uV (S := sI9 (3 * o + i)) (r := 9) (o := 3 * o + i) (by unfold sI9; omega) hs12 hk12))))
    have e1 : I11 1011 (3 * o + i) = va_up (I 1011 (3 * o + i)) (fm + (a.ls o i).length) (nI key) := by
      have q0 := (congrFun (hk11 1011 (by decide)) (3 * o + i)).trans ((congrFun (hk10 1011 (by decide)) (3 * o + i)).trans ((congrFun hs9 (3 * o + i)).trans va_ups))
      rw [q0]
    have e2 : I11 1012 (3 * o + i) = va_up (I 1012 (3 * o + i)) (fm + (a.ls o i).length) (v) := by
      have q0 := (congrFun (hk11 1012 (by decide)) (3 * o + i)).trans ((congrFun hs10 (3 * o + i)).trans va_ups)
      rw [q0]; rw [(hk9 1012 (by decide))]
    have e3 : I11 1013 (3 * o + i) = va_up (I 1013 (3 * o + i)) (fm + (a.ls o i).length) (nI bb) := by
      have q0 := (congrFun hs11 (3 * o + i)).trans va_ups
      rw [q0]; rw [((hk10 1013 (by decide)).trans (hk9 1013 (by decide)))]
    have kn : xIs Y V12 I11 J o i x (a.ls o i ++ [(key, v, bb)]) (a.sp o i) (a.pt o i) (a.hd o i) := ⟨i0, ⟨(rdK hs12 (by decide) i1), (rdK hs12 (by decide) i2)⟩, ⟨⟨y1, i3, (rdK hs12 (by decide) i4)⟩, i5⟩, ⟨⟨y2, i6, (rdK hs12 (by decide) i7)⟩, i8⟩, ⟨⟨y3, i9, (rdK hs12 (by decide) i10)⟩, i11⟩, ⟨fm, (rdK hs12 (by decide) i12), ((rdS hs12)).trans (congrArg (fun z => Value.int (nI z)) (by simp <;> omega)), (by simp; omega), mRecs_one (c := 0) i15 e1 e2 e3⟩, ⟨_, (rdK hs12 (by decide) hbt)⟩, (rdK hs12 (by decide) i17), ⟨yb, (rdK hs12 (by decide) i18), i19.fr fz (fun e => by unfold sI9 at e; omega) (fun e => by unfold sI9 at e; omega)⟩, (rdK hs12 (by decide) i20), ⟨yv, (rdK hs12 (by decide) i21), i22⟩, x0, (rdK hs12 (by decide) i25), h0⟩
    have H1 : RepX (a.w_ls (up2 a.ls o i (a.ls o i ++ [(key, v, bb)]))) tk x0 g0 fi ps Y V12 I11 J A := H.w_ls (q := up2 a.ls o i (a.ls o i ++ [(key, v, bb)])) fz (fun r o e => by unfold sI9 at e; unfold gIn; omega) (H.In.one (o := o) (i := i) fz (fun r c e _ => by unfold sI9 at e; exact e.1) hp3 (by have := hp3 o ho; omega) (fun x y hn => ⟨up2_n hn, rfl, rfl, rfl⟩) ⟨x, by rw [up2_s]; exact kn⟩)
    obtain ⟨b, hb⟩ : ∃ b, b = a.w_ls (up2 a.ls o i (a.ls o i ++ [(key, v, bb)])) := ⟨_, rfl⟩
    rw [← hb] at H1
    have bn : b.n = a.n := by rw [hb]; rfl
    have bpo : b.p o = a.p o := by rw [hb]; rfl
    have bop : b.op o = a.op o := by rw [hb]; rfl
    have bst : b.stt = a.stt := by rw [hb]; rfl
    have hf0 := (rdK hs12 (by decide) i12)
    have hf7 := (rdK hs12 (by decide) hbt)
    rw [hf5] at hf0
    have ko2 := kos.fr fz (fun e => by unfold sI9 at e; omega)
    refine g_callV (rest := []) B M_X9_self q1391 q1393 qs26 ty13 rfl (c_X9_self P12 H1 (by rw [bn]; exact ho) (by rw [bpo]; exact hi) hx k0s) rfl rfl (Nat.le_of_ble_eq_true rfl) (Nat.le_of_ble_eq_true rfl) (Nat.le_of_ble_eq_true rfl) (Nat.le_refl _) (Nat.le_refl _) dX9_emit_65 (xkA (fun v13 T13 O13 R13 le13 p13 => ?_))
    obtain ⟨rfl, eT13, eO13, eR13⟩ := p13
    obtain rfl := eT13.symm
    obtain rfl := eO13.symm
    obtain rfl := eR13.symm
    refine g_dup B dX9_emit_68 rfl ?_
    refine x_get B P12 k0s (by decide) rfl (FO_X9_77 _) (by decide) ko2.2.2.2.2.2.2.2.2.1 dX9_emit_69 ?_
    refine g_iconst (v := nI 1) B dX9_emit_72 (by decide) ?_
    refine g_iadd B dX9_emit_73 ?_
    obtain ⟨q14, hq14, hf14, ht14⟩ := opQ (yK Y 4 o) 6 (by decide)
    refine x_put B P12 k0s (by decide) rfl (FO_X9_77 _) hq14 hf14 ht14 rfl rfl dX9_emit_74 (fun O14 V14 hs14 hk14 P14 => ?_)
    refine g_vret B E rfl dX9_emit_77 ?_
    have H2 : RepX (b.inc 1 o) tk x0 g0 fi ps Y V14 I11 J A := H1.incr (k := 1) (xo := xos) (by decide) (by rw [bop, bst]; exact ko2) (by rw [bst]; exact hs14) hk14
    exact ⟨rfl, _, _, P14, (by rw [hb] at H2; exact H2), rdR hk14 (by decide) hf7, rdR hk14 (by decide) hf0⟩
