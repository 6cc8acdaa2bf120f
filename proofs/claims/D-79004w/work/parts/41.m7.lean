set_option maxRecDepth 100000
theorem RMst.up {s : Nat → Nat → Nat → Option (Int32 × Int32)} {fh f1 f2 gh g1 g2 : Nat → Int32} {o key : Nat} {x : Option (Int32 × Int32)} (h : RMst (s 0) fh f1 f2) (hk : key < 16) (e : ∀ y, y ≠ 16 * o + key → gh y = fh y ∧ g1 y = f1 y ∧ g2 y = f2 y) (eh : gh (16 * o + key) = bI x.isSome) (ev : x.isSome = true → g1 (16 * o + key) = (x.getD (0, 0)).1 ∧ g2 (16 * o + key) = (x.getD (0, 0)).2) : RMst (up3 s 0 o key x 0) gh g1 g2 := fun o1 h1 k1 h2 => by
  by_cases hh : o1 = o ∧ k1 = key
  · obtain ⟨rfl, rfl⟩ := hh
    rw [up3_s]
    exact ⟨eh, ev⟩
  · rw [up3_n (fun c => hh c.2)]
    obtain ⟨e1, e2, e3⟩ := e (16 * o1 + k1) (by omega)
    rw [e1, e2, e3]
    exact h o1 h1 k1 h2
theorem RepM.views {a b : aA} {sc : Nat → Int32} {ar : Nat → Nat → Int32} (H : RepM b sc ar) (S : sSt b a) : RMtxt a.txt (sc 1) (ar 0) ∧ RMop a.n a.op (sc 2) (ar 3) (ar 4) (ar 5) (ar 6) ∧ RMinp a.inp (sc 13) (ar 11) (ar 12) ∧ ((sc 7 = nI (a.cf 0) ∧ sc 8 = nI (a.cf 1) ∧ sc 9 = nI (a.cf 2) ∧ sc 10 = nI (a.cf 3)) ∧ (sc 14 = nI (b.of 0) ∧ (0 < b.nm 2 → sc 36 = nI (b.of 1)) ∧ sc 37 = nI (b.of 2)) ∧ sc 15 = nI (a.nm 0) ∧ sc 16 = nI (b.nm 1) ∧ sc 17 = nI (b.nm 2) ∧ sc 38 = nI (b.nm 3) ∧ sc 18 = a.fl ∧ sc 19 = nI (a.nm 4)) ∧ RMstt b.stt ar ∧
  (RMst (b.st 0) (ar 24) (ar 27) (ar 30) ∧ (0 < b.nm 2 → RMst (b.st 1) (ar 25) (ar 28) (ar 31)) ∧ RMst (b.st 2) (ar 26) (ar 29) (ar 32)) ∧
  (RMct (b.ct 0) (ar 33) ∧ RMct (b.ct 1) (ar 34) ∧ RMct (b.ct 2) (ar 35)) ∧
  RMls b.ls (ar 39) (ar 40) (ar 41) (ar 42) ∧ RMsp b.sp (ar 43) ∧ RMct b.pt (ar 44) ∧ RMhd b.hd (ar 45) ∧ RMch b.ch ar ∧
  RMex a.ex (sc 77) (ar 75) (ar 76) ∧ RMtxt a.wr (sc 80) (ar 79) := by
  obtain ⟨Htxt, Hop, Hinp, ⟨⟨n7, n8, n9, n10⟩, n14, n15, n16, n17, n38, n18, n19⟩, Hr⟩ := H
  obtain ⟨S1, S2, S3, S4, S5, S6, S7, S8, S9, S10⟩ := S
  obtain ⟨r1, r2, r3, r4, r5, r6, r7, r8, r9, r10⟩ := Hr
  refine ⟨S4 ▸ Htxt, ?_, S3 ▸ Hinp, ⟨S2 ▸ ⟨n7, n8, n9, n10⟩, n14, S5 ▸ n15, n16, n17, n38, S8 ▸ n18, S6 ▸ n19⟩, r1, r2, r3, r4, r5, r6, r7, r8, S9 ▸ r9, S10 ▸ r10⟩
  unfold aA.n
  rw [← S1, ← S7]
  exact Hop
theorem RepM.wf_ls {B : Nat} {a : aA} (W : WF B a) : ∀ x, x < 6 → ∀ y, y < 3 → (a.ls x y).length ≤ 3 := fun x _ y _ => (W.ls x y).1
/-- places of an instance -/
theorem WF.o6 {B : Nat} {a : aA} (W : WF B a) {o : Nat} (ho : o < a.n) : o < 6 := by have := W.n6; omega
theorem WF.i3 {B : Nat} {a : aA} (W : WF B a) {o i : Nat} (ho : o < a.n) (hi : i < a.p o) : i < 3 := by have := (W.p1 o ho).2; omega
theorem RMst.up31 {s : Nat → Nat → Nat → Option (Int32 × Int32)} {o key : Nat} {x : Option (Int32 × Int32)} : up3 s 0 o key x 1 = s 1 := by
  funext a b; exact up3_n (fun c => by omega)
theorem RMst.up32 {s : Nat → Nat → Nat → Option (Int32 × Int32)} {o key : Nat} {x : Option (Int32 × Int32)} : up3 s 0 o key x 2 = s 2 := by
  funext a b; exact up3_n (fun c => by omega)
theorem take_s {α : Type} {l : List α} {x : Nat} (d : α) (h : x < l.length) : l.take (x + 1) = l.take x ++ [l.getD x d] := by
  rw [List.take_add_one, List.getElem?_eq_getElem h, List.getD_eq_getElem?_getD, List.getElem?_eq_getElem h]; rfl
theorem aA.emits_len (o i b : Nat) (l : List (Nat × Int32)) (a : aA) : ((aA.emits o i b l a).ls o i).length = (a.ls o i).length + l.length := by
  induction l generalizing a with
  | nil => rfl
  | cons y l ih =>
    have := ih (a.emit o i (y.1, y.2, b))
    have e : ((a.emit o i (y.1, y.2, b)).ls o i) = a.ls o i ++ [(y.1, y.2, b)] := up2_s
    rw [e, List.length_append] at this
    rw [List.length_cons]
    exact this.trans (by rw [List.length_singleton]; omega)
/-- the state that a record leads to, put in -/
theorem WF.takeSt {B : Nat} {a : aA} (h : WF B a) {o key : Nat} (ho : o < a.n) (hk : key < 16) (v : Int32) : WF B ((a.inc 0 o).w_st (up3 a.st 0 o key (aProc (a.kd o) (a.pa o) (a.pb o) (a.st 0 o key) key v).2)) := by
  have hs := aProc_st (pb := a.pb o) (key := key) (v := v) (h.st 0 o key) (h.kd8 ho)
  exact ⟨h.n2, h.n6, h.p1, h.p0, h.k0, h.kl, h.km, h.k3, h.kr, h.cf, h.inp, h.inpk, h.ofs, h.nms, h.ls, h.lsu, h.ch, h.chu, h.ct, h.ctl, up3_P (P := fun _ x _ s => stOk (a.kd x) (a.pa x) s) h.st hs, up3_P (P := fun _ x key s => ¬ (x < a.n ∧ key < 16) → s = none) h.stu (fun c => absurd ⟨ho, hk⟩ c), h.pt, h.hdu, h.spu, h.bg⟩
theorem WF.outs {B : Nat} {a : aA} (h : WF B a) {o : Nat} (ho : o < a.n) {s : Option (Int32 × Int32)} {key : Nat} {v : Int32} (hx : 0 < (aProc (a.kd o) (a.pa o) (a.pb o) s key v).1.length) : o + 1 < a.n := by
  rcases Nat.lt_or_ge (o + 1) a.n with e | e
  · exact e
  · rw [show o = a.n - 1 by omega, h.kl, aProc_8] at hx
    exact absurd hx (Nat.lt_irrefl 0)
theorem RepM.takeSt {a : aA} {o key : Nat} {sc sc2 : Nat → Int32} {ar ar2 : Nat → Nat → Int32} (H1 : RepM (a.inc 0 o) sc ar) (hk : key < 16) {q : List (Nat × Int32) × Option (Int32 × Int32)} (m : mProcOk q 24 27 30 (16 * o + key) sc ar sc2 ar2) : RepM ((a.inc 0 o).w_st (up3 a.st 0 o key q.2)) sc2 ar2 := by
  obtain ⟨m1, m2, m3, m4, m5, m6, m7, m8⟩ := m
  have H2 : RepM (a.inc 0 o) sc2 ar := H1.scj (fun k hk => m3 k (fun e => hk (by unfold jS; omega)))
  refine H2.st (s := up3 a.st 0 o key q.2) (fun k hk hj => m5 k (by unfold jA at hj; omega) (by unfold jA at hj; omega) (by omega) (by omega) (by omega)) (RMst.up H1.2.2.2.2.2.1.1 hk m6 m7 m8) ?_ ?_
  · rw [m5 25 (by decide) (by decide) (by decide) (by decide) (by decide), m5 28 (by decide) (by decide) (by decide) (by decide) (by decide), m5 31 (by decide) (by decide) (by decide) (by decide) (by decide), RMst.up31]
    exact H1.2.2.2.2.2.1.2.1
  · rw [m5 26 (by decide) (by decide) (by decide) (by decide) (by decide), m5 29 (by decide) (by decide) (by decide) (by decide) (by decide), m5 32 (by decide) (by decide) (by decide) (by decide) (by decide), RMst.up32]
    exact H1.2.2.2.2.2.1.2.2
theorem c_M_takesIn {G : xG} {T : xT} {O R : xO} {m : Nat} {ad : Nat → Nat} {sc : Nat → Int32} {ar : Nat → Nat → Int32} {Bd : Nat} {o i : Nat} {r : aRec} (P : PM m ad O R sc ar T O R) {a : aA} (H : RepM a sc ar) (W : WF Bd a) (h0 : 0 < o) (ho : o < a.n) (hi : i < a.p o) (hr : rOk a.tk r) (hls : a.ls o i = []) (ht : a.tk ≤ 40000) : xCtr G yX12_takesIn cX12_takesIn 7 none 2 51 0 0 [.ref m, .int (nI o), .int (nI i), .int (nI r.1), .int r.2.1, .int (nI r.2.2)] (T, O, R) (xN (mPostN m ad T O R (fun sc2 ar2 => RepM (a.takeIn o i r) sc2 ar2))) := by
  have hR := H
  obtain ⟨Htxt, Hop, Hinp, Hnm, Hstt, ⟨Hs0, Hs1, Hs2⟩, ⟨Hc0, Hc1, Hc2⟩, Hls, Hsp, Hpt, Hhd, Hch, Hex, Hwr⟩ := H
  have hn2 := W.n2
  have hn6 := W.n6
  have hp3 := (W.p1 o ho).2
  have hi3 : i < 3 := by omega
  have hr2 : r.2.2 < a.nm 0 := hr.2
  have hr1 := hr.1
  have ht2 : a.nm 0 ≤ 40000 := ht
  refine xCtr.of (by decide +kernel) (Nat.le_of_ble_eq_true rfl) ?_
  intro Z B E hz hnm
  change xV Z (T, O, R) 0 [(0, .ref m), (1, .int (nI o)), (2, .int (nI i)), (3, .int (nI r.1)), (4, .int r.2.1), (5, .int (nI r.2.2))] [] 0 0
  refine g_aload_n B 0 dX12_takesIn_0 rfl ?_
  refine m_geta B P F_X12_44_12 (by decide) (Or.inl rfl) dX12_takesIn_1 ?_
  refine g_iload_n B 1 dX12_takesIn_4 rfl ?_
  refine g_dup2 B dX12_takesIn_5 rfl rfl ?_
  refine m_ld B P (by decide) rfl rfl (by show _ < 6; omega) (by decide) (show _ = (a.stt 0 o) from (Hstt 0 (by decide) o (by omega))) dX12_takesIn_6 ?_
  refine g_iconst (v := nI 1) B dX12_takesIn_7 (by decide) ?_
  refine g_iadd B dX12_takesIn_8 ?_
  refine m_st B P (by decide) rfl rfl (by show _ < 6; omega) (by decide) dX12_takesIn_9 (fun R1 ar1 hs1 hk1 P1 => ?_)
  refine g_aload_n B 0 dX12_takesIn_10 rfl ?_
  refine g_iload_n B 1 dX12_takesIn_11 rfl ?_
  refine g_iload_n B 3 dX12_takesIn_12 rfl ?_
  refine g_iload B 4 dX12_takesIn_13 rfl ?_
  refine g_aload_n B 0 dX12_takesIn_15 rfl ?_
  refine m_geta B P1 F_X12_56_12 (by decide) (Or.inr rfl) dX12_takesIn_16 ?_
  refine g_aload_n B 0 dX12_takesIn_19 rfl ?_
  refine m_geta B P1 F_X12_66_12 (by decide) (Or.inl rfl) dX12_takesIn_20 ?_
  refine g_aload_n B 0 dX12_takesIn_23 rfl ?_
  refine m_geta B P1 F_X12_75_12 (by decide) (Or.inl rfl) dX12_takesIn_24 ?_
  have e20 : ar1 20 = va_up (ar 20) o ((a.stt 0 o) + (nI 1)) := hs1
  have H1 : RepM (a.inc 0 o) sc ar1 := hR.stt (fun k hk _ => hk1 k (by omega)) (RMstt.up Hstt (q := 0) (by decide) (e20.trans (congrArg (fun x => va_up (ar 20) o x) rfl)) (fun k hk => hk1 k hk))
  have hst := H1.2.2.2.2.2.1.1 o (by omega) r.1 hr.1
  refine g_callV (rest := []) B M_X12_processes q2814 q2816 qs87 (P1.1.choose_spec.choose_spec) rfl (c_M_proc24 (a := a.inc 0 o) (o := o) (key := r.1) (v := r.2.1) (s := a.st 0 o r.1) P1.self H1 ho hn6 hr.1 ((W.st 0 o r.1).pOk (W.kd8 ho) (W.kd7 ho h0) (W.k3 o ho)) hst) rfl rfl (Nat.le_of_ble_eq_true rfl) (Nat.le_of_ble_eq_true rfl) (Nat.le_of_ble_eq_true rfl) (Nat.le_refl _) (Nat.le_refl _) dX12_takesIn_27 (xkN (fun T2 O2 R2 le2 p2 => ?_))
  obtain ⟨eT2, sc2, ar2, Q2, mp2⟩ := p2
  obtain rfl := eT2.symm
  have P2 := P1.rebase Q2
  have hq := aProc_out (k := a.kd o) (pa := a.pa o) (pb := a.pb o) (s := a.st 0 o r.1) (key := r.1) (v := r.2.1) hr.1 (W.k3 o ho)
  have mp : mProcOk (aProc (a.kd o) (a.pa o) (a.pb o) (a.st 0 o r.1) r.1 r.2.1) 24 27 30 (16 * o + r.1) sc ar1 sc2 ar2 := mp2
  clear mp2
  have H2 : RepM ((a.inc 0 o).w_st (up3 a.st 0 o r.1 (aProc (a.kd o) (a.pa o) (a.pb o) (a.st 0 o r.1) r.1 r.2.1).2)) sc2 ar2 := RepM.takeSt H1 hr.1 mp
  have W2 : WF Bd ((a.inc 0 o).w_st (up3 a.st 0 o r.1 (aProc (a.kd o) (a.pa o) (a.pb o) (a.st 0 o r.1) r.1 r.2.1).2)) := W.takeSt ho hr.1 r.2.1
  obtain ⟨m1, m2, m3, m4, m5, m6, m7, m8⟩ := mp
  refine g_iconst (v := nI 0) B dX12_takesIn_30 (by decide) ?_
  refine g_istore (lv2 := [(6, _), (0, _), (1, _), (2, _), (3, _), (4, _), (5, _)]) B dX12_takesIn_31 (by decide) rfl ?_
  have L : ∀ (d x : Nat) (O1 R1 : xO) (sc1 : Nat → Int32) (ar1 : Nat → Nat → Int32), d = (aProc (a.kd o) (a.pa o) (a.pb o) (a.st 0 o r.1) r.1 r.2.1).1.length - x → x ≤ (aProc (a.kd o) (a.pa o) (a.pb o) (a.st 0 o r.1) r.1 r.2.1).1.length → PM m ad O R sc1 ar1 T O1 R1 → (RepM (aA.emits o i r.2.2 ((aProc (a.kd o) (a.pa o) (a.pb o) (a.st 0 o r.1) r.1 r.2.1).1.take x) ((a.inc 0 o).w_st (up3 a.st 0 o r.1 (aProc (a.kd o) (a.pa o) (a.pb o) (a.st 0 o r.1) r.1 r.2.1).2))) sc1 ar1) → (sc1 = sc2) → (∀ k, 60 ≤ k → ar1 k = ar2 k) → xV Z (T, O1, R1) 33 [(6, .int (nI x)), (0, .ref m), (1, .int (nI o)), (2, .int (nI i)), (3, .int (nI r.1)), (4, .int r.2.1), (5, .int (nI r.2.2))] [] 0 0 := by
    intro d
    induction d using Nat.strongRecOn with
    | _ d ih =>
      intro x O1 R1 sc1 ar1 hd hx P1 i1 i2 i3
      refine g_iload B 0 dX12_takesIn_33 rfl ?_
      refine g_aload_n B 1 dX12_takesIn_35 rfl ?_
      refine m_get B P1 F_X12_291_12 (by decide) (Or.inl rfl) (show _ = (nI ((aProc (a.kd o) (a.pa o) (a.pb o) (a.st 0 o r.1) r.1 r.2.1).1.length)) from ((congrFun i2 68).trans m1)) dX12_takesIn_36 ?_
      refine g_icmp_geN (tgt := 70) B (by omega) (by omega) dX12_takesIn_39 (by decide) (fun c61 => ?_) (fun c61 => ?_)
      · have H3 : RepM (a.takeIn o i r) sc1 ar1 := by have h3 := i1; rw [List.take_of_length_le (by omega)] at h3; exact h3
        obtain ⟨Htxt, Hop, Hinp, Hnm, Hstt, ⟨Hs0, Hs1, Hs2⟩, ⟨Hc0, Hc1, Hc2⟩, Hls, Hsp, Hpt, Hhd, Hch, Hex, Hwr⟩ := H3.views (sSt.takeIn a o i r)
        refine g_iload_n B 2 dX12_takesIn_70 rfl ?_
        refine g_aload_n B 1 dX12_takesIn_71 rfl ?_
        refine g_callV (rest := [_]) B M_X12_sink q2732 q2734 qs68 (P1.1.choose_spec.choose_spec) rfl (c_M_sink P1.self Hop.1) rfl rfl (Nat.le_of_ble_eq_true rfl) (Nat.le_of_ble_eq_true rfl) (Nat.le_of_ble_eq_true rfl) (Nat.le_refl _) (Nat.le_refl _) dX12_takesIn_72 (xkA (fun v62 T62 O62 R62 le62 p62 => ?_))
        obtain ⟨rfl, eT62, eO62, eR62⟩ := p62
        obtain rfl := eT62.symm
        obtain rfl := eO62.symm
        obtain rfl := eR62.symm
        refine g_icmp_geN (tgt := 79) B (by omega) (by omega) dX12_takesIn_75 (by decide) (fun c63 => ?_) (fun c63 => ?_)
        · refine g_aload_n B 1 dX12_takesIn_79 rfl ?_
          refine m_geta B P1 F_X12_148_12 (by decide) (Or.inl rfl) dX12_takesIn_80 ?_
          refine g_aload_n B 1 dX12_takesIn_83 rfl ?_
          refine m_get B P1 F_X12_243_12 (by decide) (Or.inl rfl) (show _ = (nI (a.nm 0)) from Hnm.2.2.1) dX12_takesIn_84 ?_
          refine g_iconst (v := nI 1) B dX12_takesIn_87 (by decide) ?_
          refine g_isubN B (by omega) dX12_takesIn_88 ?_
          refine g_iload B 6 dX12_takesIn_89 rfl ?_
          refine g_isubN B (by omega) dX12_takesIn_91 ?_
          refine g_dup2 B dX12_takesIn_92 rfl rfl ?_
          refine m_ld B P1 (by decide) rfl rfl (by show _ < 40000; omega) (by decide) rfl dX12_takesIn_93 ?_
          refine g_iconst (v := nI 1) B dX12_takesIn_94 (by decide) ?_
          refine g_iadd B dX12_takesIn_95 ?_
          refine m_st B P1 (by decide) rfl rfl (by show _ < 40000; omega) (by decide) dX12_takesIn_96 (fun R64 ar64 hs64 hk64 P64 => ?_)
          refine g_aload_n B 1 dX12_takesIn_97 rfl ?_
          refine g_dup B dX12_takesIn_98 rfl ?_
          refine m_get B P64 F_X12_246_12 (by decide) (Or.inl rfl) rfl dX12_takesIn_99 ?_
          refine g_iconst (v := nI 1) B dX12_takesIn_102 (by decide) ?_
          refine g_iadd B dX12_takesIn_103 ?_
          refine m_put B P64 F_X12_246_12 (by decide) (Or.inl rfl) rfl rfl rfl dX12_takesIn_104 (fun O65 sc65 hs65 hk65 P65 => ?_)
          refine g_aload_n B 1 dX12_takesIn_107 rfl ?_
          refine g_dup B dX12_takesIn_108 rfl ?_
          refine m_getL B P65 F_X12_249_12 dX12_takesIn_109 (fun x66 => ?_)
          refine g_aload_n B 1 dX12_takesIn_112 rfl ?_
          refine m_get B P65 F_X12_243_12 (by decide) (Or.inl rfl) (show _ = (nI (a.nm 0)) from ((hk65 15 (by decide)).trans Hnm.2.2.1)) dX12_takesIn_113 ?_
          refine g_iconst (v := nI 1) B dX12_takesIn_116 (by decide) ?_
          refine g_isubN B (by omega) dX12_takesIn_117 ?_
          refine g_iload B 6 dX12_takesIn_118 rfl ?_
          refine g_isubN B (by omega) dX12_takesIn_120 ?_
          refine g_i2l B dX12_takesIn_121 rfl ?_
          refine g_ladd B dX12_takesIn_122 ?_
          refine m_putL B P65 F_X12_249_12 dX12_takesIn_123 (fun O67 P67 => ?_)
          refine g_vret B E rfl dX12_takesIn_126 ?_
          exact ⟨rfl, rfl, _, _, P67, (H3.scj (fun k hk => hk65 k (fun e => hk (by unfold jS; omega)))).junk (fun k _ hk => hk64 k (fun e => hk (by unfold jA; omega)))⟩
        · refine g_vret B E rfl dX12_takesIn_78 ?_
          exact ⟨rfl, rfl, _, _, P1, H3⟩
      · have hlt : ((aProc (a.kd o) (a.pa o) (a.pb o) (a.st 0 o r.1) r.1 r.2.1).1.take x).length = x := by rw [List.length_take]; omega
        have hon : o + 1 < a.n := W.outs ho (s := a.st 0 o r.1) (key := r.1) (v := r.2.1) (by omega)
        have hl0 : (a.ls o i).length = 0 := by rw [hls]; rfl
        have W3 := WF.emits (o := o) (i := i) (b := r.2.2) ((aProc (a.kd o) (a.pa o) (a.pb o) (a.st 0 o r.1) r.1 r.2.1).1.take x) W2 hon hi (by show (a.ls o i).length + _ ≤ 3; omega) (fun y hy => hq.2 y (List.mem_of_mem_take hy)) hr.2
        have hl3 : ((aA.emits o i r.2.2 ((aProc (a.kd o) (a.pa o) (a.pb o) (a.st 0 o r.1) r.1 r.2.1).1.take x) ((a.inc 0 o).w_st (up3 a.st 0 o r.1 (aProc (a.kd o) (a.pa o) (a.pb o) (a.st 0 o r.1) r.1 r.2.1).2))).ls o i).length < 3 := by rw [aA.emits_len, hlt]; show (a.ls o i).length + x < 3; omega
        refine g_aload_n B 1 dX12_takesIn_42 rfl ?_
        refine g_iload_n B 2 dX12_takesIn_43 rfl ?_
        refine g_iload_n B 3 dX12_takesIn_44 rfl ?_
        refine g_aload_n B 1 dX12_takesIn_45 rfl ?_
        refine m_geta B P1 F_X12_163_12 (by decide) (Or.inl rfl) dX12_takesIn_46 ?_
        refine g_iload B 0 dX12_takesIn_49 rfl ?_
        refine m_ld B P1 (by decide) rfl rfl (by show _ < 3; omega) (by decide) (show _ = (nI (((aProc (a.kd o) (a.pa o) (a.pb o) (a.st 0 o r.1) r.1 r.2.1).1.getD x (0, 0)).1)) from ((congrFun (i3 66 (by decide)) _).trans (m4 x (by omega)).1)) dX12_takesIn_51 ?_
        refine g_aload_n B 1 dX12_takesIn_52 rfl ?_
        refine m_geta B P1 F_X12_166_12 (by decide) (Or.inl rfl) dX12_takesIn_53 ?_
        refine g_iload B 0 dX12_takesIn_56 rfl ?_
        refine m_ld B P1 (by decide) rfl rfl (by show _ < 3; omega) (by decide) (show _ = ((aProc (a.kd o) (a.pa o) (a.pb o) (a.st 0 o r.1) r.1 r.2.1).1.getD x (0, 0)).2 from ((congrFun (i3 67 (by decide)) _).trans (m4 x (by omega)).2)) dX12_takesIn_58 ?_
        refine g_iload B 6 dX12_takesIn_59 rfl ?_
        refine g_callV (rest := []) B M_X12_emits q2786 q2788 qs80 (P1.1.choose_spec.choose_spec) rfl (c_M_emits (r := (((aProc (a.kd o) (a.pa o) (a.pb o) (a.st 0 o r.1) r.1 r.2.1).1.getD x (0, 0)).1, ((aProc (a.kd o) (a.pa o) (a.pb o) (a.st 0 o r.1) r.1 r.2.1).1.getD x (0, 0)).2, r.2.2)) P1.self i1 (by omega) (by omega) (fun y _ z _ => (W3.ls y z).1) hl3) rfl rfl (Nat.le_of_ble_eq_true rfl) (Nat.le_of_ble_eq_true rfl) (Nat.le_of_ble_eq_true rfl) (Nat.le_refl _) (Nat.le_refl _) dX12_takesIn_61 (xkN (fun T68 O68 R68 le68 p68 => ?_))
        obtain ⟨eT68, sc68, ar68, Q68, hs68, hk68, hr68⟩ := p68
        obtain rfl := eT68.symm
        have P68 := P1.rebase Q68
        refine g_iinc (v := nI (x + 1)) (lv2 := [(6, _), (0, _), (1, _), (2, _), (3, _), (4, _), (5, _)]) B 0 dX12_takesIn_64 rfl (nI_1 _) (by decide) rfl ?_
        refine g_goto (tgt := 33) B dX12_takesIn_67 (by decide) ?_
        exact ih ((aProc (a.kd o) (a.pa o) (a.pb o) (a.st 0 o r.1) r.1 r.2.1).1.length - (x + 1)) (by omega) (x + 1) _ _ _ _ rfl (by omega) P68 (by rw [take_s (0, 0) (by assumption), aA.emits_app, hs68]; exact hr68) (hs68.trans i2) (fun k h60 => (hk68 k h60).trans (i3 k h60))
  exact L _ 0 _ _ _ _ rfl (Nat.zero_le _) P2 H2 rfl (fun _ _ => rfl)
