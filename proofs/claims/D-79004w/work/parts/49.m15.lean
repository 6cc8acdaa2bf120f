set_option maxRecDepth 100000
theorem RepM.txt2 {a : aA} {sc sc2 : Nat → Int32} {ar ar2 : Nat → Nat → Int32} (h : RepM a sc ar) {l : List Nat} (ut : ∀ k, k ∉ ([0] : List Nat) → ar2 k = ar k) (hkz : ∀ k, k ≠ 1 → sc2 k = sc k) (n : RMtxt l (sc2 1) (ar2 0)) : RepM (a.w_txt l) sc2 ar2 := by
  obtain ⟨Htxt, Hop, Hinp, Hnm, Hstt, ⟨Hs0, Hs1, Hs2⟩, ⟨Hc0, Hc1, Hc2⟩, Hls, Hsp, Hpt, Hhd, Hch, Hex, Hwr⟩ := h
  exact ⟨n, (by rw [(hkz 2 (by decide)), (ut 3 (by decide)), (ut 4 (by decide)), (ut 5 (by decide)), (ut 6 (by decide))]; exact Hop), (by rw [(hkz 13 (by decide)), (ut 11 (by decide)), (ut 12 (by decide))]; exact Hinp), ⟨⟨((hkz 7 (by decide)).trans Hnm.1.1), ((hkz 8 (by decide)).trans Hnm.1.2.1), ((hkz 9 (by decide)).trans Hnm.1.2.2.1), ((hkz 10 (by decide)).trans Hnm.1.2.2.2)⟩, ⟨((hkz 14 (by decide)).trans Hnm.2.1.1), (fun h => (hkz 36 (by decide)).trans (Hnm.2.1.2.1 h)), ((hkz 37 (by decide)).trans Hnm.2.1.2.2)⟩, ((hkz 15 (by decide)).trans Hnm.2.2.1), ((hkz 16 (by decide)).trans Hnm.2.2.2.1), ((hkz 17 (by decide)).trans Hnm.2.2.2.2.1), ((hkz 38 (by decide)).trans Hnm.2.2.2.2.2.1), ((hkz 18 (by decide)).trans Hnm.2.2.2.2.2.2.1), ((hkz 19 (by decide)).trans Hnm.2.2.2.2.2.2.2)⟩, (fun k hk o ho => by rcases (show k = 0 ∨ k = 1 ∨ k = 2 ∨ k = 3 by omega) with rfl | rfl | rfl | rfl; (rw [show 20 + 0 = 20 from rfl, (ut 20 (by decide))]; exact Hstt 0 (by decide) o ho); (rw [show 20 + 1 = 21 from rfl, (ut 21 (by decide))]; exact Hstt 1 (by decide) o ho); (rw [show 20 + 2 = 22 from rfl, (ut 22 (by decide))]; exact Hstt 2 (by decide) o ho); (rw [show 20 + 3 = 23 from rfl, (ut 23 (by decide))]; exact Hstt 3 (by decide) o ho)), ⟨(by rw [(ut 24 (by decide)), (ut 27 (by decide)), (ut 30 (by decide))]; exact Hs0), (by rw [(ut 25 (by decide)), (ut 28 (by decide)), (ut 31 (by decide))]; exact Hs1), (by rw [(ut 26 (by decide)), (ut 29 (by decide)), (ut 32 (by decide))]; exact Hs2)⟩, ⟨(by rw [(ut 33 (by decide))]; exact Hc0), (by rw [(ut 34 (by decide))]; exact Hc1), (by rw [(ut 35 (by decide))]; exact Hc2)⟩, (by rw [(ut 39 (by decide)), (ut 40 (by decide)), (ut 41 (by decide)), (ut 42 (by decide))]; exact Hls), (by rw [(ut 43 (by decide))]; exact Hsp), (by rw [(ut 44 (by decide))]; exact Hpt), (by rw [(ut 45 (by decide))]; exact Hhd), (fun o h1 i h2 j h3 => by have h := Hch o h1 i h2 j h3; unfold mCh at h ⊢; rw [(ut 46 (by decide)), (ut 47 (by decide)), (ut 48 (by decide)), (ut 49 (by decide)), (ut 50 (by decide)), (ut 51 (by decide)), (ut 52 (by decide)), (ut 53 (by decide)), (ut 54 (by decide)), (ut 55 (by decide)), (ut 56 (by decide))]; exact h), (by rw [(hkz 77 (by decide)), (ut 75 (by decide)), (ut 76 (by decide))]; exact Hex), (by rw [(hkz 80 (by decide)), (ut 79 (by decide))]; exact Hwr)⟩
theorem RepM.wr2 {a : aA} {sc sc2 : Nat → Int32} {ar ar2 : Nat → Nat → Int32} (h : RepM a sc ar) {l : List Nat} (ut : ∀ k, k ∉ ([79] : List Nat) → ar2 k = ar k) (hkz : ∀ k, k ≠ 80 → sc2 k = sc k) (n : RMtxt l (sc2 80) (ar2 79)) : RepM (a.w_wr l) sc2 ar2 := by
  obtain ⟨Htxt, Hop, Hinp, Hnm, Hstt, ⟨Hs0, Hs1, Hs2⟩, ⟨Hc0, Hc1, Hc2⟩, Hls, Hsp, Hpt, Hhd, Hch, Hex, Hwr⟩ := h
  exact ⟨(by rw [(hkz 1 (by decide)), (ut 0 (by decide))]; exact Htxt), (by rw [(hkz 2 (by decide)), (ut 3 (by decide)), (ut 4 (by decide)), (ut 5 (by decide)), (ut 6 (by decide))]; exact Hop), (by rw [(hkz 13 (by decide)), (ut 11 (by decide)), (ut 12 (by decide))]; exact Hinp), ⟨⟨((hkz 7 (by decide)).trans Hnm.1.1), ((hkz 8 (by decide)).trans Hnm.1.2.1), ((hkz 9 (by decide)).trans Hnm.1.2.2.1), ((hkz 10 (by decide)).trans Hnm.1.2.2.2)⟩, ⟨((hkz 14 (by decide)).trans Hnm.2.1.1), (fun h => (hkz 36 (by decide)).trans (Hnm.2.1.2.1 h)), ((hkz 37 (by decide)).trans Hnm.2.1.2.2)⟩, ((hkz 15 (by decide)).trans Hnm.2.2.1), ((hkz 16 (by decide)).trans Hnm.2.2.2.1), ((hkz 17 (by decide)).trans Hnm.2.2.2.2.1), ((hkz 38 (by decide)).trans Hnm.2.2.2.2.2.1), ((hkz 18 (by decide)).trans Hnm.2.2.2.2.2.2.1), ((hkz 19 (by decide)).trans Hnm.2.2.2.2.2.2.2)⟩, (fun k hk o ho => by rcases (show k = 0 ∨ k = 1 ∨ k = 2 ∨ k = 3 by omega) with rfl | rfl | rfl | rfl; (rw [show 20 + 0 = 20 from rfl, (ut 20 (by decide))]; exact Hstt 0 (by decide) o ho); (rw [show 20 + 1 = 21 from rfl, (ut 21 (by decide))]; exact Hstt 1 (by decide) o ho); (rw [show 20 + 2 = 22 from rfl, (ut 22 (by decide))]; exact Hstt 2 (by decide) o ho); (rw [show 20 + 3 = 23 from rfl, (ut 23 (by decide))]; exact Hstt 3 (by decide) o ho)), ⟨(by rw [(ut 24 (by decide)), (ut 27 (by decide)), (ut 30 (by decide))]; exact Hs0), (by rw [(ut 25 (by decide)), (ut 28 (by decide)), (ut 31 (by decide))]; exact Hs1), (by rw [(ut 26 (by decide)), (ut 29 (by decide)), (ut 32 (by decide))]; exact Hs2)⟩, ⟨(by rw [(ut 33 (by decide))]; exact Hc0), (by rw [(ut 34 (by decide))]; exact Hc1), (by rw [(ut 35 (by decide))]; exact Hc2)⟩, (by rw [(ut 39 (by decide)), (ut 40 (by decide)), (ut 41 (by decide)), (ut 42 (by decide))]; exact Hls), (by rw [(ut 43 (by decide))]; exact Hsp), (by rw [(ut 44 (by decide))]; exact Hpt), (by rw [(ut 45 (by decide))]; exact Hhd), (fun o h1 i h2 j h3 => by have h := Hch o h1 i h2 j h3; unfold mCh at h ⊢; rw [(ut 46 (by decide)), (ut 47 (by decide)), (ut 48 (by decide)), (ut 49 (by decide)), (ut 50 (by decide)), (ut 51 (by decide)), (ut 52 (by decide)), (ut 53 (by decide)), (ut 54 (by decide)), (ut 55 (by decide)), (ut 56 (by decide))]; exact h), (by rw [(hkz 77 (by decide)), (ut 75 (by decide)), (ut 76 (by decide))]; exact Hex), n⟩
theorem RepM.ex2 {a : aA} {sc sc2 : Nat → Int32} {ar ar2 : Nat → Nat → Int32} (h : RepM a sc ar) {l : List (Nat × Nat)} (ut : ∀ k, k ∉ ([75, 76] : List Nat) → ar2 k = ar k) (hkz : ∀ k, k ≠ 77 → sc2 k = sc k) (n : RMex l (sc2 77) (ar2 75) (ar2 76)) : RepM (a.w_ex l) sc2 ar2 := by
  obtain ⟨Htxt, Hop, Hinp, Hnm, Hstt, ⟨Hs0, Hs1, Hs2⟩, ⟨Hc0, Hc1, Hc2⟩, Hls, Hsp, Hpt, Hhd, Hch, Hex, Hwr⟩ := h
  exact ⟨(by rw [(hkz 1 (by decide)), (ut 0 (by decide))]; exact Htxt), (by rw [(hkz 2 (by decide)), (ut 3 (by decide)), (ut 4 (by decide)), (ut 5 (by decide)), (ut 6 (by decide))]; exact Hop), (by rw [(hkz 13 (by decide)), (ut 11 (by decide)), (ut 12 (by decide))]; exact Hinp), ⟨⟨((hkz 7 (by decide)).trans Hnm.1.1), ((hkz 8 (by decide)).trans Hnm.1.2.1), ((hkz 9 (by decide)).trans Hnm.1.2.2.1), ((hkz 10 (by decide)).trans Hnm.1.2.2.2)⟩, ⟨((hkz 14 (by decide)).trans Hnm.2.1.1), (fun h => (hkz 36 (by decide)).trans (Hnm.2.1.2.1 h)), ((hkz 37 (by decide)).trans Hnm.2.1.2.2)⟩, ((hkz 15 (by decide)).trans Hnm.2.2.1), ((hkz 16 (by decide)).trans Hnm.2.2.2.1), ((hkz 17 (by decide)).trans Hnm.2.2.2.2.1), ((hkz 38 (by decide)).trans Hnm.2.2.2.2.2.1), ((hkz 18 (by decide)).trans Hnm.2.2.2.2.2.2.1), ((hkz 19 (by decide)).trans Hnm.2.2.2.2.2.2.2)⟩, (fun k hk o ho => by rcases (show k = 0 ∨ k = 1 ∨ k = 2 ∨ k = 3 by omega) with rfl | rfl | rfl | rfl; (rw [show 20 + 0 = 20 from rfl, (ut 20 (by decide))]; exact Hstt 0 (by decide) o ho); (rw [show 20 + 1 = 21 from rfl, (ut 21 (by decide))]; exact Hstt 1 (by decide) o ho); (rw [show 20 + 2 = 22 from rfl, (ut 22 (by decide))]; exact Hstt 2 (by decide) o ho); (rw [show 20 + 3 = 23 from rfl, (ut 23 (by decide))]; exact Hstt 3 (by decide) o ho)), ⟨(by rw [(ut 24 (by decide)), (ut 27 (by decide)), (ut 30 (by decide))]; exact Hs0), (by rw [(ut 25 (by decide)), (ut 28 (by decide)), (ut 31 (by decide))]; exact Hs1), (by rw [(ut 26 (by decide)), (ut 29 (by decide)), (ut 32 (by decide))]; exact Hs2)⟩, ⟨(by rw [(ut 33 (by decide))]; exact Hc0), (by rw [(ut 34 (by decide))]; exact Hc1), (by rw [(ut 35 (by decide))]; exact Hc2)⟩, (by rw [(ut 39 (by decide)), (ut 40 (by decide)), (ut 41 (by decide)), (ut 42 (by decide))]; exact Hls), (by rw [(ut 43 (by decide))]; exact Hsp), (by rw [(ut 44 (by decide))]; exact Hpt), (by rw [(ut 45 (by decide))]; exact Hhd), (fun o h1 i h2 j h3 => by have h := Hch o h1 i h2 j h3; unfold mCh at h ⊢; rw [(ut 46 (by decide)), (ut 47 (by decide)), (ut 48 (by decide)), (ut 49 (by decide)), (ut 50 (by decide)), (ut 51 (by decide)), (ut 52 (by decide)), (ut 53 (by decide)), (ut 54 (by decide)), (ut 55 (by decide)), (ut 56 (by decide))]; exact h), n, (by rw [(hkz 80 (by decide)), (ut 79 (by decide))]; exact Hwr)⟩
theorem RepM.inp2 {a : aA} {sc sc2 : Nat → Int32} {ar ar2 : Nat → Nat → Int32} (h : RepM a sc ar) {l : List (Nat × Int32)} (ut : ∀ k, k ∉ ([11, 12] : List Nat) → ar2 k = ar k) (hkz : ∀ k, k ≠ 13 → sc2 k = sc k) (n : RMinp l (sc2 13) (ar2 11) (ar2 12)) : RepM (a.w_inp l) sc2 ar2 := by
  obtain ⟨Htxt, Hop, Hinp, Hnm, Hstt, ⟨Hs0, Hs1, Hs2⟩, ⟨Hc0, Hc1, Hc2⟩, Hls, Hsp, Hpt, Hhd, Hch, Hex, Hwr⟩ := h
  exact ⟨(by rw [(hkz 1 (by decide)), (ut 0 (by decide))]; exact Htxt), (by rw [(hkz 2 (by decide)), (ut 3 (by decide)), (ut 4 (by decide)), (ut 5 (by decide)), (ut 6 (by decide))]; exact Hop), n, ⟨⟨((hkz 7 (by decide)).trans Hnm.1.1), ((hkz 8 (by decide)).trans Hnm.1.2.1), ((hkz 9 (by decide)).trans Hnm.1.2.2.1), ((hkz 10 (by decide)).trans Hnm.1.2.2.2)⟩, ⟨((hkz 14 (by decide)).trans Hnm.2.1.1), (fun h => (hkz 36 (by decide)).trans (Hnm.2.1.2.1 h)), ((hkz 37 (by decide)).trans Hnm.2.1.2.2)⟩, ((hkz 15 (by decide)).trans Hnm.2.2.1), ((hkz 16 (by decide)).trans Hnm.2.2.2.1), ((hkz 17 (by decide)).trans Hnm.2.2.2.2.1), ((hkz 38 (by decide)).trans Hnm.2.2.2.2.2.1), ((hkz 18 (by decide)).trans Hnm.2.2.2.2.2.2.1), ((hkz 19 (by decide)).trans Hnm.2.2.2.2.2.2.2)⟩, (fun k hk o ho => by rcases (show k = 0 ∨ k = 1 ∨ k = 2 ∨ k = 3 by omega) with rfl | rfl | rfl | rfl; (rw [show 20 + 0 = 20 from rfl, (ut 20 (by decide))]; exact Hstt 0 (by decide) o ho); (rw [show 20 + 1 = 21 from rfl, (ut 21 (by decide))]; exact Hstt 1 (by decide) o ho); (rw [show 20 + 2 = 22 from rfl, (ut 22 (by decide))]; exact Hstt 2 (by decide) o ho); (rw [show 20 + 3 = 23 from rfl, (ut 23 (by decide))]; exact Hstt 3 (by decide) o ho)), ⟨(by rw [(ut 24 (by decide)), (ut 27 (by decide)), (ut 30 (by decide))]; exact Hs0), (by rw [(ut 25 (by decide)), (ut 28 (by decide)), (ut 31 (by decide))]; exact Hs1), (by rw [(ut 26 (by decide)), (ut 29 (by decide)), (ut 32 (by decide))]; exact Hs2)⟩, ⟨(by rw [(ut 33 (by decide))]; exact Hc0), (by rw [(ut 34 (by decide))]; exact Hc1), (by rw [(ut 35 (by decide))]; exact Hc2)⟩, (by rw [(ut 39 (by decide)), (ut 40 (by decide)), (ut 41 (by decide)), (ut 42 (by decide))]; exact Hls), (by rw [(ut 43 (by decide))]; exact Hsp), (by rw [(ut 44 (by decide))]; exact Hpt), (by rw [(ut 45 (by decide))]; exact Hhd), (fun o h1 i h2 j h3 => by have h := Hch o h1 i h2 j h3; unfold mCh at h ⊢; rw [(ut 46 (by decide)), (ut 47 (by decide)), (ut 48 (by decide)), (ut 49 (by decide)), (ut 50 (by decide)), (ut 51 (by decide)), (ut 52 (by decide)), (ut 53 (by decide)), (ut 54 (by decide)), (ut 55 (by decide)), (ut 56 (by decide))]; exact h), (by rw [(hkz 77 (by decide)), (ut 75 (by decide)), (ut 76 (by decide))]; exact Hex), (by rw [(hkz 80 (by decide)), (ut 79 (by decide))]; exact Hwr)⟩
theorem RMtxt.app {l : List Nat} {n n2 : Int32} {f g : Nat → Int32} {c : Nat} (h : RMtxt l n f) (e : n2 = nI (l.length + 1)) (eg : g = va_up f l.length (nI c)) : RMtxt (l ++ [c]) n2 g := by
  refine ⟨by rw [List.length_append]; exact e, fun i hi => ?_⟩
  have hi2 : i < l.length + 1 := by simpa using hi
  rw [eg]
  by_cases c1 : i < l.length
  · rw [va_upe (by omega), h.2 i c1]
    simp [List.getD_eq_getElem?_getD, List.getElem?_append_left c1]
  · have : i = l.length := by omega
    subst this
    rw [va_ups]
    simp [List.getD_eq_getElem?_getD]
theorem RMinp.app {l : List (Nat × Int32)} {n n2 : Int32} {f g f2 g2 : Nat → Int32} {c : Nat} {v : Int32} (h : RMinp l n f g) (e : n2 = nI (l.length + 1)) (e1 : f2 = va_up f l.length (nI c)) (e2 : g2 = va_up g l.length v) : RMinp (l ++ [(c, v)]) n2 f2 g2 := by
  refine ⟨by rw [List.length_append]; exact e, fun i hi => ?_⟩
  have hi2 : i < l.length + 1 := by simpa using hi
  rw [e1, e2]
  by_cases c1 : i < l.length
  · rw [va_upe (by omega), va_upe (by omega), (h.2 i c1).1, (h.2 i c1).2]
    simp [List.getD_eq_getElem?_getD, List.getElem?_append_left c1]
  · have : i = l.length := by omega
    subst this
    rw [va_ups, va_ups]
    simp [List.getD_eq_getElem?_getD]
theorem inB2_nI {x : Int32} {k : Nat} (hk : k < 2 ^ 31) (h : inB x (nI 2) (nI k) = true) : ∃ j : Nat, 2 ≤ j ∧ j ≤ k ∧ x = nI j := by
  have h0 : inB x (nI 0) (nI k) = true := by
    simp only [inB, Bool.and_eq_true, decide_eq_true_eq] at h ⊢
    exact ⟨Int32.le_trans ((nI_leI (by decide) (by decide)).mpr (by decide)) h.1, h.2⟩
  obtain ⟨j, hj, rfl⟩ := inB_nI hk h0
  simp only [inB, Bool.and_eq_true, decide_eq_true_eq] at h
  exact ⟨j, (nI_leI (by decide) (by omega)).mp h.1, hj, rfl⟩
def aA.confF (a : aA) (s g c r : Int32) : Int32 × aA :=
  if inB s (nI 1) (nI 4) = true ∧ inB g (nI 1) (nI 9) = true ∧ inB c (nI 2) (nI 4) = true ∧ inB r (nI 1) (nI 5) = true then
    if a.nm 4 = 0 then (nI (1000 * a.cf 0 + 100 * a.cf 1 + 10 * a.cf 2 + a.cf 3), a.w_cf (up1 (up1 (up1 (up1 a.cf 0 s.toNatClampNeg) 1 g.toNatClampNeg) 2 c.toNatClampNeg) 3 r.toNatClampNeg))
    else (-1000000004, a)
  else (-1000000002, a)
def aA.pushF (a : aA) (k v : Int32) : Int32 × aA :=
  if inB k (nI 0) (nI 15) = true ∧ inB v (-99) (nI 99) = true then
    if a.inp.length = 60 then (-1000000003, a) else (nI (a.inp.length + 1), a.w_inp (a.inp ++ [(k.toNatClampNeg, v)]))
  else (-1000000002, a)
def aA.appF (a : aA) (c k : Int32) : Int32 × aA :=
  if inB c (nI 0) (nI 127) = true ∧ inB k (nI 1) (nI 60) = true then
    if 60 < a.txt.length + k.toNatClampNeg then (-1000000003, a) else (nI (a.txt.length + k.toNatClampNeg), a.w_txt (a.txt ++ List.replicate k.toNatClampNeg c.toNatClampNeg))
  else (-1000000002, a)
def aA.chk (a : aA) : aA := (a.txt, a.inp, up1 (up1 (up1 a.nm 2 (a.nm 1 + 1)) 4 1) 3 0, a.fl, a.cf, a.op, a.stt, (fun v => if v = 1 then (fun _ _ => none) else a.st v), (fun v => if v = 1 then up2 (fun _ _ => 0) 0 0 (a.ct 0 0 0) else a.ct v), (fun v => if v = 1 then a.of 0 else a.of v), a.ls, a.sp, a.pt, up2 a.hd 0 0 true, a.ch, up2 (fun _ _ => false) 0 0 true, a.ex, a.wr)
def aA.chkF (a : aA) : Int32 × aA := if 0 < a.nm 2 then (-1000000005, a) else (nI (a.nm 1 + 1), a.chk)
theorem c_M_configure {G : xG} {T : xT} {O R : xO} {m : Nat} {ad : Nat → Nat} {sc : Nat → Int32} {ar : Nat → Nat → Int32} {Bd : Nat} {s g c r : Int32} (P : PM m ad O R sc ar T O R) {a : aA} (H : RepM a sc ar) (W : WF Bd a) : xCtr G yX12_configure cX12_configure 6 (some Jvm.ClassFile.FieldType.int) 1 22 0 0 [.ref m, .int s, .int g, .int c, .int r] (T, O, R) (xA (mPost m ad T O R (fun v sc2 ar2 => v = .int (a.confF s g c r).1 ∧ RepM (a.confF s g c r).2 sc2 ar2))) := by
  have hR := H
  obtain ⟨Htxt, Hop, Hinp, Hnm, Hstt, ⟨Hs0, Hs1, Hs2⟩, ⟨Hc0, Hc1, Hc2⟩, Hls, Hsp, Hpt, Hhd, Hch, Hex, Hwr⟩ := H
  refine xCtr.of (by decide +kernel) (Nat.le_of_ble_eq_true rfl) ?_
  intro Z B E hz hnm
  change xV Z (T, O, R) 0 [(0, .ref m), (1, .int s), (2, .int g), (3, .int c), (4, .int r)] [] 0 0
  refine g_iload_n B 1 dX12_configure_0 rfl ?_
  refine g_iconst (v := nI 1) B dX12_configure_1 (by decide) ?_
  refine g_iconst (v := nI 4) B dX12_configure_2 (by decide) ?_
  refine g_callS (rest := []) B M_X12_isIn q2663 q2664 (c_M_isIn (x := s) (lo := (nI 1)) (hi := (nI 4))) rfl rfl (Nat.le_of_ble_eq_true rfl) (Nat.le_of_ble_eq_true rfl) (Nat.le_of_ble_eq_true rfl) (Nat.le_refl _) (Nat.le_refl _) dX12_configure_3 (xkA (fun v1 T1 O1 R1 le1 p1 => ?_))
  obtain ⟨rfl, eT1, eO1, eR1⟩ := p1
  obtain rfl := eT1.symm
  obtain rfl := eO1.symm
  obtain rfl := eR1.symm
  refine g_if_eqB (tgt := 38) B dX12_configure_6 (by decide) (fun c2 => ?_) (fun c2 => ?_)
  · refine g_ldc (v := (-1000000002)) B q2666 dX12_configure_38 ?_
    refine g_iret B E rfl rfl dX12_configure_40 ?_
    have hF : a.confF s g c r = (-1000000002, a) := by rw [aA.confF, if_neg (fun h => by rw [h.1] at c2; exact Bool.noConfusion c2)]
    exact ⟨_, rfl, rfl, _, _, P, by rw [hF], by rw [hF]; exact hR⟩
  · refine g_iload_n B 2 dX12_configure_9 rfl ?_
    refine g_iconst (v := nI 1) B dX12_configure_10 (by decide) ?_
    refine g_bipush (v := nI 9) B dX12_configure_11 (by decide) ?_
    refine g_callS (rest := []) B M_X12_isIn q2663 q2664 (c_M_isIn (x := g) (lo := (nI 1)) (hi := (nI 9))) rfl rfl (Nat.le_of_ble_eq_true rfl) (Nat.le_of_ble_eq_true rfl) (Nat.le_of_ble_eq_true rfl) (Nat.le_refl _) (Nat.le_refl _) dX12_configure_13 (xkA (fun v3 T3 O3 R3 le3 p3 => ?_))
    obtain ⟨rfl, eT3, eO3, eR3⟩ := p3
    obtain rfl := eT3.symm
    obtain rfl := eO3.symm
    obtain rfl := eR3.symm
    refine g_if_eqB (tgt := 38) B dX12_configure_16 (by decide) (fun c4 => ?_) (fun c4 => ?_)
    · refine g_ldc (v := (-1000000002)) B q2666 dX12_configure_38 ?_
      refine g_iret B E rfl rfl dX12_configure_40 ?_
      have hF : a.confF s g c r = (-1000000002, a) := by rw [aA.confF, if_neg (fun h => by rw [h.2.1] at c4; exact Bool.noConfusion c4)]
      exact ⟨_, rfl, rfl, _, _, P, by rw [hF], by rw [hF]; exact hR⟩
    · refine g_iload_n B 3 dX12_configure_19 rfl ?_
      refine g_iconst (v := nI 2) B dX12_configure_20 (by decide) ?_
      refine g_iconst (v := nI 4) B dX12_configure_21 (by decide) ?_
      refine g_callS (rest := []) B M_X12_isIn q2663 q2664 (c_M_isIn (x := c) (lo := (nI 2)) (hi := (nI 4))) rfl rfl (Nat.le_of_ble_eq_true rfl) (Nat.le_of_ble_eq_true rfl) (Nat.le_of_ble_eq_true rfl) (Nat.le_refl _) (Nat.le_refl _) dX12_configure_22 (xkA (fun v5 T5 O5 R5 le5 p5 => ?_))
      obtain ⟨rfl, eT5, eO5, eR5⟩ := p5
      obtain rfl := eT5.symm
      obtain rfl := eO5.symm
      obtain rfl := eR5.symm
      refine g_if_eqB (tgt := 38) B dX12_configure_25 (by decide) (fun c6 => ?_) (fun c6 => ?_)
      · refine g_ldc (v := (-1000000002)) B q2666 dX12_configure_38 ?_
        refine g_iret B E rfl rfl dX12_configure_40 ?_
        have hF : a.confF s g c r = (-1000000002, a) := by rw [aA.confF, if_neg (fun h => by rw [h.2.2.1] at c6; exact Bool.noConfusion c6)]
        exact ⟨_, rfl, rfl, _, _, P, by rw [hF], by rw [hF]; exact hR⟩
      · refine g_iload B 4 dX12_configure_28 rfl ?_
        refine g_iconst (v := nI 1) B dX12_configure_30 (by decide) ?_
        refine g_iconst (v := nI 5) B dX12_configure_31 (by decide) ?_
        refine g_callS (rest := []) B M_X12_isIn q2663 q2664 (c_M_isIn (x := r) (lo := (nI 1)) (hi := (nI 5))) rfl rfl (Nat.le_of_ble_eq_true rfl) (Nat.le_of_ble_eq_true rfl) (Nat.le_of_ble_eq_true rfl) (Nat.le_refl _) (Nat.le_refl _) dX12_configure_32 (xkA (fun v7 T7 O7 R7 le7 p7 => ?_))
        obtain ⟨rfl, eT7, eO7, eR7⟩ := p7
        obtain rfl := eT7.symm
        obtain rfl := eO7.symm
        obtain rfl := eR7.symm
        refine g_if_neB (tgt := 41) B dX12_configure_35 (by decide) (fun c8 => ?_) (fun c8 => ?_)
        · have hb_s := c2
          obtain ⟨ns, h1s, h2s, e_s⟩ := inB1_nI (by decide) hb_s
          have hb_g := c4
          obtain ⟨ng, h1g, h2g, e_g⟩ := inB1_nI (by decide) hb_g
          have hb_c := c6
          obtain ⟨nc, h1c, h2c, e_c⟩ := inB2_nI (by decide) hb_c
          have hb_r := c8
          obtain ⟨nr, h1r, h2r, e_r⟩ := inB1_nI (by decide) hb_r
          have hcs : s.toNatClampNeg = ns := by rw [e_s]; exact nI_clamp (by omega)
          have hcg : g.toNatClampNeg = ng := by rw [e_g]; exact nI_clamp (by omega)
          have hcc : c.toNatClampNeg = nc := by rw [e_c]; exact nI_clamp (by omega)
          have hcr : r.toNatClampNeg = nr := by rw [e_r]; exact nI_clamp (by omega)
          have hn4 := W.nms.2.2.2.2
          refine g_aload_n B 0 dX12_configure_41 rfl ?_
          refine m_get B P F_X12_259_12 (by decide) (Or.inr rfl) (show _ = (nI (a.nm 4)) from Hnm.2.2.2.2.2.2.2) dX12_configure_42 ?_
          refine g_if_eqN (tgt := 52) B (by omega) dX12_configure_45 (by decide) (fun c9 => ?_) (fun c9 => ?_)
          · refine g_sipush (v := nI 1000) B dX12_configure_52 (by decide) ?_
            refine g_aload_n B 0 dX12_configure_55 rfl ?_
            refine m_get B P F_X12_25_12 (by decide) (Or.inl rfl) (show _ = (nI (a.cf 0)) from Hnm.1.1) dX12_configure_56 ?_
            refine g_imulN B dX12_configure_59 ?_
            refine g_bipush (v := nI 100) B dX12_configure_60 (by decide) ?_
            refine g_aload_n B 0 dX12_configure_62 rfl ?_
            refine m_get B P F_X12_29_12 (by decide) (Or.inl rfl) (show _ = (nI (a.cf 1)) from Hnm.1.2.1) dX12_configure_63 ?_
            refine g_imulN B dX12_configure_66 ?_
            refine g_iaddN B dX12_configure_67 ?_
            refine g_bipush (v := nI 10) B dX12_configure_68 (by decide) ?_
            refine g_aload_n B 0 dX12_configure_70 rfl ?_
            refine m_get B P F_X12_32_12 (by decide) (Or.inl rfl) (show _ = (nI (a.cf 2)) from Hnm.1.2.2.1) dX12_configure_71 ?_
            refine g_imulN B dX12_configure_74 ?_
            refine g_iaddN B dX12_configure_75 ?_
            refine g_aload_n B 0 dX12_configure_76 rfl ?_
            refine m_get B P F_X12_35_12 (by decide) (Or.inl rfl) (show _ = (nI (a.cf 3)) from Hnm.1.2.2.2) dX12_configure_77 ?_
            refine g_iaddN B dX12_configure_80 ?_
            refine g_istore (lv2 := [(5, _), (0, _), (1, _), (2, _), (3, _), (4, _)]) B dX12_configure_81 (by decide) rfl ?_
            refine g_aload_n B 1 dX12_configure_83 rfl ?_
            refine g_iload_n B 2 dX12_configure_84 rfl ?_
            refine m_put B P F_X12_25_12 (by decide) (Or.inl rfl) rfl rfl rfl dX12_configure_85 (fun O10 sc10 hs10 hk10 P10 => ?_)
            refine g_aload_n B 1 dX12_configure_88 rfl ?_
            refine g_iload_n B 3 dX12_configure_89 rfl ?_
            refine m_put B P10 F_X12_29_12 (by decide) (Or.inl rfl) rfl rfl rfl dX12_configure_90 (fun O11 sc11 hs11 hk11 P11 => ?_)
            refine g_aload_n B 1 dX12_configure_93 rfl ?_
            refine g_iload_n B 4 dX12_configure_94 rfl ?_
            refine m_put B P11 F_X12_32_12 (by decide) (Or.inl rfl) rfl rfl rfl dX12_configure_95 (fun O12 sc12 hs12 hk12 P12 => ?_)
            refine g_aload_n B 1 dX12_configure_98 rfl ?_
            refine g_iload B 5 dX12_configure_99 rfl ?_
            refine m_put B P12 F_X12_35_12 (by decide) (Or.inl rfl) rfl rfl rfl dX12_configure_101 (fun O13 sc13 hs13 hk13 P13 => ?_)
            refine g_iload B 0 dX12_configure_104 rfl ?_
            refine g_iret B E rfl rfl dX12_configure_106 ?_
            have n7 : sc13 7 = s := ((hk13 7 (by decide)).trans ((hk12 7 (by decide)).trans ((hk11 7 (by decide)).trans hs10)))
            have n8 : sc13 8 = g := ((hk13 8 (by decide)).trans ((hk12 8 (by decide)).trans hs11))
            have n9 : sc13 9 = c := ((hk13 9 (by decide)).trans hs12)
            have n10 : sc13 10 = r := hs13
            have hF : a.confF s g c r = (nI (1000 * a.cf 0 + 100 * a.cf 1 + 10 * a.cf 2 + a.cf 3), a.w_cf (up1 (up1 (up1 (up1 a.cf 0 ns) 1 ng) 2 nc) 3 nr)) := by rw [aA.confF, if_pos ⟨hb_s, hb_g, hb_c, hb_r⟩, if_pos c9, hcs, hcg, hcc, hcr]
            exact ⟨_, rfl, rfl, _, _, P13, by rw [hF], by rw [hF]; exact ⟨(by rw [((((hk13 1 (by decide)).trans (hk12 1 (by decide))).trans (hk11 1 (by decide))).trans (hk10 1 (by decide)))]; exact Htxt), (by rw [((((hk13 2 (by decide)).trans (hk12 2 (by decide))).trans (hk11 2 (by decide))).trans (hk10 2 (by decide)))]; exact Hop), (by rw [((((hk13 13 (by decide)).trans (hk12 13 (by decide))).trans (hk11 13 (by decide))).trans (hk10 13 (by decide)))]; exact Hinp), ⟨⟨(n7.trans e_s), (n8.trans e_g), (n9.trans e_c), (n10.trans e_r)⟩, ⟨(((((hk13 14 (by decide)).trans (hk12 14 (by decide))).trans (hk11 14 (by decide))).trans (hk10 14 (by decide))).trans Hnm.2.1.1), (fun h => ((((hk13 36 (by decide)).trans (hk12 36 (by decide))).trans (hk11 36 (by decide))).trans (hk10 36 (by decide))).trans (Hnm.2.1.2.1 h)), (((((hk13 37 (by decide)).trans (hk12 37 (by decide))).trans (hk11 37 (by decide))).trans (hk10 37 (by decide))).trans Hnm.2.1.2.2)⟩, (((((hk13 15 (by decide)).trans (hk12 15 (by decide))).trans (hk11 15 (by decide))).trans (hk10 15 (by decide))).trans Hnm.2.2.1), (((((hk13 16 (by decide)).trans (hk12 16 (by decide))).trans (hk11 16 (by decide))).trans (hk10 16 (by decide))).trans Hnm.2.2.2.1), (((((hk13 17 (by decide)).trans (hk12 17 (by decide))).trans (hk11 17 (by decide))).trans (hk10 17 (by decide))).trans Hnm.2.2.2.2.1), (((((hk13 38 (by decide)).trans (hk12 38 (by decide))).trans (hk11 38 (by decide))).trans (hk10 38 (by decide))).trans Hnm.2.2.2.2.2.1), (((((hk13 18 (by decide)).trans (hk12 18 (by decide))).trans (hk11 18 (by decide))).trans (hk10 18 (by decide))).trans Hnm.2.2.2.2.2.2.1), (((((hk13 19 (by decide)).trans (hk12 19 (by decide))).trans (hk11 19 (by decide))).trans (hk10 19 (by decide))).trans Hnm.2.2.2.2.2.2.2)⟩, (fun k hk o ho => by rcases (show k = 0 ∨ k = 1 ∨ k = 2 ∨ k = 3 by omega) with rfl | rfl | rfl | rfl; (exact Hstt 0 (by decide) o ho); (exact Hstt 1 (by decide) o ho); (exact Hstt 2 (by decide) o ho); (exact Hstt 3 (by decide) o ho)), ⟨Hs0, Hs1, Hs2⟩, ⟨Hc0, Hc1, Hc2⟩, Hls, Hsp, Hpt, Hhd, Hch, (by rw [((((hk13 77 (by decide)).trans (hk12 77 (by decide))).trans (hk11 77 (by decide))).trans (hk10 77 (by decide)))]; exact Hex), (by rw [((((hk13 80 (by decide)).trans (hk12 80 (by decide))).trans (hk11 80 (by decide))).trans (hk10 80 (by decide)))]; exact Hwr)⟩⟩
          · refine g_ldcw (v := (-1000000004)) B q2707 dX12_configure_48 ?_
            refine g_iret B E rfl rfl dX12_configure_51 ?_
            have hF : a.confF s g c r = (-1000000004, a) := by rw [aA.confF, if_pos ⟨hb_s, hb_g, hb_c, hb_r⟩, if_neg c9]
            exact ⟨_, rfl, rfl, _, _, P, by rw [hF], by rw [hF]; exact hR⟩
        · refine g_ldc (v := (-1000000002)) B q2666 dX12_configure_38 ?_
          refine g_iret B E rfl rfl dX12_configure_40 ?_
          have hF : a.confF s g c r = (-1000000002, a) := by rw [aA.confF, if_neg (fun h => by rw [h.2.2.2] at c8; exact Bool.noConfusion c8)]
          exact ⟨_, rfl, rfl, _, _, P, by rw [hF], by rw [hF]; exact hR⟩
theorem c_M_push {G : xG} {T : xT} {O R : xO} {m : Nat} {ad : Nat → Nat} {sc : Nat → Int32} {ar : Nat → Nat → Int32} {Bd : Nat} {k u : Int32} (P : PM m ad O R sc ar T O R) {a : aA} (H : RepM a sc ar) (W : WF Bd a) : xCtr G yX12_push cX12_push 3 (some Jvm.ClassFile.FieldType.int) 1 22 0 0 [.ref m, .int k, .int u] (T, O, R) (xA (mPost m ad T O R (fun v sc2 ar2 => v = .int (a.pushF k u).1 ∧ RepM (a.pushF k u).2 sc2 ar2))) := by
  have hR := H
  obtain ⟨Htxt, Hop, Hinp, Hnm, Hstt, ⟨Hs0, Hs1, Hs2⟩, ⟨Hc0, Hc1, Hc2⟩, Hls, Hsp, Hpt, Hhd, Hch, Hex, Hwr⟩ := H
  refine xCtr.of (by decide +kernel) (Nat.le_of_ble_eq_true rfl) ?_
  intro Z B E hz hnm
  change xV Z (T, O, R) 0 [(0, .ref m), (1, .int k), (2, .int u)] [] 0 0
  refine g_iload_n B 1 dX12_push_0 rfl ?_
  refine g_iconst (v := nI 0) B dX12_push_1 (by decide) ?_
  refine g_bipush (v := nI 15) B dX12_push_2 (by decide) ?_
  refine g_callS (rest := []) B M_X12_isIn q2663 q2664 (c_M_isIn (x := k) (lo := (nI 0)) (hi := (nI 15))) rfl rfl (Nat.le_of_ble_eq_true rfl) (Nat.le_of_ble_eq_true rfl) (Nat.le_of_ble_eq_true rfl) (Nat.le_refl _) (Nat.le_refl _) dX12_push_4 (xkA (fun v1 T1 O1 R1 le1 p1 => ?_))
  obtain ⟨rfl, eT1, eO1, eR1⟩ := p1
  obtain rfl := eT1.symm
  obtain rfl := eO1.symm
  obtain rfl := eR1.symm
  refine g_if_eqB (tgt := 21) B dX12_push_7 (by decide) (fun c2 => ?_) (fun c2 => ?_)
  · refine g_ldc (v := (-1000000002)) B q2666 dX12_push_21 ?_
    refine g_iret B E rfl rfl dX12_push_23 ?_
    have hF : a.pushF k u = (-1000000002, a) := by rw [aA.pushF, if_neg (fun h => by rw [h.1] at c2; exact Bool.noConfusion c2)]
    exact ⟨_, rfl, rfl, _, _, P, by rw [hF], by rw [hF]; exact hR⟩
  · refine g_iload_n B 2 dX12_push_10 rfl ?_
    refine g_bipush (v := (-99)) B dX12_push_11 (by decide) ?_
    refine g_bipush (v := nI 99) B dX12_push_13 (by decide) ?_
    refine g_callS (rest := []) B M_X12_isIn q2663 q2664 (c_M_isIn (x := u) (lo := (-99)) (hi := (nI 99))) rfl rfl (Nat.le_of_ble_eq_true rfl) (Nat.le_of_ble_eq_true rfl) (Nat.le_of_ble_eq_true rfl) (Nat.le_refl _) (Nat.le_refl _) dX12_push_15 (xkA (fun v3 T3 O3 R3 le3 p3 => ?_))
    obtain ⟨rfl, eT3, eO3, eR3⟩ := p3
    obtain rfl := eT3.symm
    obtain rfl := eO3.symm
    obtain rfl := eR3.symm
    refine g_if_neB (tgt := 24) B dX12_push_18 (by decide) (fun c4 => ?_) (fun c4 => ?_)
    · have hb_k := c2
      have hb_u := c4
      have hl := W.inp
      obtain ⟨nk, hk1, rfl⟩ := inB_nI (by decide) hb_k
      have hck : (nI nk).toNatClampNeg = nk := nI_clamp (by omega)
      refine g_aload_n B 0 dX12_push_24 rfl ?_
      refine m_get B P F_X12_275_12 (by decide) (Or.inl rfl) (show _ = (nI a.inp.length) from Hinp.1) dX12_push_25 ?_
      refine g_bipush (v := nI 60) B dX12_push_28 (by decide) ?_
      refine g_icmp_neN (tgt := 36) B (by omega) (by omega) dX12_push_30 (by decide) (fun c5 => ?_) (fun c5 => ?_)
      · refine g_aload_n B 0 dX12_push_36 rfl ?_
        refine m_geta B P F_X12_38_12 (by decide) (Or.inl rfl) dX12_push_37 ?_
        refine g_aload_n B 0 dX12_push_40 rfl ?_
        refine m_get B P F_X12_275_12 (by decide) (Or.inl rfl) (show _ = (nI a.inp.length) from Hinp.1) dX12_push_41 ?_
        refine g_iload_n B 1 dX12_push_44 rfl ?_
        refine m_st B P (by decide) rfl rfl (by show _ < 60; omega) (by decide) dX12_push_45 (fun R6 ar6 hs6 hk6 P6 => ?_)
        refine g_aload_n B 0 dX12_push_46 rfl ?_
        refine m_geta B P6 F_X12_41_12 (by decide) (Or.inl rfl) dX12_push_47 ?_
        refine g_aload_n B 0 dX12_push_50 rfl ?_
        refine m_get B P6 F_X12_275_12 (by decide) (Or.inl rfl) (show _ = (nI a.inp.length) from Hinp.1) dX12_push_51 ?_
        refine g_iload_n B 2 dX12_push_54 rfl ?_
        refine m_st B P6 (by decide) rfl rfl (by show _ < 60; omega) (by decide) dX12_push_55 (fun R7 ar7 hs7 hk7 P7 => ?_)
        refine g_aload_n B 0 dX12_push_56 rfl ?_
        refine g_dup B dX12_push_57 rfl ?_
        refine m_get B P7 F_X12_275_12 (by decide) (Or.inl rfl) (show _ = (nI a.inp.length) from Hinp.1) dX12_push_58 ?_
        refine g_iconst (v := nI 1) B dX12_push_61 (by decide) ?_
        refine g_iaddN B dX12_push_62 ?_
        refine m_put B P7 F_X12_275_12 (by decide) (Or.inl rfl) rfl rfl rfl dX12_push_63 (fun O8 sc8 hs8 hk8 P8 => ?_)
        refine g_aload_n B 0 dX12_push_66 rfl ?_
        refine m_get B P8 F_X12_275_12 (by decide) (Or.inl rfl) (show _ = (nI (a.inp.length + 1)) from hs8) dX12_push_67 ?_
        refine g_iret B E rfl rfl dX12_push_70 ?_
        have n13 : sc8 13 = (nI (a.inp.length + 1)) := hs8
        have e11 : ar7 11 = va_up (ar 11) a.inp.length (nI nk) := ((hk7 11 (by decide)).trans hs6)
        have e12 : ar7 12 = va_up (ar 12) a.inp.length u := (hs7.trans (congrArg (fun g => va_up g a.inp.length u) (hk6 12 (by decide))))
        have hF : a.pushF (nI nk) u = (nI (a.inp.length + 1), a.w_inp (a.inp ++ [(nk, u)])) := by rw [aA.pushF, if_pos ⟨hb_k, hb_u⟩, if_neg c5, hck]
        exact ⟨_, rfl, rfl, _, _, P8, by rw [hF], by rw [hF]; exact hR.inp2 (fun k hk => (hk7 k (fun e => hk (by rw [e]; decide))).trans (hk6 k (fun e => hk (by rw [e]; decide)))) hk8 (RMinp.app Hinp n13 e11 e12)⟩
      · refine g_ldc (v := (-1000000003)) B q2667 dX12_push_33 ?_
        refine g_iret B E rfl rfl dX12_push_35 ?_
        have hF : a.pushF (nI nk) u = (-1000000003, a) := by rw [aA.pushF, if_pos ⟨hb_k, hb_u⟩, if_pos c5]
        exact ⟨_, rfl, rfl, _, _, P, by rw [hF], by rw [hF]; exact hR⟩
    · refine g_ldc (v := (-1000000002)) B q2666 dX12_push_21 ?_
      refine g_iret B E rfl rfl dX12_push_23 ?_
      have hF : a.pushF k u = (-1000000002, a) := by rw [aA.pushF, if_neg (fun h => by rw [h.2] at c4; exact Bool.noConfusion c4)]
      exact ⟨_, rfl, rfl, _, _, P, by rw [hF], by rw [hF]; exact hR⟩
theorem c_M_append {G : xG} {T : xT} {O R : xO} {m : Nat} {ad : Nat → Nat} {sc : Nat → Int32} {ar : Nat → Nat → Int32} {c k : Int32} (P : PM m ad O R sc ar T O R) {a : aA} (H : RepM a sc ar) (hl : a.txt.length ≤ 60) : xCtr G yX12_append cX12_append 4 (some Jvm.ClassFile.FieldType.int) 1 22 0 0 [.ref m, .int c, .int k] (T, O, R) (xA (mPost m ad T O R (fun v sc2 ar2 => v = .int (a.appF c k).1 ∧ RepM (a.appF c k).2 sc2 ar2))) := by
  have hR := H
  obtain ⟨Htxt, Hop, Hinp, Hnm, Hstt, ⟨Hs0, Hs1, Hs2⟩, ⟨Hc0, Hc1, Hc2⟩, Hls, Hsp, Hpt, Hhd, Hch, Hex, Hwr⟩ := H
  refine xCtr.of (by decide +kernel) (Nat.le_of_ble_eq_true rfl) ?_
  intro Z B E hz hnm
  change xV Z (T, O, R) 0 [(0, .ref m), (1, .int c), (2, .int k)] [] 0 0
  refine g_iload_n B 1 dX12_append_0 rfl ?_
  refine g_iconst (v := nI 0) B dX12_append_1 (by decide) ?_
  refine g_bipush (v := nI 127) B dX12_append_2 (by decide) ?_
  refine g_callS (rest := []) B M_X12_isIn q2663 q2664 (c_M_isIn (x := c) (lo := (nI 0)) (hi := (nI 127))) rfl rfl (Nat.le_of_ble_eq_true rfl) (Nat.le_of_ble_eq_true rfl) (Nat.le_of_ble_eq_true rfl) (Nat.le_refl _) (Nat.le_refl _) dX12_append_4 (xkA (fun v1 T1 O1 R1 le1 p1 => ?_))
  obtain ⟨rfl, eT1, eO1, eR1⟩ := p1
  obtain rfl := eT1.symm
  obtain rfl := eO1.symm
  obtain rfl := eR1.symm
  refine g_if_eqB (tgt := 20) B dX12_append_7 (by decide) (fun c2 => ?_) (fun c2 => ?_)
  · refine g_ldc (v := (-1000000002)) B q2666 dX12_append_20 ?_
    refine g_iret B E rfl rfl dX12_append_22 ?_
    have hF : a.appF c k = (-1000000002, a) := by rw [aA.appF, if_neg (fun h => by rw [h.1] at c2; exact Bool.noConfusion c2)]
    exact ⟨_, rfl, rfl, _, _, P, by rw [hF], by rw [hF]; exact hR⟩
  · refine g_iload_n B 2 dX12_append_10 rfl ?_
    refine g_iconst (v := nI 1) B dX12_append_11 (by decide) ?_
    refine g_bipush (v := nI 60) B dX12_append_12 (by decide) ?_
    refine g_callS (rest := []) B M_X12_isIn q2663 q2664 (c_M_isIn (x := k) (lo := (nI 1)) (hi := (nI 60))) rfl rfl (Nat.le_of_ble_eq_true rfl) (Nat.le_of_ble_eq_true rfl) (Nat.le_of_ble_eq_true rfl) (Nat.le_refl _) (Nat.le_refl _) dX12_append_14 (xkA (fun v3 T3 O3 R3 le3 p3 => ?_))
    obtain ⟨rfl, eT3, eO3, eR3⟩ := p3
    obtain rfl := eT3.symm
    obtain rfl := eO3.symm
    obtain rfl := eR3.symm
    refine g_if_neB (tgt := 23) B dX12_append_17 (by decide) (fun c4 => ?_) (fun c4 => ?_)
    · have hb_c := c2
      have hb_k := c4
      obtain ⟨nc, hc1, rfl⟩ := inB_nI (by decide) hb_c
      obtain ⟨nk, hk0, hk1, rfl⟩ := inB1_nI (by decide) hb_k
      have hcc : (nI nc).toNatClampNeg = nc := nI_clamp (by omega)
      have hck : (nI nk).toNatClampNeg = nk := nI_clamp (by omega)
      refine g_aload_n B 0 dX12_append_23 rfl ?_
      refine m_get B P F_X12_208_12 (by decide) (Or.inl rfl) (show _ = (nI a.txt.length) from Htxt.1) dX12_append_24 ?_
      refine g_iload_n B 2 dX12_append_27 rfl ?_
      refine g_iaddN B dX12_append_28 ?_
      refine g_bipush (v := nI 60) B dX12_append_29 (by decide) ?_
      refine g_icmp_leN (tgt := 37) B (by omega) (by omega) dX12_append_31 (by decide) (fun c5 => ?_) (fun c5 => ?_)
      · refine g_iconst (v := nI 0) B dX12_append_37 (by decide) ?_
        refine g_istore_n (lv2 := [(3, _), (0, _), (1, _), (2, _)]) B dX12_append_38 (by decide) rfl ?_
        have L : ∀ (d x : Nat) (O1 R1 : xO) (sc1 : Nat → Int32) (ar1 : Nat → Nat → Int32), d = nk - x → x ≤ nk → PM m ad O R sc1 ar1 T O1 R1 → (RepM (a.w_txt (a.txt ++ List.replicate x nc)) sc1 ar1) → xV Z (T, O1, R1) 39 [(3, .int (nI x)), (0, .ref m), (1, .int (nI nc)), (2, .int (nI nk))] [] 0 0 := by
          intro d
          induction d using Nat.strongRecOn with
          | _ d ih =>
            intro x O1 R1 sc1 ar1 hd hx P1 i1
            have hlx : (a.txt ++ List.replicate x nc).length = a.txt.length + x := by rw [List.length_append, List.length_replicate]
            refine g_iload_n B 0 dX12_append_39 rfl ?_
            refine g_iload_n B 3 dX12_append_40 rfl ?_
            refine g_icmp_geN (tgt := 70) B (by omega) (by omega) dX12_append_41 (by decide) (fun c61 => ?_) (fun c61 => ?_)
            · refine g_aload_n B 1 dX12_append_70 rfl ?_
              refine m_get B P1 F_X12_208_12 (by decide) (Or.inl rfl) (show _ = (nI (a.txt.length + x)) from (i1.1.1.trans (congrArg nI hlx))) dX12_append_71 ?_
              have hxk : x = nk := by omega
              subst hxk
              refine g_iret B E rfl rfl dX12_append_74 ?_
              have hF : a.appF (nI nc) (nI x) = (nI (a.txt.length + x), a.w_txt (a.txt ++ List.replicate x nc)) := by rw [aA.appF, if_pos ⟨hb_c, hb_k⟩, hck, if_neg (by omega), hcc]
              exact ⟨_, rfl, rfl, _, _, P1, by rw [hF], by rw [hF]; exact i1⟩
            · refine g_aload_n B 1 dX12_append_44 rfl ?_
              refine m_geta B P1 F_X12_9_12 (by decide) (Or.inl rfl) dX12_append_45 ?_
              refine g_aload_n B 1 dX12_append_48 rfl ?_
              refine m_get B P1 F_X12_208_12 (by decide) (Or.inl rfl) (show _ = (nI (a.txt.length + x)) from (i1.1.1.trans (congrArg nI hlx))) dX12_append_49 ?_
              refine g_iload_n B 2 dX12_append_52 rfl ?_
              refine m_st B P1 (by decide) rfl rfl (by show _ < 60; omega) (by decide) dX12_append_53 (fun R62 ar62 hs62 hk62 P62 => ?_)
              refine g_aload_n B 1 dX12_append_54 rfl ?_
              refine g_dup B dX12_append_55 rfl ?_
              refine m_get B P62 F_X12_208_12 (by decide) (Or.inl rfl) (show _ = (nI (a.txt.length + x)) from (i1.1.1.trans (congrArg nI hlx))) dX12_append_56 ?_
              refine g_iconst (v := nI 1) B dX12_append_59 (by decide) ?_
              refine g_iaddN B dX12_append_60 ?_
              refine m_put B P62 F_X12_208_12 (by decide) (Or.inl rfl) rfl rfl rfl dX12_append_61 (fun O63 sc63 hs63 hk63 P63 => ?_)
              refine g_iinc (v := nI (x + 1)) (lv2 := [(3, _), (0, _), (1, _), (2, _)]) B 0 dX12_append_64 rfl (nI_1 _) (by decide) rfl ?_
              refine g_goto (tgt := 39) B dX12_append_67 (by decide) ?_
              have n1 : sc63 1 = (nI ((a.txt.length + x) + 1)) := hs63
              have e0 : ar62 0 = va_up (ar1 0) (a.txt.length + x) (nI nc) := hs62
              have i2 := i1.txt2 (l := (a.txt ++ List.replicate x nc) ++ [nc]) (fun k hk => hk62 k (fun e => hk (by rw [e]; decide))) hk63 (RMtxt.app i1.1 (n1.trans (congrArg nI (by rw [hlx]))) (by rw [hlx]; exact e0))
              rw [List.append_assoc, ← List.replicate_succ'] at i2
              exact ih (nk - (x + 1)) (by omega) (x + 1) _ _ _ _ rfl (by omega) P63 i2
        exact L _ 0 _ _ _ _ rfl (Nat.zero_le _) P (by rw [List.replicate_zero, List.append_nil]; exact hR)
      · refine g_ldc (v := (-1000000003)) B q2667 dX12_append_34 ?_
        refine g_iret B E rfl rfl dX12_append_36 ?_
        have hF : a.appF (nI nc) (nI nk) = (-1000000003, a) := by rw [aA.appF, if_pos ⟨hb_c, hb_k⟩, hck, if_pos (by omega)]
        exact ⟨_, rfl, rfl, _, _, P, by rw [hF], by rw [hF]; exact hR⟩
    · refine g_ldc (v := (-1000000002)) B q2666 dX12_append_20 ?_
      refine g_iret B E rfl rfl dX12_append_22 ?_
      have hF : a.appF c k = (-1000000002, a) := by rw [aA.appF, if_neg (fun h => by rw [h.2] at c4; exact Bool.noConfusion c4)]
      exact ⟨_, rfl, rfl, _, _, P, by rw [hF], by rw [hF]; exact hR⟩
theorem c_M_checkpoint {G : xG} {T : xT} {O R : xO} {m : Nat} {ad : Nat → Nat} {sc : Nat → Int32} {ar : Nat → Nat → Int32} {Bd : Nat} (P : PM m ad O R sc ar T O R) {a : aA} (H : RepM a sc ar) (W : WF Bd a) (hB : Bd ≤ 2 ^ 30) : xCtr G yX12_checkpoint cX12_checkpoint 2 (some Jvm.ClassFile.FieldType.int) 0 0 0 0 [.ref m] (T, O, R) (xA (mPost m ad T O R (fun v sc2 ar2 => v = .int (a.chkF).1 ∧ RepM (a.chkF).2 sc2 ar2))) := by
  have hR := H
  obtain ⟨Htxt, Hop, Hinp, Hnm, Hstt, ⟨Hs0, Hs1, Hs2⟩, ⟨Hc0, Hc1, Hc2⟩, Hls, Hsp, Hpt, Hhd, Hch, Hex, Hwr⟩ := H
  have hn := W.nms
  refine xCtr.of (by decide +kernel) (Nat.le_of_ble_eq_true rfl) ?_
  intro Z B E hz hnm
  change xV Z (T, O, R) 0 [(0, .ref m)] [] 0 0
  refine g_aload_n B 0 dX12_checkpoint_0 rfl ?_
  refine m_get B P F_X12_268_12 (by decide) (Or.inl rfl) (show _ = (nI (a.nm 2)) from Hnm.2.2.2.2.1) dX12_checkpoint_1 ?_
  refine g_if_leN (tgt := 11) B (by omega) dX12_checkpoint_4 (by decide) (fun c1 => ?_) (fun c1 => ?_)
  · refine g_aload_n B 0 dX12_checkpoint_11 rfl ?_
    refine g_aload_n B 0 dX12_checkpoint_12 rfl ?_
    refine m_get B P F_X12_253_12 (by decide) (Or.inl rfl) (show _ = (nI (a.nm 1)) from Hnm.2.2.2.1) dX12_checkpoint_13 ?_
    refine g_iconst (v := nI 1) B dX12_checkpoint_16 (by decide) ?_
    refine g_iaddN B dX12_checkpoint_17 ?_
    refine m_put B P F_X12_268_12 (by decide) (Or.inl rfl) rfl rfl rfl dX12_checkpoint_18 (fun O2 sc2 hs2 hk2 P2 => ?_)
    refine g_aload_n B 0 dX12_checkpoint_21 rfl ?_
    refine g_iconst (v := nI 1) B dX12_checkpoint_22 (by decide) ?_
    refine m_put B P2 F_X12_259_12 (by decide) (Or.inr rfl) rfl rfl rfl dX12_checkpoint_23 (fun O3 sc3 hs3 hk3 P3 => ?_)
    refine g_aload_n B 0 dX12_checkpoint_26 rfl ?_
    refine g_iconst (v := nI 0) B dX12_checkpoint_27 (by decide) ?_
    refine m_put B P3 F_X12_318_12 (by decide) (Or.inl rfl) rfl rfl rfl dX12_checkpoint_28 (fun O4 sc4 hs4 hk4 P4 => ?_)
    refine g_iconst (v := nI 0) B dX12_checkpoint_31 (by decide) ?_
    refine g_istore_n (lv2 := [(1, _), (0, _)]) B dX12_checkpoint_32 (by decide) rfl ?_
    have L1 : ∀ (d1 x1 : Nat) (O11 R11 : xO) (ar11 : Nat → Nat → Int32), d1 = 96 - x1 → x1 ≤ 96 → PM m ad O R sc4 ar11 T O11 R11 → (∀ j, j < x1 → ar11 25 j = nI 0) → (∀ j, j < x1 → ar11 28 j = nI 0) → (∀ j, j < x1 → ar11 31 j = nI 0) → (∀ k, k ∉ ([25, 28, 31] : List Nat) → ar11 k = ar k) → xV Z (T, O11, R11) 33 [(1, .int (nI x1)), (0, .ref m)] [] 0 0 := by
      intro d1
      induction d1 using Nat.strongRecOn with
      | _ d1 ih1 =>
        intro x1 O11 R11 ar11 hd1 hx1 P11 i251 i281 i311 u1
        refine g_iload_n B 0 dX12_checkpoint_33 rfl ?_
        refine g_bipush (v := nI 96) B dX12_checkpoint_34 (by decide) ?_
        refine g_icmp_geN (tgt := 66) B (by omega) (by omega) dX12_checkpoint_36 (by decide) (fun c101 => ?_) (fun c101 => ?_)
        · have hx1 : x1 = 96 := by omega
          subst hx1
          refine g_iconst (v := nI 0) B dX12_checkpoint_66 (by decide) ?_
          refine g_istore_n (lv2 := [(1, _), (0, _)]) B dX12_checkpoint_67 (by decide) rfl ?_
          have L2 : ∀ (d2 x2 : Nat) (O12 R12 : xO) (ar12 : Nat → Nat → Int32), d2 = 18 - x2 → x2 ≤ 18 → PM m ad O R sc4 ar12 T O12 R12 → (∀ j, j < x2 → ar12 34 j = nI 0) → (∀ k, k ∉ ([34] : List Nat) → ar12 k = ar11 k) → xV Z (T, O12, R12) 68 [(1, .int (nI x2)), (0, .ref m)] [] 0 0 := by
            intro d2
            induction d2 using Nat.strongRecOn with
            | _ d2 ih2 =>
              intro x2 O12 R12 ar12 hd2 hx2 P12 i342 u2
              refine g_iload_n B 0 dX12_checkpoint_68 rfl ?_
              refine g_bipush (v := nI 18) B dX12_checkpoint_69 (by decide) ?_
              refine g_icmp_geN (tgt := 87) B (by omega) (by omega) dX12_checkpoint_71 (by decide) (fun c201 => ?_) (fun c201 => ?_)
              · have hx2 : x2 = 18 := by omega
                subst hx2
                refine g_aload_n B 1 dX12_checkpoint_87 rfl ?_
                refine g_aload_n B 1 dX12_checkpoint_88 rfl ?_
                refine m_get B P12 F_X12_271_12 (by decide) (Or.inl rfl) (show _ = (nI (a.of 0)) from ((hk4 14 (by decide)).trans ((hk3 14 (by decide)).trans ((hk2 14 (by decide)).trans Hnm.2.1.1)))) dX12_checkpoint_89 ?_
                refine m_put B P12 F_X12_312_12 (by decide) (Or.inl rfl) rfl rfl rfl dX12_checkpoint_92 (fun O202 sc202 hs202 hk202 P202 => ?_)
                refine g_aload_n B 1 dX12_checkpoint_95 rfl ?_
                refine m_geta B P202 F_X12_87_12 (by decide) (Or.inl rfl) dX12_checkpoint_96 ?_
                refine g_iconst (v := nI 0) B dX12_checkpoint_99 (by decide) ?_
                refine g_aload_n B 1 dX12_checkpoint_100 rfl ?_
                refine m_geta B P202 F_X12_84_12 (by decide) (Or.inl rfl) dX12_checkpoint_101 ?_
                refine g_iconst (v := nI 0) B dX12_checkpoint_104 (by decide) ?_
                refine m_ld B P202 (by decide) rfl rfl (by show _ < 18; omega) (by decide) (show _ = (nI (a.ct 0 0 0)) from ((congrFun ((u2 33 (by decide)).trans (u1 33 (by decide))) 0).trans (Hc0 0 (by decide) 0 (by decide)))) dX12_checkpoint_105 ?_
                refine m_st B P202 (by decide) rfl rfl (by show _ < 18; omega) (by decide) dX12_checkpoint_106 (fun R203 ar203 hs203 hk203 P203 => ?_)
                refine g_aload_n B 1 dX12_checkpoint_107 rfl ?_
                refine m_geta B P203 F_X12_111_12 (by decide) (Or.inr rfl) dX12_checkpoint_108 ?_
                refine g_iconst (v := nI 0) B dX12_checkpoint_111 (by decide) ?_
                refine g_iconst (v := nI 1) B dX12_checkpoint_112 (by decide) ?_
                refine m_stz B P203 (by decide) rfl rfl (by show _ < 18; omega) (by decide) rfl dX12_checkpoint_113 (fun R204 ar204 hs204 hk204 P204 => ?_)
                refine g_aload_n B 1 dX12_checkpoint_114 rfl ?_
                refine m_get B P204 F_X12_268_12 (by decide) (Or.inl rfl) (show _ = (nI ((a.nm 1) + 1)) from ((hk202 17 (by decide)).trans ((hk4 17 (by decide)).trans ((hk3 17 (by decide)).trans hs2)))) dX12_checkpoint_115 ?_
                refine g_iret B E rfl rfl dX12_checkpoint_118 ?_
                have hF : a.chkF = (nI (a.nm 1 + 1), a.chk) := by rw [aA.chkF, if_neg (by omega)]
                have n17 : sc202 17 = (nI ((a.nm 1) + 1)) := ((hk202 17 (by decide)).trans ((hk4 17 (by decide)).trans ((hk3 17 (by decide)).trans hs2)))
                have n19 : sc202 19 = (nI 1) := ((hk202 19 (by decide)).trans ((hk4 19 (by decide)).trans hs3))
                have n38 : sc202 38 = (nI 0) := ((hk202 38 (by decide)).trans hs4)
                have n36 : sc202 36 = (nI (a.of 0)) := hs202
                have e34 : ar204 34 = va_up (ar12 34) 0 (nI (a.ct 0 0 0)) := ((hk204 34 (by decide)).trans hs203)
                have e45 : ar204 45 = va_up (ar12 45) 0 (nI 1) := (hs204.trans (congrArg (fun g => va_up g 0 (nI 1)) (hk203 45 (by decide))))
                have u3 : ∀ k, k ∉ ([34, 45] : List Nat) → ar204 k = ar12 k := fun k hk => (hk204 k (fun e => hk (by rw [e]; decide))).trans (hk203 k (fun e => hk (by rw [e]; decide)))
                have hz : RMct (fun _ _ => 0) (ar12 34) := RMct.zero (fun j hj => i342 j hj)
                have e45b : ar204 45 = va_up (ar 45) (3 * 0 + 0) (bI true) := by rw [e45, u2 45 (by decide), u1 45 (by decide)]; rfl
                exact ⟨_, rfl, rfl, _, _, P204, by rw [hF], by rw [hF]; exact ⟨(by rw [((((hk202 1 (by decide)).trans (hk4 1 (by decide))).trans (hk3 1 (by decide))).trans (hk2 1 (by decide))), (((u3 0 (by decide)).trans (u2 0 (by decide))).trans (u1 0 (by decide)))]; exact Htxt), (by rw [((((hk202 2 (by decide)).trans (hk4 2 (by decide))).trans (hk3 2 (by decide))).trans (hk2 2 (by decide))), (((u3 3 (by decide)).trans (u2 3 (by decide))).trans (u1 3 (by decide))), (((u3 4 (by decide)).trans (u2 4 (by decide))).trans (u1 4 (by decide))), (((u3 5 (by decide)).trans (u2 5 (by decide))).trans (u1 5 (by decide))), (((u3 6 (by decide)).trans (u2 6 (by decide))).trans (u1 6 (by decide)))]; exact Hop), (by rw [((((hk202 13 (by decide)).trans (hk4 13 (by decide))).trans (hk3 13 (by decide))).trans (hk2 13 (by decide))), (((u3 11 (by decide)).trans (u2 11 (by decide))).trans (u1 11 (by decide))), (((u3 12 (by decide)).trans (u2 12 (by decide))).trans (u1 12 (by decide)))]; exact Hinp), ⟨⟨(((((hk202 7 (by decide)).trans (hk4 7 (by decide))).trans (hk3 7 (by decide))).trans (hk2 7 (by decide))).trans Hnm.1.1), (((((hk202 8 (by decide)).trans (hk4 8 (by decide))).trans (hk3 8 (by decide))).trans (hk2 8 (by decide))).trans Hnm.1.2.1), (((((hk202 9 (by decide)).trans (hk4 9 (by decide))).trans (hk3 9 (by decide))).trans (hk2 9 (by decide))).trans Hnm.1.2.2.1), (((((hk202 10 (by decide)).trans (hk4 10 (by decide))).trans (hk3 10 (by decide))).trans (hk2 10 (by decide))).trans Hnm.1.2.2.2)⟩, ⟨(((((hk202 14 (by decide)).trans (hk4 14 (by decide))).trans (hk3 14 (by decide))).trans (hk2 14 (by decide))).trans Hnm.2.1.1), (fun _ => n36), (((((hk202 37 (by decide)).trans (hk4 37 (by decide))).trans (hk3 37 (by decide))).trans (hk2 37 (by decide))).trans Hnm.2.1.2.2)⟩, (((((hk202 15 (by decide)).trans (hk4 15 (by decide))).trans (hk3 15 (by decide))).trans (hk2 15 (by decide))).trans Hnm.2.2.1), (((((hk202 16 (by decide)).trans (hk4 16 (by decide))).trans (hk3 16 (by decide))).trans (hk2 16 (by decide))).trans Hnm.2.2.2.1), n17, n38, (((((hk202 18 (by decide)).trans (hk4 18 (by decide))).trans (hk3 18 (by decide))).trans (hk2 18 (by decide))).trans Hnm.2.2.2.2.2.2.1), n19⟩, (fun k hk o ho => by rcases (show k = 0 ∨ k = 1 ∨ k = 2 ∨ k = 3 by omega) with rfl | rfl | rfl | rfl; (rw [show 20 + 0 = 20 from rfl, (((u3 20 (by decide)).trans (u2 20 (by decide))).trans (u1 20 (by decide)))]; exact Hstt 0 (by decide) o ho); (rw [show 20 + 1 = 21 from rfl, (((u3 21 (by decide)).trans (u2 21 (by decide))).trans (u1 21 (by decide)))]; exact Hstt 1 (by decide) o ho); (rw [show 20 + 2 = 22 from rfl, (((u3 22 (by decide)).trans (u2 22 (by decide))).trans (u1 22 (by decide)))]; exact Hstt 2 (by decide) o ho); (rw [show 20 + 3 = 23 from rfl, (((u3 23 (by decide)).trans (u2 23 (by decide))).trans (u1 23 (by decide)))]; exact Hstt 3 (by decide) o ho)), ⟨(by rw [(((u3 24 (by decide)).trans (u2 24 (by decide))).trans (u1 24 (by decide))), (((u3 27 (by decide)).trans (u2 27 (by decide))).trans (u1 27 (by decide))), (((u3 30 (by decide)).trans (u2 30 (by decide))).trans (u1 30 (by decide)))]; exact Hs0), (fun _ => RMst.zero (fun j hj => (congrFun ((u3 25 (by decide)).trans (u2 25 (by decide))) j).trans (i251 j hj))), (by rw [(((u3 26 (by decide)).trans (u2 26 (by decide))).trans (u1 26 (by decide))), (((u3 29 (by decide)).trans (u2 29 (by decide))).trans (u1 29 (by decide))), (((u3 32 (by decide)).trans (u2 32 (by decide))).trans (u1 32 (by decide)))]; exact Hs2)⟩, ⟨(by rw [(((u3 33 (by decide)).trans (u2 33 (by decide))).trans (u1 33 (by decide)))]; exact Hc0), (hz.up (o := 0) (i := 0) e34 (by decide)), (by rw [(((u3 35 (by decide)).trans (u2 35 (by decide))).trans (u1 35 (by decide)))]; exact Hc2)⟩, (by rw [(((u3 39 (by decide)).trans (u2 39 (by decide))).trans (u1 39 (by decide))), (((u3 40 (by decide)).trans (u2 40 (by decide))).trans (u1 40 (by decide))), (((u3 41 (by decide)).trans (u2 41 (by decide))).trans (u1 41 (by decide))), (((u3 42 (by decide)).trans (u2 42 (by decide))).trans (u1 42 (by decide)))]; exact Hls), (by rw [(((u3 43 (by decide)).trans (u2 43 (by decide))).trans (u1 43 (by decide)))]; exact Hsp), (by rw [(((u3 44 (by decide)).trans (u2 44 (by decide))).trans (u1 44 (by decide)))]; exact Hpt), (RMhd.up (x := true) Hhd e45b (by decide)), (fun o h1 i h2 j h3 => by have h := Hch o h1 i h2 j h3; unfold mCh at h ⊢; rw [(((u3 46 (by decide)).trans (u2 46 (by decide))).trans (u1 46 (by decide))), (((u3 47 (by decide)).trans (u2 47 (by decide))).trans (u1 47 (by decide))), (((u3 48 (by decide)).trans (u2 48 (by decide))).trans (u1 48 (by decide))), (((u3 49 (by decide)).trans (u2 49 (by decide))).trans (u1 49 (by decide))), (((u3 50 (by decide)).trans (u2 50 (by decide))).trans (u1 50 (by decide))), (((u3 51 (by decide)).trans (u2 51 (by decide))).trans (u1 51 (by decide))), (((u3 52 (by decide)).trans (u2 52 (by decide))).trans (u1 52 (by decide))), (((u3 53 (by decide)).trans (u2 53 (by decide))).trans (u1 53 (by decide))), (((u3 54 (by decide)).trans (u2 54 (by decide))).trans (u1 54 (by decide))), (((u3 55 (by decide)).trans (u2 55 (by decide))).trans (u1 55 (by decide))), (((u3 56 (by decide)).trans (u2 56 (by decide))).trans (u1 56 (by decide)))]; exact h), (by rw [((((hk202 77 (by decide)).trans (hk4 77 (by decide))).trans (hk3 77 (by decide))).trans (hk2 77 (by decide))), (((u3 75 (by decide)).trans (u2 75 (by decide))).trans (u1 75 (by decide))), (((u3 76 (by decide)).trans (u2 76 (by decide))).trans (u1 76 (by decide)))]; exact Hex), (by rw [((((hk202 80 (by decide)).trans (hk4 80 (by decide))).trans (hk3 80 (by decide))).trans (hk2 80 (by decide))), (((u3 79 (by decide)).trans (u2 79 (by decide))).trans (u1 79 (by decide)))]; exact Hwr)⟩⟩
              · refine g_aload_n B 1 dX12_checkpoint_74 rfl ?_
                refine m_geta B P12 F_X12_87_12 (by decide) (Or.inl rfl) dX12_checkpoint_75 ?_
                refine g_iload_n B 0 dX12_checkpoint_78 rfl ?_
                refine g_iconst (v := nI 0) B dX12_checkpoint_79 (by decide) ?_
                refine m_st B P12 (by decide) rfl rfl (by show _ < 18; omega) (by decide) dX12_checkpoint_80 (fun R205 ar205 hs205 hk205 P205 => ?_)
                refine g_iinc (v := nI (x2 + 1)) (lv2 := [(1, _), (0, _)]) B 0 dX12_checkpoint_81 rfl (nI_1 _) (by decide) rfl ?_
                refine g_goto (tgt := 68) B dX12_checkpoint_84 (by decide) ?_
                have e34 : ar205 34 = va_up (ar12 34) x2 (nI 0) := hs205
                exact ih2 (18 - (x2 + 1)) (by omega) (x2 + 1) _ _ _ rfl (by omega) P205 (fun j hj => by rw [e34]; exact va_fill (g := fun _ => nI 0) i342 (rfl) j hj) (fun k hn => (hk205 k (fun e => hn (by rw [e]; decide))).trans (u2 k hn))
          exact L2 _ 0 _ _ _ rfl (Nat.zero_le _) P11 (fun j hj => absurd hj (Nat.not_lt_zero j)) (fun _ _ => rfl)
        · refine g_aload_n B 1 dX12_checkpoint_39 rfl ?_
          refine m_geta B P11 F_X12_60_12 (by decide) (Or.inr rfl) dX12_checkpoint_40 ?_
          refine g_iload_n B 0 dX12_checkpoint_43 rfl ?_
          refine g_iconst (v := nI 0) B dX12_checkpoint_44 (by decide) ?_
          refine m_stz B P11 (by decide) rfl rfl (by show _ < 96; omega) (by decide) rfl dX12_checkpoint_45 (fun R102 ar102 hs102 hk102 P102 => ?_)
          refine g_aload_n B 1 dX12_checkpoint_46 rfl ?_
          refine m_geta B P102 F_X12_69_12 (by decide) (Or.inl rfl) dX12_checkpoint_47 ?_
          refine g_iload_n B 0 dX12_checkpoint_50 rfl ?_
          refine g_iconst (v := nI 0) B dX12_checkpoint_51 (by decide) ?_
          refine m_st B P102 (by decide) rfl rfl (by show _ < 96; omega) (by decide) dX12_checkpoint_52 (fun R103 ar103 hs103 hk103 P103 => ?_)
          refine g_aload_n B 1 dX12_checkpoint_53 rfl ?_
          refine m_geta B P103 F_X12_78_12 (by decide) (Or.inl rfl) dX12_checkpoint_54 ?_
          refine g_iload_n B 0 dX12_checkpoint_57 rfl ?_
          refine g_iconst (v := nI 0) B dX12_checkpoint_58 (by decide) ?_
          refine m_st B P103 (by decide) rfl rfl (by show _ < 96; omega) (by decide) dX12_checkpoint_59 (fun R104 ar104 hs104 hk104 P104 => ?_)
          refine g_iinc (v := nI (x1 + 1)) (lv2 := [(1, _), (0, _)]) B 0 dX12_checkpoint_60 rfl (nI_1 _) (by decide) rfl ?_
          refine g_goto (tgt := 33) B dX12_checkpoint_63 (by decide) ?_
          have e25 : ar104 25 = va_up (ar11 25) x1 (nI 0) := ((hk104 25 (by decide)).trans ((hk103 25 (by decide)).trans hs102))
          have e28 : ar104 28 = va_up (ar11 28) x1 (nI 0) := ((hk104 28 (by decide)).trans (hs103.trans (congrArg (fun g => va_up g x1 (nI 0)) (hk102 28 (by decide)))))
          have e31 : ar104 31 = va_up (ar11 31) x1 (nI 0) := (hs104.trans (congrArg (fun g => va_up g x1 (nI 0)) ((hk103 31 (by decide)).trans (hk102 31 (by decide)))))
          exact ih1 (96 - (x1 + 1)) (by omega) (x1 + 1) _ _ _ rfl (by omega) P104 (fun j hj => by rw [e25]; exact va_fill (g := fun _ => nI 0) i251 (rfl) j hj) (fun j hj => by rw [e28]; exact va_fill (g := fun _ => nI 0) i281 (rfl) j hj) (fun j hj => by rw [e31]; exact va_fill (g := fun _ => nI 0) i311 (rfl) j hj) (fun k hn => (((hk104 k (fun e => hn (by rw [e]; decide))).trans (hk103 k (fun e => hn (by rw [e]; decide)))).trans (hk102 k (fun e => hn (by rw [e]; decide)))).trans (u1 k hn))
    exact L1 _ 0 _ _ _ rfl (Nat.zero_le _) P4 (fun j hj => absurd hj (Nat.not_lt_zero j)) (fun j hj => absurd hj (Nat.not_lt_zero j)) (fun j hj => absurd hj (Nat.not_lt_zero j)) (fun _ _ => rfl)
  · refine g_ldcw (v := (-1000000005)) B q2833 dX12_checkpoint_7 ?_
    refine g_iret B E rfl rfl dX12_checkpoint_10 ?_
    have hF : a.chkF = (-1000000005, a) := by rw [aA.chkF, if_pos c1]
    exact ⟨_, rfl, rfl, _, _, P, by rw [hF], by rw [hF]; exact hR⟩
