set_option maxRecDepth 100000
/-! THE MODEL's OBJECT: its fields by number. mTy: 0 int, 1 int array, 2 boolean array, 3 long, 4 boolean -/
def mTy : Nat → Nat
  | 0 => 1
  | 3 => 1
  | 4 => 1
  | 5 => 1
  | 6 => 1
  | 11 => 1
  | 12 => 1
  | 19 => 4
  | 20 => 1
  | 21 => 1
  | 22 => 1
  | 23 => 1
  | 24 => 2
  | 25 => 2
  | 26 => 2
  | 27 => 1
  | 28 => 1
  | 29 => 1
  | 30 => 1
  | 31 => 1
  | 32 => 1
  | 33 => 1
  | 34 => 1
  | 35 => 1
  | 39 => 1
  | 40 => 1
  | 41 => 1
  | 42 => 1
  | 43 => 1
  | 44 => 1
  | 45 => 2
  | 46 => 1
  | 47 => 1
  | 48 => 1
  | 49 => 1
  | 50 => 1
  | 51 => 1
  | 52 => 1
  | 53 => 1
  | 54 => 1
  | 55 => 1
  | 56 => 1
  | 57 => 1
  | 59 => 3
  | 61 => 4
  | 62 => 1
  | 63 => 1
  | 64 => 1
  | 65 => 1
  | 66 => 1
  | 67 => 1
  | 69 => 2
  | 70 => 1
  | 71 => 1
  | 72 => 1
  | 73 => 1
  | 74 => 1
  | 75 => 1
  | 76 => 1
  | 79 => 1
  | _ => 0
def mLen : Nat → Nat
  | 0 => 60
  | 3 => 6
  | 4 => 6
  | 5 => 6
  | 6 => 6
  | 11 => 60
  | 12 => 60
  | 20 => 6
  | 21 => 6
  | 22 => 6
  | 23 => 6
  | 24 => 96
  | 25 => 96
  | 26 => 96
  | 27 => 96
  | 28 => 96
  | 29 => 96
  | 30 => 96
  | 31 => 96
  | 32 => 96
  | 33 => 18
  | 34 => 18
  | 35 => 18
  | 39 => 18
  | 40 => 54
  | 41 => 54
  | 42 => 54
  | 43 => 18
  | 44 => 18
  | 45 => 18
  | 46 => 54
  | 47 => 54
  | 48 => 216
  | 49 => 216
  | 50 => 216
  | 51 => 54
  | 52 => 54
  | 53 => 216
  | 54 => 864
  | 55 => 864
  | 56 => 864
  | 57 => 40000
  | 62 => 6
  | 63 => 6
  | 64 => 6
  | 65 => 6
  | 66 => 3
  | 67 => 3
  | 69 => 96
  | 70 => 96
  | 71 => 96
  | 72 => 30
  | 73 => 30
  | 74 => 30
  | 75 => 8
  | 76 => 8
  | 79 => 80
  | _ => 0
theorem va_upe {α : Type} {f : Nat → α} {k j : Nat} {x : α} (h : j ≠ k) : va_up f k x j = f j := if_neg h
theorem va_ups {α : Type} {f : Nat → α} {k : Nat} {x : α} : va_up f k x k = x := if_pos rfl
def mR (k : Nat) : Nat := if mTy k = 2 then 2100 + k else 1100 + k
/-- the roles of the model's things -/
def isM (r : Nat) : Prop := r = 12 ∨ (1100 ≤ r ∧ r < 1200) ∨ (2100 ≤ r ∧ r < 2200)
/-- the model m in the world (T, O, R): its numbers sc, its arrays ar at ad; since (O0, R0) nothing but it has changed -/
def PM (m : Nat) (ad : Nat → Nat) (O0 R0 : xO) (sc : Nat → Int32) (ar : Nat → Nat → Int32) (T : xT) (O R : xO) : Prop :=
  (∃ n o : Nat, T m = some (12, n, o)) ∧ (∀ k, k < 81 → mTy k = 0 ∨ mTy k = 4 → O m (1536 + k) = .int (sc k)) ∧ (∃ x : Int64, O m 1595 = .long x) ∧
  (∀ k, k < 81 → mTy k = 1 ∨ mTy k = 2 → O m (1536 + k) = .ref (ad k) ∧ T (ad k) = some (mR k, mLen k, m) ∧ R (ad k) = xI (ar k)) ∧
  ∀ (a : Nat) (t : Nat × Nat × Nat), T a = some t → ¬ isM t.1 → O a = O0 a ∧ R a = R0 a
theorem mR_kind {k : Nat} (hk : k < 81) (h : mTy k = 1 ∨ mTy k = 2) : (mTy k = 1 → mR k / 1000 = 1) ∧ (mTy k = 2 → mR k / 1000 = 2) ∧ isM (mR k) ∧ mR k ≠ 12 := by
  unfold mR isM
  rcases h with h | h
  · rw [h, if_neg (by decide)]
    refine ⟨fun _ => by omega, fun h => by omega, by omega, by omega⟩
  · rw [h, if_pos rfl]
    refine ⟨fun h => by omega, fun _ => by omega, by omega, by omega⟩
theorem mR_inj {k j : Nat} (hk : k < 81) (hj : j < 81) (h : mR k = mR j) : k = j := by
  unfold mR at h
  split at h <;> split at h <;> omega
theorem PM.self {m : Nat} {ad : Nat → Nat} {O0 R0 : xO} {sc : Nat → Int32} {ar : Nat → Nat → Int32} {T : xT} {O R : xO} (h : PM m ad O0 R0 sc ar T O R) : PM m ad O R sc ar T O R := ⟨h.1, h.2.1, h.2.2.1, h.2.2.2.1, fun _ _ _ _ => ⟨rfl, rfl⟩⟩
theorem PM.rebase {m : Nat} {ad : Nat → Nat} {O0 R0 : xO} {sc sc' : Nat → Int32} {ar ar' : Nat → Nat → Int32} {T : xT} {O R O' R' : xO} (h : PM m ad O0 R0 sc ar T O R) (h' : PM m ad O R sc' ar' T O' R') : PM m ad O0 R0 sc' ar' T O' R' :=
  ⟨h'.1, h'.2.1, h'.2.2.1, h'.2.2.2.1, fun a t ht hn => ⟨(h'.2.2.2.2 a t ht hn).1.trans (h.2.2.2.2 a t ht hn).1, (h'.2.2.2.2 a t ht hn).2.trans (h.2.2.2.2 a t ht hn).2⟩⟩
theorem PM.put {m : Nat} {ad : Nat → Nat} {O0 R0 : xO} {sc : Nat → Int32} {ar : Nat → Nat → Int32} {T : xT} {O R : xO} (h : PM m ad O0 R0 sc ar T O R) {k : Nat} (hk : k < 81) (ht : mTy k = 0 ∨ mTy k = 4) (x : Int32) : PM m ad O0 R0 (va_up sc k x) ar T (xUp O m (1536 + k) (.int x)) R := by
  refine ⟨h.1, fun j hj hjt => ?_, ?_, fun j hj hjt => ?_, fun a t ha hn => ?_⟩
  · by_cases e : j = k
    · subst e
      rw [xUp_s, va_up_self]
    · rw [xUp_k (by omega), va_up_ne _ _ e]
      exact h.2.1 j hj hjt
  · obtain ⟨y, hy⟩ := h.2.2.1
    refine ⟨y, ?_⟩
    by_cases e : k = 59
    · subst e; rcases ht with e | e <;> cases e
    · rw [xUp_k (by omega)]
      exact hy
  · have hne : j ≠ k := fun e => by subst e; rcases ht with e | e <;> rcases hjt with e2 | e2 <;> omega
    rw [xUp_k (by omega)]
    exact h.2.2.2.1 j hj hjt
  · obtain ⟨n, o, hm⟩ := h.1
    have hne : a ≠ m := fun e => by
      subst e
      cases ha.symm.trans hm
      exact hn (Or.inl rfl)
    rw [xUp_r hne]
    exact h.2.2.2.2 a t ha hn
theorem PM.putL {m : Nat} {ad : Nat → Nat} {O0 R0 : xO} {sc : Nat → Int32} {ar : Nat → Nat → Int32} {T : xT} {O R : xO} (h : PM m ad O0 R0 sc ar T O R) (x : Int64) : PM m ad O0 R0 sc ar T (xUp O m 1595 (.long x)) R := by
  refine ⟨h.1, fun j hj hjt => ?_, ⟨x, xUp_s⟩, fun j hj hjt => ?_, fun a t ha hn => ?_⟩
  · have e : j ≠ 59 := fun e => by subst e; rcases hjt with e | e <;> cases e
    rw [xUp_k (by omega)]
    exact h.2.1 j hj hjt
  · have e : j ≠ 59 := fun e => by subst e; rcases hjt with e | e <;> cases e
    rw [xUp_k (by omega)]
    exact h.2.2.2.1 j hj hjt
  · obtain ⟨n, o, hm⟩ := h.1
    have hne : a ≠ m := fun e => by
      subst e
      cases ha.symm.trans hm
      exact hn (Or.inl rfl)
    rw [xUp_r hne]
    exact h.2.2.2.2 a t ha hn
theorem PM.ast {m : Nat} {ad : Nat → Nat} {O0 R0 : xO} {sc : Nat → Int32} {ar : Nat → Nat → Int32} {T : xT} {O R : xO} (h : PM m ad O0 R0 sc ar T O R) {k : Nat} (hk : k < 81) (ht : mTy k = 1 ∨ mTy k = 2) (g : Nat → Int32) : PM m ad O0 R0 sc (va_up ar k g) T O (xUr R (ad k) (xI g)) := by
  have hr := mR_kind hk ht
  have hT := (h.2.2.2.1 k hk ht).2.1
  refine ⟨h.1, h.2.1, h.2.2.1, fun j hj hjt => ⟨(h.2.2.2.1 j hj hjt).1, (h.2.2.2.1 j hj hjt).2.1, ?_⟩, fun a t ha hn => ⟨(h.2.2.2.2 a t ha hn).1, ?_⟩⟩
  · by_cases e : j = k
    · subst e
      rw [xUr_s, va_up_self]
    · have hTj := (h.2.2.2.1 j hj hjt).2.1
      have hne : ad j ≠ ad k := fun e2 => by
        rw [e2] at hTj
        exact e (mR_inj hj hk (by have := hTj.symm.trans hT; simp at this; exact this.1))
      rw [xUr_a hne, va_up_ne _ _ e]
      exact (h.2.2.2.1 j hj hjt).2.2
  · have hne : a ≠ ad k := fun e => by
      subst e
      cases ha.symm.trans hT
      exact hn hr.2.2.1
    rw [xUr_a hne]
    exact (h.2.2.2.2 a t ha hn).2
section XM
variable {Z : xZ} {G : xG} {cc : ByteArray} {own : String} {nL fr lo : Nat} {ret : Option FieldType} {T : xT} {O R O0 R0 : xO} {pc : Nat} {lv : List (Nat × Value)} {st : List Value} {kc ks : Nat} {m : Nat} {ad : Nat → Nat} {sc : Nat → Int32} {ar : Nat → Nat → Int32}
theorem m_get (B : xOk Z G cc own nL fr lo ret) (P : PM m ad O0 R0 sc ar T O R) {idx k : Nat} {v : Int32} (f : xFld own idx 12 k) (hk : k < 81) (ht : mTy k = 0 ∨ mTy k = 4) (hv : sc k = v) (d : decode cc pc = .ok (.getfield idx, 3)) (kk : xV Z (T, O, R) (pc + 3) lv (.int v :: st) kc ks) : xV Z (T, O, R) pc lv (.ref m :: st) kc ks := by
  obtain ⟨n, o, hm⟩ := P.1
  subst hv
  exact g_get (pl := 1536 + k) B f hm rfl (P.2.1 k hk ht) d kk
theorem m_geta (B : xOk Z G cc own nL fr lo ret) (P : PM m ad O0 R0 sc ar T O R) {idx k : Nat} (f : xFld own idx 12 k) (hk : k < 81) (ht : mTy k = 1 ∨ mTy k = 2) (d : decode cc pc = .ok (.getfield idx, 3)) (kk : xV Z (T, O, R) (pc + 3) lv (.ref (ad k) :: st) kc ks) : xV Z (T, O, R) pc lv (.ref m :: st) kc ks := by
  obtain ⟨n, o, hm⟩ := P.1
  exact g_get (pl := 1536 + k) B f hm rfl (P.2.2.2.1 k hk ht).1 d kk
theorem m_getL (B : xOk Z G cc own nL fr lo ret) (P : PM m ad O0 R0 sc ar T O R) {idx : Nat} (f : xFld own idx 12 59) (d : decode cc pc = .ok (.getfield idx, 3)) (kk : ∀ x : Int64, xV Z (T, O, R) (pc + 3) lv (.long x :: st) kc ks) : xV Z (T, O, R) pc lv (.ref m :: st) kc ks := by
  obtain ⟨n, o, hm⟩ := P.1
  obtain ⟨x, hx⟩ := P.2.2.1
  exact g_get (pl := 1536 + 59) B f hm rfl hx d (kk x)
theorem m_put (B : xOk Z G cc own nL fr lo ret) (P : PM m ad O0 R0 sc ar T O R) {idx k : Nat} {x : Int32} (f : xFld own idx 12 k) (hk : k < 81) (ht : mTy k = 0 ∨ mTy k = 4) (hfin : (TX12 k).2.2.2 = false) (hn : narrow (tyX12 k) (.int x) = .int x) (hfit : fits (tyX12 k) (.int x) = true) (d : decode cc pc = .ok (.putfield idx, 3)) (kk : ∀ (O1 : xO) (sc1 : Nat → Int32), sc1 k = x → (∀ i, i ≠ k → sc1 i = sc i) → PM m ad O0 R0 sc1 ar T O1 R → xV Z (T, O1, R) (pc + 3) lv st kc ks) : xV Z (T, O, R) pc lv (.int x :: .ref m :: st) kc ks := by
  obtain ⟨n, o, hm⟩ := P.1
  exact g_put (q := (RX12, TX12, 81)) (pl := 1536 + k) B f rfl hfin (tyX12_ok k hk) hn hfit hm rfl d (kk _ _ va_ups (fun i hi => va_upe hi) (P.put hk ht x))
theorem m_putL (B : xOk Z G cc own nL fr lo ret) (P : PM m ad O0 R0 sc ar T O R) {idx : Nat} {x : Int64} (f : xFld own idx 12 59) (d : decode cc pc = .ok (.putfield idx, 3)) (kk : ∀ O1 : xO, PM m ad O0 R0 sc ar T O1 R → xV Z (T, O1, R) (pc + 3) lv st kc ks) : xV Z (T, O, R) pc lv (.long x :: .ref m :: st) kc ks := by
  obtain ⟨n, o, hm⟩ := P.1
  exact g_put (q := (RX12, TX12, 81)) (pl := 1536 + 59) B f rfl rfl (tyX12_ok 59 (by decide)) rfl rfl hm rfl d (kk _ (P.putL x))
/-- a load from the array k at j -/
theorem m_ld (B : xOk Z G cc own nL fr lo ret) (P : PM m ad O0 R0 sc ar T O R) {k j : Nat} {i : Int32} (hk : k < 81) (ht : mTy k = 1) (hi : i = nI j) (hj : j < mLen k) (hl : mLen k < 2 ^ 31) {v : Int32} (hv : ar k j = v) (d : decode cc pc = .ok (.iaload, 1)) (kk : xV Z (T, O, R) (pc + 1) lv (.int v :: st) kc ks) : xV Z (T, O, R) pc lv (.int i :: .ref (ad k) :: st) kc ks := by
  subst hi
  obtain ⟨-, h2, h3⟩ := P.2.2.2.1 k hk (Or.inl ht)
  refine g_ialdI B h2 ((mR_kind hk (Or.inl ht)).1 ht) h3 (vp_in_nI hj hl) d ?_
  rw [nI_clamp (by omega), hv]
  exact kk
theorem m_ldz (B : xOk Z G cc own nL fr lo ret) (P : PM m ad O0 R0 sc ar T O R) {k j : Nat} {i : Int32} (hk : k < 81) (ht : mTy k = 2) (hi : i = nI j) (hj : j < mLen k) (hl : mLen k < 2 ^ 31) {v : Int32} (hv : ar k j = v) (d : decode cc pc = .ok (.baload, 1)) (kk : xV Z (T, O, R) (pc + 1) lv (.int v :: st) kc ks) : xV Z (T, O, R) pc lv (.int i :: .ref (ad k) :: st) kc ks := by
  subst hi
  obtain ⟨-, h2, h3⟩ := P.2.2.2.1 k hk (Or.inr ht)
  refine g_zaldI B h2 ((mR_kind hk (Or.inr ht)).2.1 ht) h3 (vp_in_nI hj hl) d ?_
  rw [nI_clamp (by omega), hv]
  exact kk
theorem m_st (B : xOk Z G cc own nL fr lo ret) (P : PM m ad O0 R0 sc ar T O R) {k j : Nat} {i x : Int32} (hk : k < 81) (ht : mTy k = 1) (hi : i = nI j) (hj : j < mLen k) (hl : mLen k < 2 ^ 31) (d : decode cc pc = .ok (.iastore, 1)) (kk : ∀ (R1 : xO) (ar1 : Nat → Nat → Int32), ar1 k = va_up (ar k) j x → (∀ i, i ≠ k → ar1 i = ar i) → PM m ad O0 R0 sc ar1 T O R1 → xV Z (T, O, R1) (pc + 1) lv st kc ks) : xV Z (T, O, R) pc lv (.int x :: .int i :: .ref (ad k) :: st) kc ks := by
  subst hi
  obtain ⟨-, h2, h3⟩ := P.2.2.2.1 k hk (Or.inl ht)
  refine g_iastI B h2 ((mR_kind hk (Or.inl ht)).1 ht) h3 (vp_in_nI hj hl) d ?_
  rw [nI_clamp (by omega)]
  exact kk _ _ va_ups (fun i hi => va_upe hi) (P.ast hk (Or.inl ht) _)
theorem m_stz (B : xOk Z G cc own nL fr lo ret) (P : PM m ad O0 R0 sc ar T O R) {k j : Nat} {i x : Int32} (hk : k < 81) (ht : mTy k = 2) (hi : i = nI j) (hj : j < mLen k) (hl : mLen k < 2 ^ 31) (hx : narrow .boolean (.int x) = .int x) (d : decode cc pc = .ok (.bastore, 1)) (kk : ∀ (R1 : xO) (ar1 : Nat → Nat → Int32), ar1 k = va_up (ar k) j x → (∀ i, i ≠ k → ar1 i = ar i) → PM m ad O0 R0 sc ar1 T O R1 → xV Z (T, O, R1) (pc + 1) lv st kc ks) : xV Z (T, O, R) pc lv (.int x :: .int i :: .ref (ad k) :: st) kc ks := by
  subst hi
  obtain ⟨-, h2, h3⟩ := P.2.2.2.1 k hk (Or.inr ht)
  refine g_zastI B h2 ((mR_kind hk (Or.inr ht)).2.1 ht) h3 (vp_in_nI hj hl) hx d ?_
  rw [nI_clamp (by omega)]
  exact kk _ _ va_ups (fun i hi => va_upe hi) (P.ast hk (Or.inr ht) _)
end XM
/-- what a method of the model leaves: an answer, and the model's numbers and arrays -/
def mPost (m : Nat) (ad : Nat → Nat) (T : xT) (O R : xO) (P : Value → (Nat → Int32) → (Nat → Nat → Int32) → Prop) : Value → xT → xO → xO → Prop := fun v T2 O2 R2 => T2 = T ∧ ∃ (sc : Nat → Int32) (ar : Nat → Nat → Int32), PM m ad O R sc ar T O2 R2 ∧ P v sc ar
def mPostN (m : Nat) (ad : Nat → Nat) (T : xT) (O R : xO) (P : (Nat → Int32) → (Nat → Nat → Int32) → Prop) : xT → xO → xO → Prop := fun T2 O2 R2 => T2 = T ∧ ∃ (sc : Nat → Int32) (ar : Nat → Nat → Int32), PM m ad O R sc ar T O2 R2 ∧ P sc ar

