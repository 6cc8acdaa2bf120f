set_option maxRecDepth 100000
theorem sNC_sB2 {Y : xY} {h : Nat} {sp : List (Nat × Nat)} {r o : Nat} (e : sNC Y h sp r o) : sB2 r o := by
  rcases e with ⟨e, -⟩ | (⟨e, -⟩ | e) | ⟨e, -⟩
  · unfold sB2 gCh; omega
  · unfold sB2 gCh; omega
  · unfold sB2 gCh; omega
  · unfold rB at e; unfold sB2 gCh; omega
theorem sNC_c {Y : xY} {h : Nat} {sp : List (Nat × Nat)} {r o : Nat} (e : sNC Y h sp r o) : (r ≠ 0 ∧ r ≠ 9001 ∧ r ≠ 8001 ∧ r ≠ 10001 ∧ r ≠ 7001) ∧ ((r = 10 ∨ r = 41 ∨ r = 5001) → o = h) := by
  rcases e with ⟨e, e2⟩ | (⟨e, -⟩ | e) | ⟨e, -⟩
  · omega
  · omega
  · omega
  · unfold rB at e; omega
/-- the arrays of channels, all of them -/
theorem bA.done {Y : xY} {A : xVV} {n m k K p10 : Nat} {p : Nat → Nat} (h1 : yAt Y 10001 0 p10) (h2 : yN Y 10001 0 = 5) (hm : ∀ o, o + 1 < n → o < m) (hk : ∀ o i, o + 1 < n → i < p o → 3 * o + i < k) (hK : ∀ o i j, bOk n p o i j → mLn o i j < K) (a10 : bA10 Y A n p m) (a9 : bA9 Y A n p k) (a8 : bA8 Y A n p K) : ∃ xi, yAt Y 10001 0 xi ∧ yN Y 10001 0 = 5 ∧ ∀ o, o + 1 < n → ∃ xr, A 10001 0 o = .ref xr ∧ yAt Y 9001 o xr ∧ yN Y 9001 o = p o ∧ ∀ i, i < p o → ∃ xs, A 9001 o i = .ref xs ∧ yAt Y 8001 (3 * o + i) xs ∧ yN Y 8001 (3 * o + i) = p (o + 1) ∧ ∀ j, j < p (o + 1) → ∃ x, A 8001 (3 * o + i) j = .ref x ∧ yAt Y 10 (mLn o i j) x := by
  refine ⟨p10, h1, h2, fun o ho => ?_⟩
  obtain ⟨xr, k1, k2, k3⟩ := a10 o ho (hm o ho)
  refine ⟨xr, k1, k2, k3, fun i hi => ?_⟩
  obtain ⟨-, xs, g1, g2, g3⟩ := a9 o i ho hi (hk o i ho hi)
  refine ⟨xs, g1, g2, g3, fun j hj => ?_⟩
  obtain ⟨-, x, e1, e2⟩ := a8 o i j ⟨ho, hi, hj⟩ (hK o i j ⟨ho, hi, hj⟩)
  exact ⟨x, e1, e2⟩
theorem build_c {Z : xZ} {G : xG} {T : xT} {O R : xO} {Y : xY} {V : xVV} {I : xII} {J : xJJ} {A : xVV} {w0 : xW} {x0 pl pv po p7 p10 g0 n xl bz old cr : Nat} {p : Nat → Nat} {ll : List Nat} {sp : List (Nat × Nat)} (B : xOk Z G cX0_build yX0_build.cls 4 7 191 none) (P : PX Y V I J A w0 T O R) (hBo : xBo Y V A x0 pl pv po p7 p10 g0 n p ll) (hAr : bAr Y A p n) (hsm : xSm Y V x0 xl bz old cr) (hSp : bSp Y V xl sp (fun _ => 54)) (hs324 : sp.length ≤ 324) (hN : bN2 Y 0 0 0) (hn2 : 2 ≤ n) (hn6 : n ≤ 6) (hp3 : ∀ o, p o ≤ 3) (kk : ∀ (Y1 : xY) (V1 : xVV) (I1 : xII) (A1 : xVV) (T1 : xT) (O1 R1 : xO), PX Y1 V1 I1 J A1 w0 T1 O1 R1 → xFr sB2 Y V I J A Y1 V1 I1 J A1 → (∃ fi, XCh Y1 V1 I1 A1 n p (fun _ _ _ => ([], [], 0)) fi) → (∃ xi, yAt Y1 10001 0 xi ∧ yN Y1 10001 0 = 5 ∧ ∀ o, o + 1 < n → ∃ xr, A1 10001 0 o = .ref xr ∧ yAt Y1 9001 o xr ∧ yN Y1 9001 o = p o ∧ ∀ i, i < p o → ∃ xs, A1 9001 o i = .ref xs ∧ yAt Y1 8001 (3 * o + i) xs ∧ yN Y1 8001 (3 * o + i) = p (o + 1) ∧ ∀ j, j < p (o + 1) → ∃ x, A1 8001 (3 * o + i) j = .ref x ∧ yAt Y1 10 (mLn o i j) x) → xV Z (T1, O1, R1) 254 [(0, .ref x0)] [] 0 0) : xV Z (T, O, R) 139 [(0, .ref x0)] [] 335 1995 := by
  have ⟨h0, hB8, hB9, hB10, ⟨h7, hB11⟩, hB12⟩ := hBo
  refine g_iconst (v := nI 0) B dX0_build_139 (by decide) ?_
  refine g_istore_n (lv2 := [(1, _), (0, _)]) B dX0_build_140 (by decide) rfl ?_
  have La : ∀ (da : Nat) (o : Nat) (bo lc : Nat → Nat) (sp1 : List (Nat × Nat)) (Y1a : xY) (V1a : xVV) (I1a : xII) (A1a : xVV) (T1a : xT) (O1a R1a : xO), da = n - o → PX Y1a V1a I1a J A1a w0 T1a O1a R1a → (o < n) → (xFr sB2 Y V I J A Y1a V1a I1a J A1a) → (bCh Y1a V1a I1a A1a n p (mLn o 0 0) bo lc) → (bSp Y1a V1a xl sp1 lc) → (sp1.length ≤ sp.length) → (bA8 Y1a A1a n p (mLn o 0 0)) → (bA9 Y1a A1a n p (3 * o)) → (bA10 Y1a A1a n p o) → (bN2 Y1a o (3 * o) (mLn o 0 0)) → xV Z (T1a, O1a, R1a) 141 [(1, .int (nI o)), (0, .ref x0)] [] (67 * (5 - o)) (399 * (5 - o)) := by
    intro da
    induction da using Nat.strongRecOn with
    | _ da iha =>
      intro o bo lc sp1 Y1a V1a I1a A1a T1a O1a R1a hda P1a hon Fa CHa SPa hsla A8a A9a A10a N2a
      have Boa := hBo.fr Fa (fun r o e => by unfold sB2 gCh at e; omega)
      have ⟨b0a, ⟨b8a, b9a, b10a, b11a, b12a⟩, boa, bva, ⟨b7a, b7na⟩, ⟨bta, btna⟩, bla, blna, b4a⟩ := Boa
      have ARa := hAr.fr h7 Fa (fun e => by unfold sB2 gCh at e; omega)
      have hp3o := hp3 o
      have hp3n := hp3 (o + 1)
      refine g_iload_n B 0 dX0_build_141 rfl ?_
      refine g_iconst (v := nI 1) B dX0_build_142 (by decide) ?_
      refine g_iaddN B dX0_build_143 ?_
      refine g_aload_n B 1 dX0_build_144 rfl ?_
      refine x_get B P1a b0a (by decide) rfl F_X0_115_0 (by decide) b8a dX0_build_145 ?_
      obtain ⟨n101, u101, ty101⟩ := P1a.ty bla.1 (by decide) rfl
      refine g_callV (kc2 := (67 * (5 - o))) (ks2 := (399 * (5 - o))) (rest := [_]) B M_J4_size q502 q503 q504 ty101 rfl (c_J4_size (r := 34) (rd := 5002) P1a (by decide) rfl bla) rfl rfl (Nat.le_of_ble_eq_true rfl) (Nat.le_of_ble_eq_true rfl) (Nat.le_of_ble_eq_true rfl) (Nat.le_refl _) (Nat.le_refl _) dX0_build_148 (xkA (fun v101 T101 O101 R101 le101 p101 => ?_))
      obtain ⟨rfl, eT101, eO101, eR101⟩ := p101
      obtain rfl := eT101.symm
      obtain rfl := eO101.symm
      obtain rfl := eR101.symm
      refine g_icmp_geN (tgt := 254) B (by omega) (by omega) dX0_build_151 (by decide) (fun c102 => ?_) (fun c102 => ?_)
      · have hKK : ∀ o2 i2 j2, bOk n p o2 i2 j2 → mLn o2 i2 j2 < mLn o 0 0 := fun o2 i2 j2 hk => by have q1 := hp3 o2; have q2 := hp3 (o2 + 1); have q3 := hk.1; have q4 := hk.2; unfold mLn; omega
        refine xV.room (Nat.zero_le _) (Nat.zero_le _) ?_
        refine g_pick [1] rfl ?_
        exact kk _ _ _ _ _ _ _ P1a Fa ⟨_, CHa.done hn6 hp3 hKK SPa (by omega)⟩ (bA.done bta btna (fun o2 h => by omega) (fun o2 i2 h1 h2 => by have := hp3 o2; omega) hKK A10a A9a A8a)
      · have ho1 : o + 1 < n := by omega
        obtain ⟨xra, u1xra, u2xra, u3xra⟩ := ARa o (by omega)
        refine g_aload_n B 1 dX0_build_154 rfl ?_
        refine x_get B P1a b0a (by decide) rfl F_X0_138_0 (by decide) b12a dX0_build_155 ?_
        refine g_iload_n B 0 dX0_build_158 rfl ?_
        refine g_aload_n B 1 dX0_build_159 rfl ?_
        refine x_get B P1a b0a (by decide) rfl F_X0_132_0 (by decide) b11a dX0_build_160 ?_
        refine g_iload_n B 0 dX0_build_163 rfl ?_
        refine x_ldA B P1a b7a (by decide) rfl rfl rfl b7na (by omega) (by omega) u1xra dX0_build_164 ?_
        refine x_alen B P1a u2xra (by decide) rfl u3xra dX0_build_165 ?_
        refine xV.room (kc' := 67 * (5 - (o + 1)) + 22 * 3 + 1) (ks' := 399 * (5 - (o + 1)) + 132 * 3 + p o) (by omega) (by omega) ?_
        refine x_newqA (N := (p o)) (kc := 67 * (5 - (o + 1)) + 22 * 3) (ks := 399 * (5 - (o + 1)) + 132 * 3) B P1a 9001 (fun _ => o) (by unfold okA; decide) (by decide) rfl rfl q573 q259 rfl (by omega) (fun _ _ x => N2a.1 o x (Nat.le_refl _)) (fun hi => by unfold idR at hi; omega) dX0_build_166 (fun q103 Y103 A103 T103 R103 hq103 le103 gr103 hf103 at103 hN103 hs103 hk103 P103 => ?_)
        obtain ⟨t104, u104, ty104, tk104⟩ := P103.tya at103 (by decide)
        refine x_stE B P103 (le103.at bta) (by decide) ty104 (xAsE.arr (by omega) tk104 rfl rfl rfl rfl rfl) rfl (le103.n bta btna) (by omega) (by omega) dX0_build_169 (fun R104 A104 hs104 hk104 P104 => ?_)
        refine g_iconst (v := nI 0) B dX0_build_170 (by decide) ?_
        refine g_istore_n (lv2 := [(2, _), (1, _), (0, _)]) B dX0_build_171 (by decide) rfl ?_
        have fq : xFr (fun r c => r = 9001 ∧ c = o) Y1a V1a I1a J A1a Y103 V1a I1a J A103 := xFr.nA (r := 9001) (o := o) ⟨rfl, rfl⟩ le103 gr103 hs103 hk103
        have fs : xFr (fun r c => r = 10001 ∧ c = 0) Y103 V1a I1a J A103 Y103 V1a I1a J A104 := xFr.uA (r := 10001) (o := 0) ⟨rfl, rfl⟩ hs104 hk104
        have CHq := (CHa.fr fq (fun o2 i2 j2 hk hK => ⟨⟨fun e => by omega, fun e => by omega, fun e => by omega⟩, fun r hr e => by unfold rB at hr; omega⟩)).fr fs (fun o2 i2 j2 hk hK => ⟨⟨fun e => by omega, fun e => by omega, fun e => by omega⟩, fun r hr e => by unfold rB at hr; omega⟩)
        have SPq := (SPa.fr fq (fun r o e => by omega)).fr fs (fun r o e => by omega)
        have A8q := (A8a.fr fq (fun o2 i2 j2 h1 h2 e => by omega)).fr fs (fun o2 i2 j2 h1 h2 e => by omega)
        have A9q := (A9a.fr fq (fun o2 h e => by omega)).fr fs (fun o2 h e => by omega)
        have A10q := (A10a.fr bta fq (fun e => by omega)).st hs104 at103 hN103
        have N2q := (N2a.gr (m' := o + 1) fq.1 (Nat.le_succ _) (Nat.le_refl _) (Nat.le_refl _) (fun r c e => by omega)).gr fs.1 (Nat.le_refl _) (Nat.le_refl _) (Nat.le_refl _) (fun r c e => by omega)
        refine xV.room (kc' := (22 * (3 - 0) + 67 * (5 - (o + 1)))) (ks' := (132 * (3 - 0) + 399 * (5 - (o + 1)))) (by omega) (by omega) ?_
        have Lb : ∀ (db : Nat) (i : Nat) (bo lc : Nat → Nat) (sp1 : List (Nat × Nat)) (Y1b : xY) (V1b : xVV) (I1b : xII) (A1b : xVV) (T1b : xT) (O1b R1b : xO), db = p o - i → PX Y1b V1b I1b J A1b w0 T1b O1b R1b → (i ≤ p o) → (xFr sB2 Y V I J A Y1b V1b I1b J A1b) → (bCh Y1b V1b I1b A1b n p (mLn o i 0) bo lc) → (bSp Y1b V1b xl sp1 lc) → (sp1.length ≤ sp.length) → (bA8 Y1b A1b n p (mLn o i 0)) → (bA9 Y1b A1b n p (3 * o + i)) → (bA10 Y1b A1b n p (o + 1)) → (bN2 Y1b (o + 1) (3 * o + i) (mLn o i 0)) → xV Z (T1b, O1b, R1b) 172 [(2, .int (nI i)), (1, .int (nI o)), (0, .ref x0)] [] (22 * (3 - i) + 67 * (5 - (o + 1))) (132 * (3 - i) + 399 * (5 - (o + 1))) := by
          intro db
          induction db using Nat.strongRecOn with
          | _ db ihb =>
            intro i bo lc sp1 Y1b V1b I1b A1b T1b O1b R1b hdb P1b hil Fb CHb SPb hslb A8b A9b A10b N2b
            have Bob := hBo.fr Fb (fun r o e => by unfold sB2 gCh at e; omega)
            have ⟨b0b, ⟨b8b, b9b, b10b, b11b, b12b⟩, bob, bvb, ⟨b7b, b7nb⟩, ⟨btb, btnb⟩, blb, blnb, b4b⟩ := Bob
            have ARb := hAr.fr h7 Fb (fun e => by unfold sB2 gCh at e; omega)
            obtain ⟨x9b, w1b, w2b, w3b⟩ := A10b o ho1 (Nat.lt_succ_self o)
            obtain ⟨xrbn, u1xrbn, u2xrbn, u3xrbn⟩ := ARb (o + 1) (by omega)
            refine g_iload_n B 0 dX0_build_172 rfl ?_
            refine g_aload_n B 2 dX0_build_173 rfl ?_
            refine x_get B P1b b0b (by decide) rfl F_X0_138_0 (by decide) b12b dX0_build_174 ?_
            refine g_iload_n B 1 dX0_build_177 rfl ?_
            refine x_ldA B P1b btb (by decide) rfl rfl rfl btnb (by omega) (by omega) w1b dX0_build_178 ?_
            refine x_alen B P1b w2b (by decide) rfl w3b dX0_build_179 ?_
            refine g_icmp_geN (tgt := 248) B (by omega) (by omega) dX0_build_180 (by decide) (fun c101 => ?_) (fun c101 => ?_)
            · refine g_iinc (v := nI (o + 1)) (lv2 := [(1, _), (2, _), (0, _)]) B 1 dX0_build_248 rfl (nI_1 _) (by decide) rfl ?_
              refine g_goto (tgt := 141) B dX0_build_251 (by decide) ?_
              refine xV.room (kc' := 67 * (5 - (o + 1))) (ks' := 399 * (5 - (o + 1))) (by omega) (by omega) ?_
              refine g_pick [0, 2] rfl ?_
              exact iha (n - (o + 1)) (by omega) (o + 1) _ _ _ _ _ _ _ _ _ _ rfl P1b (by omega) Fb (CHb.le (fun o2 i2 j2 k1 k2 => k1.lt2 hp3 (by omega) k2)) SPb hslb (A8b.le (fun o2 i2 j2 k1 k2 => k1.lt2 hp3 (by omega) k2)) (A9b.le hp3 (by omega)) A10b (N2b.le (Nat.le_refl _) (by omega) (by unfold mLn; omega))
            · refine g_aload_n B 2 dX0_build_183 rfl ?_
              refine x_get B P1b b0b (by decide) rfl F_X0_138_0 (by decide) b12b dX0_build_184 ?_
              refine g_iload_n B 1 dX0_build_187 rfl ?_
              refine x_ldA B P1b btb (by decide) rfl rfl rfl btnb (by omega) (by omega) w1b dX0_build_188 ?_
              refine g_iload_n B 0 dX0_build_189 rfl ?_
              refine g_aload_n B 2 dX0_build_190 rfl ?_
              refine x_get B P1b b0b (by decide) rfl F_X0_132_0 (by decide) b11b dX0_build_191 ?_
              refine g_iload_n B 1 dX0_build_194 rfl ?_
              refine g_iconst (v := nI 1) B dX0_build_195 (by decide) ?_
              refine g_iaddN B dX0_build_196 ?_
              refine x_ldA B P1b b7b (by decide) rfl rfl rfl b7nb (by omega) (by omega) u1xrbn dX0_build_197 ?_
              refine x_alen B P1b u2xrbn (by decide) rfl u3xrbn dX0_build_198 ?_
              have hi : i < p o := by omega
              refine xV.room (kc' := (22 * (3 - (i + 1)) + 67 * (5 - (o + 1))) + 7 * 3 + 1) (ks' := (132 * (3 - (i + 1)) + 399 * (5 - (o + 1))) + 43 * 3 + p (o + 1)) (by omega) (by omega) ?_
              refine x_newq (N := (p (o + 1))) (kc := (22 * (3 - (i + 1)) + 67 * (5 - (o + 1))) + 7 * 3) (ks := (132 * (3 - (i + 1)) + 399 * (5 - (o + 1))) + 43 * 3) B P1b 8001 (fun _ => 3 * o + i) (by unfold okA; decide) (by decide) rfl q574 q260 rfl (by omega) (fun _ _ x => N2b.2.1 _ x (Nat.le_refl _)) (fun hi => by unfold idR at hi; omega) dX0_build_199 (fun q102 Y102 A102 T102 R102 hq102 le102 gr102 hf102 at102 hN102 hs102 hk102 P102 => ?_)
              obtain ⟨t103, u103, ty103, tk103⟩ := P102.tya at102 (by decide)
              refine x_stE B P102 (le102.at w2b) (by decide) ty103 (xAsE.arr (by omega) tk103 rfl rfl rfl rfl rfl) rfl (le102.n w2b w3b) (by omega) (by omega) dX0_build_202 (fun R103 A103 hs103 hk103 P103 => ?_)
              refine g_iconst (v := nI 0) B dX0_build_203 (by decide) ?_
              refine g_istore_n (lv2 := [(3, _), (2, _), (1, _), (0, _)]) B dX0_build_204 (by decide) rfl ?_
              have fq : xFr (fun r c => r = 8001 ∧ c = 3 * o + i) Y1b V1b I1b J A1b Y102 V1b I1b J A102 := xFr.nA (r := 8001) (o := 3 * o + i) ⟨rfl, rfl⟩ le102 gr102 hs102 hk102
              have fs : xFr (fun r c => r = 9001 ∧ c = o) Y102 V1b I1b J A102 Y102 V1b I1b J A103 := xFr.uA (r := 9001) (o := o) ⟨rfl, rfl⟩ hs103 hk103
              have CHq := (CHb.fr fq (fun o2 i2 j2 hk hK => ⟨⟨fun e => by omega, fun e => by omega, fun e => by omega⟩, fun r hr e => by unfold rB at hr; omega⟩)).fr fs (fun o2 i2 j2 hk hK => ⟨⟨fun e => by omega, fun e => by omega, fun e => by omega⟩, fun r hr e => by unfold rB at hr; omega⟩)
              have SPq := (SPb.fr fq (fun r o e => by omega)).fr fs (fun r o e => by omega)
              have A8q := (A8b.fr fq (fun o2 i2 j2 h1 h2 e => by unfold mLn at h2; omega)).fr fs (fun o2 i2 j2 h1 h2 e => by omega)
              have A9q := (A9b.fr fq (fun o2 h e => by omega)).st hp3 hi hs103 (le102.at w2b) at102 hN102
              have A10q := (A10b.fr btb fq (fun e => by omega)).fr (fq.1.at btb) fs (fun e => by omega)
              have N2q := (N2b.gr (k' := 3 * o + i + 1) fq.1 (Nat.le_refl _) (Nat.le_succ _) (Nat.le_refl _) (fun r c e => by omega)).gr fs.1 (Nat.le_refl _) (Nat.le_refl _) (Nat.le_refl _) (fun r c e => by omega)
              refine xV.room (kc' := (7 * (3 - 0) + (22 * (3 - (i + 1)) + 67 * (5 - (o + 1))))) (ks' := (43 * (3 - 0) + (132 * (3 - (i + 1)) + 399 * (5 - (o + 1))))) (by omega) (by omega) ?_
              have Lc : ∀ (dc : Nat) (j : Nat) (bo lc : Nat → Nat) (sp1 : List (Nat × Nat)) (Y1c : xY) (V1c : xVV) (I1c : xII) (A1c : xVV) (T1c : xT) (O1c R1c : xO), dc = p (o + 1) - j → PX Y1c V1c I1c J A1c w0 T1c O1c R1c → (j ≤ p (o + 1)) → (xFr sB2 Y V I J A Y1c V1c I1c J A1c) → (bCh Y1c V1c I1c A1c n p (mLn o i j) bo lc) → (bSp Y1c V1c xl sp1 lc) → (sp1.length ≤ sp.length) → (bA8 Y1c A1c n p (mLn o i j)) → (bA9 Y1c A1c n p (3 * o + i + 1)) → (bA10 Y1c A1c n p (o + 1)) → (bN2 Y1c (o + 1) (3 * o + i + 1) (mLn o i j)) → xV Z (T1c, O1c, R1c) 205 [(3, .int (nI j)), (2, .int (nI i)), (1, .int (nI o)), (0, .ref x0)] [] (7 * (3 - j) + (22 * (3 - (i + 1)) + 67 * (5 - (o + 1)))) (43 * (3 - j) + (132 * (3 - (i + 1)) + 399 * (5 - (o + 1)))) := by
                intro dc
                induction dc using Nat.strongRecOn with
                | _ dc ihc =>
                  intro j bo lc sp1 Y1c V1c I1c A1c T1c O1c R1c hdc P1c hj Fc CHc SPc hslc A8c A9c A10c N2c
                  have Boc := hBo.fr Fc (fun r o e => by unfold sB2 gCh at e; omega)
                  have ⟨b0c, ⟨b8c, b9c, b10c, b11c, b12c⟩, boc, bvc, ⟨b7c, b7nc⟩, ⟨btc, btnc⟩, blc, blnc, b4c⟩ := Boc
                  have ARc := hAr.fr h7 Fc (fun e => by unfold sB2 gCh at e; omega)
                  obtain ⟨x9c, w1c, w2c, w3c⟩ := A10c o ho1 (Nat.lt_succ_self o)
                  obtain ⟨-, x8c, r1c, r2c, r3c⟩ := A9c o i ho1 hi (by omega)
                  refine g_iload_n B 0 dX0_build_205 rfl ?_
                  refine g_aload_n B 3 dX0_build_206 rfl ?_
                  refine x_get B P1c b0c (by decide) rfl F_X0_138_0 (by decide) b12c dX0_build_207 ?_
                  refine g_iload_n B 2 dX0_build_210 rfl ?_
                  refine x_ldA B P1c btc (by decide) rfl rfl rfl btnc (by omega) (by omega) w1c dX0_build_211 ?_
                  refine g_iload_n B 1 dX0_build_212 rfl ?_
                  refine x_ldA B P1c w2c (by decide) rfl rfl rfl w3c (by omega) (by omega) r1c dX0_build_213 ?_
                  refine x_alen B P1c r2c (by decide) rfl r3c dX0_build_214 ?_
                  refine g_icmp_geN (tgt := 242) B (by omega) (by omega) dX0_build_215 (by decide) (fun c101 => ?_) (fun c101 => ?_)
                  · refine g_iinc (v := nI (i + 1)) (lv2 := [(2, _), (3, _), (1, _), (0, _)]) B 1 dX0_build_242 rfl (nI_1 _) (by decide) rfl ?_
                    refine g_goto (tgt := 172) B dX0_build_245 (by decide) ?_
                    refine xV.room (kc' := (22 * (3 - (i + 1)) + 67 * (5 - (o + 1)))) (ks' := (132 * (3 - (i + 1)) + 399 * (5 - (o + 1)))) (by omega) (by omega) ?_
                    refine g_pick [0, 2, 3] rfl ?_
                    exact ihb (p o - (i + 1)) (by omega) (i + 1) _ _ _ _ _ _ _ _ _ _ rfl P1c (by omega) Fc (CHc.le (fun o2 i2 j2 k1 k2 => k1.lt1 hp3 (by omega) (by omega) k2)) SPc hslc (A8c.le (fun o2 i2 j2 k1 k2 => k1.lt1 hp3 (by omega) (by omega) k2)) A9c A10c (N2c.le (Nat.le_refl _) (Nat.le_refl _) (by unfold mLn; omega))
                  · refine g_aload_n B 3 dX0_build_218 rfl ?_
                    refine x_get B P1c b0c (by decide) rfl F_X0_138_0 (by decide) b12c dX0_build_219 ?_
                    refine g_iload_n B 2 dX0_build_222 rfl ?_
                    refine x_ldA B P1c btc (by decide) rfl rfl rfl btnc (by omega) (by omega) w1c dX0_build_223 ?_
                    refine g_iload_n B 1 dX0_build_224 rfl ?_
                    refine x_ldA B P1c w2c (by decide) rfl rfl rfl w3c (by omega) (by omega) r1c dX0_build_225 ?_
                    refine g_iload_n B 0 dX0_build_226 rfl ?_
                    have hj5 : j < p (o + 1) := by omega
                    have hok : bOk n p o i j := ⟨ho1, hi, hj5⟩
                    refine xV.room (kc' := (7 * (3 - (j + 1)) + (22 * (3 - (i + 1)) + 67 * (5 - (o + 1)))) + 6 + 1) (ks' := (43 * (3 - (j + 1)) + (132 * (3 - (i + 1)) + 399 * (5 - (o + 1)))) + 38 + 5) (by omega) (by omega) ?_
                    refine x_new (kc := (7 * (3 - (j + 1)) + (22 * (3 - (i + 1)) + 67 * (5 - (o + 1)))) + 6) (ks := (43 * (3 - (j + 1)) + (132 * (3 - (i + 1)) + 399 * (5 - (o + 1)))) + 38) (t := 10) B P1c 10 0 (fun _ => mLn o i j) (by decide) rfl (by unfold okT; decide) tyX10 rfl (fun k hk => tyX10_ok k hk) q574 q575 q120 (fun _ _ x => N2c.2.2 10 _ x (Or.inl rfl) (Nat.le_refl _)) (fun h => absurd h (by unfold idR; decide)) dX0_build_227 (fun q102 Y102 V102 T102 O102 hq102 le102 gr102 hf102 at102 hK102 hs102 hk102 P102 => ?_)
                    refine g_dup B dX0_build_230 rfl ?_
                    refine g_aload_n B 3 dX0_build_231 rfl ?_
                    have fN : xFr (fun r c => r = 10 ∧ c = mLn o i j) Y1c V1c I1c J A1c Y102 V102 I1c J A1c := xFr.nV (r := 10) (o := mLn o i j) ⟨rfl, rfl⟩ le102 gr102 hs102 hk102
                    have CHn := CHc.fr fN (fun o2 i2 j2 hk hK => ⟨⟨fun e => by omega, fun e => by omega, fun e => by omega⟩, fun r hr e => by unfold rB at hr; omega⟩)
                    have SPn := SPc.fr fN (fun r o e => by omega)
                    have smn := (hsm.fr Fc (fun e => by unfold sB2 gCh at e; omega)).fr fN (fun e => by omega)
                    refine g_callIN (kc2 := (7 * (3 - (j + 1)) + (22 * (3 - (i + 1)) + 67 * (5 - (o + 1))))) (ks2 := (43 * (3 - (j + 1)) + (132 * (3 - (i + 1)) + 399 * (5 - (o + 1))))) (rest := [_, _, _]) B M_X10_init rfl q576 q577 (c_X10_init (h := mLn o i j) P102 at102 smn SPn.1 SPn.2.1 SPn.2.2.1 (rdN hs102 rfl) (rdN hs102 rfl) (yGr.no gr102 (fun x => N2c.2.2 41 _ x (Or.inr (Or.inl rfl)) (Nat.le_refl _)) (fun e => absurd e.1 (by decide))) (yGr.no gr102 (fun x => N2c.2.2 5001 _ x (Or.inr (Or.inr rfl)) (Nat.le_refl _)) (fun e => absurd e.1 (by decide)))) rfl rfl (Nat.le_of_ble_eq_true rfl) (Nat.le_of_ble_eq_true rfl) (Nat.le_of_ble_eq_true rfl) (Nat.le_refl _) (Nat.le_refl _) dX0_build_232 (xkN (fun T103 O103 R103 le103 p103 => ?_))
                    obtain ⟨Y103, V103, I103, J103, A103, P103, eJ103, ob103, sp103, xc103, ds103, sb103, ht103, hn103, hh103, f103⟩ := p103
                    obtain rfl := eJ103.symm
                    obtain ⟨bo2, lc2, CH2, SP2⟩ := CHn.step hn6 hp3 hok SPn f103 xc103 ds103 sb103 ht103 hn103 hh103
                    obtain ⟨n104, u104, ty104⟩ := P103.ty (f103.1.at at102) (by decide) rfl
                    refine x_stE B P103 (f103.1.at (le102.at r2c)) (by decide) ty104 ⟨_, _, rfl, rfl, rfl, rfl⟩ rfl (f103.1.n (le102.at r2c) (le102.n r2c r3c)) (by omega) (by omega) dX0_build_235 (fun R104 A104 hs104 hk104 P104 => ?_)
                    refine g_iinc (v := nI (j + 1)) (lv2 := [(3, _), (2, _), (1, _), (0, _)]) B 0 dX0_build_236 rfl (nI_1 _) (by decide) rfl ?_
                    refine g_goto (tgt := 205) B dX0_build_239 (by decide) ?_
                    have fS : xFr (fun r c => r = 8001 ∧ c = 3 * o + i) Y103 V103 I103 J A103 Y103 V103 I103 J A104 := xFr.uA (r := 8001) (o := 3 * o + i) ⟨rfl, rfl⟩ hs104 hk104
                    have CH3 := CH2.fr fS (fun o2 i2 j2 hk hK => ⟨⟨fun e => by omega, fun e => by omega, fun e => by omega⟩, fun r hr e => by unfold rB at hr; omega⟩)
                    have SP3 := SP2.fr fS (fun r o e => by omega)
                    have fA : xFr (fun r c => ((r = 10 ∨ r = 41 ∨ r = 5001) ∧ c = mLn o i j) ∨ (r ≠ 10 ∧ r ≠ 41 ∧ r ≠ 5001 ∧ r ≠ 0 ∧ r ≠ 9001 ∧ r ≠ 8001 ∧ r ≠ 10001 ∧ r ≠ 7001)) Y1c V1c I1c J A1c Y103 V103 I103 J A103 := (fN.mono (fun r c e => Or.inl ⟨Or.inl e.1, e.2⟩)).tr (f103.mono (fun r c e => by have := sNC_c e; omega))
                    have A8n := (A8c.fr fA (fun o2 i2 j2 h1 h2 e => by omega)).st hp3 hok hs104 (f103.1.at (le102.at r2c)) (f103.1.at at102)
                    have A9n := (A9c.fr fA (fun o2 h e => by omega)).fr fS (fun o2 h e => by omega)
                    have A10n := (A10c.fr btc fA (fun e => by omega)).fr (fA.1.at btc) fS (fun e => by omega)
                    have N2n := (N2c.gr (K' := mLn o i j + 1) fA.1 (Nat.le_refl _) (Nat.le_refl _) (Nat.le_succ _) (fun r c e => by omega)).gr fS.1 (Nat.le_refl _) (Nat.le_refl _) (Nat.le_refl _) (fun r c e => by omega)
                    have hsl2 : sp103.length ≤ sp.length := by rw [ht103, List.length_tail]; omega
                    exact ihc (p (o + 1) - (j + 1)) (by omega) (j + 1) bo2 lc2 sp103 _ _ _ _ _ _ _ rfl P104 (by omega) (Fc.tr ((((xFr.nV (S := sB2) (r := 10) (o := (mLn o i j)) (by unfold sB2 gCh; omega) le102 gr102 hs102 hk102).tr (f103.mono (S2 := sB2) (fun r2 o2 e => sNC_sB2 e))).tr (xFr.uA (S := sB2) (r := 8001) (o := (3 * o + i)) (by unfold sB2 gCh; omega) hs104 hk104)))) CH3 SP3 hsl2 A8n A9n A10n N2n
              exact Lc _ 0 _ _ _ _ _ _ _ _ _ _ rfl P103 (Nat.zero_le _) (Fb.tr ((fq.mono (fun r c e => by unfold sB2; omega)).tr (fs.mono (fun r c e => by unfold sB2; omega)))) CHq SPq hslb A8q A9q A10q N2q
        exact Lb _ 0 _ _ _ _ _ _ _ _ _ _ rfl P104 (Nat.zero_le _) (Fa.tr ((fq.mono (fun r c e => by unfold sB2; omega)).tr (fs.mono (fun r c e => by unfold sB2; omega)))) CHq SPq hsla A8q A9q A10q N2q
  exact La _ 0 (fun _ => 0) (fun _ => 54) sp _ _ _ _ _ _ _ rfl P (by omega) xFr.rf (fun o2 i2 j2 h1 h2 => absurd h2 (by unfold mLn; omega)) hSp (Nat.le_refl _) (fun o2 i2 j2 h1 h2 => absurd h2 (by unfold mLn; omega)) (fun o2 i2 h1 h2 h3 => absurd h3 (by omega)) (fun o2 h1 h2 => absurd h2 (Nat.not_lt_zero o2)) hN
