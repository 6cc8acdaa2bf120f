set_option maxRecDepth 100000
theorem va_fill {f g : Nat → Int32} {x : Nat} {v : Int32} (h : ∀ j, j < x → f j = g j) (e : v = g x) : ∀ j, j < x + 1 → va_up f x v j = g j := fun j hj => by
  by_cases c : j = x
  · subst c; rw [va_ups]; exact e
  · rw [va_upe c]; exact h j (by omega)
/-- all goes back to what was last saved -/
def aA.breaks (a : aA) : aA := (a.txt, a.inp, up1 a.nm 2 0, a.fl, a.cf, a.op, a.stt, (fun v => if v = 0 then a.st 2 else if v = 1 then (fun _ _ => none) else a.st v), (fun v => if v = 0 then a.ct 2 else a.ct v), (fun v => if v = 0 then a.of 2 else if v = 1 then 0 else a.of v), (fun _ _ => []), (fun _ _ _ => false), (fun _ _ => 0), (fun _ _ => false), (fun _ _ _ => c0), (fun _ _ => false), a.ex, a.wr)
theorem RMct.zero {f : Nat → Int32} (h : ∀ j, j < 18 → f j = nI 0) : RMct (fun _ _ => 0) f := fun o h1 i h2 => h (3 * o + i) (by omega)
theorem RMhd.zero {f : Nat → Int32} (h : ∀ j, j < 18 → f j = nI 0) : RMhd (fun _ _ => false) f := fun o h1 i h2 => h (3 * o + i) (by omega)
theorem RMsp.zero {f : Nat → Int32} (h : ∀ j, j < 18 → f j = nI 0) : RMsp (fun _ _ _ => false) f := fun o h1 i h2 => h (3 * o + i) (by omega)
theorem RMls.zero {f fk fv fb : Nat → Int32} (h : ∀ j, j < 18 → f j = nI 0) : RMls (fun _ _ => []) f fk fv fb := fun o h1 i h2 => ⟨h (3 * o + i) (by omega), fun k hk => absurd hk (Nat.not_lt_zero k)⟩
theorem RMst.zero {f f1 f2 : Nat → Int32} (h : ∀ j, j < 96 → f j = nI 0) : RMst (fun _ _ => none) f f1 f2 := fun o h1 i h2 => ⟨h (16 * o + i) (by omega), fun e => by cases e⟩
theorem RMch.zero {ar : Nat → Nat → Int32} (h1 : ∀ j, j < 54 → ar 46 j = nI 0) (h2 : ∀ j, j < 54 → ar 47 j = nI 0) (h3 : ∀ j, j < 54 → ar 51 j = nI 0) (h4 : ∀ j, j < 54 → ar 52 j = nI 0) : RMch (fun _ _ _ => c0) ar := fun o ho i hi j hj => by
  have hl : mLn o i j < 54 := by unfold mLn; omega
  exact ⟨h1 _ hl, h2 _ hl, fun k hk => absurd hk (Nat.not_lt_zero k), h3 _ hl, 0, h4 _ hl, fun _ => rfl, fun q hq => absurd hq (Nat.not_lt_zero q)⟩
theorem c_M_breaks {G : xG} {T : xT} {O R : xO} {m : Nat} {ad : Nat → Nat} {sc : Nat → Int32} {ar : Nat → Nat → Int32}  (P : PM m ad O R sc ar T O R) {a : aA} (H : RepM a sc ar)  : xCtr G yX12_breaks cX12_breaks 2 none 0 0 0 0 [.ref m] (T, O, R) (xN (mPostN m ad T O R (fun sc2 ar2 => RepM a.breaks sc2 ar2))) := by
  have hR := H
  obtain ⟨Htxt, Hop, Hinp, Hnm, Hstt, ⟨Hs0, Hs1, Hs2⟩, ⟨Hc0, Hc1, Hc2⟩, Hls, Hsp, Hpt, Hhd, Hch, Hex, Hwr⟩ := H
  refine xCtr.of (by decide +kernel) (Nat.le_of_ble_eq_true rfl) ?_
  intro Z B E hz hnm
  change xV Z (T, O, R) 0 [(0, .ref m)] [] 0 0
  refine g_aload_n B 0 dX12_breaks_0 rfl ?_
  refine g_iconst (v := nI 0) B dX12_breaks_1 (by decide) ?_
  refine m_put B P F_X12_268_12 (by decide) (Or.inl rfl) rfl rfl rfl dX12_breaks_2 (fun O1 sc1 hs1 hk1 P1 => ?_)
  refine g_iconst (v := nI 0) B dX12_breaks_5 (by decide) ?_
  refine g_istore_n (lv2 := [(1, _), (0, _)]) B dX12_breaks_6 (by decide) rfl ?_
  have L1 : ∀ (d1 x1 : Nat) (O11 R11 : xO) (ar11 : Nat → Nat → Int32), d1 = 18 - x1 → x1 ≤ 18 → PM m ad O R sc1 ar11 T O11 R11 → (∀ j, j < x1 → ar11 39 j = nI 0) → (∀ j, j < x1 → ar11 43 j = nI 0) → (∀ j, j < x1 → ar11 44 j = nI 0) → (∀ j, j < x1 → ar11 45 j = nI 0) → (∀ j, j < x1 → ar11 33 j = ar 35 j) → (∀ k, k ∉ ([39, 43, 44, 45, 33] : List Nat) → ar11 k = ar k) → xV Z (T, O11, R11) 7 [(1, .int (nI x1)), (0, .ref m)] [] 0 0 := by
    intro d1
    induction d1 using Nat.strongRecOn with
    | _ d1 ih1 =>
      intro x1 O11 R11 ar11 hd1 hx1 P11 i391 i431 i441 i451 i331 u1
      refine g_iload_n B 0 dX12_breaks_7 rfl ?_
      refine g_bipush (v := nI 18) B dX12_breaks_8 (by decide) ?_
      refine g_icmp_geN (tgt := 59) B (by omega) (by omega) dX12_breaks_10 (by decide) (fun c101 => ?_) (fun c101 => ?_)
      · have hx1 : x1 = 18 := by omega
        subst hx1
        refine g_iconst (v := nI 0) B dX12_breaks_59 (by decide) ?_
        refine g_istore_n (lv2 := [(1, _), (0, _)]) B dX12_breaks_60 (by decide) rfl ?_
        have L2 : ∀ (d2 x2 : Nat) (O12 R12 : xO) (ar12 : Nat → Nat → Int32), d2 = 54 - x2 → x2 ≤ 54 → PM m ad O R sc1 ar12 T O12 R12 → (∀ j, j < x2 → ar12 46 j = nI 0) → (∀ j, j < x2 → ar12 47 j = nI 0) → (∀ j, j < x2 → ar12 51 j = nI 0) → (∀ j, j < x2 → ar12 52 j = nI 0) → (∀ k, k ∉ ([46, 47, 51, 52] : List Nat) → ar12 k = ar11 k) → xV Z (T, O12, R12) 61 [(1, .int (nI x2)), (0, .ref m)] [] 0 0 := by
          intro d2
          induction d2 using Nat.strongRecOn with
          | _ d2 ih2 =>
            intro x2 O12 R12 ar12 hd2 hx2 P12 i462 i472 i512 i522 u2
            refine g_iload_n B 0 dX12_breaks_61 rfl ?_
            refine g_bipush (v := nI 54) B dX12_breaks_62 (by decide) ?_
            refine g_icmp_geN (tgt := 101) B (by omega) (by omega) dX12_breaks_64 (by decide) (fun c201 => ?_) (fun c201 => ?_)
            · have hx2 : x2 = 54 := by omega
              subst hx2
              refine g_iconst (v := nI 0) B dX12_breaks_101 (by decide) ?_
              refine g_istore_n (lv2 := [(1, _), (0, _)]) B dX12_breaks_102 (by decide) rfl ?_
              have L3 : ∀ (d3 x3 : Nat) (O13 R13 : xO) (ar13 : Nat → Nat → Int32), d3 = 96 - x3 → x3 ≤ 96 → PM m ad O R sc1 ar13 T O13 R13 → (∀ j, j < x3 → ar13 24 j = ar12 26 j) → (∀ j, j < x3 → ar13 27 j = ar12 29 j) → (∀ j, j < x3 → ar13 30 j = ar12 32 j) → (∀ k, k ∉ ([24, 27, 30] : List Nat) → ar13 k = ar12 k) → xV Z (T, O13, R13) 103 [(1, .int (nI x3)), (0, .ref m)] [] 0 0 := by
                intro d3
                induction d3 using Nat.strongRecOn with
                | _ d3 ih3 =>
                  intro x3 O13 R13 ar13 hd3 hx3 P13 i243 i273 i303 u3
                  refine g_iload_n B 0 dX12_breaks_103 rfl ?_
                  refine g_bipush (v := nI 96) B dX12_breaks_104 (by decide) ?_
                  refine g_icmp_geN (tgt := 151) B (by omega) (by omega) dX12_breaks_106 (by decide) (fun c301 => ?_) (fun c301 => ?_)
                  · have hx3 : x3 = 96 := by omega
                    subst hx3
                    refine g_aload_n B 1 dX12_breaks_151 rfl ?_
                    refine g_aload_n B 1 dX12_breaks_152 rfl ?_
                    refine m_get B P13 F_X12_262_12 (by decide) (Or.inl rfl) (show _ = (nI (a.of 2)) from ((hk1 37 (by decide)).trans Hnm.2.1.2.2)) dX12_breaks_153 ?_
                    refine m_put B P13 F_X12_271_12 (by decide) (Or.inl rfl) rfl rfl rfl dX12_breaks_156 (fun O302 sc302 hs302 hk302 P302 => ?_)
                    have n14 : sc302 14 = (nI (a.of 2)) := hs302
                    have n17 : sc302 17 = (nI 0) := ((hk302 17 (by decide)).trans hs1)
                    refine g_vret B E rfl dX12_breaks_159 ?_
                    exact ⟨rfl, rfl, _, _, P302, ⟨(by rw [((hk302 1 (by decide)).trans (hk1 1 (by decide))), (((u3 0 (by decide)).trans (u2 0 (by decide))).trans (u1 0 (by decide)))]; exact Htxt), (by rw [((hk302 2 (by decide)).trans (hk1 2 (by decide))), (((u3 3 (by decide)).trans (u2 3 (by decide))).trans (u1 3 (by decide))), (((u3 4 (by decide)).trans (u2 4 (by decide))).trans (u1 4 (by decide))), (((u3 5 (by decide)).trans (u2 5 (by decide))).trans (u1 5 (by decide))), (((u3 6 (by decide)).trans (u2 6 (by decide))).trans (u1 6 (by decide)))]; exact Hop), (by rw [((hk302 13 (by decide)).trans (hk1 13 (by decide))), (((u3 11 (by decide)).trans (u2 11 (by decide))).trans (u1 11 (by decide))), (((u3 12 (by decide)).trans (u2 12 (by decide))).trans (u1 12 (by decide)))]; exact Hinp), ⟨⟨(((hk302 7 (by decide)).trans (hk1 7 (by decide))).trans Hnm.1.1), (((hk302 8 (by decide)).trans (hk1 8 (by decide))).trans Hnm.1.2.1), (((hk302 9 (by decide)).trans (hk1 9 (by decide))).trans Hnm.1.2.2.1), (((hk302 10 (by decide)).trans (hk1 10 (by decide))).trans Hnm.1.2.2.2)⟩, ⟨n14, (fun q => absurd q (Nat.lt_irrefl 0)), (((hk302 37 (by decide)).trans (hk1 37 (by decide))).trans Hnm.2.1.2.2)⟩, (((hk302 15 (by decide)).trans (hk1 15 (by decide))).trans Hnm.2.2.1), (((hk302 16 (by decide)).trans (hk1 16 (by decide))).trans Hnm.2.2.2.1), n17, (((hk302 38 (by decide)).trans (hk1 38 (by decide))).trans Hnm.2.2.2.2.2.1), (((hk302 18 (by decide)).trans (hk1 18 (by decide))).trans Hnm.2.2.2.2.2.2.1), (((hk302 19 (by decide)).trans (hk1 19 (by decide))).trans Hnm.2.2.2.2.2.2.2)⟩, (fun k hk o ho => by rcases (show k = 0 ∨ k = 1 ∨ k = 2 ∨ k = 3 by omega) with rfl | rfl | rfl | rfl; (rw [show 20 + 0 = 20 from rfl, (((u3 20 (by decide)).trans (u2 20 (by decide))).trans (u1 20 (by decide)))]; exact Hstt 0 (by decide) o ho); (rw [show 20 + 1 = 21 from rfl, (((u3 21 (by decide)).trans (u2 21 (by decide))).trans (u1 21 (by decide)))]; exact Hstt 1 (by decide) o ho); (rw [show 20 + 2 = 22 from rfl, (((u3 22 (by decide)).trans (u2 22 (by decide))).trans (u1 22 (by decide)))]; exact Hstt 2 (by decide) o ho); (rw [show 20 + 3 = 23 from rfl, (((u3 23 (by decide)).trans (u2 23 (by decide))).trans (u1 23 (by decide)))]; exact Hstt 3 (by decide) o ho)), ⟨(Hs2.copy (fun j hj => ⟨((fun j hj => i243 j hj) j hj).trans (congrFun ((u2 26 (by decide)).trans (u1 26 (by decide))) j), ((fun j hj => i273 j hj) j hj).trans (congrFun ((u2 29 (by decide)).trans (u1 29 (by decide))) j), ((fun j hj => i303 j hj) j hj).trans (congrFun ((u2 32 (by decide)).trans (u1 32 (by decide))) j)⟩)), (fun q => absurd q (Nat.lt_irrefl 0)), (by rw [(((u3 26 (by decide)).trans (u2 26 (by decide))).trans (u1 26 (by decide))), (((u3 29 (by decide)).trans (u2 29 (by decide))).trans (u1 29 (by decide))), (((u3 32 (by decide)).trans (u2 32 (by decide))).trans (u1 32 (by decide)))]; exact Hs2)⟩, ⟨(Hc2.copy (fun j hj => ((fun j hj => (congrFun ((u3 33 (by decide)).trans (u2 33 (by decide))) j).trans <| i331 j hj) j hj).trans (congrFun (rfl : ar 35 = ar 35) j))), (by rw [(((u3 34 (by decide)).trans (u2 34 (by decide))).trans (u1 34 (by decide)))]; exact Hc1), (by rw [(((u3 35 (by decide)).trans (u2 35 (by decide))).trans (u1 35 (by decide)))]; exact Hc2)⟩, (RMls.zero (fun j hj => (congrFun ((u3 39 (by decide)).trans (u2 39 (by decide))) j).trans <| i391 j hj)), (RMsp.zero (fun j hj => (congrFun ((u3 43 (by decide)).trans (u2 43 (by decide))) j).trans <| i431 j hj)), (RMct.zero (fun j hj => (congrFun ((u3 44 (by decide)).trans (u2 44 (by decide))) j).trans <| i441 j hj)), (RMhd.zero (fun j hj => (congrFun ((u3 45 (by decide)).trans (u2 45 (by decide))) j).trans <| i451 j hj)), (RMch.zero (fun j hj => (congrFun (u3 46 (by decide)) j).trans <| i462 j hj) (fun j hj => (congrFun (u3 47 (by decide)) j).trans <| i472 j hj) (fun j hj => (congrFun (u3 51 (by decide)) j).trans <| i512 j hj) (fun j hj => (congrFun (u3 52 (by decide)) j).trans <| i522 j hj)), (by rw [((hk302 77 (by decide)).trans (hk1 77 (by decide))), (((u3 75 (by decide)).trans (u2 75 (by decide))).trans (u1 75 (by decide))), (((u3 76 (by decide)).trans (u2 76 (by decide))).trans (u1 76 (by decide)))]; exact Hex), (by rw [((hk302 80 (by decide)).trans (hk1 80 (by decide))), (((u3 79 (by decide)).trans (u2 79 (by decide))).trans (u1 79 (by decide)))]; exact Hwr)⟩⟩
                  · have hv263 : ar13 26 x3 = bI (a.st 2 (x3 / 16) (x3 % 16)).isSome := by rw [u3 26 (by decide)]; exact (by rw [u2 26 (by decide), u1 26 (by decide)]; exact Hs2.has (by omega))
                    refine g_aload_n B 1 dX12_breaks_109 rfl ?_
                    refine m_geta B P13 F_X12_56_12 (by decide) (Or.inr rfl) dX12_breaks_110 ?_
                    refine g_iload_n B 0 dX12_breaks_113 rfl ?_
                    refine g_aload_n B 1 dX12_breaks_114 rfl ?_
                    refine m_geta B P13 F_X12_63_12 (by decide) (Or.inr rfl) dX12_breaks_115 ?_
                    refine g_iload_n B 0 dX12_breaks_118 rfl ?_
                    refine m_ldz B P13 (by decide) rfl rfl (by show _ < 96; omega) (by decide) (show _ = (bI ((a.st 2 (x3 / 16) (x3 % 16)).isSome)) from hv263) dX12_breaks_119 ?_
                    refine m_stz B P13 (by decide) rfl rfl (by show _ < 96; omega) (by decide) (bI_nar _) dX12_breaks_120 (fun R303 ar303 hs303 hk303 P303 => ?_)
                    refine g_aload_n B 1 dX12_breaks_121 rfl ?_
                    refine m_geta B P303 F_X12_66_12 (by decide) (Or.inl rfl) dX12_breaks_122 ?_
                    refine g_iload_n B 0 dX12_breaks_125 rfl ?_
                    refine g_aload_n B 1 dX12_breaks_126 rfl ?_
                    refine m_geta B P303 F_X12_72_12 (by decide) (Or.inl rfl) dX12_breaks_127 ?_
                    refine g_iload_n B 0 dX12_breaks_130 rfl ?_
                    refine m_ld B P303 (by decide) rfl rfl (by show _ < 96; omega) (by decide) (show _ = (ar13 29 x3) from ((congrFun (hk303 29 (by decide)) _).trans rfl)) dX12_breaks_131 ?_
                    refine m_st B P303 (by decide) rfl rfl (by show _ < 96; omega) (by decide) dX12_breaks_132 (fun R304 ar304 hs304 hk304 P304 => ?_)
                    refine g_aload_n B 1 dX12_breaks_133 rfl ?_
                    refine m_geta B P304 F_X12_75_12 (by decide) (Or.inl rfl) dX12_breaks_134 ?_
                    refine g_iload_n B 0 dX12_breaks_137 rfl ?_
                    refine g_aload_n B 1 dX12_breaks_138 rfl ?_
                    refine m_geta B P304 F_X12_81_12 (by decide) (Or.inl rfl) dX12_breaks_139 ?_
                    refine g_iload_n B 0 dX12_breaks_142 rfl ?_
                    refine m_ld B P304 (by decide) rfl rfl (by show _ < 96; omega) (by decide) (show _ = (ar13 32 x3) from ((congrFun (hk304 32 (by decide)) _).trans ((congrFun (hk303 32 (by decide)) _).trans rfl))) dX12_breaks_143 ?_
                    refine m_st B P304 (by decide) rfl rfl (by show _ < 96; omega) (by decide) dX12_breaks_144 (fun R305 ar305 hs305 hk305 P305 => ?_)
                    refine g_iinc (v := nI (x3 + 1)) (lv2 := [(1, _), (0, _)]) B 0 dX12_breaks_145 rfl (nI_1 _) (by decide) rfl ?_
                    refine g_goto (tgt := 103) B dX12_breaks_148 (by decide) ?_
                    have e24 : ar305 24 = va_up (ar13 24) x3 (bI ((a.st 2 (x3 / 16) (x3 % 16)).isSome)) := ((hk305 24 (by decide)).trans ((hk304 24 (by decide)).trans hs303))
                    have e27 : ar305 27 = va_up (ar13 27) x3 (ar13 29 x3) := ((hk305 27 (by decide)).trans (hs304.trans (congrArg (fun g => va_up g x3 (ar13 29 x3)) (hk303 27 (by decide)))))
                    have e30 : ar305 30 = va_up (ar13 30) x3 (ar13 32 x3) := (hs305.trans (congrArg (fun g => va_up g x3 (ar13 32 x3)) ((hk304 30 (by decide)).trans (hk303 30 (by decide)))))
                    exact ih3 (96 - (x3 + 1)) (by omega) (x3 + 1) _ _ _ rfl (by omega) P305 (fun j hj => by rw [e24]; exact va_fill (g := ar12 26) i243 (hv263.symm.trans (congrFun (u3 26 (by decide)) _)) j hj) (fun j hj => by rw [e27]; exact va_fill (g := ar12 29) i273 (congrFun (u3 29 (by decide)) _) j hj) (fun j hj => by rw [e30]; exact va_fill (g := ar12 32) i303 (congrFun (u3 32 (by decide)) _) j hj) (fun k hn => (((hk305 k (fun e => hn (by rw [e]; decide))).trans (hk304 k (fun e => hn (by rw [e]; decide)))).trans (hk303 k (fun e => hn (by rw [e]; decide)))).trans (u3 k hn))
              exact L3 _ 0 _ _ _ rfl (Nat.zero_le _) P12 (fun j hj => absurd hj (Nat.not_lt_zero j)) (fun j hj => absurd hj (Nat.not_lt_zero j)) (fun j hj => absurd hj (Nat.not_lt_zero j)) (fun _ _ => rfl)
            · refine g_aload_n B 1 dX12_breaks_67 rfl ?_
              refine m_geta B P12 F_X12_114_12 (by decide) (Or.inl rfl) dX12_breaks_68 ?_
              refine g_iload_n B 0 dX12_breaks_71 rfl ?_
              refine g_iconst (v := nI 0) B dX12_breaks_72 (by decide) ?_
              refine m_st B P12 (by decide) rfl rfl (by show _ < 54; omega) (by decide) dX12_breaks_73 (fun R202 ar202 hs202 hk202 P202 => ?_)
              refine g_aload_n B 1 dX12_breaks_74 rfl ?_
              refine m_geta B P202 F_X12_117_12 (by decide) (Or.inl rfl) dX12_breaks_75 ?_
              refine g_iload_n B 0 dX12_breaks_78 rfl ?_
              refine g_iconst (v := nI 0) B dX12_breaks_79 (by decide) ?_
              refine m_st B P202 (by decide) rfl rfl (by show _ < 54; omega) (by decide) dX12_breaks_80 (fun R203 ar203 hs203 hk203 P203 => ?_)
              refine g_aload_n B 1 dX12_breaks_81 rfl ?_
              refine m_geta B P203 F_X12_129_12 (by decide) (Or.inl rfl) dX12_breaks_82 ?_
              refine g_iload_n B 0 dX12_breaks_85 rfl ?_
              refine g_iconst (v := nI 0) B dX12_breaks_86 (by decide) ?_
              refine m_st B P203 (by decide) rfl rfl (by show _ < 54; omega) (by decide) dX12_breaks_87 (fun R204 ar204 hs204 hk204 P204 => ?_)
              refine g_aload_n B 1 dX12_breaks_88 rfl ?_
              refine m_geta B P204 F_X12_132_12 (by decide) (Or.inl rfl) dX12_breaks_89 ?_
              refine g_iload_n B 0 dX12_breaks_92 rfl ?_
              refine g_iconst (v := nI 0) B dX12_breaks_93 (by decide) ?_
              refine m_st B P204 (by decide) rfl rfl (by show _ < 54; omega) (by decide) dX12_breaks_94 (fun R205 ar205 hs205 hk205 P205 => ?_)
              refine g_iinc (v := nI (x2 + 1)) (lv2 := [(1, _), (0, _)]) B 0 dX12_breaks_95 rfl (nI_1 _) (by decide) rfl ?_
              refine g_goto (tgt := 61) B dX12_breaks_98 (by decide) ?_
              have e46 : ar205 46 = va_up (ar12 46) x2 (nI 0) := ((hk205 46 (by decide)).trans ((hk204 46 (by decide)).trans ((hk203 46 (by decide)).trans hs202)))
              have e47 : ar205 47 = va_up (ar12 47) x2 (nI 0) := ((hk205 47 (by decide)).trans ((hk204 47 (by decide)).trans (hs203.trans (congrArg (fun g => va_up g x2 (nI 0)) (hk202 47 (by decide))))))
              have e51 : ar205 51 = va_up (ar12 51) x2 (nI 0) := ((hk205 51 (by decide)).trans (hs204.trans (congrArg (fun g => va_up g x2 (nI 0)) ((hk203 51 (by decide)).trans (hk202 51 (by decide))))))
              have e52 : ar205 52 = va_up (ar12 52) x2 (nI 0) := (hs205.trans (congrArg (fun g => va_up g x2 (nI 0)) ((hk204 52 (by decide)).trans ((hk203 52 (by decide)).trans (hk202 52 (by decide))))))
              exact ih2 (54 - (x2 + 1)) (by omega) (x2 + 1) _ _ _ rfl (by omega) P205 (fun j hj => by rw [e46]; exact va_fill (g := fun _ => nI 0) i462 (rfl) j hj) (fun j hj => by rw [e47]; exact va_fill (g := fun _ => nI 0) i472 (rfl) j hj) (fun j hj => by rw [e51]; exact va_fill (g := fun _ => nI 0) i512 (rfl) j hj) (fun j hj => by rw [e52]; exact va_fill (g := fun _ => nI 0) i522 (rfl) j hj) (fun k hn => ((((hk205 k (fun e => hn (by rw [e]; decide))).trans (hk204 k (fun e => hn (by rw [e]; decide)))).trans (hk203 k (fun e => hn (by rw [e]; decide)))).trans (hk202 k (fun e => hn (by rw [e]; decide)))).trans (u2 k hn))
        exact L2 _ 0 _ _ _ rfl (Nat.zero_le _) P11 (fun j hj => absurd hj (Nat.not_lt_zero j)) (fun j hj => absurd hj (Nat.not_lt_zero j)) (fun j hj => absurd hj (Nat.not_lt_zero j)) (fun j hj => absurd hj (Nat.not_lt_zero j)) (fun _ _ => rfl)
      · refine g_aload_n B 1 dX12_breaks_13 rfl ?_
        refine m_geta B P11 F_X12_93_12 (by decide) (Or.inl rfl) dX12_breaks_14 ?_
        refine g_iload_n B 0 dX12_breaks_17 rfl ?_
        refine g_iconst (v := nI 0) B dX12_breaks_18 (by decide) ?_
        refine m_st B P11 (by decide) rfl rfl (by show _ < 18; omega) (by decide) dX12_breaks_19 (fun R102 ar102 hs102 hk102 P102 => ?_)
        refine g_aload_n B 1 dX12_breaks_20 rfl ?_
        refine m_geta B P102 F_X12_105_12 (by decide) (Or.inl rfl) dX12_breaks_21 ?_
        refine g_iload_n B 0 dX12_breaks_24 rfl ?_
        refine g_iconst (v := nI 0) B dX12_breaks_25 (by decide) ?_
        refine m_st B P102 (by decide) rfl rfl (by show _ < 18; omega) (by decide) dX12_breaks_26 (fun R103 ar103 hs103 hk103 P103 => ?_)
        refine g_aload_n B 1 dX12_breaks_27 rfl ?_
        refine m_geta B P103 F_X12_108_12 (by decide) (Or.inl rfl) dX12_breaks_28 ?_
        refine g_iload_n B 0 dX12_breaks_31 rfl ?_
        refine g_iconst (v := nI 0) B dX12_breaks_32 (by decide) ?_
        refine m_st B P103 (by decide) rfl rfl (by show _ < 18; omega) (by decide) dX12_breaks_33 (fun R104 ar104 hs104 hk104 P104 => ?_)
        refine g_aload_n B 1 dX12_breaks_34 rfl ?_
        refine m_geta B P104 F_X12_111_12 (by decide) (Or.inr rfl) dX12_breaks_35 ?_
        refine g_iload_n B 0 dX12_breaks_38 rfl ?_
        refine g_iconst (v := nI 0) B dX12_breaks_39 (by decide) ?_
        refine m_stz B P104 (by decide) rfl rfl (by show _ < 18; omega) (by decide) rfl dX12_breaks_40 (fun R105 ar105 hs105 hk105 P105 => ?_)
        refine g_aload_n B 1 dX12_breaks_41 rfl ?_
        refine m_geta B P105 F_X12_84_12 (by decide) (Or.inl rfl) dX12_breaks_42 ?_
        refine g_iload_n B 0 dX12_breaks_45 rfl ?_
        refine g_aload_n B 1 dX12_breaks_46 rfl ?_
        refine m_geta B P105 F_X12_90_12 (by decide) (Or.inl rfl) dX12_breaks_47 ?_
        refine g_iload_n B 0 dX12_breaks_50 rfl ?_
        refine m_ld B P105 (by decide) rfl rfl (by show _ < 18; omega) (by decide) (show _ = (ar11 35 x1) from ((congrFun (hk105 35 (by decide)) _).trans ((congrFun (hk104 35 (by decide)) _).trans ((congrFun (hk103 35 (by decide)) _).trans ((congrFun (hk102 35 (by decide)) _).trans rfl))))) dX12_breaks_51 ?_
        refine m_st B P105 (by decide) rfl rfl (by show _ < 18; omega) (by decide) dX12_breaks_52 (fun R106 ar106 hs106 hk106 P106 => ?_)
        refine g_iinc (v := nI (x1 + 1)) (lv2 := [(1, _), (0, _)]) B 0 dX12_breaks_53 rfl (nI_1 _) (by decide) rfl ?_
        refine g_goto (tgt := 7) B dX12_breaks_56 (by decide) ?_
        have e39 : ar106 39 = va_up (ar11 39) x1 (nI 0) := ((hk106 39 (by decide)).trans ((hk105 39 (by decide)).trans ((hk104 39 (by decide)).trans ((hk103 39 (by decide)).trans hs102))))
        have e43 : ar106 43 = va_up (ar11 43) x1 (nI 0) := ((hk106 43 (by decide)).trans ((hk105 43 (by decide)).trans ((hk104 43 (by decide)).trans (hs103.trans (congrArg (fun g => va_up g x1 (nI 0)) (hk102 43 (by decide)))))))
        have e44 : ar106 44 = va_up (ar11 44) x1 (nI 0) := ((hk106 44 (by decide)).trans ((hk105 44 (by decide)).trans (hs104.trans (congrArg (fun g => va_up g x1 (nI 0)) ((hk103 44 (by decide)).trans (hk102 44 (by decide)))))))
        have e45 : ar106 45 = va_up (ar11 45) x1 (nI 0) := ((hk106 45 (by decide)).trans (hs105.trans (congrArg (fun g => va_up g x1 (nI 0)) ((hk104 45 (by decide)).trans ((hk103 45 (by decide)).trans (hk102 45 (by decide)))))))
        have e33 : ar106 33 = va_up (ar11 33) x1 (ar11 35 x1) := (hs106.trans (congrArg (fun g => va_up g x1 (ar11 35 x1)) ((hk105 33 (by decide)).trans ((hk104 33 (by decide)).trans ((hk103 33 (by decide)).trans (hk102 33 (by decide)))))))
        exact ih1 (18 - (x1 + 1)) (by omega) (x1 + 1) _ _ _ rfl (by omega) P106 (fun j hj => by rw [e39]; exact va_fill (g := fun _ => nI 0) i391 (rfl) j hj) (fun j hj => by rw [e43]; exact va_fill (g := fun _ => nI 0) i431 (rfl) j hj) (fun j hj => by rw [e44]; exact va_fill (g := fun _ => nI 0) i441 (rfl) j hj) (fun j hj => by rw [e45]; exact va_fill (g := fun _ => nI 0) i451 (rfl) j hj) (fun j hj => by rw [e33]; exact va_fill (g := ar 35) i331 (congrFun (u1 35 (by decide)) _) j hj) (fun k hn => (((((hk106 k (fun e => hn (by rw [e]; decide))).trans (hk105 k (fun e => hn (by rw [e]; decide)))).trans (hk104 k (fun e => hn (by rw [e]; decide)))).trans (hk103 k (fun e => hn (by rw [e]; decide)))).trans (hk102 k (fun e => hn (by rw [e]; decide)))).trans (u1 k hn))
  exact L1 _ 0 _ _ _ rfl (Nat.zero_le _) P1 (fun j hj => absurd hj (Nat.not_lt_zero j)) (fun j hj => absurd hj (Nat.not_lt_zero j)) (fun j hj => absurd hj (Nat.not_lt_zero j)) (fun j hj => absurd hj (Nat.not_lt_zero j)) (fun j hj => absurd hj (Nat.not_lt_zero j)) (fun _ _ => rfl)
/-- a new beginning, but for what goes back -/
def aA.begin0 (a : aA) : aA := (a.txt, a.inp, up1 (up1 (up1 a.nm 0 0) 1 0) 4 0, 0, a.cf, a.op, (fun _ _ => 0), (fun v => if v < 2 then a.st v else (fun _ _ => none)), (fun v => if v = 2 then (fun _ _ => 0) else a.ct v), (fun v => if v < 2 then a.of v else 0), a.ls, a.sp, a.pt, a.hd, a.ch, a.al, a.ex, a.wr)
def aA.begins (a : aA) : aA := a.begin0.breaks
def aA.failF (a : aA) : Int32 × aA := (nI (a.nm 1), (a.w_fl (a.fl + nI 1)).breaks)
def aA.clearF (a : aA) : Int32 × aA := (nI a.inp.length, (a.w_inp []).begins)
theorem RMstt.zero {ar : Nat → Nat → Int32} (h0 : ∀ j, j < 6 → ar 20 j = nI 0) (h1 : ∀ j, j < 6 → ar 21 j = nI 0) (h2 : ∀ j, j < 6 → ar 22 j = nI 0) (h3 : ∀ j, j < 6 → ar 23 j = nI 0) : RMstt (fun _ _ => 0) ar := fun k hk o ho => by
  rcases (show k = 0 ∨ k = 1 ∨ k = 2 ∨ k = 3 by omega) with rfl | rfl | rfl | rfl
  · exact (h0 o ho).trans nI_0
  · exact (h1 o ho).trans nI_0
  · exact (h2 o ho).trans nI_0
  · exact (h3 o ho).trans nI_0
theorem c_M_begins {G : xG} {T : xT} {O R : xO} {m : Nat} {ad : Nat → Nat} {sc : Nat → Int32} {ar : Nat → Nat → Int32}  (P : PM m ad O R sc ar T O R) {a : aA} (H : RepM a sc ar)  : xCtr G yX12_begins cX12_begins 2 none 1 21 0 0 [.ref m] (T, O, R) (xN (mPostN m ad T O R (fun sc2 ar2 => RepM a.begins sc2 ar2))) := by
  have hR := H
  obtain ⟨Htxt, Hop, Hinp, Hnm, Hstt, ⟨Hs0, Hs1, Hs2⟩, ⟨Hc0, Hc1, Hc2⟩, Hls, Hsp, Hpt, Hhd, Hch, Hex, Hwr⟩ := H
  refine xCtr.of (by decide +kernel) (Nat.le_of_ble_eq_true rfl) ?_
  intro Z B E hz hnm
  change xV Z (T, O, R) 0 [(0, .ref m)] [] 0 0
  refine g_aload_n B 0 dX12_begins_0 rfl ?_
  refine g_iconst (v := nI 0) B dX12_begins_1 (by decide) ?_
  refine m_put B P F_X12_243_12 (by decide) (Or.inl rfl) rfl rfl rfl dX12_begins_2 (fun O1 sc1 hs1 hk1 P1 => ?_)
  refine g_aload_n B 0 dX12_begins_5 rfl ?_
  refine g_iconst (v := nI 0) B dX12_begins_6 (by decide) ?_
  refine m_put B P1 F_X12_246_12 (by decide) (Or.inl rfl) rfl rfl rfl dX12_begins_7 (fun O2 sc2 hs2 hk2 P2 => ?_)
  refine g_aload_n B 0 dX12_begins_10 rfl ?_
  refine g_lconst (v := 0) B dX12_begins_11 (by decide) ?_
  refine m_putL B P2 F_X12_249_12 dX12_begins_12 (fun O3 P3 => ?_)
  refine g_iconst (v := nI 0) B dX12_begins_15 (by decide) ?_
  refine g_istore_n (lv2 := [(1, _), (0, _)]) B dX12_begins_16 (by decide) rfl ?_
  have L1 : ∀ (d1 x1 : Nat) (O11 R11 : xO) (ar11 : Nat → Nat → Int32), d1 = 40000 - x1 → x1 ≤ 40000 → PM m ad O R sc2 ar11 T O11 R11 → (∀ j, j < x1 → ar11 57 j = nI 0) → (∀ k, k ∉ ([57] : List Nat) → ar11 k = ar k) → xV Z (T, O11, R11) 17 [(1, .int (nI x1)), (0, .ref m)] [] 0 0 := by
    intro d1
    induction d1 using Nat.strongRecOn with
    | _ d1 ih1 =>
      intro x1 O11 R11 ar11 hd1 hx1 P11 i571 u1
      refine g_iload_n B 0 dX12_begins_17 rfl ?_
      refine g_ldc (v := 40000) B q2413 dX12_begins_18 ?_
      refine g_top (show Value.int 40000 = .int (nI 40000) from rfl) ?_
      refine g_icmp_geN (tgt := 36) B (by omega) (by omega) dX12_begins_20 (by decide) (fun c101 => ?_) (fun c101 => ?_)
      · have hx1 : x1 = 40000 := by omega
        subst hx1
        refine g_aload_n B 1 dX12_begins_36 rfl ?_
        refine g_iconst (v := nI 0) B dX12_begins_37 (by decide) ?_
        refine m_put B P11 F_X12_253_12 (by decide) (Or.inl rfl) rfl rfl rfl dX12_begins_38 (fun O102 sc102 hs102 hk102 P102 => ?_)
        refine g_aload_n B 1 dX12_begins_41 rfl ?_
        refine g_iconst (v := nI 0) B dX12_begins_42 (by decide) ?_
        refine m_put B P102 F_X12_256_12 (by decide) (Or.inl rfl) rfl rfl rfl dX12_begins_43 (fun O103 sc103 hs103 hk103 P103 => ?_)
        refine g_aload_n B 1 dX12_begins_46 rfl ?_
        refine g_iconst (v := nI 0) B dX12_begins_47 (by decide) ?_
        refine m_put B P103 F_X12_259_12 (by decide) (Or.inr rfl) rfl rfl rfl dX12_begins_48 (fun O104 sc104 hs104 hk104 P104 => ?_)
        refine g_aload_n B 1 dX12_begins_51 rfl ?_
        refine g_iconst (v := nI 0) B dX12_begins_52 (by decide) ?_
        refine m_put B P104 F_X12_262_12 (by decide) (Or.inl rfl) rfl rfl rfl dX12_begins_53 (fun O105 sc105 hs105 hk105 P105 => ?_)
        refine g_iconst (v := nI 0) B dX12_begins_56 (by decide) ?_
        refine g_istore_n (lv2 := [(1, _), (0, _)]) B dX12_begins_57 (by decide) rfl ?_
        have L2 : ∀ (d2 x2 : Nat) (O12 R12 : xO) (ar12 : Nat → Nat → Int32), d2 = 96 - x2 → x2 ≤ 96 → PM m ad O R sc105 ar12 T O12 R12 → (∀ j, j < x2 → ar12 26 j = nI 0) → (∀ j, j < x2 → ar12 29 j = nI 0) → (∀ j, j < x2 → ar12 32 j = nI 0) → (∀ k, k ∉ ([26, 29, 32] : List Nat) → ar12 k = ar11 k) → xV Z (T, O12, R12) 58 [(1, .int (nI x2)), (0, .ref m)] [] 0 0 := by
          intro d2
          induction d2 using Nat.strongRecOn with
          | _ d2 ih2 =>
            intro x2 O12 R12 ar12 hd2 hx2 P12 i262 i292 i322 u2
            refine g_iload_n B 0 dX12_begins_58 rfl ?_
            refine g_bipush (v := nI 96) B dX12_begins_59 (by decide) ?_
            refine g_icmp_geN (tgt := 91) B (by omega) (by omega) dX12_begins_61 (by decide) (fun c201 => ?_) (fun c201 => ?_)
            · have hx2 : x2 = 96 := by omega
              subst hx2
              refine g_iconst (v := nI 0) B dX12_begins_91 (by decide) ?_
              refine g_istore_n (lv2 := [(1, _), (0, _)]) B dX12_begins_92 (by decide) rfl ?_
              have L3 : ∀ (d3 x3 : Nat) (O13 R13 : xO) (ar13 : Nat → Nat → Int32), d3 = 18 - x3 → x3 ≤ 18 → PM m ad O R sc105 ar13 T O13 R13 → (∀ j, j < x3 → ar13 35 j = nI 0) → (∀ k, k ∉ ([35] : List Nat) → ar13 k = ar12 k) → xV Z (T, O13, R13) 93 [(1, .int (nI x3)), (0, .ref m)] [] 0 0 := by
                intro d3
                induction d3 using Nat.strongRecOn with
                | _ d3 ih3 =>
                  intro x3 O13 R13 ar13 hd3 hx3 P13 i353 u3
                  refine g_iload_n B 0 dX12_begins_93 rfl ?_
                  refine g_bipush (v := nI 18) B dX12_begins_94 (by decide) ?_
                  refine g_icmp_geN (tgt := 112) B (by omega) (by omega) dX12_begins_96 (by decide) (fun c301 => ?_) (fun c301 => ?_)
                  · have hx3 : x3 = 18 := by omega
                    subst hx3
                    refine g_iconst (v := nI 0) B dX12_begins_112 (by decide) ?_
                    refine g_istore_n (lv2 := [(1, _), (0, _)]) B dX12_begins_113 (by decide) rfl ?_
                    have L4 : ∀ (d4 x4 : Nat) (O14 R14 : xO) (ar14 : Nat → Nat → Int32), d4 = 6 - x4 → x4 ≤ 6 → PM m ad O R sc105 ar14 T O14 R14 → (∀ j, j < x4 → ar14 20 j = nI 0) → (∀ j, j < x4 → ar14 21 j = nI 0) → (∀ j, j < x4 → ar14 22 j = nI 0) → (∀ j, j < x4 → ar14 23 j = nI 0) → (∀ k, k ∉ ([20, 21, 22, 23] : List Nat) → ar14 k = ar13 k) → xV Z (T, O14, R14) 114 [(1, .int (nI x4)), (0, .ref m)] [] 0 0 := by
                      intro d4
                      induction d4 using Nat.strongRecOn with
                      | _ d4 ih4 =>
                        intro x4 O14 R14 ar14 hd4 hx4 P14 i204 i214 i224 i234 u4
                        refine g_iload_n B 0 dX12_begins_114 rfl ?_
                        refine g_bipush (v := nI 6) B dX12_begins_115 (by decide) ?_
                        refine g_icmp_geN (tgt := 154) B (by omega) (by omega) dX12_begins_117 (by decide) (fun c401 => ?_) (fun c401 => ?_)
                        · have hx4 : x4 = 6 := by omega
                          subst hx4
                          refine g_aload_n B 1 dX12_begins_154 rfl ?_
                          have n15 : sc105 15 = (nI 0) := ((hk105 15 (by decide)).trans ((hk104 15 (by decide)).trans ((hk103 15 (by decide)).trans ((hk102 15 (by decide)).trans ((hk2 15 (by decide)).trans hs1)))))
                          have n16 : sc105 16 = (nI 0) := ((hk105 16 (by decide)).trans ((hk104 16 (by decide)).trans ((hk103 16 (by decide)).trans hs102)))
                          have n18 : sc105 18 = (nI 0) := ((hk105 18 (by decide)).trans ((hk104 18 (by decide)).trans hs103))
                          have n19 : sc105 19 = (nI 0) := ((hk105 19 (by decide)).trans hs104)
                          have n37 : sc105 37 = (nI 0) := hs105
                          have H0 : RepM a.begin0 sc105 ar14 := ⟨(by rw [((((((hk105 1 (by decide)).trans (hk104 1 (by decide))).trans (hk103 1 (by decide))).trans (hk102 1 (by decide))).trans (hk2 1 (by decide))).trans (hk1 1 (by decide))), ((((u4 0 (by decide)).trans (u3 0 (by decide))).trans (u2 0 (by decide))).trans (u1 0 (by decide)))]; exact Htxt), (by rw [((((((hk105 2 (by decide)).trans (hk104 2 (by decide))).trans (hk103 2 (by decide))).trans (hk102 2 (by decide))).trans (hk2 2 (by decide))).trans (hk1 2 (by decide))), ((((u4 3 (by decide)).trans (u3 3 (by decide))).trans (u2 3 (by decide))).trans (u1 3 (by decide))), ((((u4 4 (by decide)).trans (u3 4 (by decide))).trans (u2 4 (by decide))).trans (u1 4 (by decide))), ((((u4 5 (by decide)).trans (u3 5 (by decide))).trans (u2 5 (by decide))).trans (u1 5 (by decide))), ((((u4 6 (by decide)).trans (u3 6 (by decide))).trans (u2 6 (by decide))).trans (u1 6 (by decide)))]; exact Hop), (by rw [((((((hk105 13 (by decide)).trans (hk104 13 (by decide))).trans (hk103 13 (by decide))).trans (hk102 13 (by decide))).trans (hk2 13 (by decide))).trans (hk1 13 (by decide))), ((((u4 11 (by decide)).trans (u3 11 (by decide))).trans (u2 11 (by decide))).trans (u1 11 (by decide))), ((((u4 12 (by decide)).trans (u3 12 (by decide))).trans (u2 12 (by decide))).trans (u1 12 (by decide)))]; exact Hinp), ⟨⟨(((((((hk105 7 (by decide)).trans (hk104 7 (by decide))).trans (hk103 7 (by decide))).trans (hk102 7 (by decide))).trans (hk2 7 (by decide))).trans (hk1 7 (by decide))).trans Hnm.1.1), (((((((hk105 8 (by decide)).trans (hk104 8 (by decide))).trans (hk103 8 (by decide))).trans (hk102 8 (by decide))).trans (hk2 8 (by decide))).trans (hk1 8 (by decide))).trans Hnm.1.2.1), (((((((hk105 9 (by decide)).trans (hk104 9 (by decide))).trans (hk103 9 (by decide))).trans (hk102 9 (by decide))).trans (hk2 9 (by decide))).trans (hk1 9 (by decide))).trans Hnm.1.2.2.1), (((((((hk105 10 (by decide)).trans (hk104 10 (by decide))).trans (hk103 10 (by decide))).trans (hk102 10 (by decide))).trans (hk2 10 (by decide))).trans (hk1 10 (by decide))).trans Hnm.1.2.2.2)⟩, ⟨(((((((hk105 14 (by decide)).trans (hk104 14 (by decide))).trans (hk103 14 (by decide))).trans (hk102 14 (by decide))).trans (hk2 14 (by decide))).trans (hk1 14 (by decide))).trans Hnm.2.1.1), (fun h => ((((((hk105 36 (by decide)).trans (hk104 36 (by decide))).trans (hk103 36 (by decide))).trans (hk102 36 (by decide))).trans (hk2 36 (by decide))).trans (hk1 36 (by decide))).trans (Hnm.2.1.2.1 h)), n37⟩, n15, n16, (((((((hk105 17 (by decide)).trans (hk104 17 (by decide))).trans (hk103 17 (by decide))).trans (hk102 17 (by decide))).trans (hk2 17 (by decide))).trans (hk1 17 (by decide))).trans Hnm.2.2.2.2.1), (((((((hk105 38 (by decide)).trans (hk104 38 (by decide))).trans (hk103 38 (by decide))).trans (hk102 38 (by decide))).trans (hk2 38 (by decide))).trans (hk1 38 (by decide))).trans Hnm.2.2.2.2.2.1), (n18.trans nI_0), n19⟩, (RMstt.zero (fun j hj => i204 j hj) (fun j hj => i214 j hj) (fun j hj => i224 j hj) (fun j hj => i234 j hj)), ⟨(by rw [((((u4 24 (by decide)).trans (u3 24 (by decide))).trans (u2 24 (by decide))).trans (u1 24 (by decide))), ((((u4 27 (by decide)).trans (u3 27 (by decide))).trans (u2 27 (by decide))).trans (u1 27 (by decide))), ((((u4 30 (by decide)).trans (u3 30 (by decide))).trans (u2 30 (by decide))).trans (u1 30 (by decide)))]; exact Hs0), (by rw [((((u4 25 (by decide)).trans (u3 25 (by decide))).trans (u2 25 (by decide))).trans (u1 25 (by decide))), ((((u4 28 (by decide)).trans (u3 28 (by decide))).trans (u2 28 (by decide))).trans (u1 28 (by decide))), ((((u4 31 (by decide)).trans (u3 31 (by decide))).trans (u2 31 (by decide))).trans (u1 31 (by decide)))]; exact Hs1), (RMst.zero (fun j hj => (congrFun ((u4 26 (by decide)).trans (u3 26 (by decide))) j).trans <| i262 j hj))⟩, ⟨(by rw [((((u4 33 (by decide)).trans (u3 33 (by decide))).trans (u2 33 (by decide))).trans (u1 33 (by decide)))]; exact Hc0), (by rw [((((u4 34 (by decide)).trans (u3 34 (by decide))).trans (u2 34 (by decide))).trans (u1 34 (by decide)))]; exact Hc1), (RMct.zero (fun j hj => (congrFun (u4 35 (by decide)) j).trans <| i353 j hj))⟩, (by rw [((((u4 39 (by decide)).trans (u3 39 (by decide))).trans (u2 39 (by decide))).trans (u1 39 (by decide))), ((((u4 40 (by decide)).trans (u3 40 (by decide))).trans (u2 40 (by decide))).trans (u1 40 (by decide))), ((((u4 41 (by decide)).trans (u3 41 (by decide))).trans (u2 41 (by decide))).trans (u1 41 (by decide))), ((((u4 42 (by decide)).trans (u3 42 (by decide))).trans (u2 42 (by decide))).trans (u1 42 (by decide)))]; exact Hls), (by rw [((((u4 43 (by decide)).trans (u3 43 (by decide))).trans (u2 43 (by decide))).trans (u1 43 (by decide)))]; exact Hsp), (by rw [((((u4 44 (by decide)).trans (u3 44 (by decide))).trans (u2 44 (by decide))).trans (u1 44 (by decide)))]; exact Hpt), (by rw [((((u4 45 (by decide)).trans (u3 45 (by decide))).trans (u2 45 (by decide))).trans (u1 45 (by decide)))]; exact Hhd), (fun o h1 i h2 j h3 => by have h := Hch o h1 i h2 j h3; unfold mCh at h ⊢; rw [((((u4 46 (by decide)).trans (u3 46 (by decide))).trans (u2 46 (by decide))).trans (u1 46 (by decide))), ((((u4 47 (by decide)).trans (u3 47 (by decide))).trans (u2 47 (by decide))).trans (u1 47 (by decide))), ((((u4 48 (by decide)).trans (u3 48 (by decide))).trans (u2 48 (by decide))).trans (u1 48 (by decide))), ((((u4 49 (by decide)).trans (u3 49 (by decide))).trans (u2 49 (by decide))).trans (u1 49 (by decide))), ((((u4 50 (by decide)).trans (u3 50 (by decide))).trans (u2 50 (by decide))).trans (u1 50 (by decide))), ((((u4 51 (by decide)).trans (u3 51 (by decide))).trans (u2 51 (by decide))).trans (u1 51 (by decide))), ((((u4 52 (by decide)).trans (u3 52 (by decide))).trans (u2 52 (by decide))).trans (u1 52 (by decide))), ((((u4 53 (by decide)).trans (u3 53 (by decide))).trans (u2 53 (by decide))).trans (u1 53 (by decide))), ((((u4 54 (by decide)).trans (u3 54 (by decide))).trans (u2 54 (by decide))).trans (u1 54 (by decide))), ((((u4 55 (by decide)).trans (u3 55 (by decide))).trans (u2 55 (by decide))).trans (u1 55 (by decide))), ((((u4 56 (by decide)).trans (u3 56 (by decide))).trans (u2 56 (by decide))).trans (u1 56 (by decide)))]; exact h), (by rw [((((((hk105 77 (by decide)).trans (hk104 77 (by decide))).trans (hk103 77 (by decide))).trans (hk102 77 (by decide))).trans (hk2 77 (by decide))).trans (hk1 77 (by decide))), ((((u4 75 (by decide)).trans (u3 75 (by decide))).trans (u2 75 (by decide))).trans (u1 75 (by decide))), ((((u4 76 (by decide)).trans (u3 76 (by decide))).trans (u2 76 (by decide))).trans (u1 76 (by decide)))]; exact Hex), (by rw [((((((hk105 80 (by decide)).trans (hk104 80 (by decide))).trans (hk103 80 (by decide))).trans (hk102 80 (by decide))).trans (hk2 80 (by decide))).trans (hk1 80 (by decide))), ((((u4 79 (by decide)).trans (u3 79 (by decide))).trans (u2 79 (by decide))).trans (u1 79 (by decide)))]; exact Hwr)⟩
                          refine g_callV (rest := []) B M_X12_breaks q2699 q2701 qs64 (P14.1.choose_spec.choose_spec) rfl (c_M_breaks (a := a.begin0) P14.self H0) rfl rfl (Nat.le_of_ble_eq_true rfl) (Nat.le_of_ble_eq_true rfl) (Nat.le_of_ble_eq_true rfl) (Nat.le_refl _) (Nat.le_refl _) dX12_begins_155 (xkN (fun T402 O402 R402 le402 p402 => ?_))
                          obtain ⟨eT402, sc402, ar402, Q402, hr402⟩ := p402
                          obtain rfl := eT402.symm
                          have P402 := P14.rebase Q402
                          refine g_vret B E rfl dX12_begins_158 ?_
                          exact ⟨rfl, rfl, _, _, P402, hr402⟩
                        · refine g_aload_n B 1 dX12_begins_120 rfl ?_
                          refine m_geta B P14 F_X12_44_12 (by decide) (Or.inl rfl) dX12_begins_121 ?_
                          refine g_iload_n B 0 dX12_begins_124 rfl ?_
                          refine g_iconst (v := nI 0) B dX12_begins_125 (by decide) ?_
                          refine m_st B P14 (by decide) rfl rfl (by show _ < 6; omega) (by decide) dX12_begins_126 (fun R403 ar403 hs403 hk403 P403 => ?_)
                          refine g_aload_n B 1 dX12_begins_127 rfl ?_
                          refine m_geta B P403 F_X12_47_12 (by decide) (Or.inl rfl) dX12_begins_128 ?_
                          refine g_iload_n B 0 dX12_begins_131 rfl ?_
                          refine g_iconst (v := nI 0) B dX12_begins_132 (by decide) ?_
                          refine m_st B P403 (by decide) rfl rfl (by show _ < 6; omega) (by decide) dX12_begins_133 (fun R404 ar404 hs404 hk404 P404 => ?_)
                          refine g_aload_n B 1 dX12_begins_134 rfl ?_
                          refine m_geta B P404 F_X12_50_12 (by decide) (Or.inl rfl) dX12_begins_135 ?_
                          refine g_iload_n B 0 dX12_begins_138 rfl ?_
                          refine g_iconst (v := nI 0) B dX12_begins_139 (by decide) ?_
                          refine m_st B P404 (by decide) rfl rfl (by show _ < 6; omega) (by decide) dX12_begins_140 (fun R405 ar405 hs405 hk405 P405 => ?_)
                          refine g_aload_n B 1 dX12_begins_141 rfl ?_
                          refine m_geta B P405 F_X12_53_12 (by decide) (Or.inl rfl) dX12_begins_142 ?_
                          refine g_iload_n B 0 dX12_begins_145 rfl ?_
                          refine g_iconst (v := nI 0) B dX12_begins_146 (by decide) ?_
                          refine m_st B P405 (by decide) rfl rfl (by show _ < 6; omega) (by decide) dX12_begins_147 (fun R406 ar406 hs406 hk406 P406 => ?_)
                          refine g_iinc (v := nI (x4 + 1)) (lv2 := [(1, _), (0, _)]) B 0 dX12_begins_148 rfl (nI_1 _) (by decide) rfl ?_
                          refine g_goto (tgt := 114) B dX12_begins_151 (by decide) ?_
                          have e20 : ar406 20 = va_up (ar14 20) x4 (nI 0) := ((hk406 20 (by decide)).trans ((hk405 20 (by decide)).trans ((hk404 20 (by decide)).trans hs403)))
                          have e21 : ar406 21 = va_up (ar14 21) x4 (nI 0) := ((hk406 21 (by decide)).trans ((hk405 21 (by decide)).trans (hs404.trans (congrArg (fun g => va_up g x4 (nI 0)) (hk403 21 (by decide))))))
                          have e22 : ar406 22 = va_up (ar14 22) x4 (nI 0) := ((hk406 22 (by decide)).trans (hs405.trans (congrArg (fun g => va_up g x4 (nI 0)) ((hk404 22 (by decide)).trans (hk403 22 (by decide))))))
                          have e23 : ar406 23 = va_up (ar14 23) x4 (nI 0) := (hs406.trans (congrArg (fun g => va_up g x4 (nI 0)) ((hk405 23 (by decide)).trans ((hk404 23 (by decide)).trans (hk403 23 (by decide))))))
                          exact ih4 (6 - (x4 + 1)) (by omega) (x4 + 1) _ _ _ rfl (by omega) P406 (fun j hj => by rw [e20]; exact va_fill (g := fun _ => nI 0) i204 (rfl) j hj) (fun j hj => by rw [e21]; exact va_fill (g := fun _ => nI 0) i214 (rfl) j hj) (fun j hj => by rw [e22]; exact va_fill (g := fun _ => nI 0) i224 (rfl) j hj) (fun j hj => by rw [e23]; exact va_fill (g := fun _ => nI 0) i234 (rfl) j hj) (fun k hn => ((((hk406 k (fun e => hn (by rw [e]; decide))).trans (hk405 k (fun e => hn (by rw [e]; decide)))).trans (hk404 k (fun e => hn (by rw [e]; decide)))).trans (hk403 k (fun e => hn (by rw [e]; decide)))).trans (u4 k hn))
                    exact L4 _ 0 _ _ _ rfl (Nat.zero_le _) P13 (fun j hj => absurd hj (Nat.not_lt_zero j)) (fun j hj => absurd hj (Nat.not_lt_zero j)) (fun j hj => absurd hj (Nat.not_lt_zero j)) (fun j hj => absurd hj (Nat.not_lt_zero j)) (fun _ _ => rfl)
                  · refine g_aload_n B 1 dX12_begins_99 rfl ?_
                    refine m_geta B P13 F_X12_90_12 (by decide) (Or.inl rfl) dX12_begins_100 ?_
                    refine g_iload_n B 0 dX12_begins_103 rfl ?_
                    refine g_iconst (v := nI 0) B dX12_begins_104 (by decide) ?_
                    refine m_st B P13 (by decide) rfl rfl (by show _ < 18; omega) (by decide) dX12_begins_105 (fun R302 ar302 hs302 hk302 P302 => ?_)
                    refine g_iinc (v := nI (x3 + 1)) (lv2 := [(1, _), (0, _)]) B 0 dX12_begins_106 rfl (nI_1 _) (by decide) rfl ?_
                    refine g_goto (tgt := 93) B dX12_begins_109 (by decide) ?_
                    have e35 : ar302 35 = va_up (ar13 35) x3 (nI 0) := hs302
                    exact ih3 (18 - (x3 + 1)) (by omega) (x3 + 1) _ _ _ rfl (by omega) P302 (fun j hj => by rw [e35]; exact va_fill (g := fun _ => nI 0) i353 (rfl) j hj) (fun k hn => (hk302 k (fun e => hn (by rw [e]; decide))).trans (u3 k hn))
              exact L3 _ 0 _ _ _ rfl (Nat.zero_le _) P12 (fun j hj => absurd hj (Nat.not_lt_zero j)) (fun _ _ => rfl)
            · refine g_aload_n B 1 dX12_begins_64 rfl ?_
              refine m_geta B P12 F_X12_63_12 (by decide) (Or.inr rfl) dX12_begins_65 ?_
              refine g_iload_n B 0 dX12_begins_68 rfl ?_
              refine g_iconst (v := nI 0) B dX12_begins_69 (by decide) ?_
              refine m_stz B P12 (by decide) rfl rfl (by show _ < 96; omega) (by decide) rfl dX12_begins_70 (fun R202 ar202 hs202 hk202 P202 => ?_)
              refine g_aload_n B 1 dX12_begins_71 rfl ?_
              refine m_geta B P202 F_X12_72_12 (by decide) (Or.inl rfl) dX12_begins_72 ?_
              refine g_iload_n B 0 dX12_begins_75 rfl ?_
              refine g_iconst (v := nI 0) B dX12_begins_76 (by decide) ?_
              refine m_st B P202 (by decide) rfl rfl (by show _ < 96; omega) (by decide) dX12_begins_77 (fun R203 ar203 hs203 hk203 P203 => ?_)
              refine g_aload_n B 1 dX12_begins_78 rfl ?_
              refine m_geta B P203 F_X12_81_12 (by decide) (Or.inl rfl) dX12_begins_79 ?_
              refine g_iload_n B 0 dX12_begins_82 rfl ?_
              refine g_iconst (v := nI 0) B dX12_begins_83 (by decide) ?_
              refine m_st B P203 (by decide) rfl rfl (by show _ < 96; omega) (by decide) dX12_begins_84 (fun R204 ar204 hs204 hk204 P204 => ?_)
              refine g_iinc (v := nI (x2 + 1)) (lv2 := [(1, _), (0, _)]) B 0 dX12_begins_85 rfl (nI_1 _) (by decide) rfl ?_
              refine g_goto (tgt := 58) B dX12_begins_88 (by decide) ?_
              have e26 : ar204 26 = va_up (ar12 26) x2 (nI 0) := ((hk204 26 (by decide)).trans ((hk203 26 (by decide)).trans hs202))
              have e29 : ar204 29 = va_up (ar12 29) x2 (nI 0) := ((hk204 29 (by decide)).trans (hs203.trans (congrArg (fun g => va_up g x2 (nI 0)) (hk202 29 (by decide)))))
              have e32 : ar204 32 = va_up (ar12 32) x2 (nI 0) := (hs204.trans (congrArg (fun g => va_up g x2 (nI 0)) ((hk203 32 (by decide)).trans (hk202 32 (by decide)))))
              exact ih2 (96 - (x2 + 1)) (by omega) (x2 + 1) _ _ _ rfl (by omega) P204 (fun j hj => by rw [e26]; exact va_fill (g := fun _ => nI 0) i262 (rfl) j hj) (fun j hj => by rw [e29]; exact va_fill (g := fun _ => nI 0) i292 (rfl) j hj) (fun j hj => by rw [e32]; exact va_fill (g := fun _ => nI 0) i322 (rfl) j hj) (fun k hn => (((hk204 k (fun e => hn (by rw [e]; decide))).trans (hk203 k (fun e => hn (by rw [e]; decide)))).trans (hk202 k (fun e => hn (by rw [e]; decide)))).trans (u2 k hn))
        exact L2 _ 0 _ _ _ rfl (Nat.zero_le _) P105 (fun j hj => absurd hj (Nat.not_lt_zero j)) (fun j hj => absurd hj (Nat.not_lt_zero j)) (fun j hj => absurd hj (Nat.not_lt_zero j)) (fun _ _ => rfl)
      · refine g_aload_n B 1 dX12_begins_23 rfl ?_
        refine m_geta B P11 F_X12_148_12 (by decide) (Or.inl rfl) dX12_begins_24 ?_
        refine g_iload_n B 0 dX12_begins_27 rfl ?_
        refine g_iconst (v := nI 0) B dX12_begins_28 (by decide) ?_
        refine m_st B P11 (by decide) rfl rfl (by show _ < 40000; omega) (by decide) dX12_begins_29 (fun R106 ar106 hs106 hk106 P106 => ?_)
        refine g_iinc (v := nI (x1 + 1)) (lv2 := [(1, _), (0, _)]) B 0 dX12_begins_30 rfl (nI_1 _) (by decide) rfl ?_
        refine g_goto (tgt := 17) B dX12_begins_33 (by decide) ?_
        have e57 : ar106 57 = va_up (ar11 57) x1 (nI 0) := hs106
        exact ih1 (40000 - (x1 + 1)) (by omega) (x1 + 1) _ _ _ rfl (by omega) P106 (fun j hj => by rw [e57]; exact va_fill (g := fun _ => nI 0) i571 (rfl) j hj) (fun k hn => (hk106 k (fun e => hn (by rw [e]; decide))).trans (u1 k hn))
  exact L1 _ 0 _ _ _ rfl (Nat.zero_le _) P3 (fun j hj => absurd hj (Nat.not_lt_zero j)) (fun _ _ => rfl)
theorem c_M_fail {G : xG} {T : xT} {O R : xO} {m : Nat} {ad : Nat → Nat} {sc : Nat → Int32} {ar : Nat → Nat → Int32}  (P : PM m ad O R sc ar T O R) {a : aA} (H : RepM a sc ar)  : xCtr G yX12_fail cX12_fail 1 (some Jvm.ClassFile.FieldType.int) 1 21 0 0 [.ref m] (T, O, R) (xA (mPost m ad T O R (fun v sc2 ar2 => v = .int (a.failF).1 ∧ RepM (a.failF).2 sc2 ar2))) := by
  have hR := H
  obtain ⟨Htxt, Hop, Hinp, Hnm, Hstt, ⟨Hs0, Hs1, Hs2⟩, ⟨Hc0, Hc1, Hc2⟩, Hls, Hsp, Hpt, Hhd, Hch, Hex, Hwr⟩ := H
  refine xCtr.of (by decide +kernel) (Nat.le_of_ble_eq_true rfl) ?_
  intro Z B E hz hnm
  change xV Z (T, O, R) 0 [(0, .ref m)] [] 0 0
  refine g_aload_n B 0 dX12_fail_0 rfl ?_
  refine g_dup B dX12_fail_1 rfl ?_
  refine m_get B P F_X12_256_12 (by decide) (Or.inl rfl) (show _ = a.fl from Hnm.2.2.2.2.2.2.1) dX12_fail_2 ?_
  refine g_iconst (v := nI 1) B dX12_fail_5 (by decide) ?_
  refine g_iadd B dX12_fail_6 ?_
  refine m_put B P F_X12_256_12 (by decide) (Or.inl rfl) rfl rfl rfl dX12_fail_7 (fun O1 sc1 hs1 hk1 P1 => ?_)
  refine g_aload_n B 0 dX12_fail_10 rfl ?_
  have n18 : sc1 18 = (a.fl + (nI 1)) := hs1
  have H0 : RepM (a.w_fl (a.fl + nI 1)) sc1 ar := ⟨(by rw [(hk1 1 (by decide))]; exact Htxt), (by rw [(hk1 2 (by decide))]; exact Hop), (by rw [(hk1 13 (by decide))]; exact Hinp), ⟨⟨((hk1 7 (by decide)).trans Hnm.1.1), ((hk1 8 (by decide)).trans Hnm.1.2.1), ((hk1 9 (by decide)).trans Hnm.1.2.2.1), ((hk1 10 (by decide)).trans Hnm.1.2.2.2)⟩, ⟨((hk1 14 (by decide)).trans Hnm.2.1.1), (fun h => (hk1 36 (by decide)).trans (Hnm.2.1.2.1 h)), ((hk1 37 (by decide)).trans Hnm.2.1.2.2)⟩, ((hk1 15 (by decide)).trans Hnm.2.2.1), ((hk1 16 (by decide)).trans Hnm.2.2.2.1), ((hk1 17 (by decide)).trans Hnm.2.2.2.2.1), ((hk1 38 (by decide)).trans Hnm.2.2.2.2.2.1), n18, ((hk1 19 (by decide)).trans Hnm.2.2.2.2.2.2.2)⟩, (fun k hk o ho => by rcases (show k = 0 ∨ k = 1 ∨ k = 2 ∨ k = 3 by omega) with rfl | rfl | rfl | rfl; (exact Hstt 0 (by decide) o ho); (exact Hstt 1 (by decide) o ho); (exact Hstt 2 (by decide) o ho); (exact Hstt 3 (by decide) o ho)), ⟨Hs0, Hs1, Hs2⟩, ⟨Hc0, Hc1, Hc2⟩, Hls, Hsp, Hpt, Hhd, Hch, (by rw [(hk1 77 (by decide))]; exact Hex), (by rw [(hk1 80 (by decide))]; exact Hwr)⟩
  refine g_callV (rest := []) B M_X12_breaks q2699 q2701 qs64 (P1.1.choose_spec.choose_spec) rfl (c_M_breaks (a := a.w_fl (a.fl + nI 1)) P1.self H0) rfl rfl (Nat.le_of_ble_eq_true rfl) (Nat.le_of_ble_eq_true rfl) (Nat.le_of_ble_eq_true rfl) (Nat.le_refl _) (Nat.le_refl _) dX12_fail_11 (xkN (fun T2 O2 R2 le2 p2 => ?_))
  obtain ⟨eT2, sc2, ar2, Q2, hr2⟩ := p2
  obtain rfl := eT2.symm
  have P2 := P1.rebase Q2
  have hq := hr2.2.2.2.1
  refine g_aload_n B 0 dX12_fail_14 rfl ?_
  refine m_get B P2 F_X12_253_12 (by decide) (Or.inl rfl) (show _ = (nI (a.nm 1)) from hq.2.2.2.1) dX12_fail_15 ?_
  refine g_iret B E rfl rfl dX12_fail_18 ?_
  exact ⟨_, rfl, rfl, _, _, P2, rfl, hr2⟩
theorem c_M_clear {G : xG} {T : xT} {O R : xO} {m : Nat} {ad : Nat → Nat} {sc : Nat → Int32} {ar : Nat → Nat → Int32}  (P : PM m ad O R sc ar T O R) {a : aA} (H : RepM a sc ar)  : xCtr G yX12_clear cX12_clear 2 (some Jvm.ClassFile.FieldType.int) 2 42 0 0 [.ref m] (T, O, R) (xA (mPost m ad T O R (fun v sc2 ar2 => v = .int (a.clearF).1 ∧ RepM (a.clearF).2 sc2 ar2))) := by
  have hR := H
  obtain ⟨Htxt, Hop, Hinp, Hnm, Hstt, ⟨Hs0, Hs1, Hs2⟩, ⟨Hc0, Hc1, Hc2⟩, Hls, Hsp, Hpt, Hhd, Hch, Hex, Hwr⟩ := H
  refine xCtr.of (by decide +kernel) (Nat.le_of_ble_eq_true rfl) ?_
  intro Z B E hz hnm
  change xV Z (T, O, R) 0 [(0, .ref m)] [] 0 0
  refine g_aload_n B 0 dX12_clear_0 rfl ?_
  refine m_get B P F_X12_275_12 (by decide) (Or.inl rfl) (show _ = (nI a.inp.length) from Hinp.1) dX12_clear_1 ?_
  refine g_istore_n (lv2 := [(1, _), (0, _)]) B dX12_clear_4 (by decide) rfl ?_
  refine g_aload_n B 1 dX12_clear_5 rfl ?_
  refine g_iconst (v := nI 0) B dX12_clear_6 (by decide) ?_
  refine m_put B P F_X12_275_12 (by decide) (Or.inl rfl) rfl rfl rfl dX12_clear_7 (fun O1 sc1 hs1 hk1 P1 => ?_)
  refine g_aload_n B 1 dX12_clear_10 rfl ?_
  have n13 : sc1 13 = (nI 0) := hs1
  have H0 : RepM (a.w_inp []) sc1 ar := ⟨(by rw [(hk1 1 (by decide))]; exact Htxt), (by rw [(hk1 2 (by decide))]; exact Hop), ⟨n13, fun i hi => absurd hi (Nat.not_lt_zero i)⟩, ⟨⟨((hk1 7 (by decide)).trans Hnm.1.1), ((hk1 8 (by decide)).trans Hnm.1.2.1), ((hk1 9 (by decide)).trans Hnm.1.2.2.1), ((hk1 10 (by decide)).trans Hnm.1.2.2.2)⟩, ⟨((hk1 14 (by decide)).trans Hnm.2.1.1), (fun h => (hk1 36 (by decide)).trans (Hnm.2.1.2.1 h)), ((hk1 37 (by decide)).trans Hnm.2.1.2.2)⟩, ((hk1 15 (by decide)).trans Hnm.2.2.1), ((hk1 16 (by decide)).trans Hnm.2.2.2.1), ((hk1 17 (by decide)).trans Hnm.2.2.2.2.1), ((hk1 38 (by decide)).trans Hnm.2.2.2.2.2.1), ((hk1 18 (by decide)).trans Hnm.2.2.2.2.2.2.1), ((hk1 19 (by decide)).trans Hnm.2.2.2.2.2.2.2)⟩, (fun k hk o ho => by rcases (show k = 0 ∨ k = 1 ∨ k = 2 ∨ k = 3 by omega) with rfl | rfl | rfl | rfl; (exact Hstt 0 (by decide) o ho); (exact Hstt 1 (by decide) o ho); (exact Hstt 2 (by decide) o ho); (exact Hstt 3 (by decide) o ho)), ⟨Hs0, Hs1, Hs2⟩, ⟨Hc0, Hc1, Hc2⟩, Hls, Hsp, Hpt, Hhd, Hch, (by rw [(hk1 77 (by decide))]; exact Hex), (by rw [(hk1 80 (by decide))]; exact Hwr)⟩
  refine g_callV (rest := []) B M_X12_begins q2695 q2697 qs63 (P1.1.choose_spec.choose_spec) rfl (c_M_begins (a := a.w_inp []) P1.self H0) rfl rfl (Nat.le_of_ble_eq_true rfl) (Nat.le_of_ble_eq_true rfl) (Nat.le_of_ble_eq_true rfl) (Nat.le_refl _) (Nat.le_refl _) dX12_clear_11 (xkN (fun T2 O2 R2 le2 p2 => ?_))
  obtain ⟨eT2, sc2, ar2, Q2, hr2⟩ := p2
  obtain rfl := eT2.symm
  have P2 := P1.rebase Q2
  refine g_iload_n B 0 dX12_clear_14 rfl ?_
  refine g_iret B E rfl rfl dX12_clear_15 ?_
  exact ⟨_, rfl, rfl, _, _, P2, rfl, hr2⟩
theorem c_M_isQuiet {G : xG} {T : xT} {O R : xO} {m : Nat} {ad : Nat → Nat} {sc : Nat → Int32} {ar : Nat → Nat → Int32} {Bd : Nat} (P : PM m ad O R sc ar T O R) {a : aA} (H : RepM a sc ar) (W : WF Bd a) (hB : Bd ≤ 2 ^ 30) : xCtr G yX12_isQuiet cX12_isQuiet 1 (some Jvm.ClassFile.FieldType.int) 1 21 0 0 [.ref m] (T, O, R) (xA (fun v T2 O2 R2 => v = .int (bI a.quiet) ∧ T2 = T ∧ O2 = O ∧ R2 = R)) := by
  have hR := H
  obtain ⟨Htxt, Hop, Hinp, Hnm, Hstt, ⟨Hs0, Hs1, Hs2⟩, ⟨Hc0, Hc1, Hc2⟩, Hls, Hsp, Hpt, Hhd, Hch, Hex, Hwr⟩ := H
  refine xCtr.of (by decide +kernel) (Nat.le_of_ble_eq_true rfl) ?_
  intro Z B E hz hnm
  change xV Z (T, O, R) 0 [(0, .ref m)] [] 0 0
  refine g_aload_n B 0 dX12_isQuiet_0 rfl ?_
  refine g_callV (rest := []) B M_X12_quiet q2720 q2722 qs65 (P.1.choose_spec.choose_spec) rfl (c_M_quiet P.self hR W hB) rfl rfl (Nat.le_of_ble_eq_true rfl) (Nat.le_of_ble_eq_true rfl) (Nat.le_of_ble_eq_true rfl) (Nat.le_refl _) (Nat.le_refl _) dX12_isQuiet_1 (xkA (fun v1 T1 O1 R1 le1 p1 => ?_))
  obtain ⟨rfl, eT1, eO1, eR1⟩ := p1
  obtain rfl := eT1.symm
  obtain rfl := eO1.symm
  obtain rfl := eR1.symm
  refine g_if_eqB (tgt := 11) B dX12_isQuiet_4 (by decide) (fun c2 => ?_) (fun c2 => ?_)
  · refine g_iconst (v := nI 0) B dX12_isQuiet_11 (by decide) ?_
    refine g_iret B E rfl rfl dX12_isQuiet_12 ?_
    exact ⟨_, rfl, by rw [c2]; rfl, rfl, rfl, rfl⟩
  · refine g_iconst (v := nI 1) B dX12_isQuiet_7 (by decide) ?_
    refine g_goto (tgt := 12) B dX12_isQuiet_8 (by decide) ?_
    refine g_iret B E rfl rfl dX12_isQuiet_12 ?_
    exact ⟨_, rfl, by rw [c2]; rfl, rfl, rfl, rfl⟩
