set_option maxRecDepth 100000
theorem FO_X0_183 (k : Nat) : xFld RX0 183 (opR k) 3 := by
  unfold opR
  split
  · exact F_X0_183_15
  · exact F_X0_183_16
  · exact F_X0_183_17
  · exact F_X0_183_18
  · exact F_X0_183_19
  · exact F_X0_183_20
  · exact F_X0_183_21
  · exact F_X0_183_5
  · exact F_X0_183_8
theorem FO_X0_187 (k : Nat) : xFld RX0 187 (opR k) 4 := by
  unfold opR
  split
  · exact F_X0_187_15
  · exact F_X0_187_16
  · exact F_X0_187_17
  · exact F_X0_187_18
  · exact F_X0_187_19
  · exact F_X0_187_20
  · exact F_X0_187_21
  · exact F_X0_187_5
  · exact F_X0_187_8
theorem FO_X0_338 (k : Nat) : xFld RX0 338 (opR k) 0 := by
  unfold opR
  split
  · exact F_X0_338_15
  · exact F_X0_338_16
  · exact F_X0_338_17
  · exact F_X0_338_18
  · exact F_X0_338_19
  · exact F_X0_338_20
  · exact F_X0_338_21
  · exact F_X0_338_5
  · exact F_X0_338_8
theorem FO_X0_341 (k : Nat) : xFld RX0 341 (opR k) 1 := by
  unfold opR
  split
  · exact F_X0_341_15
  · exact F_X0_341_16
  · exact F_X0_341_17
  · exact F_X0_341_18
  · exact F_X0_341_19
  · exact F_X0_341_20
  · exact F_X0_341_21
  · exact F_X0_341_5
  · exact F_X0_341_8
theorem FO_X0_344 (k : Nat) : xFld RX0 344 (opR k) 2 := by
  unfold opR
  split
  · exact F_X0_344_15
  · exact F_X0_344_16
  · exact F_X0_344_17
  · exact F_X0_344_18
  · exact F_X0_344_19
  · exact F_X0_344_20
  · exact F_X0_344_21
  · exact F_X0_344_5
  · exact F_X0_344_8
theorem FO_X0_347 (k : Nat) : xFld RX0 347 (opR k) 5 := by
  unfold opR
  split
  · exact F_X0_347_15
  · exact F_X0_347_16
  · exact F_X0_347_17
  · exact F_X0_347_18
  · exact F_X0_347_19
  · exact F_X0_347_20
  · exact F_X0_347_21
  · exact F_X0_347_5
  · exact F_X0_347_8
theorem FO_X0_350 (k : Nat) : xFld RX0 350 (opR k) 6 := by
  unfold opR
  split
  · exact F_X0_350_15
  · exact F_X0_350_16
  · exact F_X0_350_17
  · exact F_X0_350_18
  · exact F_X0_350_19
  · exact F_X0_350_20
  · exact F_X0_350_21
  · exact F_X0_350_5
  · exact F_X0_350_8
theorem FO_X0_353 (k : Nat) : xFld RX0 353 (opR k) 7 := by
  unfold opR
  split
  · exact F_X0_353_15
  · exact F_X0_353_16
  · exact F_X0_353_17
  · exact F_X0_353_18
  · exact F_X0_353_19
  · exact F_X0_353_20
  · exact F_X0_353_21
  · exact F_X0_353_5
  · exact F_X0_353_8
theorem FO_X0_356 (k : Nat) : xFld RX0 356 (opR k) 8 := by
  unfold opR
  split
  · exact F_X0_356_15
  · exact F_X0_356_16
  · exact F_X0_356_17
  · exact F_X0_356_18
  · exact F_X0_356_19
  · exact F_X0_356_20
  · exact F_X0_356_21
  · exact F_X0_356_5
  · exact F_X0_356_8
theorem FO_X18_9 (k : Nat) : xFld RX18 9 (opR k) 1 := by
  unfold opR
  split
  · exact F_X18_9_15
  · exact F_X18_9_16
  · exact F_X18_9_17
  · exact F_X18_9_18
  · exact F_X18_9_19
  · exact F_X18_9_20
  · exact F_X18_9_21
  · exact F_X18_9_5
  · exact F_X18_9_8
theorem FO_X16_9 (k : Nat) : xFld RX16 9 (opR k) 1 := by
  unfold opR
  split
  · exact F_X16_9_15
  · exact F_X16_9_16
  · exact F_X16_9_17
  · exact F_X16_9_18
  · exact F_X16_9_19
  · exact F_X16_9_20
  · exact F_X16_9_21
  · exact F_X16_9_5
  · exact F_X16_9_8
theorem FO_X16_15 (k : Nat) : xFld RX16 15 (opR k) 2 := by
  unfold opR
  split
  · exact F_X16_15_15
  · exact F_X16_15_16
  · exact F_X16_15_17
  · exact F_X16_15_18
  · exact F_X16_15_19
  · exact F_X16_15_20
  · exact F_X16_15_21
  · exact F_X16_15_5
  · exact F_X16_15_8
theorem FO_X9_77 (k : Nat) : xFld RX9 77 (opR k) 6 := by
  unfold opR
  split
  · exact F_X9_77_15
  · exact F_X9_77_16
  · exact F_X9_77_17
  · exact F_X9_77_18
  · exact F_X9_77_19
  · exact F_X9_77_20
  · exact F_X9_77_21
  · exact F_X9_77_5
  · exact F_X9_77_8
theorem FO_X9_87 (k : Nat) : xFld RX9 87 (opR k) 3 := by
  unfold opR
  split
  · exact F_X9_87_15
  · exact F_X9_87_16
  · exact F_X9_87_17
  · exact F_X9_87_18
  · exact F_X9_87_19
  · exact F_X9_87_20
  · exact F_X9_87_21
  · exact F_X9_87_5
  · exact F_X9_87_8
theorem FO_X9_211 (k : Nat) : xFld RX9 211 (opR k) 5 := by
  unfold opR
  split
  · exact F_X9_211_15
  · exact F_X9_211_16
  · exact F_X9_211_17
  · exact F_X9_211_18
  · exact F_X9_211_19
  · exact F_X9_211_20
  · exact F_X9_211_21
  · exact F_X9_211_5
  · exact F_X9_211_8
theorem FO_X9_214 (k : Nat) : xFld RX9 214 (opR k) 4 := by
  unfold opR
  split
  · exact F_X9_214_15
  · exact F_X9_214_16
  · exact F_X9_214_17
  · exact F_X9_214_18
  · exact F_X9_214_19
  · exact F_X9_214_20
  · exact F_X9_214_21
  · exact F_X9_214_5
  · exact F_X9_214_8
theorem FO_X9_260 (k : Nat) : xFld RX9 260 (opR k) 7 := by
  unfold opR
  split
  · exact F_X9_260_15
  · exact F_X9_260_16
  · exact F_X9_260_17
  · exact F_X9_260_18
  · exact F_X9_260_19
  · exact F_X9_260_20
  · exact F_X9_260_21
  · exact F_X9_260_5
  · exact F_X9_260_8
theorem FO_X9_266 (k : Nat) : xFld RX9 266 (opR k) 8 := by
  unfold opR
  split
  · exact F_X9_266_15
  · exact F_X9_266_16
  · exact F_X9_266_17
  · exact F_X9_266_18
  · exact F_X9_266_19
  · exact F_X9_266_20
  · exact F_X9_266_21
  · exact F_X9_266_5
  · exact F_X9_266_8
theorem FO_X15_9 (k : Nat) : xFld RX15 9 (opR k) 1 := by
  unfold opR
  split
  · exact F_X15_9_15
  · exact F_X15_9_16
  · exact F_X15_9_17
  · exact F_X15_9_18
  · exact F_X15_9_19
  · exact F_X15_9_20
  · exact F_X15_9_21
  · exact F_X15_9_5
  · exact F_X15_9_8
theorem FO_X15_15 (k : Nat) : xFld RX15 15 (opR k) 2 := by
  unfold opR
  split
  · exact F_X15_15_15
  · exact F_X15_15_16
  · exact F_X15_15_17
  · exact F_X15_15_18
  · exact F_X15_15_19
  · exact F_X15_15_20
  · exact F_X15_15_21
  · exact F_X15_15_5
  · exact F_X15_15_8
theorem FO_X4_13 (k : Nat) : xFld RX4 13 (opR k) 4 := by
  unfold opR
  split
  · exact F_X4_13_15
  · exact F_X4_13_16
  · exact F_X4_13_17
  · exact F_X4_13_18
  · exact F_X4_13_19
  · exact F_X4_13_20
  · exact F_X4_13_21
  · exact F_X4_13_5
  · exact F_X4_13_8
theorem FO_X4_19 (k : Nat) : xFld RX4 19 (opR k) 0 := by
  unfold opR
  split
  · exact F_X4_19_15
  · exact F_X4_19_16
  · exact F_X4_19_17
  · exact F_X4_19_18
  · exact F_X4_19_19
  · exact F_X4_19_20
  · exact F_X4_19_21
  · exact F_X4_19_5
  · exact F_X4_19_8
theorem FO_X4_23 (k : Nat) : xFld RX4 23 (opR k) 1 := by
  unfold opR
  split
  · exact F_X4_23_15
  · exact F_X4_23_16
  · exact F_X4_23_17
  · exact F_X4_23_18
  · exact F_X4_23_19
  · exact F_X4_23_20
  · exact F_X4_23_21
  · exact F_X4_23_5
  · exact F_X4_23_8
theorem FO_X4_26 (k : Nat) : xFld RX4 26 (opR k) 2 := by
  unfold opR
  split
  · exact F_X4_26_15
  · exact F_X4_26_16
  · exact F_X4_26_17
  · exact F_X4_26_18
  · exact F_X4_26_19
  · exact F_X4_26_20
  · exact F_X4_26_21
  · exact F_X4_26_5
  · exact F_X4_26_8
theorem FO_X4_29 (k : Nat) : xFld RX4 29 (opR k) 3 := by
  unfold opR
  split
  · exact F_X4_29_15
  · exact F_X4_29_16
  · exact F_X4_29_17
  · exact F_X4_29_18
  · exact F_X4_29_19
  · exact F_X4_29_20
  · exact F_X4_29_21
  · exact F_X4_29_5
  · exact F_X4_29_8
theorem FO_X4_54 (k : Nat) : xFld RX4 54 (opR k) 5 := by
  unfold opR
  split
  · exact F_X4_54_15
  · exact F_X4_54_16
  · exact F_X4_54_17
  · exact F_X4_54_18
  · exact F_X4_54_19
  · exact F_X4_54_20
  · exact F_X4_54_21
  · exact F_X4_54_5
  · exact F_X4_54_8
theorem FO_X4_57 (k : Nat) : xFld RX4 57 (opR k) 6 := by
  unfold opR
  split
  · exact F_X4_57_15
  · exact F_X4_57_16
  · exact F_X4_57_17
  · exact F_X4_57_18
  · exact F_X4_57_19
  · exact F_X4_57_20
  · exact F_X4_57_21
  · exact F_X4_57_5
  · exact F_X4_57_8
theorem FO_X4_60 (k : Nat) : xFld RX4 60 (opR k) 7 := by
  unfold opR
  split
  · exact F_X4_60_15
  · exact F_X4_60_16
  · exact F_X4_60_17
  · exact F_X4_60_18
  · exact F_X4_60_19
  · exact F_X4_60_20
  · exact F_X4_60_21
  · exact F_X4_60_5
  · exact F_X4_60_8
theorem FO_X4_63 (k : Nat) : xFld RX4 63 (opR k) 8 := by
  unfold opR
  split
  · exact F_X4_63_15
  · exact F_X4_63_16
  · exact F_X4_63_17
  · exact F_X4_63_18
  · exact F_X4_63_19
  · exact F_X4_63_20
  · exact F_X4_63_21
  · exact F_X4_63_5
  · exact F_X4_63_8
theorem FO_X17_9 (k : Nat) : xFld RX17 9 (opR k) 1 := by
  unfold opR
  split
  · exact F_X17_9_15
  · exact F_X17_9_16
  · exact F_X17_9_17
  · exact F_X17_9_18
  · exact F_X17_9_19
  · exact F_X17_9_20
  · exact F_X17_9_21
  · exact F_X17_9_5
  · exact F_X17_9_8
theorem FO_X17_15 (k : Nat) : xFld RX17 15 (opR k) 2 := by
  unfold opR
  split
  · exact F_X17_15_15
  · exact F_X17_15_16
  · exact F_X17_15_17
  · exact F_X17_15_18
  · exact F_X17_15_19
  · exact F_X17_15_20
  · exact F_X17_15_21
  · exact F_X17_15_5
  · exact F_X17_15_8
theorem FO_X8_21 (k : Nat) : xFld RX8 21 (opR k) 3 := by
  unfold opR
  split
  · exact F_X8_21_15
  · exact F_X8_21_16
  · exact F_X8_21_17
  · exact F_X8_21_18
  · exact F_X8_21_19
  · exact F_X8_21_20
  · exact F_X8_21_21
  · exact F_X8_21_5
  · exact F_X8_21_8
theorem FO_X19_18 (k : Nat) : xFld RX19 18 (opR k) 1 := by
  unfold opR
  split
  · exact F_X19_18_15
  · exact F_X19_18_16
  · exact F_X19_18_17
  · exact F_X19_18_18
  · exact F_X19_18_19
  · exact F_X19_18_20
  · exact F_X19_18_21
  · exact F_X19_18_5
  · exact F_X19_18_8
theorem opQ (k j : Nat) (hj : j = 3 ∨ j = 5 ∨ j = 6 ∨ j = 7 ∨ j = 8) : ∃ q, xC (opR k) = some q ∧ (q.2.1 j).2.2.2 = false ∧ parseFieldDescriptor (q.2.1 j).2.2.1 = some .int := by
  unfold opR
  split
  · rcases hj with rfl | rfl | rfl | rfl | rfl <;> exact ⟨(RX15, TX15, 9), rfl, rfl, tyX15_ok _ (by decide)⟩
  · rcases hj with rfl | rfl | rfl | rfl | rfl <;> exact ⟨(RX16, TX16, 9), rfl, rfl, tyX16_ok _ (by decide)⟩
  · rcases hj with rfl | rfl | rfl | rfl | rfl <;> exact ⟨(RX17, TX17, 9), rfl, rfl, tyX17_ok _ (by decide)⟩
  · rcases hj with rfl | rfl | rfl | rfl | rfl <;> exact ⟨(RX18, TX18, 9), rfl, rfl, tyX18_ok _ (by decide)⟩
  · rcases hj with rfl | rfl | rfl | rfl | rfl <;> exact ⟨(RX19, TX19, 9), rfl, rfl, tyX19_ok _ (by decide)⟩
  · rcases hj with rfl | rfl | rfl | rfl | rfl <;> exact ⟨(RX20, TX20, 9), rfl, rfl, tyX20_ok _ (by decide)⟩
  · rcases hj with rfl | rfl | rfl | rfl | rfl <;> exact ⟨(RX21, TX21, 9), rfl, rfl, tyX21_ok _ (by decide)⟩
  · rcases hj with rfl | rfl | rfl | rfl | rfl <;> exact ⟨(RX5, TX5, 9), rfl, rfl, tyX5_ok _ (by decide)⟩
  · rcases hj with rfl | rfl | rfl | rfl | rfl <;> exact ⟨(RX8, TX8, 9), rfl, rfl, tyX8_ok _ (by decide)⟩
def opName (k : Nat) : String := match k with
  | 0 => RX15
  | 1 => RX16
  | 2 => RX17
  | 3 => RX18
  | 4 => RX19
  | 5 => RX20
  | 6 => RX21
  | 7 => RX5
  | _ => RX8
theorem opNa : ∀ k : Nat, xNa (opR k) = some (opName k)
  | 0 => rfl
  | 1 => rfl
  | 2 => rfl
  | 3 => rfl
  | 4 => rfl
  | 5 => rfl
  | 6 => rfl
  | 7 => rfl
  | _ + 8 => rfl
theorem opCast_X4 (k : Nat) : Cond.castable (opName k) "PipelineSimulator$Operator" ∈ lw_tbl := by
  unfold opName
  split
  · exact q2939
  · exact q2937
  · exact q2940
  · exact q2936
  · exact q2943
  · exact q2935
  · exact q2938
  · exact q2942
  · exact q2941
theorem opOk (k : Nat) : okT (opR k) := by
  unfold opR
  split <;> (unfold okT; decide)
theorem RepX.w_ch {a : aA} {tk x0 g0 fi ps : Nat} {Y Y1 : xY} {V V1 : xVV} {I I1 : xII} {J J1 : xJJ} {A A1 : xVV} {S : Nat → Nat → Prop} {fi2 : Nat} {q : Nat → Nat → Nat → aCh} (H : RepX a tk x0 g0 fi ps Y V I J A) (f : xFr S Y V I J A Y1 V1 I1 J1 A1) (hS : ∀ r o, S r o → gCh r) (n : XCh Y1 V1 I1 A1 a.n a.p q fi2) : RepX (a.w_ch q) tk x0 g0 fi2 ps Y1 V1 I1 J1 A1 :=
  ⟨H.Si.fr f (fun r o e q => by have h := hS r o e; unfold gCh at h; unfold gSi at q; omega), H.Ol.fr f (fun r o e q => by have h := hS r o e; unfold gCh at h; unfold gOl at q; omega), H.Op.fr f (fun r o e q => by have h := hS r o e; unfold gCh at h; unfold gOp at q; omega), H.Ks.fr f (fun r o e q => by have h := hS r o e; unfold gCh at h; unfold gKs at q; omega), H.In.fr f (fun r o e q => by have h := hS r o e; unfold gCh at h; unfold gIn at q; omega), H.Ct.fr f (fun r o e q => by have h := hS r o e; unfold gCh at h; unfold gCt at q; omega), H.Of.fr f (fun r o e q => by have h := hS r o e; unfold gCh at h; unfold gOf at q; omega), n, H.Ar.fr f (fun r o e q => by have h := hS r o e; unfold gCh at h; unfold gAr at q; omega), H.Ve.fr f (fun r o e q => by have h := hS r o e; unfold gCh at h; unfold gVe at q; omega), H.Ip.fr f (fun r o e q => by have h := hS r o e; unfold gCh at h; unfold gIp at q; omega), H.Tx.fr f (fun r o e q => by have h := hS r o e; unfold gCh at h; unfold gTx at q; omega), H.Wr.fr f (fun r o e q => by have h := hS r o e; unfold gCh at h; unfold gWr at q; omega), H.Ex.fr f (fun r o e q => by have h := hS r o e; unfold gCh at h; unfold gEx at q; omega), H.La.fr f (fun r o e q => by have h := hS r o e; unfold gCh at h; unfold gLa at q; omega)⟩
theorem RepX.w_ls {a : aA} {tk x0 g0 fi ps : Nat} {Y Y1 : xY} {V V1 : xVV} {I I1 : xII} {J J1 : xJJ} {A A1 : xVV} {S : Nat → Nat → Prop} {q : Nat → Nat → List aRec} (H : RepX a tk x0 g0 fi ps Y V I J A) (f : xFr S Y V I J A Y1 V1 I1 J1 A1) (hS : ∀ r o, S r o → gIn r) (n : XIn Y1 V1 I1 J1 a.n a.p q a.sp a.pt a.hd) : RepX (a.w_ls q) tk x0 g0 fi ps Y1 V1 I1 J1 A1 :=
  ⟨H.Si.fr f (fun r o e q => by have h := hS r o e; unfold gIn at h; unfold gSi at q; omega), H.Ol.fr f (fun r o e q => by have h := hS r o e; unfold gIn at h; unfold gOl at q; omega), H.Op.fr f (fun r o e q => by have h := hS r o e; unfold gIn at h; unfold gOp at q; omega), H.Ks.fr f (fun r o e q => by have h := hS r o e; unfold gIn at h; unfold gKs at q; omega), n, H.Ct.fr f (fun r o e q => by have h := hS r o e; unfold gIn at h; unfold gCt at q; omega), H.Of.fr f (fun r o e q => by have h := hS r o e; unfold gIn at h; unfold gOf at q; omega), H.Ch.fr f (fun r o e q => by have h := hS r o e; unfold gIn at h; unfold gCh at q; omega), H.Ar.fr f (fun r o e q => by have h := hS r o e; unfold gIn at h; unfold gAr at q; omega), H.Ve.fr f (fun r o e q => by have h := hS r o e; unfold gIn at h; unfold gVe at q; omega), H.Ip.fr f (fun r o e q => by have h := hS r o e; unfold gIn at h; unfold gIp at q; omega), H.Tx.fr f (fun r o e q => by have h := hS r o e; unfold gIn at h; unfold gTx at q; omega), H.Wr.fr f (fun r o e q => by have h := hS r o e; unfold gIn at h; unfold gWr at q; omega), H.Ex.fr f (fun r o e q => by have h := hS r o e; unfold gIn at h; unfold gEx at q; omega), H.La.fr f (fun r o e q => by have h := hS r o e; unfold gIn at h; unfold gLa at q; omega)⟩
theorem RepX.w_sp {a : aA} {tk x0 g0 fi ps : Nat} {Y Y1 : xY} {V V1 : xVV} {I I1 : xII} {J J1 : xJJ} {A A1 : xVV} {S : Nat → Nat → Prop} {q : Nat → Nat → Nat → Bool} (H : RepX a tk x0 g0 fi ps Y V I J A) (f : xFr S Y V I J A Y1 V1 I1 J1 A1) (hS : ∀ r o, S r o → gIn r) (n : XIn Y1 V1 I1 J1 a.n a.p a.ls q a.pt a.hd) : RepX (a.w_sp q) tk x0 g0 fi ps Y1 V1 I1 J1 A1 :=
  ⟨H.Si.fr f (fun r o e q => by have h := hS r o e; unfold gIn at h; unfold gSi at q; omega), H.Ol.fr f (fun r o e q => by have h := hS r o e; unfold gIn at h; unfold gOl at q; omega), H.Op.fr f (fun r o e q => by have h := hS r o e; unfold gIn at h; unfold gOp at q; omega), H.Ks.fr f (fun r o e q => by have h := hS r o e; unfold gIn at h; unfold gKs at q; omega), n, H.Ct.fr f (fun r o e q => by have h := hS r o e; unfold gIn at h; unfold gCt at q; omega), H.Of.fr f (fun r o e q => by have h := hS r o e; unfold gIn at h; unfold gOf at q; omega), H.Ch.fr f (fun r o e q => by have h := hS r o e; unfold gIn at h; unfold gCh at q; omega), H.Ar.fr f (fun r o e q => by have h := hS r o e; unfold gIn at h; unfold gAr at q; omega), H.Ve.fr f (fun r o e q => by have h := hS r o e; unfold gIn at h; unfold gVe at q; omega), H.Ip.fr f (fun r o e q => by have h := hS r o e; unfold gIn at h; unfold gIp at q; omega), H.Tx.fr f (fun r o e q => by have h := hS r o e; unfold gIn at h; unfold gTx at q; omega), H.Wr.fr f (fun r o e q => by have h := hS r o e; unfold gIn at h; unfold gWr at q; omega), H.Ex.fr f (fun r o e q => by have h := hS r o e; unfold gIn at h; unfold gEx at q; omega), H.La.fr f (fun r o e q => by have h := hS r o e; unfold gIn at h; unfold gLa at q; omega)⟩
theorem RepX.w_pt {a : aA} {tk x0 g0 fi ps : Nat} {Y Y1 : xY} {V V1 : xVV} {I I1 : xII} {J J1 : xJJ} {A A1 : xVV} {S : Nat → Nat → Prop} {q : Nat → Nat → Nat} (H : RepX a tk x0 g0 fi ps Y V I J A) (f : xFr S Y V I J A Y1 V1 I1 J1 A1) (hS : ∀ r o, S r o → gIn r) (n : XIn Y1 V1 I1 J1 a.n a.p a.ls a.sp q a.hd) : RepX (a.w_pt q) tk x0 g0 fi ps Y1 V1 I1 J1 A1 :=
  ⟨H.Si.fr f (fun r o e q => by have h := hS r o e; unfold gIn at h; unfold gSi at q; omega), H.Ol.fr f (fun r o e q => by have h := hS r o e; unfold gIn at h; unfold gOl at q; omega), H.Op.fr f (fun r o e q => by have h := hS r o e; unfold gIn at h; unfold gOp at q; omega), H.Ks.fr f (fun r o e q => by have h := hS r o e; unfold gIn at h; unfold gKs at q; omega), n, H.Ct.fr f (fun r o e q => by have h := hS r o e; unfold gIn at h; unfold gCt at q; omega), H.Of.fr f (fun r o e q => by have h := hS r o e; unfold gIn at h; unfold gOf at q; omega), H.Ch.fr f (fun r o e q => by have h := hS r o e; unfold gIn at h; unfold gCh at q; omega), H.Ar.fr f (fun r o e q => by have h := hS r o e; unfold gIn at h; unfold gAr at q; omega), H.Ve.fr f (fun r o e q => by have h := hS r o e; unfold gIn at h; unfold gVe at q; omega), H.Ip.fr f (fun r o e q => by have h := hS r o e; unfold gIn at h; unfold gIp at q; omega), H.Tx.fr f (fun r o e q => by have h := hS r o e; unfold gIn at h; unfold gTx at q; omega), H.Wr.fr f (fun r o e q => by have h := hS r o e; unfold gIn at h; unfold gWr at q; omega), H.Ex.fr f (fun r o e q => by have h := hS r o e; unfold gIn at h; unfold gEx at q; omega), H.La.fr f (fun r o e q => by have h := hS r o e; unfold gIn at h; unfold gLa at q; omega)⟩
theorem RepX.w_hd {a : aA} {tk x0 g0 fi ps : Nat} {Y Y1 : xY} {V V1 : xVV} {I I1 : xII} {J J1 : xJJ} {A A1 : xVV} {S : Nat → Nat → Prop} {q : Nat → Nat → Bool} (H : RepX a tk x0 g0 fi ps Y V I J A) (f : xFr S Y V I J A Y1 V1 I1 J1 A1) (hS : ∀ r o, S r o → gIn r) (n : XIn Y1 V1 I1 J1 a.n a.p a.ls a.sp a.pt q) : RepX (a.w_hd q) tk x0 g0 fi ps Y1 V1 I1 J1 A1 :=
  ⟨H.Si.fr f (fun r o e q => by have h := hS r o e; unfold gIn at h; unfold gSi at q; omega), H.Ol.fr f (fun r o e q => by have h := hS r o e; unfold gIn at h; unfold gOl at q; omega), H.Op.fr f (fun r o e q => by have h := hS r o e; unfold gIn at h; unfold gOp at q; omega), H.Ks.fr f (fun r o e q => by have h := hS r o e; unfold gIn at h; unfold gKs at q; omega), n, H.Ct.fr f (fun r o e q => by have h := hS r o e; unfold gIn at h; unfold gCt at q; omega), H.Of.fr f (fun r o e q => by have h := hS r o e; unfold gIn at h; unfold gOf at q; omega), H.Ch.fr f (fun r o e q => by have h := hS r o e; unfold gIn at h; unfold gCh at q; omega), H.Ar.fr f (fun r o e q => by have h := hS r o e; unfold gIn at h; unfold gAr at q; omega), H.Ve.fr f (fun r o e q => by have h := hS r o e; unfold gIn at h; unfold gVe at q; omega), H.Ip.fr f (fun r o e q => by have h := hS r o e; unfold gIn at h; unfold gIp at q; omega), H.Tx.fr f (fun r o e q => by have h := hS r o e; unfold gIn at h; unfold gTx at q; omega), H.Wr.fr f (fun r o e q => by have h := hS r o e; unfold gIn at h; unfold gWr at q; omega), H.Ex.fr f (fun r o e q => by have h := hS r o e; unfold gIn at h; unfold gEx at q; omega), H.La.fr f (fun r o e q => by have h := hS r o e; unfold gIn at h; unfold gLa at q; omega)⟩
theorem RepX.w_ct {a : aA} {tk x0 g0 fi ps : Nat} {Y Y1 : xY} {V V1 : xVV} {I I1 : xII} {J J1 : xJJ} {A A1 : xVV} {S : Nat → Nat → Prop} {q : Nat → Nat → Nat → Nat} (H : RepX a tk x0 g0 fi ps Y V I J A) (f : xFr S Y V I J A Y1 V1 I1 J1 A1) (hS : ∀ r o, S r o → gCt r) (n : XCt Y1 V1 a.n a.p q a.al) : RepX (a.w_ct q) tk x0 g0 fi ps Y1 V1 I1 J1 A1 :=
  ⟨H.Si.fr f (fun r o e q => by have h := hS r o e; unfold gCt at h; unfold gSi at q; omega), H.Ol.fr f (fun r o e q => by have h := hS r o e; unfold gCt at h; unfold gOl at q; omega), H.Op.fr f (fun r o e q => by have h := hS r o e; unfold gCt at h; unfold gOp at q; omega), H.Ks.fr f (fun r o e q => by have h := hS r o e; unfold gCt at h; unfold gKs at q; omega), H.In.fr f (fun r o e q => by have h := hS r o e; unfold gCt at h; unfold gIn at q; omega), n, H.Of.fr f (fun r o e q => by have h := hS r o e; unfold gCt at h; unfold gOf at q; omega), H.Ch.fr f (fun r o e q => by have h := hS r o e; unfold gCt at h; unfold gCh at q; omega), H.Ar.fr f (fun r o e q => by have h := hS r o e; unfold gCt at h; unfold gAr at q; omega), H.Ve.fr f (fun r o e q => by have h := hS r o e; unfold gCt at h; unfold gVe at q; omega), H.Ip.fr f (fun r o e q => by have h := hS r o e; unfold gCt at h; unfold gIp at q; omega), H.Tx.fr f (fun r o e q => by have h := hS r o e; unfold gCt at h; unfold gTx at q; omega), H.Wr.fr f (fun r o e q => by have h := hS r o e; unfold gCt at h; unfold gWr at q; omega), H.Ex.fr f (fun r o e q => by have h := hS r o e; unfold gCt at h; unfold gEx at q; omega), H.La.fr f (fun r o e q => by have h := hS r o e; unfold gCt at h; unfold gLa at q; omega)⟩
theorem RepX.w_of {a : aA} {tk x0 g0 fi ps : Nat} {Y Y1 : xY} {V V1 : xVV} {I I1 : xII} {J J1 : xJJ} {A A1 : xVV} {S : Nat → Nat → Prop} {q : Nat → Nat} (H : RepX a tk x0 g0 fi ps Y V I J A) (f : xFr S Y V I J A Y1 V1 I1 J1 A1) (hS : ∀ r o, S r o → gOf r) (n : XOf Y1 V1 q a.rn) : RepX (a.w_of q) tk x0 g0 fi ps Y1 V1 I1 J1 A1 :=
  ⟨H.Si.fr f (fun r o e q => by have h := hS r o e; unfold gOf at h; unfold gSi at q; omega), H.Ol.fr f (fun r o e q => by have h := hS r o e; unfold gOf at h; unfold gOl at q; omega), H.Op.fr f (fun r o e q => by have h := hS r o e; unfold gOf at h; unfold gOp at q; omega), H.Ks.fr f (fun r o e q => by have h := hS r o e; unfold gOf at h; unfold gKs at q; omega), H.In.fr f (fun r o e q => by have h := hS r o e; unfold gOf at h; unfold gIn at q; omega), H.Ct.fr f (fun r o e q => by have h := hS r o e; unfold gOf at h; unfold gCt at q; omega), n, H.Ch.fr f (fun r o e q => by have h := hS r o e; unfold gOf at h; unfold gCh at q; omega), H.Ar.fr f (fun r o e q => by have h := hS r o e; unfold gOf at h; unfold gAr at q; omega), H.Ve.fr f (fun r o e q => by have h := hS r o e; unfold gOf at h; unfold gVe at q; omega), H.Ip.fr f (fun r o e q => by have h := hS r o e; unfold gOf at h; unfold gIp at q; omega), H.Tx.fr f (fun r o e q => by have h := hS r o e; unfold gOf at h; unfold gTx at q; omega), H.Wr.fr f (fun r o e q => by have h := hS r o e; unfold gOf at h; unfold gWr at q; omega), H.Ex.fr f (fun r o e q => by have h := hS r o e; unfold gOf at h; unfold gEx at q; omega), H.La.fr f (fun r o e q => by have h := hS r o e; unfold gOf at h; unfold gLa at q; omega)⟩
theorem RepX.w_stt {a : aA} {tk x0 g0 fi ps : Nat} {Y Y1 : xY} {V V1 : xVV} {I I1 : xII} {J J1 : xJJ} {A A1 : xVV} {S : Nat → Nat → Prop} {q : Nat → Nat → Int32} (H : RepX a tk x0 g0 fi ps Y V I J A) (f : xFr S Y V I J A Y1 V1 I1 J1 A1) (hS : ∀ r o, S r o → gOp r) (n : XOp Y1 V1 a.n a.op q) : RepX (a.w_stt q) tk x0 g0 fi ps Y1 V1 I1 J1 A1 :=
  ⟨H.Si.fr f (fun r o e q => by have h := hS r o e; unfold gOp at h; unfold gSi at q; omega), H.Ol.fr f (fun r o e q => by have h := hS r o e; unfold gOp at h; unfold gOl at q; omega), n, H.Ks.fr f (fun r o e q => by have h := hS r o e; unfold gOp at h; unfold gKs at q; omega), H.In.fr f (fun r o e q => by have h := hS r o e; unfold gOp at h; unfold gIn at q; omega), H.Ct.fr f (fun r o e q => by have h := hS r o e; unfold gOp at h; unfold gCt at q; omega), H.Of.fr f (fun r o e q => by have h := hS r o e; unfold gOp at h; unfold gOf at q; omega), H.Ch.fr f (fun r o e q => by have h := hS r o e; unfold gOp at h; unfold gCh at q; omega), H.Ar.fr f (fun r o e q => by have h := hS r o e; unfold gOp at h; unfold gAr at q; omega), H.Ve.fr f (fun r o e q => by have h := hS r o e; unfold gOp at h; unfold gVe at q; omega), H.Ip.fr f (fun r o e q => by have h := hS r o e; unfold gOp at h; unfold gIp at q; omega), H.Tx.fr f (fun r o e q => by have h := hS r o e; unfold gOp at h; unfold gTx at q; omega), H.Wr.fr f (fun r o e q => by have h := hS r o e; unfold gOp at h; unfold gWr at q; omega), H.Ex.fr f (fun r o e q => by have h := hS r o e; unfold gOp at h; unfold gEx at q; omega), H.La.fr f (fun r o e q => by have h := hS r o e; unfold gOp at h; unfold gLa at q; omega)⟩
theorem RepX.w_st {a : aA} {tk x0 g0 fi ps : Nat} {Y Y1 : xY} {V V1 : xVV} {I I1 : xII} {J J1 : xJJ} {A A1 : xVV} {S : Nat → Nat → Prop} {q : Nat → Nat → Nat → Option (Int32 × Int32)} (H : RepX a tk x0 g0 fi ps Y V I J A) (f : xFr S Y V I J A Y1 V1 I1 J1 A1) (hS : ∀ r o, S r o → gKs r) (n : XKs Y1 V1 I1 J1 a.n a.p q (alz a.al)) : RepX (a.w_st q) tk x0 g0 fi ps Y1 V1 I1 J1 A1 :=
  ⟨H.Si.fr f (fun r o e q => by have h := hS r o e; unfold gKs at h; unfold gSi at q; omega), H.Ol.fr f (fun r o e q => by have h := hS r o e; unfold gKs at h; unfold gOl at q; omega), H.Op.fr f (fun r o e q => by have h := hS r o e; unfold gKs at h; unfold gOp at q; omega), n, H.In.fr f (fun r o e q => by have h := hS r o e; unfold gKs at h; unfold gIn at q; omega), H.Ct.fr f (fun r o e q => by have h := hS r o e; unfold gKs at h; unfold gCt at q; omega), H.Of.fr f (fun r o e q => by have h := hS r o e; unfold gKs at h; unfold gOf at q; omega), H.Ch.fr f (fun r o e q => by have h := hS r o e; unfold gKs at h; unfold gCh at q; omega), H.Ar.fr f (fun r o e q => by have h := hS r o e; unfold gKs at h; unfold gAr at q; omega), H.Ve.fr f (fun r o e q => by have h := hS r o e; unfold gKs at h; unfold gVe at q; omega), H.Ip.fr f (fun r o e q => by have h := hS r o e; unfold gKs at h; unfold gIp at q; omega), H.Tx.fr f (fun r o e q => by have h := hS r o e; unfold gKs at h; unfold gTx at q; omega), H.Wr.fr f (fun r o e q => by have h := hS r o e; unfold gKs at h; unfold gWr at q; omega), H.Ex.fr f (fun r o e q => by have h := hS r o e; unfold gKs at h; unfold gEx at q; omega), H.La.fr f (fun r o e q => by have h := hS r o e; unfold gKs at h; unfold gLa at q; omega)⟩
theorem RepX.w_txt {a : aA} {tk x0 g0 fi ps : Nat} {Y Y1 : xY} {V V1 : xVV} {I I1 : xII} {J J1 : xJJ} {A A1 : xVV} {S : Nat → Nat → Prop} {q : List Nat} (H : RepX a tk x0 g0 fi ps Y V I J A) (f : xFr S Y V I J A Y1 V1 I1 J1 A1) (hS : ∀ r o, S r o → gTx r) (n : XTx Y1 V1 I1 q) : RepX (a.w_txt q) tk x0 g0 fi ps Y1 V1 I1 J1 A1 :=
  ⟨H.Si.fr f (fun r o e q => by have h := hS r o e; unfold gTx at h; unfold gSi at q; omega), H.Ol.fr f (fun r o e q => by have h := hS r o e; unfold gTx at h; unfold gOl at q; omega), H.Op.fr f (fun r o e q => by have h := hS r o e; unfold gTx at h; unfold gOp at q; omega), H.Ks.fr f (fun r o e q => by have h := hS r o e; unfold gTx at h; unfold gKs at q; omega), H.In.fr f (fun r o e q => by have h := hS r o e; unfold gTx at h; unfold gIn at q; omega), H.Ct.fr f (fun r o e q => by have h := hS r o e; unfold gTx at h; unfold gCt at q; omega), H.Of.fr f (fun r o e q => by have h := hS r o e; unfold gTx at h; unfold gOf at q; omega), H.Ch.fr f (fun r o e q => by have h := hS r o e; unfold gTx at h; unfold gCh at q; omega), H.Ar.fr f (fun r o e q => by have h := hS r o e; unfold gTx at h; unfold gAr at q; omega), H.Ve.fr f (fun r o e q => by have h := hS r o e; unfold gTx at h; unfold gVe at q; omega), H.Ip.fr f (fun r o e q => by have h := hS r o e; unfold gTx at h; unfold gIp at q; omega), n, H.Wr.fr f (fun r o e q => by have h := hS r o e; unfold gTx at h; unfold gWr at q; omega), H.Ex.fr f (fun r o e q => by have h := hS r o e; unfold gTx at h; unfold gEx at q; omega), H.La.fr f (fun r o e q => by have h := hS r o e; unfold gTx at h; unfold gLa at q; omega)⟩
theorem RepX.w_wr {a : aA} {tk x0 g0 fi ps : Nat} {Y Y1 : xY} {V V1 : xVV} {I I1 : xII} {J J1 : xJJ} {A A1 : xVV} {S : Nat → Nat → Prop} {q : List Nat} (H : RepX a tk x0 g0 fi ps Y V I J A) (f : xFr S Y V I J A Y1 V1 I1 J1 A1) (hS : ∀ r o, S r o → gWr r) (n : XWr Y1 V1 I1 q) : RepX (a.w_wr q) tk x0 g0 fi ps Y1 V1 I1 J1 A1 :=
  ⟨H.Si.fr f (fun r o e q => by have h := hS r o e; unfold gWr at h; unfold gSi at q; omega), H.Ol.fr f (fun r o e q => by have h := hS r o e; unfold gWr at h; unfold gOl at q; omega), H.Op.fr f (fun r o e q => by have h := hS r o e; unfold gWr at h; unfold gOp at q; omega), H.Ks.fr f (fun r o e q => by have h := hS r o e; unfold gWr at h; unfold gKs at q; omega), H.In.fr f (fun r o e q => by have h := hS r o e; unfold gWr at h; unfold gIn at q; omega), H.Ct.fr f (fun r o e q => by have h := hS r o e; unfold gWr at h; unfold gCt at q; omega), H.Of.fr f (fun r o e q => by have h := hS r o e; unfold gWr at h; unfold gOf at q; omega), H.Ch.fr f (fun r o e q => by have h := hS r o e; unfold gWr at h; unfold gCh at q; omega), H.Ar.fr f (fun r o e q => by have h := hS r o e; unfold gWr at h; unfold gAr at q; omega), H.Ve.fr f (fun r o e q => by have h := hS r o e; unfold gWr at h; unfold gVe at q; omega), H.Ip.fr f (fun r o e q => by have h := hS r o e; unfold gWr at h; unfold gIp at q; omega), H.Tx.fr f (fun r o e q => by have h := hS r o e; unfold gWr at h; unfold gTx at q; omega), n, H.Ex.fr f (fun r o e q => by have h := hS r o e; unfold gWr at h; unfold gEx at q; omega), H.La.fr f (fun r o e q => by have h := hS r o e; unfold gWr at h; unfold gLa at q; omega)⟩
theorem RepX.w_ex {a : aA} {tk x0 g0 fi ps : Nat} {Y Y1 : xY} {V V1 : xVV} {I I1 : xII} {J J1 : xJJ} {A A1 : xVV} {S : Nat → Nat → Prop} {q : List (Nat × Nat)} (H : RepX a tk x0 g0 fi ps Y V I J A) (f : xFr S Y V I J A Y1 V1 I1 J1 A1) (hS : ∀ r o, S r o → gEx r) (n : XEx Y1 V1 A1 g0 q) : RepX (a.w_ex q) tk x0 g0 fi ps Y1 V1 I1 J1 A1 :=
  ⟨H.Si.fr f (fun r o e q => by have h := hS r o e; unfold gEx at h; unfold gSi at q; omega), H.Ol.fr f (fun r o e q => by have h := hS r o e; unfold gEx at h; unfold gOl at q; omega), H.Op.fr f (fun r o e q => by have h := hS r o e; unfold gEx at h; unfold gOp at q; omega), H.Ks.fr f (fun r o e q => by have h := hS r o e; unfold gEx at h; unfold gKs at q; omega), H.In.fr f (fun r o e q => by have h := hS r o e; unfold gEx at h; unfold gIn at q; omega), H.Ct.fr f (fun r o e q => by have h := hS r o e; unfold gEx at h; unfold gCt at q; omega), H.Of.fr f (fun r o e q => by have h := hS r o e; unfold gEx at h; unfold gOf at q; omega), H.Ch.fr f (fun r o e q => by have h := hS r o e; unfold gEx at h; unfold gCh at q; omega), H.Ar.fr f (fun r o e q => by have h := hS r o e; unfold gEx at h; unfold gAr at q; omega), H.Ve.fr f (fun r o e q => by have h := hS r o e; unfold gEx at h; unfold gVe at q; omega), H.Ip.fr f (fun r o e q => by have h := hS r o e; unfold gEx at h; unfold gIp at q; omega), H.Tx.fr f (fun r o e q => by have h := hS r o e; unfold gEx at h; unfold gTx at q; omega), H.Wr.fr f (fun r o e q => by have h := hS r o e; unfold gEx at h; unfold gWr at q; omega), n, H.La.fr f (fun r o e q => by have h := hS r o e; unfold gEx at h; unfold gLa at q; omega)⟩
theorem RepX.w_cf {a : aA} {tk x0 g0 fi ps : Nat} {Y Y1 : xY} {V V1 : xVV} {I I1 : xII} {J J1 : xJJ} {A A1 : xVV} {S : Nat → Nat → Prop} {q : Nat → Nat} (H : RepX a tk x0 g0 fi ps Y V I J A) (f : xFr S Y V I J A Y1 V1 I1 J1 A1) (hS : ∀ r o, S r o → gSi r) (n : XSi Y1 V1 x0 q a.nm a.fl tk a.inp.length) : RepX (a.w_cf q) tk x0 g0 fi ps Y1 V1 I1 J1 A1 :=
  ⟨n, H.Ol.fr f (fun r o e q => by have h := hS r o e; unfold gSi at h; unfold gOl at q; omega), H.Op.fr f (fun r o e q => by have h := hS r o e; unfold gSi at h; unfold gOp at q; omega), H.Ks.fr f (fun r o e q => by have h := hS r o e; unfold gSi at h; unfold gKs at q; omega), H.In.fr f (fun r o e q => by have h := hS r o e; unfold gSi at h; unfold gIn at q; omega), H.Ct.fr f (fun r o e q => by have h := hS r o e; unfold gSi at h; unfold gCt at q; omega), H.Of.fr f (fun r o e q => by have h := hS r o e; unfold gSi at h; unfold gOf at q; omega), H.Ch.fr f (fun r o e q => by have h := hS r o e; unfold gSi at h; unfold gCh at q; omega), H.Ar.fr f (fun r o e q => by have h := hS r o e; unfold gSi at h; unfold gAr at q; omega), H.Ve.fr f (fun r o e q => by have h := hS r o e; unfold gSi at h; unfold gVe at q; omega), H.Ip.fr f (fun r o e q => by have h := hS r o e; unfold gSi at h; unfold gIp at q; omega), H.Tx.fr f (fun r o e q => by have h := hS r o e; unfold gSi at h; unfold gTx at q; omega), H.Wr.fr f (fun r o e q => by have h := hS r o e; unfold gSi at h; unfold gWr at q; omega), H.Ex.fr f (fun r o e q => by have h := hS r o e; unfold gSi at h; unfold gEx at q; omega), H.La.fr f (fun r o e q => by have h := hS r o e; unfold gSi at h; unfold gLa at q; omega)⟩
theorem RepX.w_fl {a : aA} {tk x0 g0 fi ps : Nat} {Y Y1 : xY} {V V1 : xVV} {I I1 : xII} {J J1 : xJJ} {A A1 : xVV} {S : Nat → Nat → Prop} {q : Int32} (H : RepX a tk x0 g0 fi ps Y V I J A) (f : xFr S Y V I J A Y1 V1 I1 J1 A1) (hS : ∀ r o, S r o → gSi r) (n : XSi Y1 V1 x0 a.cf a.nm q tk a.inp.length) : RepX (a.w_fl q) tk x0 g0 fi ps Y1 V1 I1 J1 A1 :=
  ⟨n, H.Ol.fr f (fun r o e q => by have h := hS r o e; unfold gSi at h; unfold gOl at q; omega), H.Op.fr f (fun r o e q => by have h := hS r o e; unfold gSi at h; unfold gOp at q; omega), H.Ks.fr f (fun r o e q => by have h := hS r o e; unfold gSi at h; unfold gKs at q; omega), H.In.fr f (fun r o e q => by have h := hS r o e; unfold gSi at h; unfold gIn at q; omega), H.Ct.fr f (fun r o e q => by have h := hS r o e; unfold gSi at h; unfold gCt at q; omega), H.Of.fr f (fun r o e q => by have h := hS r o e; unfold gSi at h; unfold gOf at q; omega), H.Ch.fr f (fun r o e q => by have h := hS r o e; unfold gSi at h; unfold gCh at q; omega), H.Ar.fr f (fun r o e q => by have h := hS r o e; unfold gSi at h; unfold gAr at q; omega), H.Ve.fr f (fun r o e q => by have h := hS r o e; unfold gSi at h; unfold gVe at q; omega), H.Ip.fr f (fun r o e q => by have h := hS r o e; unfold gSi at h; unfold gIp at q; omega), H.Tx.fr f (fun r o e q => by have h := hS r o e; unfold gSi at h; unfold gTx at q; omega), H.Wr.fr f (fun r o e q => by have h := hS r o e; unfold gSi at h; unfold gWr at q; omega), H.Ex.fr f (fun r o e q => by have h := hS r o e; unfold gSi at h; unfold gEx at q; omega), H.La.fr f (fun r o e q => by have h := hS r o e; unfold gSi at h; unfold gLa at q; omega)⟩
theorem RepX.out {a : aA} {tk x0 g0 fi ps : Nat} {Y Y1 : xY} {V V1 : xVV} {I I1 : xII} {J J1 : xJJ} {A A1 : xVV} {S : Nat → Nat → Prop} (H : RepX a tk x0 g0 fi ps Y V I J A) (f : xFr S Y V I J A Y1 V1 I1 J1 A1) (hS : ∀ r o, S r o → ¬ gSi r ∧ ¬ gOl r ∧ ¬ gOp r ∧ ¬ gKs r ∧ ¬ gIn r ∧ ¬ gCt r ∧ ¬ gOf r ∧ ¬ gCh r ∧ ¬ gAr r ∧ ¬ gVe r ∧ ¬ gIp r ∧ ¬ gTx r ∧ ¬ gWr r ∧ ¬ gEx r ∧ ¬ gLa r) : RepX a tk x0 g0 fi ps Y1 V1 I1 J1 A1 :=
  ⟨H.Si.fr f (fun r o e => (hS r o e).1), H.Ol.fr f (fun r o e => (hS r o e).2.1), H.Op.fr f (fun r o e => (hS r o e).2.2.1), H.Ks.fr f (fun r o e => (hS r o e).2.2.2.1), H.In.fr f (fun r o e => (hS r o e).2.2.2.2.1), H.Ct.fr f (fun r o e => (hS r o e).2.2.2.2.2.1), H.Of.fr f (fun r o e => (hS r o e).2.2.2.2.2.2.1), H.Ch.fr f (fun r o e => (hS r o e).2.2.2.2.2.2.2.1), H.Ar.fr f (fun r o e => (hS r o e).2.2.2.2.2.2.2.2.1), H.Ve.fr f (fun r o e => (hS r o e).2.2.2.2.2.2.2.2.2.1), H.Ip.fr f (fun r o e => (hS r o e).2.2.2.2.2.2.2.2.2.2.1), H.Tx.fr f (fun r o e => (hS r o e).2.2.2.2.2.2.2.2.2.2.2.1), H.Wr.fr f (fun r o e => (hS r o e).2.2.2.2.2.2.2.2.2.2.2.2.1), H.Ex.fr f (fun r o e => (hS r o e).2.2.2.2.2.2.2.2.2.2.2.2.2.1), H.La.fr f (fun r o e => (hS r o e).2.2.2.2.2.2.2.2.2.2.2.2.2.2)⟩
theorem RepX.tk {a : aA} {tk x0 g0 fi ps : Nat} {Y Y1 : xY} {V V1 : xVV} {I I1 : xII} {J J1 : xJJ} {A A1 : xVV} {S : Nat → Nat → Prop} {tk2 : Nat} (H : RepX a tk x0 g0 fi ps Y V I J A) (f : xFr S Y V I J A Y1 V1 I1 J1 A1) (hS : ∀ r o, S r o → gSi r) (n : XSi Y1 V1 x0 a.cf a.nm a.fl tk2 a.inp.length) : RepX a tk2 x0 g0 fi ps Y1 V1 I1 J1 A1 :=
  ⟨n, H.Ol.fr f (fun r o e q => by have h := hS r o e; unfold gSi at h; unfold gOl at q; omega), H.Op.fr f (fun r o e q => by have h := hS r o e; unfold gSi at h; unfold gOp at q; omega), H.Ks.fr f (fun r o e q => by have h := hS r o e; unfold gSi at h; unfold gKs at q; omega), H.In.fr f (fun r o e q => by have h := hS r o e; unfold gSi at h; unfold gIn at q; omega), H.Ct.fr f (fun r o e q => by have h := hS r o e; unfold gSi at h; unfold gCt at q; omega), H.Of.fr f (fun r o e q => by have h := hS r o e; unfold gSi at h; unfold gOf at q; omega), H.Ch.fr f (fun r o e q => by have h := hS r o e; unfold gSi at h; unfold gCh at q; omega), H.Ar.fr f (fun r o e q => by have h := hS r o e; unfold gSi at h; unfold gAr at q; omega), H.Ve.fr f (fun r o e q => by have h := hS r o e; unfold gSi at h; unfold gVe at q; omega), H.Ip.fr f (fun r o e q => by have h := hS r o e; unfold gSi at h; unfold gIp at q; omega), H.Tx.fr f (fun r o e q => by have h := hS r o e; unfold gSi at h; unfold gTx at q; omega), H.Wr.fr f (fun r o e q => by have h := hS r o e; unfold gSi at h; unfold gWr at q; omega), H.Ex.fr f (fun r o e q => by have h := hS r o e; unfold gSi at h; unfold gEx at q; omega), H.La.fr f (fun r o e q => by have h := hS r o e; unfold gSi at h; unfold gLa at q; omega)⟩
theorem RepX.la {a : aA} {tk x0 g0 fi ps : Nat} {Y Y1 : xY} {V V1 : xVV} {I I1 : xII} {J J1 : xJJ} {A A1 : xVV} {S : Nat → Nat → Prop} {ps2 : Nat} (H : RepX a tk x0 g0 fi ps Y V I J A) (f : xFr S Y V I J A Y1 V1 I1 J1 A1) (hS : ∀ r o, S r o → gLa r) (n : XLa Y1 V1 ps2) : RepX a tk x0 g0 fi ps2 Y1 V1 I1 J1 A1 :=
  ⟨H.Si.fr f (fun r o e q => by have h := hS r o e; unfold gLa at h; unfold gSi at q; omega), H.Ol.fr f (fun r o e q => by have h := hS r o e; unfold gLa at h; unfold gOl at q; omega), H.Op.fr f (fun r o e q => by have h := hS r o e; unfold gLa at h; unfold gOp at q; omega), H.Ks.fr f (fun r o e q => by have h := hS r o e; unfold gLa at h; unfold gKs at q; omega), H.In.fr f (fun r o e q => by have h := hS r o e; unfold gLa at h; unfold gIn at q; omega), H.Ct.fr f (fun r o e q => by have h := hS r o e; unfold gLa at h; unfold gCt at q; omega), H.Of.fr f (fun r o e q => by have h := hS r o e; unfold gLa at h; unfold gOf at q; omega), H.Ch.fr f (fun r o e q => by have h := hS r o e; unfold gLa at h; unfold gCh at q; omega), H.Ar.fr f (fun r o e q => by have h := hS r o e; unfold gLa at h; unfold gAr at q; omega), H.Ve.fr f (fun r o e q => by have h := hS r o e; unfold gLa at h; unfold gVe at q; omega), H.Ip.fr f (fun r o e q => by have h := hS r o e; unfold gLa at h; unfold gIp at q; omega), H.Tx.fr f (fun r o e q => by have h := hS r o e; unfold gLa at h; unfold gTx at q; omega), H.Wr.fr f (fun r o e q => by have h := hS r o e; unfold gLa at h; unfold gWr at q; omega), H.Ex.fr f (fun r o e q => by have h := hS r o e; unfold gLa at h; unfold gEx at q; omega), n⟩
theorem RepX.w_nm {a : aA} {tk x0 g0 fi ps : Nat} {Y Y1 : xY} {V V1 : xVV} {I I1 : xII} {J J1 : xJJ} {A A1 : xVV} {S : Nat → Nat → Prop} {q : Nat → Nat} {tk2 : Nat} (H : RepX a tk x0 g0 fi ps Y V I J A) (f : xFr S Y V I J A Y1 V1 I1 J1 A1) (hS : ∀ r o, S r o → gSi r) (e5 : q 5 = a.n) (n : XSi Y1 V1 x0 a.cf q a.fl tk2 a.inp.length) (m : XOf Y V a.of (q 2)) : RepX (a.w_nm q) tk2 x0 g0 fi ps Y1 V1 I1 J1 A1 :=
  ⟨n, (by have k := H.Ol.fr f (fun r o e q => by have h := hS r o e; unfold gSi at h; unfold gOl at q; omega); rw [show a.n = (a.w_nm q).n from e5.symm] at k; exact k), (by have k := H.Op.fr f (fun r o e q => by have h := hS r o e; unfold gSi at h; unfold gOp at q; omega); rw [show a.n = (a.w_nm q).n from e5.symm] at k; exact k), (by have k := H.Ks.fr f (fun r o e q => by have h := hS r o e; unfold gSi at h; unfold gKs at q; omega); rw [show a.n = (a.w_nm q).n from e5.symm] at k; exact k), (by have k := H.In.fr f (fun r o e q => by have h := hS r o e; unfold gSi at h; unfold gIn at q; omega); rw [show a.n = (a.w_nm q).n from e5.symm] at k; exact k), (by have k := H.Ct.fr f (fun r o e q => by have h := hS r o e; unfold gSi at h; unfold gCt at q; omega); rw [show a.n = (a.w_nm q).n from e5.symm] at k; exact k), XOf.fr m f (fun r o e q => by have h := hS r o e; unfold gSi at h; unfold gOf at q; omega), (by have k := H.Ch.fr f (fun r o e q => by have h := hS r o e; unfold gSi at h; unfold gCh at q; omega); rw [show a.n = (a.w_nm q).n from e5.symm] at k; exact k), (by have k := H.Ar.fr f (fun r o e q => by have h := hS r o e; unfold gSi at h; unfold gAr at q; omega); rw [show a.n = (a.w_nm q).n from e5.symm] at k; exact k), (by have k := H.Ve.fr f (fun r o e q => by have h := hS r o e; unfold gSi at h; unfold gVe at q; omega); rw [show a.n = (a.w_nm q).n from e5.symm] at k; exact k), H.Ip.fr f (fun r o e q => by have h := hS r o e; unfold gSi at h; unfold gIp at q; omega), H.Tx.fr f (fun r o e q => by have h := hS r o e; unfold gSi at h; unfold gTx at q; omega), H.Wr.fr f (fun r o e q => by have h := hS r o e; unfold gSi at h; unfold gWr at q; omega), H.Ex.fr f (fun r o e q => by have h := hS r o e; unfold gSi at h; unfold gEx at q; omega), H.La.fr f (fun r o e q => by have h := hS r o e; unfold gSi at h; unfold gLa at q; omega)⟩
theorem RepX.w_al {a : aA} {tk x0 g0 fi ps : Nat} {Y : xY} {V : xVV} {I : xII} {J : xJJ} {A : xVV} {q : Nat → Nat → Bool} (H : RepX a tk x0 g0 fi ps Y V I J A) (k : XKs Y V I J a.n a.p a.st (alz q)) (c : XCt Y V a.n a.p a.ct q) : RepX (a.w_al q) tk x0 g0 fi ps Y V I J A :=
  ⟨H.Si, H.Ol, H.Op, k, H.In, c, H.Of, H.Ch, H.Ar, H.Ve, H.Ip, H.Tx, H.Wr, H.Ex, H.La⟩
