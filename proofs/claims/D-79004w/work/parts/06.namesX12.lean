/-! PipelineSimulatorModel -/
set_option maxRecDepth 100000
def RX12 : String := "PipelineSimulatorModel"
def TX12 : u_T := fun k => match k with
  | 0 => ("PipelineSimulatorModel", "text", "[I", true)
  | 1 => ("PipelineSimulatorModel", "textN", "I", false)
  | 2 => ("PipelineSimulatorModel", "stages", "I", false)
  | 3 => ("PipelineSimulatorModel", "kind", "[I", true)
  | 4 => ("PipelineSimulatorModel", "a", "[I", true)
  | 5 => ("PipelineSimulatorModel", "b", "[I", true)
  | 6 => ("PipelineSimulatorModel", "p", "[I", true)
  | 7 => ("PipelineSimulatorModel", "batch", "I", false)
  | 8 => ("PipelineSimulatorModel", "oldest", "I", false)
  | 9 => ("PipelineSimulatorModel", "credits", "I", false)
  | 10 => ("PipelineSimulatorModel", "rate", "I", false)
  | 11 => ("PipelineSimulatorModel", "inputKey", "[I", true)
  | 12 => ("PipelineSimulatorModel", "inputValue", "[I", true)
  | 13 => ("PipelineSimulatorModel", "inputN", "I", false)
  | 14 => ("PipelineSimulatorModel", "offset", "I", false)
  | 15 => ("PipelineSimulatorModel", "ticks", "I", false)
  | 16 => ("PipelineSimulatorModel", "complete", "I", false)
  | 17 => ("PipelineSimulatorModel", "running", "I", false)
  | 18 => ("PipelineSimulatorModel", "failures", "I", false)
  | 19 => ("PipelineSimulatorModel", "isBegun", "Z", false)
  | 20 => ("PipelineSimulatorModel", "processed", "[I", true)
  | 21 => ("PipelineSimulatorModel", "emitted", "[I", true)
  | 22 => ("PipelineSimulatorModel", "blocked", "[I", true)
  | 23 => ("PipelineSimulatorModel", "idle", "[I", true)
  | 24 => ("PipelineSimulatorModel", "has", "[Z", true)
  | 25 => ("PipelineSimulatorModel", "runHas", "[Z", true)
  | 26 => ("PipelineSimulatorModel", "savedHas", "[Z", true)
  | 27 => ("PipelineSimulatorModel", "one", "[I", true)
  | 28 => ("PipelineSimulatorModel", "runOne", "[I", true)
  | 29 => ("PipelineSimulatorModel", "savedOne", "[I", true)
  | 30 => ("PipelineSimulatorModel", "two", "[I", true)
  | 31 => ("PipelineSimulatorModel", "runTwo", "[I", true)
  | 32 => ("PipelineSimulatorModel", "savedTwo", "[I", true)
  | 33 => ("PipelineSimulatorModel", "counter", "[I", true)
  | 34 => ("PipelineSimulatorModel", "runCounter", "[I", true)
  | 35 => ("PipelineSimulatorModel", "savedCounter", "[I", true)
  | 36 => ("PipelineSimulatorModel", "runOffset", "I", false)
  | 37 => ("PipelineSimulatorModel", "savedOffset", "I", false)
  | 38 => ("PipelineSimulatorModel", "sunk", "I", false)
  | 39 => ("PipelineSimulatorModel", "listN", "[I", true)
  | 40 => ("PipelineSimulatorModel", "listKey", "[I", true)
  | 41 => ("PipelineSimulatorModel", "listValue", "[I", true)
  | 42 => ("PipelineSimulatorModel", "listBirth", "[I", true)
  | 43 => ("PipelineSimulatorModel", "stopped", "[I", true)
  | 44 => ("PipelineSimulatorModel", "pointer", "[I", true)
  | 45 => ("PipelineSimulatorModel", "holds", "[Z", true)
  | 46 => ("PipelineSimulatorModel", "openN", "[I", true)
  | 47 => ("PipelineSimulatorModel", "age", "[I", true)
  | 48 => ("PipelineSimulatorModel", "openKey", "[I", true)
  | 49 => ("PipelineSimulatorModel", "openValue", "[I", true)
  | 50 => ("PipelineSimulatorModel", "openBirth", "[I", true)
  | 51 => ("PipelineSimulatorModel", "queueN", "[I", true)
  | 52 => ("PipelineSimulatorModel", "taken", "[I", true)
  | 53 => ("PipelineSimulatorModel", "size", "[I", true)
  | 54 => ("PipelineSimulatorModel", "queueKey", "[I", true)
  | 55 => ("PipelineSimulatorModel", "queueValue", "[I", true)
  | 56 => ("PipelineSimulatorModel", "queueBirth", "[I", true)
  | 57 => ("PipelineSimulatorModel", "late", "[I", true)
  | 58 => ("PipelineSimulatorModel", "lateN", "I", false)
  | 59 => ("PipelineSimulatorModel", "lateSum", "J", false)
  | 60 => ("PipelineSimulatorModel", "at", "I", false)
  | 61 => ("PipelineSimulatorModel", "isFaulty", "Z", false)
  | 62 => ("PipelineSimulatorModel", "newKind", "[I", true)
  | 63 => ("PipelineSimulatorModel", "newA", "[I", true)
  | 64 => ("PipelineSimulatorModel", "newB", "[I", true)
  | 65 => ("PipelineSimulatorModel", "newP", "[I", true)
  | 66 => ("PipelineSimulatorModel", "outKey", "[I", true)
  | 67 => ("PipelineSimulatorModel", "outValue", "[I", true)
  | 68 => ("PipelineSimulatorModel", "outN", "I", false)
  | 69 => ("PipelineSimulatorModel", "plainHas", "[Z", true)
  | 70 => ("PipelineSimulatorModel", "plainOne", "[I", true)
  | 71 => ("PipelineSimulatorModel", "plainTwo", "[I", true)
  | 72 => ("PipelineSimulatorModel", "waitsAt", "[I", true)
  | 73 => ("PipelineSimulatorModel", "waitsKey", "[I", true)
  | 74 => ("PipelineSimulatorModel", "waitsValue", "[I", true)
  | 75 => ("PipelineSimulatorModel", "place", "[I", true)
  | 76 => ("PipelineSimulatorModel", "reason", "[I", true)
  | 77 => ("PipelineSimulatorModel", "levels", "I", false)
  | 78 => ("PipelineSimulatorModel", "next", "I", false)
  | 79 => ("PipelineSimulatorModel", "out", "[I", true)
  | _ => ("PipelineSimulatorModel", "outLong", "I", false)
def tyX12 : Nat → FieldType := fun k => match k with
  | 0 => .array .int
  | 1 => .int
  | 2 => .int
  | 3 => .array .int
  | 4 => .array .int
  | 5 => .array .int
  | 6 => .array .int
  | 7 => .int
  | 8 => .int
  | 9 => .int
  | 10 => .int
  | 11 => .array .int
  | 12 => .array .int
  | 13 => .int
  | 14 => .int
  | 15 => .int
  | 16 => .int
  | 17 => .int
  | 18 => .int
  | 19 => .boolean
  | 20 => .array .int
  | 21 => .array .int
  | 22 => .array .int
  | 23 => .array .int
  | 24 => .array .boolean
  | 25 => .array .boolean
  | 26 => .array .boolean
  | 27 => .array .int
  | 28 => .array .int
  | 29 => .array .int
  | 30 => .array .int
  | 31 => .array .int
  | 32 => .array .int
  | 33 => .array .int
  | 34 => .array .int
  | 35 => .array .int
  | 36 => .int
  | 37 => .int
  | 38 => .int
  | 39 => .array .int
  | 40 => .array .int
  | 41 => .array .int
  | 42 => .array .int
  | 43 => .array .int
  | 44 => .array .int
  | 45 => .array .boolean
  | 46 => .array .int
  | 47 => .array .int
  | 48 => .array .int
  | 49 => .array .int
  | 50 => .array .int
  | 51 => .array .int
  | 52 => .array .int
  | 53 => .array .int
  | 54 => .array .int
  | 55 => .array .int
  | 56 => .array .int
  | 57 => .array .int
  | 58 => .int
  | 59 => .long
  | 60 => .int
  | 61 => .boolean
  | 62 => .array .int
  | 63 => .array .int
  | 64 => .array .int
  | 65 => .array .int
  | 66 => .array .int
  | 67 => .array .int
  | 68 => .int
  | 69 => .array .boolean
  | 70 => .array .int
  | 71 => .array .int
  | 72 => .array .int
  | 73 => .array .int
  | 74 => .array .int
  | 75 => .array .int
  | 76 => .array .int
  | 77 => .int
  | 78 => .int
  | 79 => .array .int
  | _ => .int
abbrev wsX120 : List Cond := u_ws RX12 TX12 81
set_option maxRecDepth 100000 in
theorem nmX12 : ∀ a, a < 81 → ∀ b, b < 81 → a ≠ b → (TX12 a).2.1 ≠ (TX12 b).2.1 := by decide +kernel
set_option maxRecDepth 100000 in
theorem tyX12_ok : ∀ k, k < 81 → parseFieldDescriptor (TX12 k).2.2.1 = some (tyX12 k) := by decide +kernel
abbrev cX12_init : ByteArray := prog_27_method_1_code
def yX12_init : MethodName := ⟨RX12, "<init>", "()V"⟩
def dkwX12_init_21 : List UInt8 := [16, 8, 79, 42, 180, 0, 22, 3, 4, 79, 42, 180, 0, 22, 4, 4, 79, 177]
abbrev dktX12_init_21 : List UInt8 := dkwX12_init_21 ++ []
def dkwX12_init_20 : List UInt8 := [181, 0, 190, 42, 16, 80, 188, 10, 181, 0, 193, 42, 180, 0, 13, 3, 16, 7, 79, 42, 180, 0, 13, 4]
abbrev dktX12_init_20 : List UInt8 := dkwX12_init_20 ++ dktX12_init_21
def dkwX12_init_19 : List UInt8 := [181, 0, 181, 42, 16, 30, 188, 10, 181, 0, 184, 42, 16, 8, 188, 10, 181, 0, 187, 42, 16, 8, 188, 10]
abbrev dktX12_init_19 : List UInt8 := dkwX12_init_19 ++ dktX12_init_20
def dkwX12_init_18 : List UInt8 := [181, 0, 172, 42, 16, 96, 188, 10, 181, 0, 175, 42, 16, 30, 188, 10, 181, 0, 178, 42, 16, 30, 188, 10]
abbrev dktX12_init_18 : List UInt8 := dkwX12_init_18 ++ dktX12_init_19
def dkwX12_init_17 : List UInt8 := [181, 0, 163, 42, 6, 188, 10, 181, 0, 166, 42, 16, 96, 188, 4, 181, 0, 169, 42, 16, 96, 188, 10]
abbrev dktX12_init_17 : List UInt8 := dkwX12_init_17 ++ dktX12_init_18
def dkwX12_init_16 : List UInt8 := [181, 0, 154, 42, 16, 6, 188, 10, 181, 0, 157, 42, 16, 6, 188, 10, 181, 0, 160, 42, 6, 188, 10]
abbrev dktX12_init_16 : List UInt8 := dkwX12_init_16 ++ dktX12_init_17
def dkwX12_init_15 : List UInt8 := [181, 0, 144, 42, 18, 147, 188, 10, 181, 0, 148, 42, 16, 6, 188, 10, 181, 0, 151, 42, 16, 6, 188, 10]
abbrev dktX12_init_15 : List UInt8 := dkwX12_init_15 ++ dktX12_init_16
def dkwX12_init_14 : List UInt8 := [42, 17, 3, 96, 188, 10, 181, 0, 138, 42, 17, 3, 96, 188, 10, 181, 0, 141, 42, 17, 3, 96, 188, 10]
abbrev dktX12_init_14 : List UInt8 := dkwX12_init_14 ++ dktX12_init_15
def dkwX12_init_13 : List UInt8 := [16, 54, 188, 10, 181, 0, 129, 42, 16, 54, 188, 10, 181, 0, 132, 42, 17, 0, 216, 188, 10, 181, 0, 135]
abbrev dktX12_init_13 : List UInt8 := dkwX12_init_13 ++ dktX12_init_14
def dkwX12_init_12 : List UInt8 := [188, 10, 181, 0, 120, 42, 17, 0, 216, 188, 10, 181, 0, 123, 42, 17, 0, 216, 188, 10, 181, 0, 126, 42]
abbrev dktX12_init_12 : List UInt8 := dkwX12_init_12 ++ dktX12_init_13
def dkwX12_init_11 : List UInt8 := [181, 0, 111, 42, 16, 54, 188, 10, 181, 0, 114, 42, 16, 54, 188, 10, 181, 0, 117, 42, 17, 0, 216]
abbrev dktX12_init_11 : List UInt8 := dkwX12_init_11 ++ dktX12_init_12
def dkwX12_init_10 : List UInt8 := [181, 0, 102, 42, 16, 18, 188, 10, 181, 0, 105, 42, 16, 18, 188, 10, 181, 0, 108, 42, 16, 18, 188, 4]
abbrev dktX12_init_10 : List UInt8 := dkwX12_init_10 ++ dktX12_init_11
def dkwX12_init_9 : List UInt8 := [181, 0, 93, 42, 16, 54, 188, 10, 181, 0, 96, 42, 16, 54, 188, 10, 181, 0, 99, 42, 16, 54, 188, 10]
abbrev dktX12_init_9 : List UInt8 := dkwX12_init_9 ++ dktX12_init_10
def dkwX12_init_8 : List UInt8 := [181, 0, 84, 42, 16, 18, 188, 10, 181, 0, 87, 42, 16, 18, 188, 10, 181, 0, 90, 42, 16, 18, 188, 10]
abbrev dktX12_init_8 : List UInt8 := dkwX12_init_8 ++ dktX12_init_9
def dkwX12_init_7 : List UInt8 := [181, 0, 75, 42, 16, 96, 188, 10, 181, 0, 78, 42, 16, 96, 188, 10, 181, 0, 81, 42, 16, 18, 188, 10]
abbrev dktX12_init_7 : List UInt8 := dkwX12_init_7 ++ dktX12_init_8
def dkwX12_init_6 : List UInt8 := [181, 0, 66, 42, 16, 96, 188, 10, 181, 0, 69, 42, 16, 96, 188, 10, 181, 0, 72, 42, 16, 96, 188, 10]
abbrev dktX12_init_6 : List UInt8 := dkwX12_init_6 ++ dktX12_init_7
def dkwX12_init_5 : List UInt8 := [181, 0, 56, 42, 16, 96, 188, 4, 181, 0, 60, 42, 16, 96, 188, 4, 181, 0, 63, 42, 16, 96, 188, 10]
abbrev dktX12_init_5 : List UInt8 := dkwX12_init_5 ++ dktX12_init_6
def dkwX12_init_4 : List UInt8 := [181, 0, 47, 42, 16, 6, 188, 10, 181, 0, 50, 42, 16, 6, 188, 10, 181, 0, 53, 42, 16, 96, 188, 4]
abbrev dktX12_init_4 : List UInt8 := dkwX12_init_4 ++ dktX12_init_5
def dkwX12_init_3 : List UInt8 := [181, 0, 38, 42, 16, 60, 188, 10, 181, 0, 41, 42, 16, 6, 188, 10, 181, 0, 44, 42, 16, 6, 188, 10]
abbrev dktX12_init_3 : List UInt8 := dkwX12_init_3 ++ dktX12_init_4
def dkwX12_init_2 : List UInt8 := [181, 0, 25, 42, 6, 181, 0, 29, 42, 5, 181, 0, 32, 42, 5, 181, 0, 35, 42, 16, 60, 188, 10]
abbrev dktX12_init_2 : List UInt8 := dkwX12_init_2 ++ dktX12_init_3
def dkwX12_init_1 : List UInt8 := [188, 10, 181, 0, 16, 42, 16, 6, 188, 10, 181, 0, 19, 42, 16, 6, 188, 10, 181, 0, 22, 42, 5]
abbrev dktX12_init_1 : List UInt8 := dkwX12_init_1 ++ dktX12_init_2
def dkwX12_init_0 : List UInt8 := [42, 183, 0, 3, 42, 16, 60, 188, 10, 181, 0, 9, 42, 16, 6, 188, 10, 181, 0, 13, 42, 16, 6]
abbrev dktX12_init_0 : List UInt8 := dkwX12_init_0 ++ dktX12_init_1
theorem dksX12_init_0 : cX12_init.data.toList.drop 0 = dktX12_init_0 := by decide +kernel
theorem dksX12_init_1 : cX12_init.data.toList.drop 23 = dktX12_init_1 := dk_seg dksX12_init_0 23 rfl rfl
theorem dksX12_init_2 : cX12_init.data.toList.drop 46 = dktX12_init_2 := dk_seg dksX12_init_1 23 rfl rfl
theorem dksX12_init_3 : cX12_init.data.toList.drop 69 = dktX12_init_3 := dk_seg dksX12_init_2 23 rfl rfl
theorem dksX12_init_4 : cX12_init.data.toList.drop 93 = dktX12_init_4 := dk_seg dksX12_init_3 24 rfl rfl
theorem dksX12_init_5 : cX12_init.data.toList.drop 117 = dktX12_init_5 := dk_seg dksX12_init_4 24 rfl rfl
theorem dksX12_init_6 : cX12_init.data.toList.drop 141 = dktX12_init_6 := dk_seg dksX12_init_5 24 rfl rfl
theorem dksX12_init_7 : cX12_init.data.toList.drop 165 = dktX12_init_7 := dk_seg dksX12_init_6 24 rfl rfl
theorem dksX12_init_8 : cX12_init.data.toList.drop 189 = dktX12_init_8 := dk_seg dksX12_init_7 24 rfl rfl
theorem dksX12_init_9 : cX12_init.data.toList.drop 213 = dktX12_init_9 := dk_seg dksX12_init_8 24 rfl rfl
theorem dksX12_init_10 : cX12_init.data.toList.drop 237 = dktX12_init_10 := dk_seg dksX12_init_9 24 rfl rfl
theorem dksX12_init_11 : cX12_init.data.toList.drop 261 = dktX12_init_11 := dk_seg dksX12_init_10 24 rfl rfl
theorem dksX12_init_12 : cX12_init.data.toList.drop 284 = dktX12_init_12 := dk_seg dksX12_init_11 23 rfl rfl
theorem dksX12_init_13 : cX12_init.data.toList.drop 308 = dktX12_init_13 := dk_seg dksX12_init_12 24 rfl rfl
theorem dksX12_init_14 : cX12_init.data.toList.drop 332 = dktX12_init_14 := dk_seg dksX12_init_13 24 rfl rfl
theorem dksX12_init_15 : cX12_init.data.toList.drop 356 = dktX12_init_15 := dk_seg dksX12_init_14 24 rfl rfl
theorem dksX12_init_16 : cX12_init.data.toList.drop 380 = dktX12_init_16 := dk_seg dksX12_init_15 24 rfl rfl
theorem dksX12_init_17 : cX12_init.data.toList.drop 403 = dktX12_init_17 := dk_seg dksX12_init_16 23 rfl rfl
theorem dksX12_init_18 : cX12_init.data.toList.drop 426 = dktX12_init_18 := dk_seg dksX12_init_17 23 rfl rfl
theorem dksX12_init_19 : cX12_init.data.toList.drop 450 = dktX12_init_19 := dk_seg dksX12_init_18 24 rfl rfl
theorem dksX12_init_20 : cX12_init.data.toList.drop 474 = dktX12_init_20 := dk_seg dksX12_init_19 24 rfl rfl
theorem dksX12_init_21 : cX12_init.data.toList.drop 498 = dktX12_init_21 := dk_seg dksX12_init_20 24 rfl rfl
theorem dX12_init_0 : decode cX12_init 0 = .ok (.aload_n 0, 1) := dk_42 (dk_at dksX12_init_0 0 rfl rfl)
theorem dX12_init_1 : decode cX12_init 1 = .ok (.invokespecial 3, 3) := dk_183 0 3 (dk_at dksX12_init_0 1 rfl rfl)
theorem dX12_init_4 : decode cX12_init 4 = .ok (.aload_n 0, 1) := dk_42 (dk_at dksX12_init_0 4 rfl rfl)
theorem dX12_init_5 : decode cX12_init 5 = .ok (.bipush 60, 2) := dk_16 60 (dk_at dksX12_init_0 5 rfl rfl)
theorem dX12_init_7 : decode cX12_init 7 = .ok (.newarray .int, 2) := dk_188_10 (dk_at dksX12_init_0 7 rfl rfl)
theorem dX12_init_9 : decode cX12_init 9 = .ok (.putfield 9, 3) := dk_181 0 9 (dk_at dksX12_init_0 9 rfl rfl)
theorem dX12_init_12 : decode cX12_init 12 = .ok (.aload_n 0, 1) := dk_42 (dk_at dksX12_init_0 12 rfl rfl)
theorem dX12_init_13 : decode cX12_init 13 = .ok (.bipush 6, 2) := dk_16 6 (dk_at dksX12_init_0 13 rfl rfl)
theorem dX12_init_15 : decode cX12_init 15 = .ok (.newarray .int, 2) := dk_188_10 (dk_at dksX12_init_0 15 rfl rfl)
theorem dX12_init_17 : decode cX12_init 17 = .ok (.putfield 13, 3) := dk_181 0 13 (dk_at dksX12_init_0 17 rfl rfl)
theorem dX12_init_20 : decode cX12_init 20 = .ok (.aload_n 0, 1) := dk_42 (dk_at dksX12_init_0 20 rfl rfl)
theorem dX12_init_21 : decode cX12_init 21 = .ok (.bipush 6, 2) := dk_16 6 (dk_at dksX12_init_0 21 rfl rfl)
theorem dX12_init_23 : decode cX12_init 23 = .ok (.newarray .int, 2) := dk_188_10 (dk_at dksX12_init_1 0 rfl rfl)
theorem dX12_init_25 : decode cX12_init 25 = .ok (.putfield 16, 3) := dk_181 0 16 (dk_at dksX12_init_1 2 rfl rfl)
theorem dX12_init_28 : decode cX12_init 28 = .ok (.aload_n 0, 1) := dk_42 (dk_at dksX12_init_1 5 rfl rfl)
theorem dX12_init_29 : decode cX12_init 29 = .ok (.bipush 6, 2) := dk_16 6 (dk_at dksX12_init_1 6 rfl rfl)
theorem dX12_init_31 : decode cX12_init 31 = .ok (.newarray .int, 2) := dk_188_10 (dk_at dksX12_init_1 8 rfl rfl)
theorem dX12_init_33 : decode cX12_init 33 = .ok (.putfield 19, 3) := dk_181 0 19 (dk_at dksX12_init_1 10 rfl rfl)
theorem dX12_init_36 : decode cX12_init 36 = .ok (.aload_n 0, 1) := dk_42 (dk_at dksX12_init_1 13 rfl rfl)
theorem dX12_init_37 : decode cX12_init 37 = .ok (.bipush 6, 2) := dk_16 6 (dk_at dksX12_init_1 14 rfl rfl)
theorem dX12_init_39 : decode cX12_init 39 = .ok (.newarray .int, 2) := dk_188_10 (dk_at dksX12_init_1 16 rfl rfl)
theorem dX12_init_41 : decode cX12_init 41 = .ok (.putfield 22, 3) := dk_181 0 22 (dk_at dksX12_init_1 18 rfl rfl)
theorem dX12_init_44 : decode cX12_init 44 = .ok (.aload_n 0, 1) := dk_42 (dk_at dksX12_init_1 21 rfl rfl)
theorem dX12_init_45 : decode cX12_init 45 = .ok (.iconst 2, 1) := dk_5 (dk_at dksX12_init_1 22 rfl rfl)
theorem dX12_init_46 : decode cX12_init 46 = .ok (.putfield 25, 3) := dk_181 0 25 (dk_at dksX12_init_2 0 rfl rfl)
theorem dX12_init_49 : decode cX12_init 49 = .ok (.aload_n 0, 1) := dk_42 (dk_at dksX12_init_2 3 rfl rfl)
theorem dX12_init_50 : decode cX12_init 50 = .ok (.iconst 3, 1) := dk_6 (dk_at dksX12_init_2 4 rfl rfl)
theorem dX12_init_51 : decode cX12_init 51 = .ok (.putfield 29, 3) := dk_181 0 29 (dk_at dksX12_init_2 5 rfl rfl)
theorem dX12_init_54 : decode cX12_init 54 = .ok (.aload_n 0, 1) := dk_42 (dk_at dksX12_init_2 8 rfl rfl)
theorem dX12_init_55 : decode cX12_init 55 = .ok (.iconst 2, 1) := dk_5 (dk_at dksX12_init_2 9 rfl rfl)
theorem dX12_init_56 : decode cX12_init 56 = .ok (.putfield 32, 3) := dk_181 0 32 (dk_at dksX12_init_2 10 rfl rfl)
theorem dX12_init_59 : decode cX12_init 59 = .ok (.aload_n 0, 1) := dk_42 (dk_at dksX12_init_2 13 rfl rfl)
theorem dX12_init_60 : decode cX12_init 60 = .ok (.iconst 2, 1) := dk_5 (dk_at dksX12_init_2 14 rfl rfl)
theorem dX12_init_61 : decode cX12_init 61 = .ok (.putfield 35, 3) := dk_181 0 35 (dk_at dksX12_init_2 15 rfl rfl)
theorem dX12_init_64 : decode cX12_init 64 = .ok (.aload_n 0, 1) := dk_42 (dk_at dksX12_init_2 18 rfl rfl)
theorem dX12_init_65 : decode cX12_init 65 = .ok (.bipush 60, 2) := dk_16 60 (dk_at dksX12_init_2 19 rfl rfl)
theorem dX12_init_67 : decode cX12_init 67 = .ok (.newarray .int, 2) := dk_188_10 (dk_at dksX12_init_2 21 rfl rfl)
theorem dX12_init_69 : decode cX12_init 69 = .ok (.putfield 38, 3) := dk_181 0 38 (dk_at dksX12_init_3 0 rfl rfl)
theorem dX12_init_72 : decode cX12_init 72 = .ok (.aload_n 0, 1) := dk_42 (dk_at dksX12_init_3 3 rfl rfl)
theorem dX12_init_73 : decode cX12_init 73 = .ok (.bipush 60, 2) := dk_16 60 (dk_at dksX12_init_3 4 rfl rfl)
theorem dX12_init_75 : decode cX12_init 75 = .ok (.newarray .int, 2) := dk_188_10 (dk_at dksX12_init_3 6 rfl rfl)
theorem dX12_init_77 : decode cX12_init 77 = .ok (.putfield 41, 3) := dk_181 0 41 (dk_at dksX12_init_3 8 rfl rfl)
theorem dX12_init_80 : decode cX12_init 80 = .ok (.aload_n 0, 1) := dk_42 (dk_at dksX12_init_3 11 rfl rfl)
theorem dX12_init_81 : decode cX12_init 81 = .ok (.bipush 6, 2) := dk_16 6 (dk_at dksX12_init_3 12 rfl rfl)
theorem dX12_init_83 : decode cX12_init 83 = .ok (.newarray .int, 2) := dk_188_10 (dk_at dksX12_init_3 14 rfl rfl)
theorem dX12_init_85 : decode cX12_init 85 = .ok (.putfield 44, 3) := dk_181 0 44 (dk_at dksX12_init_3 16 rfl rfl)
theorem dX12_init_88 : decode cX12_init 88 = .ok (.aload_n 0, 1) := dk_42 (dk_at dksX12_init_3 19 rfl rfl)
theorem dX12_init_89 : decode cX12_init 89 = .ok (.bipush 6, 2) := dk_16 6 (dk_at dksX12_init_3 20 rfl rfl)
theorem dX12_init_91 : decode cX12_init 91 = .ok (.newarray .int, 2) := dk_188_10 (dk_at dksX12_init_3 22 rfl rfl)
theorem dX12_init_93 : decode cX12_init 93 = .ok (.putfield 47, 3) := dk_181 0 47 (dk_at dksX12_init_4 0 rfl rfl)
theorem dX12_init_96 : decode cX12_init 96 = .ok (.aload_n 0, 1) := dk_42 (dk_at dksX12_init_4 3 rfl rfl)
theorem dX12_init_97 : decode cX12_init 97 = .ok (.bipush 6, 2) := dk_16 6 (dk_at dksX12_init_4 4 rfl rfl)
theorem dX12_init_99 : decode cX12_init 99 = .ok (.newarray .int, 2) := dk_188_10 (dk_at dksX12_init_4 6 rfl rfl)
theorem dX12_init_101 : decode cX12_init 101 = .ok (.putfield 50, 3) := dk_181 0 50 (dk_at dksX12_init_4 8 rfl rfl)
theorem dX12_init_104 : decode cX12_init 104 = .ok (.aload_n 0, 1) := dk_42 (dk_at dksX12_init_4 11 rfl rfl)
theorem dX12_init_105 : decode cX12_init 105 = .ok (.bipush 6, 2) := dk_16 6 (dk_at dksX12_init_4 12 rfl rfl)
theorem dX12_init_107 : decode cX12_init 107 = .ok (.newarray .int, 2) := dk_188_10 (dk_at dksX12_init_4 14 rfl rfl)
theorem dX12_init_109 : decode cX12_init 109 = .ok (.putfield 53, 3) := dk_181 0 53 (dk_at dksX12_init_4 16 rfl rfl)
theorem dX12_init_112 : decode cX12_init 112 = .ok (.aload_n 0, 1) := dk_42 (dk_at dksX12_init_4 19 rfl rfl)
theorem dX12_init_113 : decode cX12_init 113 = .ok (.bipush 96, 2) := dk_16 96 (dk_at dksX12_init_4 20 rfl rfl)
theorem dX12_init_115 : decode cX12_init 115 = .ok (.newarray .boolean, 2) := dk_188_4 (dk_at dksX12_init_4 22 rfl rfl)
theorem dX12_init_117 : decode cX12_init 117 = .ok (.putfield 56, 3) := dk_181 0 56 (dk_at dksX12_init_5 0 rfl rfl)
theorem dX12_init_120 : decode cX12_init 120 = .ok (.aload_n 0, 1) := dk_42 (dk_at dksX12_init_5 3 rfl rfl)
theorem dX12_init_121 : decode cX12_init 121 = .ok (.bipush 96, 2) := dk_16 96 (dk_at dksX12_init_5 4 rfl rfl)
theorem dX12_init_123 : decode cX12_init 123 = .ok (.newarray .boolean, 2) := dk_188_4 (dk_at dksX12_init_5 6 rfl rfl)
theorem dX12_init_125 : decode cX12_init 125 = .ok (.putfield 60, 3) := dk_181 0 60 (dk_at dksX12_init_5 8 rfl rfl)
theorem dX12_init_128 : decode cX12_init 128 = .ok (.aload_n 0, 1) := dk_42 (dk_at dksX12_init_5 11 rfl rfl)
theorem dX12_init_129 : decode cX12_init 129 = .ok (.bipush 96, 2) := dk_16 96 (dk_at dksX12_init_5 12 rfl rfl)
theorem dX12_init_131 : decode cX12_init 131 = .ok (.newarray .boolean, 2) := dk_188_4 (dk_at dksX12_init_5 14 rfl rfl)
theorem dX12_init_133 : decode cX12_init 133 = .ok (.putfield 63, 3) := dk_181 0 63 (dk_at dksX12_init_5 16 rfl rfl)
theorem dX12_init_136 : decode cX12_init 136 = .ok (.aload_n 0, 1) := dk_42 (dk_at dksX12_init_5 19 rfl rfl)
theorem dX12_init_137 : decode cX12_init 137 = .ok (.bipush 96, 2) := dk_16 96 (dk_at dksX12_init_5 20 rfl rfl)
theorem dX12_init_139 : decode cX12_init 139 = .ok (.newarray .int, 2) := dk_188_10 (dk_at dksX12_init_5 22 rfl rfl)
theorem dX12_init_141 : decode cX12_init 141 = .ok (.putfield 66, 3) := dk_181 0 66 (dk_at dksX12_init_6 0 rfl rfl)
theorem dX12_init_144 : decode cX12_init 144 = .ok (.aload_n 0, 1) := dk_42 (dk_at dksX12_init_6 3 rfl rfl)
theorem dX12_init_145 : decode cX12_init 145 = .ok (.bipush 96, 2) := dk_16 96 (dk_at dksX12_init_6 4 rfl rfl)
theorem dX12_init_147 : decode cX12_init 147 = .ok (.newarray .int, 2) := dk_188_10 (dk_at dksX12_init_6 6 rfl rfl)
theorem dX12_init_149 : decode cX12_init 149 = .ok (.putfield 69, 3) := dk_181 0 69 (dk_at dksX12_init_6 8 rfl rfl)
theorem dX12_init_152 : decode cX12_init 152 = .ok (.aload_n 0, 1) := dk_42 (dk_at dksX12_init_6 11 rfl rfl)
theorem dX12_init_153 : decode cX12_init 153 = .ok (.bipush 96, 2) := dk_16 96 (dk_at dksX12_init_6 12 rfl rfl)
theorem dX12_init_155 : decode cX12_init 155 = .ok (.newarray .int, 2) := dk_188_10 (dk_at dksX12_init_6 14 rfl rfl)
theorem dX12_init_157 : decode cX12_init 157 = .ok (.putfield 72, 3) := dk_181 0 72 (dk_at dksX12_init_6 16 rfl rfl)
theorem dX12_init_160 : decode cX12_init 160 = .ok (.aload_n 0, 1) := dk_42 (dk_at dksX12_init_6 19 rfl rfl)
theorem dX12_init_161 : decode cX12_init 161 = .ok (.bipush 96, 2) := dk_16 96 (dk_at dksX12_init_6 20 rfl rfl)
theorem dX12_init_163 : decode cX12_init 163 = .ok (.newarray .int, 2) := dk_188_10 (dk_at dksX12_init_6 22 rfl rfl)
theorem dX12_init_165 : decode cX12_init 165 = .ok (.putfield 75, 3) := dk_181 0 75 (dk_at dksX12_init_7 0 rfl rfl)
theorem dX12_init_168 : decode cX12_init 168 = .ok (.aload_n 0, 1) := dk_42 (dk_at dksX12_init_7 3 rfl rfl)
theorem dX12_init_169 : decode cX12_init 169 = .ok (.bipush 96, 2) := dk_16 96 (dk_at dksX12_init_7 4 rfl rfl)
theorem dX12_init_171 : decode cX12_init 171 = .ok (.newarray .int, 2) := dk_188_10 (dk_at dksX12_init_7 6 rfl rfl)
theorem dX12_init_173 : decode cX12_init 173 = .ok (.putfield 78, 3) := dk_181 0 78 (dk_at dksX12_init_7 8 rfl rfl)
theorem dX12_init_176 : decode cX12_init 176 = .ok (.aload_n 0, 1) := dk_42 (dk_at dksX12_init_7 11 rfl rfl)
theorem dX12_init_177 : decode cX12_init 177 = .ok (.bipush 96, 2) := dk_16 96 (dk_at dksX12_init_7 12 rfl rfl)
theorem dX12_init_179 : decode cX12_init 179 = .ok (.newarray .int, 2) := dk_188_10 (dk_at dksX12_init_7 14 rfl rfl)
theorem dX12_init_181 : decode cX12_init 181 = .ok (.putfield 81, 3) := dk_181 0 81 (dk_at dksX12_init_7 16 rfl rfl)
theorem dX12_init_184 : decode cX12_init 184 = .ok (.aload_n 0, 1) := dk_42 (dk_at dksX12_init_7 19 rfl rfl)
theorem dX12_init_185 : decode cX12_init 185 = .ok (.bipush 18, 2) := dk_16 18 (dk_at dksX12_init_7 20 rfl rfl)
theorem dX12_init_187 : decode cX12_init 187 = .ok (.newarray .int, 2) := dk_188_10 (dk_at dksX12_init_7 22 rfl rfl)
theorem dX12_init_189 : decode cX12_init 189 = .ok (.putfield 84, 3) := dk_181 0 84 (dk_at dksX12_init_8 0 rfl rfl)
theorem dX12_init_192 : decode cX12_init 192 = .ok (.aload_n 0, 1) := dk_42 (dk_at dksX12_init_8 3 rfl rfl)
theorem dX12_init_193 : decode cX12_init 193 = .ok (.bipush 18, 2) := dk_16 18 (dk_at dksX12_init_8 4 rfl rfl)
theorem dX12_init_195 : decode cX12_init 195 = .ok (.newarray .int, 2) := dk_188_10 (dk_at dksX12_init_8 6 rfl rfl)
theorem dX12_init_197 : decode cX12_init 197 = .ok (.putfield 87, 3) := dk_181 0 87 (dk_at dksX12_init_8 8 rfl rfl)
theorem dX12_init_200 : decode cX12_init 200 = .ok (.aload_n 0, 1) := dk_42 (dk_at dksX12_init_8 11 rfl rfl)
theorem dX12_init_201 : decode cX12_init 201 = .ok (.bipush 18, 2) := dk_16 18 (dk_at dksX12_init_8 12 rfl rfl)
theorem dX12_init_203 : decode cX12_init 203 = .ok (.newarray .int, 2) := dk_188_10 (dk_at dksX12_init_8 14 rfl rfl)
theorem dX12_init_205 : decode cX12_init 205 = .ok (.putfield 90, 3) := dk_181 0 90 (dk_at dksX12_init_8 16 rfl rfl)
theorem dX12_init_208 : decode cX12_init 208 = .ok (.aload_n 0, 1) := dk_42 (dk_at dksX12_init_8 19 rfl rfl)
theorem dX12_init_209 : decode cX12_init 209 = .ok (.bipush 18, 2) := dk_16 18 (dk_at dksX12_init_8 20 rfl rfl)
theorem dX12_init_211 : decode cX12_init 211 = .ok (.newarray .int, 2) := dk_188_10 (dk_at dksX12_init_8 22 rfl rfl)
theorem dX12_init_213 : decode cX12_init 213 = .ok (.putfield 93, 3) := dk_181 0 93 (dk_at dksX12_init_9 0 rfl rfl)
theorem dX12_init_216 : decode cX12_init 216 = .ok (.aload_n 0, 1) := dk_42 (dk_at dksX12_init_9 3 rfl rfl)
theorem dX12_init_217 : decode cX12_init 217 = .ok (.bipush 54, 2) := dk_16 54 (dk_at dksX12_init_9 4 rfl rfl)
theorem dX12_init_219 : decode cX12_init 219 = .ok (.newarray .int, 2) := dk_188_10 (dk_at dksX12_init_9 6 rfl rfl)
theorem dX12_init_221 : decode cX12_init 221 = .ok (.putfield 96, 3) := dk_181 0 96 (dk_at dksX12_init_9 8 rfl rfl)
theorem dX12_init_224 : decode cX12_init 224 = .ok (.aload_n 0, 1) := dk_42 (dk_at dksX12_init_9 11 rfl rfl)
theorem dX12_init_225 : decode cX12_init 225 = .ok (.bipush 54, 2) := dk_16 54 (dk_at dksX12_init_9 12 rfl rfl)
theorem dX12_init_227 : decode cX12_init 227 = .ok (.newarray .int, 2) := dk_188_10 (dk_at dksX12_init_9 14 rfl rfl)
theorem dX12_init_229 : decode cX12_init 229 = .ok (.putfield 99, 3) := dk_181 0 99 (dk_at dksX12_init_9 16 rfl rfl)
theorem dX12_init_232 : decode cX12_init 232 = .ok (.aload_n 0, 1) := dk_42 (dk_at dksX12_init_9 19 rfl rfl)
theorem dX12_init_233 : decode cX12_init 233 = .ok (.bipush 54, 2) := dk_16 54 (dk_at dksX12_init_9 20 rfl rfl)
theorem dX12_init_235 : decode cX12_init 235 = .ok (.newarray .int, 2) := dk_188_10 (dk_at dksX12_init_9 22 rfl rfl)
theorem dX12_init_237 : decode cX12_init 237 = .ok (.putfield 102, 3) := dk_181 0 102 (dk_at dksX12_init_10 0 rfl rfl)
theorem dX12_init_240 : decode cX12_init 240 = .ok (.aload_n 0, 1) := dk_42 (dk_at dksX12_init_10 3 rfl rfl)
theorem dX12_init_241 : decode cX12_init 241 = .ok (.bipush 18, 2) := dk_16 18 (dk_at dksX12_init_10 4 rfl rfl)
theorem dX12_init_243 : decode cX12_init 243 = .ok (.newarray .int, 2) := dk_188_10 (dk_at dksX12_init_10 6 rfl rfl)
theorem dX12_init_245 : decode cX12_init 245 = .ok (.putfield 105, 3) := dk_181 0 105 (dk_at dksX12_init_10 8 rfl rfl)
theorem dX12_init_248 : decode cX12_init 248 = .ok (.aload_n 0, 1) := dk_42 (dk_at dksX12_init_10 11 rfl rfl)
theorem dX12_init_249 : decode cX12_init 249 = .ok (.bipush 18, 2) := dk_16 18 (dk_at dksX12_init_10 12 rfl rfl)
theorem dX12_init_251 : decode cX12_init 251 = .ok (.newarray .int, 2) := dk_188_10 (dk_at dksX12_init_10 14 rfl rfl)
theorem dX12_init_253 : decode cX12_init 253 = .ok (.putfield 108, 3) := dk_181 0 108 (dk_at dksX12_init_10 16 rfl rfl)
theorem dX12_init_256 : decode cX12_init 256 = .ok (.aload_n 0, 1) := dk_42 (dk_at dksX12_init_10 19 rfl rfl)
theorem dX12_init_257 : decode cX12_init 257 = .ok (.bipush 18, 2) := dk_16 18 (dk_at dksX12_init_10 20 rfl rfl)
theorem dX12_init_259 : decode cX12_init 259 = .ok (.newarray .boolean, 2) := dk_188_4 (dk_at dksX12_init_10 22 rfl rfl)
theorem dX12_init_261 : decode cX12_init 261 = .ok (.putfield 111, 3) := dk_181 0 111 (dk_at dksX12_init_11 0 rfl rfl)
theorem dX12_init_264 : decode cX12_init 264 = .ok (.aload_n 0, 1) := dk_42 (dk_at dksX12_init_11 3 rfl rfl)
theorem dX12_init_265 : decode cX12_init 265 = .ok (.bipush 54, 2) := dk_16 54 (dk_at dksX12_init_11 4 rfl rfl)
theorem dX12_init_267 : decode cX12_init 267 = .ok (.newarray .int, 2) := dk_188_10 (dk_at dksX12_init_11 6 rfl rfl)
theorem dX12_init_269 : decode cX12_init 269 = .ok (.putfield 114, 3) := dk_181 0 114 (dk_at dksX12_init_11 8 rfl rfl)
theorem dX12_init_272 : decode cX12_init 272 = .ok (.aload_n 0, 1) := dk_42 (dk_at dksX12_init_11 11 rfl rfl)
theorem dX12_init_273 : decode cX12_init 273 = .ok (.bipush 54, 2) := dk_16 54 (dk_at dksX12_init_11 12 rfl rfl)
theorem dX12_init_275 : decode cX12_init 275 = .ok (.newarray .int, 2) := dk_188_10 (dk_at dksX12_init_11 14 rfl rfl)
theorem dX12_init_277 : decode cX12_init 277 = .ok (.putfield 117, 3) := dk_181 0 117 (dk_at dksX12_init_11 16 rfl rfl)
theorem dX12_init_280 : decode cX12_init 280 = .ok (.aload_n 0, 1) := dk_42 (dk_at dksX12_init_11 19 rfl rfl)
theorem dX12_init_281 : decode cX12_init 281 = .ok (.sipush 216, 3) := dk_17 0 216 (dk_at dksX12_init_11 20 rfl rfl)
theorem dX12_init_284 : decode cX12_init 284 = .ok (.newarray .int, 2) := dk_188_10 (dk_at dksX12_init_12 0 rfl rfl)
theorem dX12_init_286 : decode cX12_init 286 = .ok (.putfield 120, 3) := dk_181 0 120 (dk_at dksX12_init_12 2 rfl rfl)
theorem dX12_init_289 : decode cX12_init 289 = .ok (.aload_n 0, 1) := dk_42 (dk_at dksX12_init_12 5 rfl rfl)
theorem dX12_init_290 : decode cX12_init 290 = .ok (.sipush 216, 3) := dk_17 0 216 (dk_at dksX12_init_12 6 rfl rfl)
theorem dX12_init_293 : decode cX12_init 293 = .ok (.newarray .int, 2) := dk_188_10 (dk_at dksX12_init_12 9 rfl rfl)
theorem dX12_init_295 : decode cX12_init 295 = .ok (.putfield 123, 3) := dk_181 0 123 (dk_at dksX12_init_12 11 rfl rfl)
theorem dX12_init_298 : decode cX12_init 298 = .ok (.aload_n 0, 1) := dk_42 (dk_at dksX12_init_12 14 rfl rfl)
theorem dX12_init_299 : decode cX12_init 299 = .ok (.sipush 216, 3) := dk_17 0 216 (dk_at dksX12_init_12 15 rfl rfl)
theorem dX12_init_302 : decode cX12_init 302 = .ok (.newarray .int, 2) := dk_188_10 (dk_at dksX12_init_12 18 rfl rfl)
theorem dX12_init_304 : decode cX12_init 304 = .ok (.putfield 126, 3) := dk_181 0 126 (dk_at dksX12_init_12 20 rfl rfl)
theorem dX12_init_307 : decode cX12_init 307 = .ok (.aload_n 0, 1) := dk_42 (dk_at dksX12_init_12 23 rfl rfl)
theorem dX12_init_308 : decode cX12_init 308 = .ok (.bipush 54, 2) := dk_16 54 (dk_at dksX12_init_13 0 rfl rfl)
theorem dX12_init_310 : decode cX12_init 310 = .ok (.newarray .int, 2) := dk_188_10 (dk_at dksX12_init_13 2 rfl rfl)
theorem dX12_init_312 : decode cX12_init 312 = .ok (.putfield 129, 3) := dk_181 0 129 (dk_at dksX12_init_13 4 rfl rfl)
theorem dX12_init_315 : decode cX12_init 315 = .ok (.aload_n 0, 1) := dk_42 (dk_at dksX12_init_13 7 rfl rfl)
theorem dX12_init_316 : decode cX12_init 316 = .ok (.bipush 54, 2) := dk_16 54 (dk_at dksX12_init_13 8 rfl rfl)
theorem dX12_init_318 : decode cX12_init 318 = .ok (.newarray .int, 2) := dk_188_10 (dk_at dksX12_init_13 10 rfl rfl)
theorem dX12_init_320 : decode cX12_init 320 = .ok (.putfield 132, 3) := dk_181 0 132 (dk_at dksX12_init_13 12 rfl rfl)
theorem dX12_init_323 : decode cX12_init 323 = .ok (.aload_n 0, 1) := dk_42 (dk_at dksX12_init_13 15 rfl rfl)
theorem dX12_init_324 : decode cX12_init 324 = .ok (.sipush 216, 3) := dk_17 0 216 (dk_at dksX12_init_13 16 rfl rfl)
theorem dX12_init_327 : decode cX12_init 327 = .ok (.newarray .int, 2) := dk_188_10 (dk_at dksX12_init_13 19 rfl rfl)
theorem dX12_init_329 : decode cX12_init 329 = .ok (.putfield 135, 3) := dk_181 0 135 (dk_at dksX12_init_13 21 rfl rfl)
theorem dX12_init_332 : decode cX12_init 332 = .ok (.aload_n 0, 1) := dk_42 (dk_at dksX12_init_14 0 rfl rfl)
theorem dX12_init_333 : decode cX12_init 333 = .ok (.sipush 864, 3) := dk_17 3 96 (dk_at dksX12_init_14 1 rfl rfl)
theorem dX12_init_336 : decode cX12_init 336 = .ok (.newarray .int, 2) := dk_188_10 (dk_at dksX12_init_14 4 rfl rfl)
theorem dX12_init_338 : decode cX12_init 338 = .ok (.putfield 138, 3) := dk_181 0 138 (dk_at dksX12_init_14 6 rfl rfl)
theorem dX12_init_341 : decode cX12_init 341 = .ok (.aload_n 0, 1) := dk_42 (dk_at dksX12_init_14 9 rfl rfl)
theorem dX12_init_342 : decode cX12_init 342 = .ok (.sipush 864, 3) := dk_17 3 96 (dk_at dksX12_init_14 10 rfl rfl)
theorem dX12_init_345 : decode cX12_init 345 = .ok (.newarray .int, 2) := dk_188_10 (dk_at dksX12_init_14 13 rfl rfl)
theorem dX12_init_347 : decode cX12_init 347 = .ok (.putfield 141, 3) := dk_181 0 141 (dk_at dksX12_init_14 15 rfl rfl)
theorem dX12_init_350 : decode cX12_init 350 = .ok (.aload_n 0, 1) := dk_42 (dk_at dksX12_init_14 18 rfl rfl)
theorem dX12_init_351 : decode cX12_init 351 = .ok (.sipush 864, 3) := dk_17 3 96 (dk_at dksX12_init_14 19 rfl rfl)
theorem dX12_init_354 : decode cX12_init 354 = .ok (.newarray .int, 2) := dk_188_10 (dk_at dksX12_init_14 22 rfl rfl)
theorem dX12_init_356 : decode cX12_init 356 = .ok (.putfield 144, 3) := dk_181 0 144 (dk_at dksX12_init_15 0 rfl rfl)
theorem dX12_init_359 : decode cX12_init 359 = .ok (.aload_n 0, 1) := dk_42 (dk_at dksX12_init_15 3 rfl rfl)
theorem dX12_init_360 : decode cX12_init 360 = .ok (.ldc 147, 2) := dk_18 147 (dk_at dksX12_init_15 4 rfl rfl)
theorem dX12_init_362 : decode cX12_init 362 = .ok (.newarray .int, 2) := dk_188_10 (dk_at dksX12_init_15 6 rfl rfl)
theorem dX12_init_364 : decode cX12_init 364 = .ok (.putfield 148, 3) := dk_181 0 148 (dk_at dksX12_init_15 8 rfl rfl)
theorem dX12_init_367 : decode cX12_init 367 = .ok (.aload_n 0, 1) := dk_42 (dk_at dksX12_init_15 11 rfl rfl)
theorem dX12_init_368 : decode cX12_init 368 = .ok (.bipush 6, 2) := dk_16 6 (dk_at dksX12_init_15 12 rfl rfl)
theorem dX12_init_370 : decode cX12_init 370 = .ok (.newarray .int, 2) := dk_188_10 (dk_at dksX12_init_15 14 rfl rfl)
theorem dX12_init_372 : decode cX12_init 372 = .ok (.putfield 151, 3) := dk_181 0 151 (dk_at dksX12_init_15 16 rfl rfl)
theorem dX12_init_375 : decode cX12_init 375 = .ok (.aload_n 0, 1) := dk_42 (dk_at dksX12_init_15 19 rfl rfl)
theorem dX12_init_376 : decode cX12_init 376 = .ok (.bipush 6, 2) := dk_16 6 (dk_at dksX12_init_15 20 rfl rfl)
theorem dX12_init_378 : decode cX12_init 378 = .ok (.newarray .int, 2) := dk_188_10 (dk_at dksX12_init_15 22 rfl rfl)
theorem dX12_init_380 : decode cX12_init 380 = .ok (.putfield 154, 3) := dk_181 0 154 (dk_at dksX12_init_16 0 rfl rfl)
theorem dX12_init_383 : decode cX12_init 383 = .ok (.aload_n 0, 1) := dk_42 (dk_at dksX12_init_16 3 rfl rfl)
theorem dX12_init_384 : decode cX12_init 384 = .ok (.bipush 6, 2) := dk_16 6 (dk_at dksX12_init_16 4 rfl rfl)
theorem dX12_init_386 : decode cX12_init 386 = .ok (.newarray .int, 2) := dk_188_10 (dk_at dksX12_init_16 6 rfl rfl)
theorem dX12_init_388 : decode cX12_init 388 = .ok (.putfield 157, 3) := dk_181 0 157 (dk_at dksX12_init_16 8 rfl rfl)
theorem dX12_init_391 : decode cX12_init 391 = .ok (.aload_n 0, 1) := dk_42 (dk_at dksX12_init_16 11 rfl rfl)
theorem dX12_init_392 : decode cX12_init 392 = .ok (.bipush 6, 2) := dk_16 6 (dk_at dksX12_init_16 12 rfl rfl)
theorem dX12_init_394 : decode cX12_init 394 = .ok (.newarray .int, 2) := dk_188_10 (dk_at dksX12_init_16 14 rfl rfl)
theorem dX12_init_396 : decode cX12_init 396 = .ok (.putfield 160, 3) := dk_181 0 160 (dk_at dksX12_init_16 16 rfl rfl)
theorem dX12_init_399 : decode cX12_init 399 = .ok (.aload_n 0, 1) := dk_42 (dk_at dksX12_init_16 19 rfl rfl)
theorem dX12_init_400 : decode cX12_init 400 = .ok (.iconst 3, 1) := dk_6 (dk_at dksX12_init_16 20 rfl rfl)
theorem dX12_init_401 : decode cX12_init 401 = .ok (.newarray .int, 2) := dk_188_10 (dk_at dksX12_init_16 21 rfl rfl)
theorem dX12_init_403 : decode cX12_init 403 = .ok (.putfield 163, 3) := dk_181 0 163 (dk_at dksX12_init_17 0 rfl rfl)
theorem dX12_init_406 : decode cX12_init 406 = .ok (.aload_n 0, 1) := dk_42 (dk_at dksX12_init_17 3 rfl rfl)
theorem dX12_init_407 : decode cX12_init 407 = .ok (.iconst 3, 1) := dk_6 (dk_at dksX12_init_17 4 rfl rfl)
theorem dX12_init_408 : decode cX12_init 408 = .ok (.newarray .int, 2) := dk_188_10 (dk_at dksX12_init_17 5 rfl rfl)
theorem dX12_init_410 : decode cX12_init 410 = .ok (.putfield 166, 3) := dk_181 0 166 (dk_at dksX12_init_17 7 rfl rfl)
theorem dX12_init_413 : decode cX12_init 413 = .ok (.aload_n 0, 1) := dk_42 (dk_at dksX12_init_17 10 rfl rfl)
theorem dX12_init_414 : decode cX12_init 414 = .ok (.bipush 96, 2) := dk_16 96 (dk_at dksX12_init_17 11 rfl rfl)
theorem dX12_init_416 : decode cX12_init 416 = .ok (.newarray .boolean, 2) := dk_188_4 (dk_at dksX12_init_17 13 rfl rfl)
theorem dX12_init_418 : decode cX12_init 418 = .ok (.putfield 169, 3) := dk_181 0 169 (dk_at dksX12_init_17 15 rfl rfl)
theorem dX12_init_421 : decode cX12_init 421 = .ok (.aload_n 0, 1) := dk_42 (dk_at dksX12_init_17 18 rfl rfl)
theorem dX12_init_422 : decode cX12_init 422 = .ok (.bipush 96, 2) := dk_16 96 (dk_at dksX12_init_17 19 rfl rfl)
theorem dX12_init_424 : decode cX12_init 424 = .ok (.newarray .int, 2) := dk_188_10 (dk_at dksX12_init_17 21 rfl rfl)
theorem dX12_init_426 : decode cX12_init 426 = .ok (.putfield 172, 3) := dk_181 0 172 (dk_at dksX12_init_18 0 rfl rfl)
theorem dX12_init_429 : decode cX12_init 429 = .ok (.aload_n 0, 1) := dk_42 (dk_at dksX12_init_18 3 rfl rfl)
theorem dX12_init_430 : decode cX12_init 430 = .ok (.bipush 96, 2) := dk_16 96 (dk_at dksX12_init_18 4 rfl rfl)
theorem dX12_init_432 : decode cX12_init 432 = .ok (.newarray .int, 2) := dk_188_10 (dk_at dksX12_init_18 6 rfl rfl)
theorem dX12_init_434 : decode cX12_init 434 = .ok (.putfield 175, 3) := dk_181 0 175 (dk_at dksX12_init_18 8 rfl rfl)
theorem dX12_init_437 : decode cX12_init 437 = .ok (.aload_n 0, 1) := dk_42 (dk_at dksX12_init_18 11 rfl rfl)
theorem dX12_init_438 : decode cX12_init 438 = .ok (.bipush 30, 2) := dk_16 30 (dk_at dksX12_init_18 12 rfl rfl)
theorem dX12_init_440 : decode cX12_init 440 = .ok (.newarray .int, 2) := dk_188_10 (dk_at dksX12_init_18 14 rfl rfl)
theorem dX12_init_442 : decode cX12_init 442 = .ok (.putfield 178, 3) := dk_181 0 178 (dk_at dksX12_init_18 16 rfl rfl)
theorem dX12_init_445 : decode cX12_init 445 = .ok (.aload_n 0, 1) := dk_42 (dk_at dksX12_init_18 19 rfl rfl)
theorem dX12_init_446 : decode cX12_init 446 = .ok (.bipush 30, 2) := dk_16 30 (dk_at dksX12_init_18 20 rfl rfl)
theorem dX12_init_448 : decode cX12_init 448 = .ok (.newarray .int, 2) := dk_188_10 (dk_at dksX12_init_18 22 rfl rfl)
theorem dX12_init_450 : decode cX12_init 450 = .ok (.putfield 181, 3) := dk_181 0 181 (dk_at dksX12_init_19 0 rfl rfl)
theorem dX12_init_453 : decode cX12_init 453 = .ok (.aload_n 0, 1) := dk_42 (dk_at dksX12_init_19 3 rfl rfl)
theorem dX12_init_454 : decode cX12_init 454 = .ok (.bipush 30, 2) := dk_16 30 (dk_at dksX12_init_19 4 rfl rfl)
theorem dX12_init_456 : decode cX12_init 456 = .ok (.newarray .int, 2) := dk_188_10 (dk_at dksX12_init_19 6 rfl rfl)
theorem dX12_init_458 : decode cX12_init 458 = .ok (.putfield 184, 3) := dk_181 0 184 (dk_at dksX12_init_19 8 rfl rfl)
theorem dX12_init_461 : decode cX12_init 461 = .ok (.aload_n 0, 1) := dk_42 (dk_at dksX12_init_19 11 rfl rfl)
theorem dX12_init_462 : decode cX12_init 462 = .ok (.bipush 8, 2) := dk_16 8 (dk_at dksX12_init_19 12 rfl rfl)
theorem dX12_init_464 : decode cX12_init 464 = .ok (.newarray .int, 2) := dk_188_10 (dk_at dksX12_init_19 14 rfl rfl)
theorem dX12_init_466 : decode cX12_init 466 = .ok (.putfield 187, 3) := dk_181 0 187 (dk_at dksX12_init_19 16 rfl rfl)
theorem dX12_init_469 : decode cX12_init 469 = .ok (.aload_n 0, 1) := dk_42 (dk_at dksX12_init_19 19 rfl rfl)
theorem dX12_init_470 : decode cX12_init 470 = .ok (.bipush 8, 2) := dk_16 8 (dk_at dksX12_init_19 20 rfl rfl)
theorem dX12_init_472 : decode cX12_init 472 = .ok (.newarray .int, 2) := dk_188_10 (dk_at dksX12_init_19 22 rfl rfl)
theorem dX12_init_474 : decode cX12_init 474 = .ok (.putfield 190, 3) := dk_181 0 190 (dk_at dksX12_init_20 0 rfl rfl)
theorem dX12_init_477 : decode cX12_init 477 = .ok (.aload_n 0, 1) := dk_42 (dk_at dksX12_init_20 3 rfl rfl)
theorem dX12_init_478 : decode cX12_init 478 = .ok (.bipush 80, 2) := dk_16 80 (dk_at dksX12_init_20 4 rfl rfl)
theorem dX12_init_480 : decode cX12_init 480 = .ok (.newarray .int, 2) := dk_188_10 (dk_at dksX12_init_20 6 rfl rfl)
theorem dX12_init_482 : decode cX12_init 482 = .ok (.putfield 193, 3) := dk_181 0 193 (dk_at dksX12_init_20 8 rfl rfl)
theorem dX12_init_485 : decode cX12_init 485 = .ok (.aload_n 0, 1) := dk_42 (dk_at dksX12_init_20 11 rfl rfl)
theorem dX12_init_486 : decode cX12_init 486 = .ok (.getfield 13, 3) := dk_180 0 13 (dk_at dksX12_init_20 12 rfl rfl)
theorem dX12_init_489 : decode cX12_init 489 = .ok (.iconst 0, 1) := dk_3 (dk_at dksX12_init_20 15 rfl rfl)
theorem dX12_init_490 : decode cX12_init 490 = .ok (.bipush 7, 2) := dk_16 7 (dk_at dksX12_init_20 16 rfl rfl)
theorem dX12_init_492 : decode cX12_init 492 = .ok (.iastore, 1) := dk_79 (dk_at dksX12_init_20 18 rfl rfl)
theorem dX12_init_493 : decode cX12_init 493 = .ok (.aload_n 0, 1) := dk_42 (dk_at dksX12_init_20 19 rfl rfl)
theorem dX12_init_494 : decode cX12_init 494 = .ok (.getfield 13, 3) := dk_180 0 13 (dk_at dksX12_init_20 20 rfl rfl)
theorem dX12_init_497 : decode cX12_init 497 = .ok (.iconst 1, 1) := dk_4 (dk_at dksX12_init_20 23 rfl rfl)
theorem dX12_init_498 : decode cX12_init 498 = .ok (.bipush 8, 2) := dk_16 8 (dk_at dksX12_init_21 0 rfl rfl)
theorem dX12_init_500 : decode cX12_init 500 = .ok (.iastore, 1) := dk_79 (dk_at dksX12_init_21 2 rfl rfl)
theorem dX12_init_501 : decode cX12_init 501 = .ok (.aload_n 0, 1) := dk_42 (dk_at dksX12_init_21 3 rfl rfl)
theorem dX12_init_502 : decode cX12_init 502 = .ok (.getfield 22, 3) := dk_180 0 22 (dk_at dksX12_init_21 4 rfl rfl)
theorem dX12_init_505 : decode cX12_init 505 = .ok (.iconst 0, 1) := dk_3 (dk_at dksX12_init_21 7 rfl rfl)
theorem dX12_init_506 : decode cX12_init 506 = .ok (.iconst 1, 1) := dk_4 (dk_at dksX12_init_21 8 rfl rfl)
theorem dX12_init_507 : decode cX12_init 507 = .ok (.iastore, 1) := dk_79 (dk_at dksX12_init_21 9 rfl rfl)
theorem dX12_init_508 : decode cX12_init 508 = .ok (.aload_n 0, 1) := dk_42 (dk_at dksX12_init_21 10 rfl rfl)
theorem dX12_init_509 : decode cX12_init 509 = .ok (.getfield 22, 3) := dk_180 0 22 (dk_at dksX12_init_21 11 rfl rfl)
theorem dX12_init_512 : decode cX12_init 512 = .ok (.iconst 1, 1) := dk_4 (dk_at dksX12_init_21 14 rfl rfl)
theorem dX12_init_513 : decode cX12_init 513 = .ok (.iconst 1, 1) := dk_4 (dk_at dksX12_init_21 15 rfl rfl)
theorem dX12_init_514 : decode cX12_init 514 = .ok (.iastore, 1) := dk_79 (dk_at dksX12_init_21 16 rfl rfl)
theorem dX12_init_515 : decode cX12_init 515 = .ok (.return_, 1) := dk_177 (dk_at dksX12_init_21 17 rfl rfl)
abbrev cX12_append : ByteArray := prog_27_method_7_code
def yX12_append : MethodName := ⟨RX12, "append", "(II)I"⟩
def dkwX12_append_3 : List UInt8 := [180, 0, 208, 172]
abbrev dktX12_append_3 : List UInt8 := dkwX12_append_3 ++ []
def dkwX12_append_2 : List UInt8 := [42, 180, 0, 208, 27, 79, 42, 89, 180, 0, 208, 4, 96, 181, 0, 208, 132, 3, 1, 167, 255, 228, 42]
abbrev dktX12_append_2 : List UInt8 := dkwX12_append_2 ++ dktX12_append_3
def dkwX12_append_1 : List UInt8 := [180, 0, 208, 28, 96, 16, 60, 164, 0, 6, 18, 211, 172, 3, 62, 29, 28, 162, 0, 29, 42, 180, 0, 9]
abbrev dktX12_append_1 : List UInt8 := dkwX12_append_1 ++ dktX12_append_2
def dkwX12_append_0 : List UInt8 := [27, 3, 16, 127, 184, 0, 203, 153, 0, 13, 28, 4, 16, 60, 184, 0, 203, 154, 0, 6, 18, 207, 172, 42]
abbrev dktX12_append_0 : List UInt8 := dkwX12_append_0 ++ dktX12_append_1
theorem dksX12_append_0 : cX12_append.data.toList.drop 0 = dktX12_append_0 := by decide +kernel
theorem dksX12_append_1 : cX12_append.data.toList.drop 24 = dktX12_append_1 := dk_seg dksX12_append_0 24 rfl rfl
theorem dksX12_append_2 : cX12_append.data.toList.drop 48 = dktX12_append_2 := dk_seg dksX12_append_1 24 rfl rfl
theorem dksX12_append_3 : cX12_append.data.toList.drop 71 = dktX12_append_3 := dk_seg dksX12_append_2 23 rfl rfl
theorem dX12_append_0 : decode cX12_append 0 = .ok (.iload_n 1, 1) := dk_27 (dk_at dksX12_append_0 0 rfl rfl)
theorem dX12_append_1 : decode cX12_append 1 = .ok (.iconst 0, 1) := dk_3 (dk_at dksX12_append_0 1 rfl rfl)
theorem dX12_append_2 : decode cX12_append 2 = .ok (.bipush 127, 2) := dk_16 127 (dk_at dksX12_append_0 2 rfl rfl)
theorem dX12_append_4 : decode cX12_append 4 = .ok (.invokestatic 203, 3) := dk_184 0 203 (dk_at dksX12_append_0 4 rfl rfl)
theorem dX12_append_7 : decode cX12_append 7 = .ok (.ifCond .eq 13, 3) := dk_153 0 13 (dk_at dksX12_append_0 7 rfl rfl)
theorem dX12_append_10 : decode cX12_append 10 = .ok (.iload_n 2, 1) := dk_28 (dk_at dksX12_append_0 10 rfl rfl)
theorem dX12_append_11 : decode cX12_append 11 = .ok (.iconst 1, 1) := dk_4 (dk_at dksX12_append_0 11 rfl rfl)
theorem dX12_append_12 : decode cX12_append 12 = .ok (.bipush 60, 2) := dk_16 60 (dk_at dksX12_append_0 12 rfl rfl)
theorem dX12_append_14 : decode cX12_append 14 = .ok (.invokestatic 203, 3) := dk_184 0 203 (dk_at dksX12_append_0 14 rfl rfl)
theorem dX12_append_17 : decode cX12_append 17 = .ok (.ifCond .ne 6, 3) := dk_154 0 6 (dk_at dksX12_append_0 17 rfl rfl)
theorem dX12_append_20 : decode cX12_append 20 = .ok (.ldc 207, 2) := dk_18 207 (dk_at dksX12_append_0 20 rfl rfl)
theorem dX12_append_22 : decode cX12_append 22 = .ok (.ireturn, 1) := dk_172 (dk_at dksX12_append_0 22 rfl rfl)
theorem dX12_append_23 : decode cX12_append 23 = .ok (.aload_n 0, 1) := dk_42 (dk_at dksX12_append_0 23 rfl rfl)
theorem dX12_append_24 : decode cX12_append 24 = .ok (.getfield 208, 3) := dk_180 0 208 (dk_at dksX12_append_1 0 rfl rfl)
theorem dX12_append_27 : decode cX12_append 27 = .ok (.iload_n 2, 1) := dk_28 (dk_at dksX12_append_1 3 rfl rfl)
theorem dX12_append_28 : decode cX12_append 28 = .ok (.iadd, 1) := dk_96 (dk_at dksX12_append_1 4 rfl rfl)
theorem dX12_append_29 : decode cX12_append 29 = .ok (.bipush 60, 2) := dk_16 60 (dk_at dksX12_append_1 5 rfl rfl)
theorem dX12_append_31 : decode cX12_append 31 = .ok (.if_icmp .le 6, 3) := dk_164 0 6 (dk_at dksX12_append_1 7 rfl rfl)
theorem dX12_append_34 : decode cX12_append 34 = .ok (.ldc 211, 2) := dk_18 211 (dk_at dksX12_append_1 10 rfl rfl)
theorem dX12_append_36 : decode cX12_append 36 = .ok (.ireturn, 1) := dk_172 (dk_at dksX12_append_1 12 rfl rfl)
theorem dX12_append_37 : decode cX12_append 37 = .ok (.iconst 0, 1) := dk_3 (dk_at dksX12_append_1 13 rfl rfl)
theorem dX12_append_38 : decode cX12_append 38 = .ok (.istore_n 3, 1) := dk_62 (dk_at dksX12_append_1 14 rfl rfl)
theorem dX12_append_39 : decode cX12_append 39 = .ok (.iload_n 3, 1) := dk_29 (dk_at dksX12_append_1 15 rfl rfl)
theorem dX12_append_40 : decode cX12_append 40 = .ok (.iload_n 2, 1) := dk_28 (dk_at dksX12_append_1 16 rfl rfl)
theorem dX12_append_41 : decode cX12_append 41 = .ok (.if_icmp .ge 29, 3) := dk_162 0 29 (dk_at dksX12_append_1 17 rfl rfl)
theorem dX12_append_44 : decode cX12_append 44 = .ok (.aload_n 0, 1) := dk_42 (dk_at dksX12_append_1 20 rfl rfl)
theorem dX12_append_45 : decode cX12_append 45 = .ok (.getfield 9, 3) := dk_180 0 9 (dk_at dksX12_append_1 21 rfl rfl)
theorem dX12_append_48 : decode cX12_append 48 = .ok (.aload_n 0, 1) := dk_42 (dk_at dksX12_append_2 0 rfl rfl)
theorem dX12_append_49 : decode cX12_append 49 = .ok (.getfield 208, 3) := dk_180 0 208 (dk_at dksX12_append_2 1 rfl rfl)
theorem dX12_append_52 : decode cX12_append 52 = .ok (.iload_n 1, 1) := dk_27 (dk_at dksX12_append_2 4 rfl rfl)
theorem dX12_append_53 : decode cX12_append 53 = .ok (.iastore, 1) := dk_79 (dk_at dksX12_append_2 5 rfl rfl)
theorem dX12_append_54 : decode cX12_append 54 = .ok (.aload_n 0, 1) := dk_42 (dk_at dksX12_append_2 6 rfl rfl)
theorem dX12_append_55 : decode cX12_append 55 = .ok (.dup, 1) := dk_89 (dk_at dksX12_append_2 7 rfl rfl)
theorem dX12_append_56 : decode cX12_append 56 = .ok (.getfield 208, 3) := dk_180 0 208 (dk_at dksX12_append_2 8 rfl rfl)
theorem dX12_append_59 : decode cX12_append 59 = .ok (.iconst 1, 1) := dk_4 (dk_at dksX12_append_2 11 rfl rfl)
theorem dX12_append_60 : decode cX12_append 60 = .ok (.iadd, 1) := dk_96 (dk_at dksX12_append_2 12 rfl rfl)
theorem dX12_append_61 : decode cX12_append 61 = .ok (.putfield 208, 3) := dk_181 0 208 (dk_at dksX12_append_2 13 rfl rfl)
theorem dX12_append_64 : decode cX12_append 64 = .ok (.iinc 3 1, 3) := dk_132 3 1 (dk_at dksX12_append_2 16 rfl rfl)
theorem dX12_append_67 : decode cX12_append 67 = .ok (.goto (-28), 3) := dk_167 255 228 (dk_at dksX12_append_2 19 rfl rfl)
theorem dX12_append_70 : decode cX12_append 70 = .ok (.aload_n 0, 1) := dk_42 (dk_at dksX12_append_2 22 rfl rfl)
theorem dX12_append_71 : decode cX12_append 71 = .ok (.getfield 208, 3) := dk_180 0 208 (dk_at dksX12_append_3 0 rfl rfl)
theorem dX12_append_74 : decode cX12_append 74 = .ok (.ireturn, 1) := dk_172 (dk_at dksX12_append_3 3 rfl rfl)
abbrev cX12_isIn : ByteArray := prog_27_method_2_code
def yX12_isIn : MethodName := ⟨RX12, "isIn", "(III)Z"⟩
def dkwX12_isIn_0 : List UInt8 := [26, 27, 161, 0, 12, 26, 28, 163, 0, 7, 4, 167, 0, 4, 3, 172]
abbrev dktX12_isIn_0 : List UInt8 := dkwX12_isIn_0 ++ []
theorem dksX12_isIn_0 : cX12_isIn.data.toList.drop 0 = dktX12_isIn_0 := by decide +kernel
theorem dX12_isIn_0 : decode cX12_isIn 0 = .ok (.iload_n 0, 1) := dk_26 (dk_at dksX12_isIn_0 0 rfl rfl)
theorem dX12_isIn_1 : decode cX12_isIn 1 = .ok (.iload_n 1, 1) := dk_27 (dk_at dksX12_isIn_0 1 rfl rfl)
theorem dX12_isIn_2 : decode cX12_isIn 2 = .ok (.if_icmp .lt 12, 3) := dk_161 0 12 (dk_at dksX12_isIn_0 2 rfl rfl)
theorem dX12_isIn_5 : decode cX12_isIn 5 = .ok (.iload_n 0, 1) := dk_26 (dk_at dksX12_isIn_0 5 rfl rfl)
theorem dX12_isIn_6 : decode cX12_isIn 6 = .ok (.iload_n 2, 1) := dk_28 (dk_at dksX12_isIn_0 6 rfl rfl)
theorem dX12_isIn_7 : decode cX12_isIn 7 = .ok (.if_icmp .gt 7, 3) := dk_163 0 7 (dk_at dksX12_isIn_0 7 rfl rfl)
theorem dX12_isIn_10 : decode cX12_isIn 10 = .ok (.iconst 1, 1) := dk_4 (dk_at dksX12_isIn_0 10 rfl rfl)
theorem dX12_isIn_11 : decode cX12_isIn 11 = .ok (.goto 4, 3) := dk_167 0 4 (dk_at dksX12_isIn_0 11 rfl rfl)
theorem dX12_isIn_14 : decode cX12_isIn 14 = .ok (.iconst 0, 1) := dk_3 (dk_at dksX12_isIn_0 14 rfl rfl)
theorem dX12_isIn_15 : decode cX12_isIn 15 = .ok (.ireturn, 1) := dk_172 (dk_at dksX12_isIn_0 15 rfl rfl)
abbrev cX12_readPipeline : ByteArray := prog_27_method_14_code
def yX12_readPipeline : MethodName := ⟨RX12, "readPipeline", "()I"⟩
def dkwX12_readPipeline_13 : List UInt8 := [46, 79, 42, 182, 0, 240, 27, 172]
abbrev dktX12_readPipeline_13 : List UInt8 := dkwX12_readPipeline_13 ++ []
def dkwX12_readPipeline_12 : List UInt8 := [79, 42, 180, 0, 19, 27, 4, 96, 3, 79, 42, 180, 0, 22, 27, 4, 96, 42, 180, 0, 160, 27, 4, 96]
abbrev dktX12_readPipeline_12 : List UInt8 := dkwX12_readPipeline_12 ++ dktX12_readPipeline_13
def dkwX12_readPipeline_11 : List UInt8 := [132, 3, 1, 167, 255, 200, 42, 180, 0, 13, 27, 4, 96, 16, 8, 79, 42, 180, 0, 16, 27, 4, 96, 3]
abbrev dktX12_readPipeline_11 : List UInt8 := dkwX12_readPipeline_11 ++ dktX12_readPipeline_12
def dkwX12_readPipeline_10 : List UInt8 := [180, 0, 19, 29, 42, 180, 0, 157, 29, 46, 79, 42, 180, 0, 22, 29, 42, 180, 0, 160, 29, 46, 79]
abbrev dktX12_readPipeline_10 : List UInt8 := dkwX12_readPipeline_10 ++ dktX12_readPipeline_11
def dkwX12_readPipeline_9 : List UInt8 := [180, 0, 13, 29, 42, 180, 0, 151, 29, 46, 79, 42, 180, 0, 16, 29, 42, 180, 0, 154, 29, 46, 79, 42]
abbrev dktX12_readPipeline_9 : List UInt8 := dkwX12_readPipeline_9 ++ dktX12_readPipeline_10
def dkwX12_readPipeline_8 : List UInt8 := [17, 248, 48, 42, 180, 0, 212, 100, 172, 42, 27, 181, 0, 196, 4, 62, 29, 27, 163, 0, 57, 42]
abbrev dktX12_readPipeline_8 : List UInt8 := dkwX12_readPipeline_8 ++ dktX12_readPipeline_9
def dkwX12_readPipeline_7 : List UInt8 := [162, 0, 7, 4, 167, 0, 4, 3, 128, 181, 0, 215, 42, 3, 181, 0, 208, 42, 180, 0, 215, 153, 0, 12]
abbrev dktX12_readPipeline_7 : List UInt8 := dkwX12_readPipeline_7 ++ dktX12_readPipeline_8
def dkwX12_readPipeline_6 : List UInt8 := [180, 0, 160, 27, 4, 96, 42, 182, 0, 234, 79, 42, 89, 180, 0, 215, 42, 180, 0, 212, 42, 180, 0, 208]
abbrev dktX12_readPipeline_6 : List UInt8 := dkwX12_readPipeline_6 ++ dktX12_readPipeline_7
def dkwX12_readPipeline_5 : List UInt8 := [154, 0, 34, 42, 182, 0, 219, 16, 36, 160, 0, 25, 42, 89, 180, 0, 212, 4, 96, 181, 0, 212, 42]
abbrev dktX12_readPipeline_5 : List UInt8 := dkwX12_readPipeline_5 ++ dktX12_readPipeline_6
def dkwX12_readPipeline_4 : List UInt8 := [180, 0, 160, 27, 4, 96, 16, 6, 162, 0, 9, 27, 4, 96, 167, 0, 4, 3, 4, 79, 42, 180, 0, 215]
abbrev dktX12_readPipeline_4 : List UInt8 := dkwX12_readPipeline_4 ++ dktX12_readPipeline_5
def dkwX12_readPipeline_3 : List UInt8 := [3, 61, 42, 89, 180, 0, 212, 28, 153, 0, 7, 4, 167, 0, 4, 3, 96, 181, 0, 212, 167, 255, 199, 42]
abbrev dktX12_readPipeline_3 : List UInt8 := dkwX12_readPipeline_3 ++ dktX12_readPipeline_4
def dkwX12_readPipeline_2 : List UInt8 := [180, 0, 215, 154, 0, 21, 42, 182, 0, 219, 16, 124, 160, 0, 12, 27, 7, 162, 0, 7, 4, 167, 0, 4]
abbrev dktX12_readPipeline_2 : List UInt8 := dkwX12_readPipeline_2 ++ dktX12_readPipeline_3
def dkwX12_readPipeline_1 : List UInt8 := [16, 36, 159, 0, 7, 4, 167, 0, 4, 3, 61, 28, 153, 0, 59, 132, 1, 1, 42, 27, 182, 0, 237, 42]
abbrev dktX12_readPipeline_1 : List UInt8 := dkwX12_readPipeline_1 ++ dktX12_readPipeline_2
def dkwX12_readPipeline_0 : List UInt8 := [42, 3, 181, 0, 212, 42, 3, 181, 0, 215, 3, 60, 42, 180, 0, 208, 158, 0, 16, 42, 182, 0, 219]
abbrev dktX12_readPipeline_0 : List UInt8 := dkwX12_readPipeline_0 ++ dktX12_readPipeline_1
theorem dksX12_readPipeline_0 : cX12_readPipeline.data.toList.drop 0 = dktX12_readPipeline_0 := by decide +kernel
theorem dksX12_readPipeline_1 : cX12_readPipeline.data.toList.drop 23 = dktX12_readPipeline_1 := dk_seg dksX12_readPipeline_0 23 rfl rfl
theorem dksX12_readPipeline_2 : cX12_readPipeline.data.toList.drop 47 = dktX12_readPipeline_2 := dk_seg dksX12_readPipeline_1 24 rfl rfl
theorem dksX12_readPipeline_3 : cX12_readPipeline.data.toList.drop 71 = dktX12_readPipeline_3 := dk_seg dksX12_readPipeline_2 24 rfl rfl
theorem dksX12_readPipeline_4 : cX12_readPipeline.data.toList.drop 95 = dktX12_readPipeline_4 := dk_seg dksX12_readPipeline_3 24 rfl rfl
theorem dksX12_readPipeline_5 : cX12_readPipeline.data.toList.drop 119 = dktX12_readPipeline_5 := dk_seg dksX12_readPipeline_4 24 rfl rfl
theorem dksX12_readPipeline_6 : cX12_readPipeline.data.toList.drop 142 = dktX12_readPipeline_6 := dk_seg dksX12_readPipeline_5 23 rfl rfl
theorem dksX12_readPipeline_7 : cX12_readPipeline.data.toList.drop 166 = dktX12_readPipeline_7 := dk_seg dksX12_readPipeline_6 24 rfl rfl
theorem dksX12_readPipeline_8 : cX12_readPipeline.data.toList.drop 190 = dktX12_readPipeline_8 := dk_seg dksX12_readPipeline_7 24 rfl rfl
theorem dksX12_readPipeline_9 : cX12_readPipeline.data.toList.drop 212 = dktX12_readPipeline_9 := dk_seg dksX12_readPipeline_8 22 rfl rfl
theorem dksX12_readPipeline_10 : cX12_readPipeline.data.toList.drop 236 = dktX12_readPipeline_10 := dk_seg dksX12_readPipeline_9 24 rfl rfl
theorem dksX12_readPipeline_11 : cX12_readPipeline.data.toList.drop 259 = dktX12_readPipeline_11 := dk_seg dksX12_readPipeline_10 23 rfl rfl
theorem dksX12_readPipeline_12 : cX12_readPipeline.data.toList.drop 283 = dktX12_readPipeline_12 := dk_seg dksX12_readPipeline_11 24 rfl rfl
theorem dksX12_readPipeline_13 : cX12_readPipeline.data.toList.drop 307 = dktX12_readPipeline_13 := dk_seg dksX12_readPipeline_12 24 rfl rfl
theorem dX12_readPipeline_0 : decode cX12_readPipeline 0 = .ok (.aload_n 0, 1) := dk_42 (dk_at dksX12_readPipeline_0 0 rfl rfl)
theorem dX12_readPipeline_1 : decode cX12_readPipeline 1 = .ok (.iconst 0, 1) := dk_3 (dk_at dksX12_readPipeline_0 1 rfl rfl)
theorem dX12_readPipeline_2 : decode cX12_readPipeline 2 = .ok (.putfield 212, 3) := dk_181 0 212 (dk_at dksX12_readPipeline_0 2 rfl rfl)
theorem dX12_readPipeline_5 : decode cX12_readPipeline 5 = .ok (.aload_n 0, 1) := dk_42 (dk_at dksX12_readPipeline_0 5 rfl rfl)
theorem dX12_readPipeline_6 : decode cX12_readPipeline 6 = .ok (.iconst 0, 1) := dk_3 (dk_at dksX12_readPipeline_0 6 rfl rfl)
theorem dX12_readPipeline_7 : decode cX12_readPipeline 7 = .ok (.putfield 215, 3) := dk_181 0 215 (dk_at dksX12_readPipeline_0 7 rfl rfl)
theorem dX12_readPipeline_10 : decode cX12_readPipeline 10 = .ok (.iconst 0, 1) := dk_3 (dk_at dksX12_readPipeline_0 10 rfl rfl)
theorem dX12_readPipeline_11 : decode cX12_readPipeline 11 = .ok (.istore_n 1, 1) := dk_60 (dk_at dksX12_readPipeline_0 11 rfl rfl)
theorem dX12_readPipeline_12 : decode cX12_readPipeline 12 = .ok (.aload_n 0, 1) := dk_42 (dk_at dksX12_readPipeline_0 12 rfl rfl)
theorem dX12_readPipeline_13 : decode cX12_readPipeline 13 = .ok (.getfield 208, 3) := dk_180 0 208 (dk_at dksX12_readPipeline_0 13 rfl rfl)
theorem dX12_readPipeline_16 : decode cX12_readPipeline 16 = .ok (.ifCond .le 16, 3) := dk_158 0 16 (dk_at dksX12_readPipeline_0 16 rfl rfl)
theorem dX12_readPipeline_19 : decode cX12_readPipeline 19 = .ok (.aload_n 0, 1) := dk_42 (dk_at dksX12_readPipeline_0 19 rfl rfl)
theorem dX12_readPipeline_20 : decode cX12_readPipeline 20 = .ok (.invokevirtual 219, 3) := dk_182 0 219 (dk_at dksX12_readPipeline_0 20 rfl rfl)
theorem dX12_readPipeline_23 : decode cX12_readPipeline 23 = .ok (.bipush 36, 2) := dk_16 36 (dk_at dksX12_readPipeline_1 0 rfl rfl)
theorem dX12_readPipeline_25 : decode cX12_readPipeline 25 = .ok (.if_icmp .eq 7, 3) := dk_159 0 7 (dk_at dksX12_readPipeline_1 2 rfl rfl)
theorem dX12_readPipeline_28 : decode cX12_readPipeline 28 = .ok (.iconst 1, 1) := dk_4 (dk_at dksX12_readPipeline_1 5 rfl rfl)
theorem dX12_readPipeline_29 : decode cX12_readPipeline 29 = .ok (.goto 4, 3) := dk_167 0 4 (dk_at dksX12_readPipeline_1 6 rfl rfl)
theorem dX12_readPipeline_32 : decode cX12_readPipeline 32 = .ok (.iconst 0, 1) := dk_3 (dk_at dksX12_readPipeline_1 9 rfl rfl)
theorem dX12_readPipeline_33 : decode cX12_readPipeline 33 = .ok (.istore_n 2, 1) := dk_61 (dk_at dksX12_readPipeline_1 10 rfl rfl)
theorem dX12_readPipeline_34 : decode cX12_readPipeline 34 = .ok (.iload_n 2, 1) := dk_28 (dk_at dksX12_readPipeline_1 11 rfl rfl)
theorem dX12_readPipeline_35 : decode cX12_readPipeline 35 = .ok (.ifCond .eq 59, 3) := dk_153 0 59 (dk_at dksX12_readPipeline_1 12 rfl rfl)
theorem dX12_readPipeline_38 : decode cX12_readPipeline 38 = .ok (.iinc 1 1, 3) := dk_132 1 1 (dk_at dksX12_readPipeline_1 15 rfl rfl)
theorem dX12_readPipeline_41 : decode cX12_readPipeline 41 = .ok (.aload_n 0, 1) := dk_42 (dk_at dksX12_readPipeline_1 18 rfl rfl)
theorem dX12_readPipeline_42 : decode cX12_readPipeline 42 = .ok (.iload_n 1, 1) := dk_27 (dk_at dksX12_readPipeline_1 19 rfl rfl)
theorem dX12_readPipeline_43 : decode cX12_readPipeline 43 = .ok (.invokevirtual 237, 3) := dk_182 0 237 (dk_at dksX12_readPipeline_1 20 rfl rfl)
theorem dX12_readPipeline_46 : decode cX12_readPipeline 46 = .ok (.aload_n 0, 1) := dk_42 (dk_at dksX12_readPipeline_1 23 rfl rfl)
theorem dX12_readPipeline_47 : decode cX12_readPipeline 47 = .ok (.getfield 215, 3) := dk_180 0 215 (dk_at dksX12_readPipeline_2 0 rfl rfl)
theorem dX12_readPipeline_50 : decode cX12_readPipeline 50 = .ok (.ifCond .ne 21, 3) := dk_154 0 21 (dk_at dksX12_readPipeline_2 3 rfl rfl)
theorem dX12_readPipeline_53 : decode cX12_readPipeline 53 = .ok (.aload_n 0, 1) := dk_42 (dk_at dksX12_readPipeline_2 6 rfl rfl)
theorem dX12_readPipeline_54 : decode cX12_readPipeline 54 = .ok (.invokevirtual 219, 3) := dk_182 0 219 (dk_at dksX12_readPipeline_2 7 rfl rfl)
theorem dX12_readPipeline_57 : decode cX12_readPipeline 57 = .ok (.bipush 124, 2) := dk_16 124 (dk_at dksX12_readPipeline_2 10 rfl rfl)
theorem dX12_readPipeline_59 : decode cX12_readPipeline 59 = .ok (.if_icmp .ne 12, 3) := dk_160 0 12 (dk_at dksX12_readPipeline_2 12 rfl rfl)
theorem dX12_readPipeline_62 : decode cX12_readPipeline 62 = .ok (.iload_n 1, 1) := dk_27 (dk_at dksX12_readPipeline_2 15 rfl rfl)
theorem dX12_readPipeline_63 : decode cX12_readPipeline 63 = .ok (.iconst 4, 1) := dk_7 (dk_at dksX12_readPipeline_2 16 rfl rfl)
theorem dX12_readPipeline_64 : decode cX12_readPipeline 64 = .ok (.if_icmp .ge 7, 3) := dk_162 0 7 (dk_at dksX12_readPipeline_2 17 rfl rfl)
theorem dX12_readPipeline_67 : decode cX12_readPipeline 67 = .ok (.iconst 1, 1) := dk_4 (dk_at dksX12_readPipeline_2 20 rfl rfl)
theorem dX12_readPipeline_68 : decode cX12_readPipeline 68 = .ok (.goto 4, 3) := dk_167 0 4 (dk_at dksX12_readPipeline_2 21 rfl rfl)
theorem dX12_readPipeline_71 : decode cX12_readPipeline 71 = .ok (.iconst 0, 1) := dk_3 (dk_at dksX12_readPipeline_3 0 rfl rfl)
theorem dX12_readPipeline_72 : decode cX12_readPipeline 72 = .ok (.istore_n 2, 1) := dk_61 (dk_at dksX12_readPipeline_3 1 rfl rfl)
theorem dX12_readPipeline_73 : decode cX12_readPipeline 73 = .ok (.aload_n 0, 1) := dk_42 (dk_at dksX12_readPipeline_3 2 rfl rfl)
theorem dX12_readPipeline_74 : decode cX12_readPipeline 74 = .ok (.dup, 1) := dk_89 (dk_at dksX12_readPipeline_3 3 rfl rfl)
theorem dX12_readPipeline_75 : decode cX12_readPipeline 75 = .ok (.getfield 212, 3) := dk_180 0 212 (dk_at dksX12_readPipeline_3 4 rfl rfl)
theorem dX12_readPipeline_78 : decode cX12_readPipeline 78 = .ok (.iload_n 2, 1) := dk_28 (dk_at dksX12_readPipeline_3 7 rfl rfl)
theorem dX12_readPipeline_79 : decode cX12_readPipeline 79 = .ok (.ifCond .eq 7, 3) := dk_153 0 7 (dk_at dksX12_readPipeline_3 8 rfl rfl)
theorem dX12_readPipeline_82 : decode cX12_readPipeline 82 = .ok (.iconst 1, 1) := dk_4 (dk_at dksX12_readPipeline_3 11 rfl rfl)
theorem dX12_readPipeline_83 : decode cX12_readPipeline 83 = .ok (.goto 4, 3) := dk_167 0 4 (dk_at dksX12_readPipeline_3 12 rfl rfl)
theorem dX12_readPipeline_86 : decode cX12_readPipeline 86 = .ok (.iconst 0, 1) := dk_3 (dk_at dksX12_readPipeline_3 15 rfl rfl)
theorem dX12_readPipeline_87 : decode cX12_readPipeline 87 = .ok (.iadd, 1) := dk_96 (dk_at dksX12_readPipeline_3 16 rfl rfl)
theorem dX12_readPipeline_88 : decode cX12_readPipeline 88 = .ok (.putfield 212, 3) := dk_181 0 212 (dk_at dksX12_readPipeline_3 17 rfl rfl)
theorem dX12_readPipeline_91 : decode cX12_readPipeline 91 = .ok (.goto (-57), 3) := dk_167 255 199 (dk_at dksX12_readPipeline_3 20 rfl rfl)
theorem dX12_readPipeline_94 : decode cX12_readPipeline 94 = .ok (.aload_n 0, 1) := dk_42 (dk_at dksX12_readPipeline_3 23 rfl rfl)
theorem dX12_readPipeline_95 : decode cX12_readPipeline 95 = .ok (.getfield 160, 3) := dk_180 0 160 (dk_at dksX12_readPipeline_4 0 rfl rfl)
theorem dX12_readPipeline_98 : decode cX12_readPipeline 98 = .ok (.iload_n 1, 1) := dk_27 (dk_at dksX12_readPipeline_4 3 rfl rfl)
theorem dX12_readPipeline_99 : decode cX12_readPipeline 99 = .ok (.iconst 1, 1) := dk_4 (dk_at dksX12_readPipeline_4 4 rfl rfl)
theorem dX12_readPipeline_100 : decode cX12_readPipeline 100 = .ok (.iadd, 1) := dk_96 (dk_at dksX12_readPipeline_4 5 rfl rfl)
theorem dX12_readPipeline_101 : decode cX12_readPipeline 101 = .ok (.bipush 6, 2) := dk_16 6 (dk_at dksX12_readPipeline_4 6 rfl rfl)
theorem dX12_readPipeline_103 : decode cX12_readPipeline 103 = .ok (.if_icmp .ge 9, 3) := dk_162 0 9 (dk_at dksX12_readPipeline_4 8 rfl rfl)
theorem dX12_readPipeline_106 : decode cX12_readPipeline 106 = .ok (.iload_n 1, 1) := dk_27 (dk_at dksX12_readPipeline_4 11 rfl rfl)
theorem dX12_readPipeline_107 : decode cX12_readPipeline 107 = .ok (.iconst 1, 1) := dk_4 (dk_at dksX12_readPipeline_4 12 rfl rfl)
theorem dX12_readPipeline_108 : decode cX12_readPipeline 108 = .ok (.iadd, 1) := dk_96 (dk_at dksX12_readPipeline_4 13 rfl rfl)
theorem dX12_readPipeline_109 : decode cX12_readPipeline 109 = .ok (.goto 4, 3) := dk_167 0 4 (dk_at dksX12_readPipeline_4 14 rfl rfl)
theorem dX12_readPipeline_112 : decode cX12_readPipeline 112 = .ok (.iconst 0, 1) := dk_3 (dk_at dksX12_readPipeline_4 17 rfl rfl)
theorem dX12_readPipeline_113 : decode cX12_readPipeline 113 = .ok (.iconst 1, 1) := dk_4 (dk_at dksX12_readPipeline_4 18 rfl rfl)
theorem dX12_readPipeline_114 : decode cX12_readPipeline 114 = .ok (.iastore, 1) := dk_79 (dk_at dksX12_readPipeline_4 19 rfl rfl)
theorem dX12_readPipeline_115 : decode cX12_readPipeline 115 = .ok (.aload_n 0, 1) := dk_42 (dk_at dksX12_readPipeline_4 20 rfl rfl)
theorem dX12_readPipeline_116 : decode cX12_readPipeline 116 = .ok (.getfield 215, 3) := dk_180 0 215 (dk_at dksX12_readPipeline_4 21 rfl rfl)
theorem dX12_readPipeline_119 : decode cX12_readPipeline 119 = .ok (.ifCond .ne 34, 3) := dk_154 0 34 (dk_at dksX12_readPipeline_5 0 rfl rfl)
theorem dX12_readPipeline_122 : decode cX12_readPipeline 122 = .ok (.aload_n 0, 1) := dk_42 (dk_at dksX12_readPipeline_5 3 rfl rfl)
theorem dX12_readPipeline_123 : decode cX12_readPipeline 123 = .ok (.invokevirtual 219, 3) := dk_182 0 219 (dk_at dksX12_readPipeline_5 4 rfl rfl)
theorem dX12_readPipeline_126 : decode cX12_readPipeline 126 = .ok (.bipush 36, 2) := dk_16 36 (dk_at dksX12_readPipeline_5 7 rfl rfl)
theorem dX12_readPipeline_128 : decode cX12_readPipeline 128 = .ok (.if_icmp .ne 25, 3) := dk_160 0 25 (dk_at dksX12_readPipeline_5 9 rfl rfl)
theorem dX12_readPipeline_131 : decode cX12_readPipeline 131 = .ok (.aload_n 0, 1) := dk_42 (dk_at dksX12_readPipeline_5 12 rfl rfl)
theorem dX12_readPipeline_132 : decode cX12_readPipeline 132 = .ok (.dup, 1) := dk_89 (dk_at dksX12_readPipeline_5 13 rfl rfl)
theorem dX12_readPipeline_133 : decode cX12_readPipeline 133 = .ok (.getfield 212, 3) := dk_180 0 212 (dk_at dksX12_readPipeline_5 14 rfl rfl)
theorem dX12_readPipeline_136 : decode cX12_readPipeline 136 = .ok (.iconst 1, 1) := dk_4 (dk_at dksX12_readPipeline_5 17 rfl rfl)
theorem dX12_readPipeline_137 : decode cX12_readPipeline 137 = .ok (.iadd, 1) := dk_96 (dk_at dksX12_readPipeline_5 18 rfl rfl)
theorem dX12_readPipeline_138 : decode cX12_readPipeline 138 = .ok (.putfield 212, 3) := dk_181 0 212 (dk_at dksX12_readPipeline_5 19 rfl rfl)
theorem dX12_readPipeline_141 : decode cX12_readPipeline 141 = .ok (.aload_n 0, 1) := dk_42 (dk_at dksX12_readPipeline_5 22 rfl rfl)
theorem dX12_readPipeline_142 : decode cX12_readPipeline 142 = .ok (.getfield 160, 3) := dk_180 0 160 (dk_at dksX12_readPipeline_6 0 rfl rfl)
theorem dX12_readPipeline_145 : decode cX12_readPipeline 145 = .ok (.iload_n 1, 1) := dk_27 (dk_at dksX12_readPipeline_6 3 rfl rfl)
theorem dX12_readPipeline_146 : decode cX12_readPipeline 146 = .ok (.iconst 1, 1) := dk_4 (dk_at dksX12_readPipeline_6 4 rfl rfl)
theorem dX12_readPipeline_147 : decode cX12_readPipeline 147 = .ok (.iadd, 1) := dk_96 (dk_at dksX12_readPipeline_6 5 rfl rfl)
theorem dX12_readPipeline_148 : decode cX12_readPipeline 148 = .ok (.aload_n 0, 1) := dk_42 (dk_at dksX12_readPipeline_6 6 rfl rfl)
theorem dX12_readPipeline_149 : decode cX12_readPipeline 149 = .ok (.invokevirtual 234, 3) := dk_182 0 234 (dk_at dksX12_readPipeline_6 7 rfl rfl)
theorem dX12_readPipeline_152 : decode cX12_readPipeline 152 = .ok (.iastore, 1) := dk_79 (dk_at dksX12_readPipeline_6 10 rfl rfl)
theorem dX12_readPipeline_153 : decode cX12_readPipeline 153 = .ok (.aload_n 0, 1) := dk_42 (dk_at dksX12_readPipeline_6 11 rfl rfl)
theorem dX12_readPipeline_154 : decode cX12_readPipeline 154 = .ok (.dup, 1) := dk_89 (dk_at dksX12_readPipeline_6 12 rfl rfl)
theorem dX12_readPipeline_155 : decode cX12_readPipeline 155 = .ok (.getfield 215, 3) := dk_180 0 215 (dk_at dksX12_readPipeline_6 13 rfl rfl)
theorem dX12_readPipeline_158 : decode cX12_readPipeline 158 = .ok (.aload_n 0, 1) := dk_42 (dk_at dksX12_readPipeline_6 16 rfl rfl)
theorem dX12_readPipeline_159 : decode cX12_readPipeline 159 = .ok (.getfield 212, 3) := dk_180 0 212 (dk_at dksX12_readPipeline_6 17 rfl rfl)
theorem dX12_readPipeline_162 : decode cX12_readPipeline 162 = .ok (.aload_n 0, 1) := dk_42 (dk_at dksX12_readPipeline_6 20 rfl rfl)
theorem dX12_readPipeline_163 : decode cX12_readPipeline 163 = .ok (.getfield 208, 3) := dk_180 0 208 (dk_at dksX12_readPipeline_6 21 rfl rfl)
theorem dX12_readPipeline_166 : decode cX12_readPipeline 166 = .ok (.if_icmp .ge 7, 3) := dk_162 0 7 (dk_at dksX12_readPipeline_7 0 rfl rfl)
theorem dX12_readPipeline_169 : decode cX12_readPipeline 169 = .ok (.iconst 1, 1) := dk_4 (dk_at dksX12_readPipeline_7 3 rfl rfl)
theorem dX12_readPipeline_170 : decode cX12_readPipeline 170 = .ok (.goto 4, 3) := dk_167 0 4 (dk_at dksX12_readPipeline_7 4 rfl rfl)
theorem dX12_readPipeline_173 : decode cX12_readPipeline 173 = .ok (.iconst 0, 1) := dk_3 (dk_at dksX12_readPipeline_7 7 rfl rfl)
theorem dX12_readPipeline_174 : decode cX12_readPipeline 174 = .ok (.ior, 1) := dk_128 (dk_at dksX12_readPipeline_7 8 rfl rfl)
theorem dX12_readPipeline_175 : decode cX12_readPipeline 175 = .ok (.putfield 215, 3) := dk_181 0 215 (dk_at dksX12_readPipeline_7 9 rfl rfl)
theorem dX12_readPipeline_178 : decode cX12_readPipeline 178 = .ok (.aload_n 0, 1) := dk_42 (dk_at dksX12_readPipeline_7 12 rfl rfl)
theorem dX12_readPipeline_179 : decode cX12_readPipeline 179 = .ok (.iconst 0, 1) := dk_3 (dk_at dksX12_readPipeline_7 13 rfl rfl)
theorem dX12_readPipeline_180 : decode cX12_readPipeline 180 = .ok (.putfield 208, 3) := dk_181 0 208 (dk_at dksX12_readPipeline_7 14 rfl rfl)
theorem dX12_readPipeline_183 : decode cX12_readPipeline 183 = .ok (.aload_n 0, 1) := dk_42 (dk_at dksX12_readPipeline_7 17 rfl rfl)
theorem dX12_readPipeline_184 : decode cX12_readPipeline 184 = .ok (.getfield 215, 3) := dk_180 0 215 (dk_at dksX12_readPipeline_7 18 rfl rfl)
theorem dX12_readPipeline_187 : decode cX12_readPipeline 187 = .ok (.ifCond .eq 12, 3) := dk_153 0 12 (dk_at dksX12_readPipeline_7 21 rfl rfl)
theorem dX12_readPipeline_190 : decode cX12_readPipeline 190 = .ok (.sipush (-2000), 3) := dk_17 248 48 (dk_at dksX12_readPipeline_8 0 rfl rfl)
theorem dX12_readPipeline_193 : decode cX12_readPipeline 193 = .ok (.aload_n 0, 1) := dk_42 (dk_at dksX12_readPipeline_8 3 rfl rfl)
theorem dX12_readPipeline_194 : decode cX12_readPipeline 194 = .ok (.getfield 212, 3) := dk_180 0 212 (dk_at dksX12_readPipeline_8 4 rfl rfl)
theorem dX12_readPipeline_197 : decode cX12_readPipeline 197 = .ok (.isub, 1) := dk_100 (dk_at dksX12_readPipeline_8 7 rfl rfl)
theorem dX12_readPipeline_198 : decode cX12_readPipeline 198 = .ok (.ireturn, 1) := dk_172 (dk_at dksX12_readPipeline_8 8 rfl rfl)
theorem dX12_readPipeline_199 : decode cX12_readPipeline 199 = .ok (.aload_n 0, 1) := dk_42 (dk_at dksX12_readPipeline_8 9 rfl rfl)
theorem dX12_readPipeline_200 : decode cX12_readPipeline 200 = .ok (.iload_n 1, 1) := dk_27 (dk_at dksX12_readPipeline_8 10 rfl rfl)
theorem dX12_readPipeline_201 : decode cX12_readPipeline 201 = .ok (.putfield 196, 3) := dk_181 0 196 (dk_at dksX12_readPipeline_8 11 rfl rfl)
theorem dX12_readPipeline_204 : decode cX12_readPipeline 204 = .ok (.iconst 1, 1) := dk_4 (dk_at dksX12_readPipeline_8 14 rfl rfl)
theorem dX12_readPipeline_205 : decode cX12_readPipeline 205 = .ok (.istore_n 3, 1) := dk_62 (dk_at dksX12_readPipeline_8 15 rfl rfl)
theorem dX12_readPipeline_206 : decode cX12_readPipeline 206 = .ok (.iload_n 3, 1) := dk_29 (dk_at dksX12_readPipeline_8 16 rfl rfl)
theorem dX12_readPipeline_207 : decode cX12_readPipeline 207 = .ok (.iload_n 1, 1) := dk_27 (dk_at dksX12_readPipeline_8 17 rfl rfl)
theorem dX12_readPipeline_208 : decode cX12_readPipeline 208 = .ok (.if_icmp .gt 57, 3) := dk_163 0 57 (dk_at dksX12_readPipeline_8 18 rfl rfl)
theorem dX12_readPipeline_211 : decode cX12_readPipeline 211 = .ok (.aload_n 0, 1) := dk_42 (dk_at dksX12_readPipeline_8 21 rfl rfl)
theorem dX12_readPipeline_212 : decode cX12_readPipeline 212 = .ok (.getfield 13, 3) := dk_180 0 13 (dk_at dksX12_readPipeline_9 0 rfl rfl)
theorem dX12_readPipeline_215 : decode cX12_readPipeline 215 = .ok (.iload_n 3, 1) := dk_29 (dk_at dksX12_readPipeline_9 3 rfl rfl)
theorem dX12_readPipeline_216 : decode cX12_readPipeline 216 = .ok (.aload_n 0, 1) := dk_42 (dk_at dksX12_readPipeline_9 4 rfl rfl)
theorem dX12_readPipeline_217 : decode cX12_readPipeline 217 = .ok (.getfield 151, 3) := dk_180 0 151 (dk_at dksX12_readPipeline_9 5 rfl rfl)
theorem dX12_readPipeline_220 : decode cX12_readPipeline 220 = .ok (.iload_n 3, 1) := dk_29 (dk_at dksX12_readPipeline_9 8 rfl rfl)
theorem dX12_readPipeline_221 : decode cX12_readPipeline 221 = .ok (.iaload, 1) := dk_46 (dk_at dksX12_readPipeline_9 9 rfl rfl)
theorem dX12_readPipeline_222 : decode cX12_readPipeline 222 = .ok (.iastore, 1) := dk_79 (dk_at dksX12_readPipeline_9 10 rfl rfl)
theorem dX12_readPipeline_223 : decode cX12_readPipeline 223 = .ok (.aload_n 0, 1) := dk_42 (dk_at dksX12_readPipeline_9 11 rfl rfl)
theorem dX12_readPipeline_224 : decode cX12_readPipeline 224 = .ok (.getfield 16, 3) := dk_180 0 16 (dk_at dksX12_readPipeline_9 12 rfl rfl)
theorem dX12_readPipeline_227 : decode cX12_readPipeline 227 = .ok (.iload_n 3, 1) := dk_29 (dk_at dksX12_readPipeline_9 15 rfl rfl)
theorem dX12_readPipeline_228 : decode cX12_readPipeline 228 = .ok (.aload_n 0, 1) := dk_42 (dk_at dksX12_readPipeline_9 16 rfl rfl)
theorem dX12_readPipeline_229 : decode cX12_readPipeline 229 = .ok (.getfield 154, 3) := dk_180 0 154 (dk_at dksX12_readPipeline_9 17 rfl rfl)
theorem dX12_readPipeline_232 : decode cX12_readPipeline 232 = .ok (.iload_n 3, 1) := dk_29 (dk_at dksX12_readPipeline_9 20 rfl rfl)
theorem dX12_readPipeline_233 : decode cX12_readPipeline 233 = .ok (.iaload, 1) := dk_46 (dk_at dksX12_readPipeline_9 21 rfl rfl)
theorem dX12_readPipeline_234 : decode cX12_readPipeline 234 = .ok (.iastore, 1) := dk_79 (dk_at dksX12_readPipeline_9 22 rfl rfl)
theorem dX12_readPipeline_235 : decode cX12_readPipeline 235 = .ok (.aload_n 0, 1) := dk_42 (dk_at dksX12_readPipeline_9 23 rfl rfl)
theorem dX12_readPipeline_236 : decode cX12_readPipeline 236 = .ok (.getfield 19, 3) := dk_180 0 19 (dk_at dksX12_readPipeline_10 0 rfl rfl)
theorem dX12_readPipeline_239 : decode cX12_readPipeline 239 = .ok (.iload_n 3, 1) := dk_29 (dk_at dksX12_readPipeline_10 3 rfl rfl)
theorem dX12_readPipeline_240 : decode cX12_readPipeline 240 = .ok (.aload_n 0, 1) := dk_42 (dk_at dksX12_readPipeline_10 4 rfl rfl)
theorem dX12_readPipeline_241 : decode cX12_readPipeline 241 = .ok (.getfield 157, 3) := dk_180 0 157 (dk_at dksX12_readPipeline_10 5 rfl rfl)
theorem dX12_readPipeline_244 : decode cX12_readPipeline 244 = .ok (.iload_n 3, 1) := dk_29 (dk_at dksX12_readPipeline_10 8 rfl rfl)
theorem dX12_readPipeline_245 : decode cX12_readPipeline 245 = .ok (.iaload, 1) := dk_46 (dk_at dksX12_readPipeline_10 9 rfl rfl)
theorem dX12_readPipeline_246 : decode cX12_readPipeline 246 = .ok (.iastore, 1) := dk_79 (dk_at dksX12_readPipeline_10 10 rfl rfl)
theorem dX12_readPipeline_247 : decode cX12_readPipeline 247 = .ok (.aload_n 0, 1) := dk_42 (dk_at dksX12_readPipeline_10 11 rfl rfl)
theorem dX12_readPipeline_248 : decode cX12_readPipeline 248 = .ok (.getfield 22, 3) := dk_180 0 22 (dk_at dksX12_readPipeline_10 12 rfl rfl)
theorem dX12_readPipeline_251 : decode cX12_readPipeline 251 = .ok (.iload_n 3, 1) := dk_29 (dk_at dksX12_readPipeline_10 15 rfl rfl)
theorem dX12_readPipeline_252 : decode cX12_readPipeline 252 = .ok (.aload_n 0, 1) := dk_42 (dk_at dksX12_readPipeline_10 16 rfl rfl)
theorem dX12_readPipeline_253 : decode cX12_readPipeline 253 = .ok (.getfield 160, 3) := dk_180 0 160 (dk_at dksX12_readPipeline_10 17 rfl rfl)
theorem dX12_readPipeline_256 : decode cX12_readPipeline 256 = .ok (.iload_n 3, 1) := dk_29 (dk_at dksX12_readPipeline_10 20 rfl rfl)
theorem dX12_readPipeline_257 : decode cX12_readPipeline 257 = .ok (.iaload, 1) := dk_46 (dk_at dksX12_readPipeline_10 21 rfl rfl)
theorem dX12_readPipeline_258 : decode cX12_readPipeline 258 = .ok (.iastore, 1) := dk_79 (dk_at dksX12_readPipeline_10 22 rfl rfl)
theorem dX12_readPipeline_259 : decode cX12_readPipeline 259 = .ok (.iinc 3 1, 3) := dk_132 3 1 (dk_at dksX12_readPipeline_11 0 rfl rfl)
theorem dX12_readPipeline_262 : decode cX12_readPipeline 262 = .ok (.goto (-56), 3) := dk_167 255 200 (dk_at dksX12_readPipeline_11 3 rfl rfl)
theorem dX12_readPipeline_265 : decode cX12_readPipeline 265 = .ok (.aload_n 0, 1) := dk_42 (dk_at dksX12_readPipeline_11 6 rfl rfl)
theorem dX12_readPipeline_266 : decode cX12_readPipeline 266 = .ok (.getfield 13, 3) := dk_180 0 13 (dk_at dksX12_readPipeline_11 7 rfl rfl)
theorem dX12_readPipeline_269 : decode cX12_readPipeline 269 = .ok (.iload_n 1, 1) := dk_27 (dk_at dksX12_readPipeline_11 10 rfl rfl)
theorem dX12_readPipeline_270 : decode cX12_readPipeline 270 = .ok (.iconst 1, 1) := dk_4 (dk_at dksX12_readPipeline_11 11 rfl rfl)
theorem dX12_readPipeline_271 : decode cX12_readPipeline 271 = .ok (.iadd, 1) := dk_96 (dk_at dksX12_readPipeline_11 12 rfl rfl)
theorem dX12_readPipeline_272 : decode cX12_readPipeline 272 = .ok (.bipush 8, 2) := dk_16 8 (dk_at dksX12_readPipeline_11 13 rfl rfl)
theorem dX12_readPipeline_274 : decode cX12_readPipeline 274 = .ok (.iastore, 1) := dk_79 (dk_at dksX12_readPipeline_11 15 rfl rfl)
theorem dX12_readPipeline_275 : decode cX12_readPipeline 275 = .ok (.aload_n 0, 1) := dk_42 (dk_at dksX12_readPipeline_11 16 rfl rfl)
theorem dX12_readPipeline_276 : decode cX12_readPipeline 276 = .ok (.getfield 16, 3) := dk_180 0 16 (dk_at dksX12_readPipeline_11 17 rfl rfl)
theorem dX12_readPipeline_279 : decode cX12_readPipeline 279 = .ok (.iload_n 1, 1) := dk_27 (dk_at dksX12_readPipeline_11 20 rfl rfl)
theorem dX12_readPipeline_280 : decode cX12_readPipeline 280 = .ok (.iconst 1, 1) := dk_4 (dk_at dksX12_readPipeline_11 21 rfl rfl)
theorem dX12_readPipeline_281 : decode cX12_readPipeline 281 = .ok (.iadd, 1) := dk_96 (dk_at dksX12_readPipeline_11 22 rfl rfl)
theorem dX12_readPipeline_282 : decode cX12_readPipeline 282 = .ok (.iconst 0, 1) := dk_3 (dk_at dksX12_readPipeline_11 23 rfl rfl)
theorem dX12_readPipeline_283 : decode cX12_readPipeline 283 = .ok (.iastore, 1) := dk_79 (dk_at dksX12_readPipeline_12 0 rfl rfl)
theorem dX12_readPipeline_284 : decode cX12_readPipeline 284 = .ok (.aload_n 0, 1) := dk_42 (dk_at dksX12_readPipeline_12 1 rfl rfl)
theorem dX12_readPipeline_285 : decode cX12_readPipeline 285 = .ok (.getfield 19, 3) := dk_180 0 19 (dk_at dksX12_readPipeline_12 2 rfl rfl)
theorem dX12_readPipeline_288 : decode cX12_readPipeline 288 = .ok (.iload_n 1, 1) := dk_27 (dk_at dksX12_readPipeline_12 5 rfl rfl)
theorem dX12_readPipeline_289 : decode cX12_readPipeline 289 = .ok (.iconst 1, 1) := dk_4 (dk_at dksX12_readPipeline_12 6 rfl rfl)
theorem dX12_readPipeline_290 : decode cX12_readPipeline 290 = .ok (.iadd, 1) := dk_96 (dk_at dksX12_readPipeline_12 7 rfl rfl)
theorem dX12_readPipeline_291 : decode cX12_readPipeline 291 = .ok (.iconst 0, 1) := dk_3 (dk_at dksX12_readPipeline_12 8 rfl rfl)
theorem dX12_readPipeline_292 : decode cX12_readPipeline 292 = .ok (.iastore, 1) := dk_79 (dk_at dksX12_readPipeline_12 9 rfl rfl)
theorem dX12_readPipeline_293 : decode cX12_readPipeline 293 = .ok (.aload_n 0, 1) := dk_42 (dk_at dksX12_readPipeline_12 10 rfl rfl)
theorem dX12_readPipeline_294 : decode cX12_readPipeline 294 = .ok (.getfield 22, 3) := dk_180 0 22 (dk_at dksX12_readPipeline_12 11 rfl rfl)
theorem dX12_readPipeline_297 : decode cX12_readPipeline 297 = .ok (.iload_n 1, 1) := dk_27 (dk_at dksX12_readPipeline_12 14 rfl rfl)
theorem dX12_readPipeline_298 : decode cX12_readPipeline 298 = .ok (.iconst 1, 1) := dk_4 (dk_at dksX12_readPipeline_12 15 rfl rfl)
theorem dX12_readPipeline_299 : decode cX12_readPipeline 299 = .ok (.iadd, 1) := dk_96 (dk_at dksX12_readPipeline_12 16 rfl rfl)
theorem dX12_readPipeline_300 : decode cX12_readPipeline 300 = .ok (.aload_n 0, 1) := dk_42 (dk_at dksX12_readPipeline_12 17 rfl rfl)
theorem dX12_readPipeline_301 : decode cX12_readPipeline 301 = .ok (.getfield 160, 3) := dk_180 0 160 (dk_at dksX12_readPipeline_12 18 rfl rfl)
theorem dX12_readPipeline_304 : decode cX12_readPipeline 304 = .ok (.iload_n 1, 1) := dk_27 (dk_at dksX12_readPipeline_12 21 rfl rfl)
theorem dX12_readPipeline_305 : decode cX12_readPipeline 305 = .ok (.iconst 1, 1) := dk_4 (dk_at dksX12_readPipeline_12 22 rfl rfl)
theorem dX12_readPipeline_306 : decode cX12_readPipeline 306 = .ok (.iadd, 1) := dk_96 (dk_at dksX12_readPipeline_12 23 rfl rfl)
theorem dX12_readPipeline_307 : decode cX12_readPipeline 307 = .ok (.iaload, 1) := dk_46 (dk_at dksX12_readPipeline_13 0 rfl rfl)
theorem dX12_readPipeline_308 : decode cX12_readPipeline 308 = .ok (.iastore, 1) := dk_79 (dk_at dksX12_readPipeline_13 1 rfl rfl)
theorem dX12_readPipeline_309 : decode cX12_readPipeline 309 = .ok (.aload_n 0, 1) := dk_42 (dk_at dksX12_readPipeline_13 2 rfl rfl)
theorem dX12_readPipeline_310 : decode cX12_readPipeline 310 = .ok (.invokevirtual 240, 3) := dk_182 0 240 (dk_at dksX12_readPipeline_13 3 rfl rfl)
theorem dX12_readPipeline_313 : decode cX12_readPipeline 313 = .ok (.iload_n 1, 1) := dk_27 (dk_at dksX12_readPipeline_13 6 rfl rfl)
theorem dX12_readPipeline_314 : decode cX12_readPipeline 314 = .ok (.ireturn, 1) := dk_172 (dk_at dksX12_readPipeline_13 7 rfl rfl)
abbrev cX12_here : ByteArray := prog_27_method_8_code
def yX12_here : MethodName := ⟨RX12, "here", "()I"⟩
def dkwX12_here_1 : List UInt8 := [172]
abbrev dktX12_here_1 : List UInt8 := dkwX12_here_1 ++ []
def dkwX12_here_0 : List UInt8 := [42, 180, 0, 212, 42, 180, 0, 208, 162, 0, 15, 42, 180, 0, 9, 42, 180, 0, 212, 46, 167, 0, 4, 2]
abbrev dktX12_here_0 : List UInt8 := dkwX12_here_0 ++ dktX12_here_1
theorem dksX12_here_0 : cX12_here.data.toList.drop 0 = dktX12_here_0 := by decide +kernel
theorem dksX12_here_1 : cX12_here.data.toList.drop 24 = dktX12_here_1 := dk_seg dksX12_here_0 24 rfl rfl
theorem dX12_here_0 : decode cX12_here 0 = .ok (.aload_n 0, 1) := dk_42 (dk_at dksX12_here_0 0 rfl rfl)
theorem dX12_here_1 : decode cX12_here 1 = .ok (.getfield 212, 3) := dk_180 0 212 (dk_at dksX12_here_0 1 rfl rfl)
theorem dX12_here_4 : decode cX12_here 4 = .ok (.aload_n 0, 1) := dk_42 (dk_at dksX12_here_0 4 rfl rfl)
theorem dX12_here_5 : decode cX12_here 5 = .ok (.getfield 208, 3) := dk_180 0 208 (dk_at dksX12_here_0 5 rfl rfl)
theorem dX12_here_8 : decode cX12_here 8 = .ok (.if_icmp .ge 15, 3) := dk_162 0 15 (dk_at dksX12_here_0 8 rfl rfl)
theorem dX12_here_11 : decode cX12_here 11 = .ok (.aload_n 0, 1) := dk_42 (dk_at dksX12_here_0 11 rfl rfl)
theorem dX12_here_12 : decode cX12_here 12 = .ok (.getfield 9, 3) := dk_180 0 9 (dk_at dksX12_here_0 12 rfl rfl)
theorem dX12_here_15 : decode cX12_here 15 = .ok (.aload_n 0, 1) := dk_42 (dk_at dksX12_here_0 15 rfl rfl)
theorem dX12_here_16 : decode cX12_here 16 = .ok (.getfield 212, 3) := dk_180 0 212 (dk_at dksX12_here_0 16 rfl rfl)
theorem dX12_here_19 : decode cX12_here 19 = .ok (.iaload, 1) := dk_46 (dk_at dksX12_here_0 19 rfl rfl)
theorem dX12_here_20 : decode cX12_here 20 = .ok (.goto 4, 3) := dk_167 0 4 (dk_at dksX12_here_0 20 rfl rfl)
theorem dX12_here_23 : decode cX12_here 23 = .ok (.iconst (-1), 1) := dk_2 (dk_at dksX12_here_0 23 rfl rfl)
theorem dX12_here_24 : decode cX12_here 24 = .ok (.ireturn, 1) := dk_172 (dk_at dksX12_here_1 0 rfl rfl)
abbrev cX12_stage : ByteArray := prog_27_method_12_code
def yX12_stage : MethodName := ⟨RX12, "stage", "(I)V"⟩
def dkwX12_stage_10 : List UInt8 := [42, 180, 0, 160, 27, 42, 182, 0, 234, 79, 177]
abbrev dktX12_stage_10 : List UInt8 := dkwX12_stage_10 ++ []
def dkwX12_stage_9 : List UInt8 := [182, 0, 226, 42, 180, 0, 215, 154, 0, 27, 42, 182, 0, 219, 16, 48, 16, 57, 184, 0, 203, 153, 0, 13]
abbrev dktX12_stage_9 : List UInt8 := dkwX12_stage_9 ++ dktX12_stage_10
def dkwX12_stage_8 : List UInt8 := [180, 0, 157, 27, 42, 16, 157, 16, 99, 182, 0, 230, 79, 42, 180, 0, 215, 154, 0, 9, 42, 16, 41]
abbrev dktX12_stage_8 : List UInt8 := dkwX12_stage_8 ++ dktX12_stage_9
def dkwX12_stage_7 : List UInt8 := [162, 0, 9, 42, 16, 44, 182, 0, 226, 42, 180, 0, 215, 154, 0, 22, 28, 6, 162, 0, 17, 42]
abbrev dktX12_stage_7 : List UInt8 := dkwX12_stage_7 ++ dktX12_stage_8
def dkwX12_stage_6 : List UInt8 := [28, 7, 160, 0, 7, 8, 167, 0, 5, 16, 99, 182, 0, 230, 79, 42, 180, 0, 215, 154, 0, 14, 28, 6]
abbrev dktX12_stage_6 : List UInt8 := dkwX12_stage_6 ++ dktX12_stage_7
def dkwX12_stage_5 : List UInt8 := [4, 167, 0, 5, 16, 157, 28, 4, 160, 0, 7, 5, 167, 0, 23, 28, 6, 160, 0, 7, 6, 167, 0, 14]
abbrev dktX12_stage_5 : List UInt8 := dkwX12_stage_5 ++ dktX12_stage_6
def dkwX12_stage_4 : List UInt8 := [180, 0, 154, 27, 42, 28, 4, 159, 0, 8, 28, 6, 160, 0, 7, 3, 167, 0, 14, 28, 7, 160, 0, 7]
abbrev dktX12_stage_4 : List UInt8 := dkwX12_stage_4 ++ dktX12_stage_5
def dkwX12_stage_3 : List UInt8 := [27, 4, 79, 28, 8, 162, 0, 137, 42, 16, 40, 182, 0, 226, 42, 180, 0, 215, 154, 0, 67, 42]
abbrev dktX12_stage_3 : List UInt8 := dkwX12_stage_3 ++ dktX12_stage_4
def dkwX12_stage_2 : List UInt8 := [180, 0, 151, 27, 28, 79, 42, 180, 0, 154, 27, 3, 79, 42, 180, 0, 157, 27, 3, 79, 42, 180, 0, 160]
abbrev dktX12_stage_2 : List UInt8 := dkwX12_stage_2 ++ dktX12_stage_3
def dkwX12_stage_1 : List UInt8 := [181, 0, 215, 42, 180, 0, 215, 153, 0, 4, 177, 42, 89, 180, 0, 212, 4, 96, 181, 0, 212, 42]
abbrev dktX12_stage_1 : List UInt8 := dkwX12_stage_1 ++ dktX12_stage_2
def dkwX12_stage_0 : List UInt8 := [42, 182, 0, 219, 184, 0, 222, 61, 42, 89, 180, 0, 215, 28, 156, 0, 7, 4, 167, 0, 4, 3, 128]
abbrev dktX12_stage_0 : List UInt8 := dkwX12_stage_0 ++ dktX12_stage_1
theorem dksX12_stage_0 : cX12_stage.data.toList.drop 0 = dktX12_stage_0 := by decide +kernel
theorem dksX12_stage_1 : cX12_stage.data.toList.drop 23 = dktX12_stage_1 := dk_seg dksX12_stage_0 23 rfl rfl
theorem dksX12_stage_2 : cX12_stage.data.toList.drop 45 = dktX12_stage_2 := dk_seg dksX12_stage_1 22 rfl rfl
theorem dksX12_stage_3 : cX12_stage.data.toList.drop 69 = dktX12_stage_3 := dk_seg dksX12_stage_2 24 rfl rfl
theorem dksX12_stage_4 : cX12_stage.data.toList.drop 91 = dktX12_stage_4 := dk_seg dksX12_stage_3 22 rfl rfl
theorem dksX12_stage_5 : cX12_stage.data.toList.drop 115 = dktX12_stage_5 := dk_seg dksX12_stage_4 24 rfl rfl
theorem dksX12_stage_6 : cX12_stage.data.toList.drop 139 = dktX12_stage_6 := dk_seg dksX12_stage_5 24 rfl rfl
theorem dksX12_stage_7 : cX12_stage.data.toList.drop 163 = dktX12_stage_7 := dk_seg dksX12_stage_6 24 rfl rfl
theorem dksX12_stage_8 : cX12_stage.data.toList.drop 185 = dktX12_stage_8 := dk_seg dksX12_stage_7 22 rfl rfl
theorem dksX12_stage_9 : cX12_stage.data.toList.drop 208 = dktX12_stage_9 := dk_seg dksX12_stage_8 23 rfl rfl
theorem dksX12_stage_10 : cX12_stage.data.toList.drop 232 = dktX12_stage_10 := dk_seg dksX12_stage_9 24 rfl rfl
theorem dX12_stage_0 : decode cX12_stage 0 = .ok (.aload_n 0, 1) := dk_42 (dk_at dksX12_stage_0 0 rfl rfl)
theorem dX12_stage_1 : decode cX12_stage 1 = .ok (.invokevirtual 219, 3) := dk_182 0 219 (dk_at dksX12_stage_0 1 rfl rfl)
theorem dX12_stage_4 : decode cX12_stage 4 = .ok (.invokestatic 222, 3) := dk_184 0 222 (dk_at dksX12_stage_0 4 rfl rfl)
theorem dX12_stage_7 : decode cX12_stage 7 = .ok (.istore_n 2, 1) := dk_61 (dk_at dksX12_stage_0 7 rfl rfl)
theorem dX12_stage_8 : decode cX12_stage 8 = .ok (.aload_n 0, 1) := dk_42 (dk_at dksX12_stage_0 8 rfl rfl)
theorem dX12_stage_9 : decode cX12_stage 9 = .ok (.dup, 1) := dk_89 (dk_at dksX12_stage_0 9 rfl rfl)
theorem dX12_stage_10 : decode cX12_stage 10 = .ok (.getfield 215, 3) := dk_180 0 215 (dk_at dksX12_stage_0 10 rfl rfl)
theorem dX12_stage_13 : decode cX12_stage 13 = .ok (.iload_n 2, 1) := dk_28 (dk_at dksX12_stage_0 13 rfl rfl)
theorem dX12_stage_14 : decode cX12_stage 14 = .ok (.ifCond .ge 7, 3) := dk_156 0 7 (dk_at dksX12_stage_0 14 rfl rfl)
theorem dX12_stage_17 : decode cX12_stage 17 = .ok (.iconst 1, 1) := dk_4 (dk_at dksX12_stage_0 17 rfl rfl)
theorem dX12_stage_18 : decode cX12_stage 18 = .ok (.goto 4, 3) := dk_167 0 4 (dk_at dksX12_stage_0 18 rfl rfl)
theorem dX12_stage_21 : decode cX12_stage 21 = .ok (.iconst 0, 1) := dk_3 (dk_at dksX12_stage_0 21 rfl rfl)
theorem dX12_stage_22 : decode cX12_stage 22 = .ok (.ior, 1) := dk_128 (dk_at dksX12_stage_0 22 rfl rfl)
theorem dX12_stage_23 : decode cX12_stage 23 = .ok (.putfield 215, 3) := dk_181 0 215 (dk_at dksX12_stage_1 0 rfl rfl)
theorem dX12_stage_26 : decode cX12_stage 26 = .ok (.aload_n 0, 1) := dk_42 (dk_at dksX12_stage_1 3 rfl rfl)
theorem dX12_stage_27 : decode cX12_stage 27 = .ok (.getfield 215, 3) := dk_180 0 215 (dk_at dksX12_stage_1 4 rfl rfl)
theorem dX12_stage_30 : decode cX12_stage 30 = .ok (.ifCond .eq 4, 3) := dk_153 0 4 (dk_at dksX12_stage_1 7 rfl rfl)
theorem dX12_stage_33 : decode cX12_stage 33 = .ok (.return_, 1) := dk_177 (dk_at dksX12_stage_1 10 rfl rfl)
theorem dX12_stage_34 : decode cX12_stage 34 = .ok (.aload_n 0, 1) := dk_42 (dk_at dksX12_stage_1 11 rfl rfl)
theorem dX12_stage_35 : decode cX12_stage 35 = .ok (.dup, 1) := dk_89 (dk_at dksX12_stage_1 12 rfl rfl)
theorem dX12_stage_36 : decode cX12_stage 36 = .ok (.getfield 212, 3) := dk_180 0 212 (dk_at dksX12_stage_1 13 rfl rfl)
theorem dX12_stage_39 : decode cX12_stage 39 = .ok (.iconst 1, 1) := dk_4 (dk_at dksX12_stage_1 16 rfl rfl)
theorem dX12_stage_40 : decode cX12_stage 40 = .ok (.iadd, 1) := dk_96 (dk_at dksX12_stage_1 17 rfl rfl)
theorem dX12_stage_41 : decode cX12_stage 41 = .ok (.putfield 212, 3) := dk_181 0 212 (dk_at dksX12_stage_1 18 rfl rfl)
theorem dX12_stage_44 : decode cX12_stage 44 = .ok (.aload_n 0, 1) := dk_42 (dk_at dksX12_stage_1 21 rfl rfl)
theorem dX12_stage_45 : decode cX12_stage 45 = .ok (.getfield 151, 3) := dk_180 0 151 (dk_at dksX12_stage_2 0 rfl rfl)
theorem dX12_stage_48 : decode cX12_stage 48 = .ok (.iload_n 1, 1) := dk_27 (dk_at dksX12_stage_2 3 rfl rfl)
theorem dX12_stage_49 : decode cX12_stage 49 = .ok (.iload_n 2, 1) := dk_28 (dk_at dksX12_stage_2 4 rfl rfl)
theorem dX12_stage_50 : decode cX12_stage 50 = .ok (.iastore, 1) := dk_79 (dk_at dksX12_stage_2 5 rfl rfl)
theorem dX12_stage_51 : decode cX12_stage 51 = .ok (.aload_n 0, 1) := dk_42 (dk_at dksX12_stage_2 6 rfl rfl)
theorem dX12_stage_52 : decode cX12_stage 52 = .ok (.getfield 154, 3) := dk_180 0 154 (dk_at dksX12_stage_2 7 rfl rfl)
theorem dX12_stage_55 : decode cX12_stage 55 = .ok (.iload_n 1, 1) := dk_27 (dk_at dksX12_stage_2 10 rfl rfl)
theorem dX12_stage_56 : decode cX12_stage 56 = .ok (.iconst 0, 1) := dk_3 (dk_at dksX12_stage_2 11 rfl rfl)
theorem dX12_stage_57 : decode cX12_stage 57 = .ok (.iastore, 1) := dk_79 (dk_at dksX12_stage_2 12 rfl rfl)
theorem dX12_stage_58 : decode cX12_stage 58 = .ok (.aload_n 0, 1) := dk_42 (dk_at dksX12_stage_2 13 rfl rfl)
theorem dX12_stage_59 : decode cX12_stage 59 = .ok (.getfield 157, 3) := dk_180 0 157 (dk_at dksX12_stage_2 14 rfl rfl)
theorem dX12_stage_62 : decode cX12_stage 62 = .ok (.iload_n 1, 1) := dk_27 (dk_at dksX12_stage_2 17 rfl rfl)
theorem dX12_stage_63 : decode cX12_stage 63 = .ok (.iconst 0, 1) := dk_3 (dk_at dksX12_stage_2 18 rfl rfl)
theorem dX12_stage_64 : decode cX12_stage 64 = .ok (.iastore, 1) := dk_79 (dk_at dksX12_stage_2 19 rfl rfl)
theorem dX12_stage_65 : decode cX12_stage 65 = .ok (.aload_n 0, 1) := dk_42 (dk_at dksX12_stage_2 20 rfl rfl)
theorem dX12_stage_66 : decode cX12_stage 66 = .ok (.getfield 160, 3) := dk_180 0 160 (dk_at dksX12_stage_2 21 rfl rfl)
theorem dX12_stage_69 : decode cX12_stage 69 = .ok (.iload_n 1, 1) := dk_27 (dk_at dksX12_stage_3 0 rfl rfl)
theorem dX12_stage_70 : decode cX12_stage 70 = .ok (.iconst 1, 1) := dk_4 (dk_at dksX12_stage_3 1 rfl rfl)
theorem dX12_stage_71 : decode cX12_stage 71 = .ok (.iastore, 1) := dk_79 (dk_at dksX12_stage_3 2 rfl rfl)
theorem dX12_stage_72 : decode cX12_stage 72 = .ok (.iload_n 2, 1) := dk_28 (dk_at dksX12_stage_3 3 rfl rfl)
theorem dX12_stage_73 : decode cX12_stage 73 = .ok (.iconst 5, 1) := dk_8 (dk_at dksX12_stage_3 4 rfl rfl)
theorem dX12_stage_74 : decode cX12_stage 74 = .ok (.if_icmp .ge 137, 3) := dk_162 0 137 (dk_at dksX12_stage_3 5 rfl rfl)
theorem dX12_stage_77 : decode cX12_stage 77 = .ok (.aload_n 0, 1) := dk_42 (dk_at dksX12_stage_3 8 rfl rfl)
theorem dX12_stage_78 : decode cX12_stage 78 = .ok (.bipush 40, 2) := dk_16 40 (dk_at dksX12_stage_3 9 rfl rfl)
theorem dX12_stage_80 : decode cX12_stage 80 = .ok (.invokevirtual 226, 3) := dk_182 0 226 (dk_at dksX12_stage_3 11 rfl rfl)
theorem dX12_stage_83 : decode cX12_stage 83 = .ok (.aload_n 0, 1) := dk_42 (dk_at dksX12_stage_3 14 rfl rfl)
theorem dX12_stage_84 : decode cX12_stage 84 = .ok (.getfield 215, 3) := dk_180 0 215 (dk_at dksX12_stage_3 15 rfl rfl)
theorem dX12_stage_87 : decode cX12_stage 87 = .ok (.ifCond .ne 67, 3) := dk_154 0 67 (dk_at dksX12_stage_3 18 rfl rfl)
theorem dX12_stage_90 : decode cX12_stage 90 = .ok (.aload_n 0, 1) := dk_42 (dk_at dksX12_stage_3 21 rfl rfl)
theorem dX12_stage_91 : decode cX12_stage 91 = .ok (.getfield 154, 3) := dk_180 0 154 (dk_at dksX12_stage_4 0 rfl rfl)
theorem dX12_stage_94 : decode cX12_stage 94 = .ok (.iload_n 1, 1) := dk_27 (dk_at dksX12_stage_4 3 rfl rfl)
theorem dX12_stage_95 : decode cX12_stage 95 = .ok (.aload_n 0, 1) := dk_42 (dk_at dksX12_stage_4 4 rfl rfl)
theorem dX12_stage_96 : decode cX12_stage 96 = .ok (.iload_n 2, 1) := dk_28 (dk_at dksX12_stage_4 5 rfl rfl)
theorem dX12_stage_97 : decode cX12_stage 97 = .ok (.iconst 1, 1) := dk_4 (dk_at dksX12_stage_4 6 rfl rfl)
theorem dX12_stage_98 : decode cX12_stage 98 = .ok (.if_icmp .eq 8, 3) := dk_159 0 8 (dk_at dksX12_stage_4 7 rfl rfl)
theorem dX12_stage_101 : decode cX12_stage 101 = .ok (.iload_n 2, 1) := dk_28 (dk_at dksX12_stage_4 10 rfl rfl)
theorem dX12_stage_102 : decode cX12_stage 102 = .ok (.iconst 3, 1) := dk_6 (dk_at dksX12_stage_4 11 rfl rfl)
theorem dX12_stage_103 : decode cX12_stage 103 = .ok (.if_icmp .ne 7, 3) := dk_160 0 7 (dk_at dksX12_stage_4 12 rfl rfl)
theorem dX12_stage_106 : decode cX12_stage 106 = .ok (.iconst 0, 1) := dk_3 (dk_at dksX12_stage_4 15 rfl rfl)
theorem dX12_stage_107 : decode cX12_stage 107 = .ok (.goto 14, 3) := dk_167 0 14 (dk_at dksX12_stage_4 16 rfl rfl)
theorem dX12_stage_110 : decode cX12_stage 110 = .ok (.iload_n 2, 1) := dk_28 (dk_at dksX12_stage_4 19 rfl rfl)
theorem dX12_stage_111 : decode cX12_stage 111 = .ok (.iconst 4, 1) := dk_7 (dk_at dksX12_stage_4 20 rfl rfl)
theorem dX12_stage_112 : decode cX12_stage 112 = .ok (.if_icmp .ne 7, 3) := dk_160 0 7 (dk_at dksX12_stage_4 21 rfl rfl)
theorem dX12_stage_115 : decode cX12_stage 115 = .ok (.iconst 1, 1) := dk_4 (dk_at dksX12_stage_5 0 rfl rfl)
theorem dX12_stage_116 : decode cX12_stage 116 = .ok (.goto 5, 3) := dk_167 0 5 (dk_at dksX12_stage_5 1 rfl rfl)
theorem dX12_stage_119 : decode cX12_stage 119 = .ok (.bipush (-99), 2) := dk_16 157 (dk_at dksX12_stage_5 4 rfl rfl)
theorem dX12_stage_121 : decode cX12_stage 121 = .ok (.iload_n 2, 1) := dk_28 (dk_at dksX12_stage_5 6 rfl rfl)
theorem dX12_stage_122 : decode cX12_stage 122 = .ok (.iconst 1, 1) := dk_4 (dk_at dksX12_stage_5 7 rfl rfl)
theorem dX12_stage_123 : decode cX12_stage 123 = .ok (.if_icmp .ne 7, 3) := dk_160 0 7 (dk_at dksX12_stage_5 8 rfl rfl)
theorem dX12_stage_126 : decode cX12_stage 126 = .ok (.iconst 2, 1) := dk_5 (dk_at dksX12_stage_5 11 rfl rfl)
theorem dX12_stage_127 : decode cX12_stage 127 = .ok (.goto 23, 3) := dk_167 0 23 (dk_at dksX12_stage_5 12 rfl rfl)
theorem dX12_stage_130 : decode cX12_stage 130 = .ok (.iload_n 2, 1) := dk_28 (dk_at dksX12_stage_5 15 rfl rfl)
theorem dX12_stage_131 : decode cX12_stage 131 = .ok (.iconst 3, 1) := dk_6 (dk_at dksX12_stage_5 16 rfl rfl)
theorem dX12_stage_132 : decode cX12_stage 132 = .ok (.if_icmp .ne 7, 3) := dk_160 0 7 (dk_at dksX12_stage_5 17 rfl rfl)
theorem dX12_stage_135 : decode cX12_stage 135 = .ok (.iconst 3, 1) := dk_6 (dk_at dksX12_stage_5 20 rfl rfl)
theorem dX12_stage_136 : decode cX12_stage 136 = .ok (.goto 14, 3) := dk_167 0 14 (dk_at dksX12_stage_5 21 rfl rfl)
theorem dX12_stage_139 : decode cX12_stage 139 = .ok (.iload_n 2, 1) := dk_28 (dk_at dksX12_stage_6 0 rfl rfl)
theorem dX12_stage_140 : decode cX12_stage 140 = .ok (.iconst 4, 1) := dk_7 (dk_at dksX12_stage_6 1 rfl rfl)
theorem dX12_stage_141 : decode cX12_stage 141 = .ok (.if_icmp .ne 7, 3) := dk_160 0 7 (dk_at dksX12_stage_6 2 rfl rfl)
theorem dX12_stage_144 : decode cX12_stage 144 = .ok (.iconst 5, 1) := dk_8 (dk_at dksX12_stage_6 5 rfl rfl)
theorem dX12_stage_145 : decode cX12_stage 145 = .ok (.goto 5, 3) := dk_167 0 5 (dk_at dksX12_stage_6 6 rfl rfl)
theorem dX12_stage_148 : decode cX12_stage 148 = .ok (.bipush 99, 2) := dk_16 99 (dk_at dksX12_stage_6 9 rfl rfl)
theorem dX12_stage_150 : decode cX12_stage 150 = .ok (.invokevirtual 230, 3) := dk_182 0 230 (dk_at dksX12_stage_6 11 rfl rfl)
theorem dX12_stage_153 : decode cX12_stage 153 = .ok (.iastore, 1) := dk_79 (dk_at dksX12_stage_6 14 rfl rfl)
theorem dX12_stage_154 : decode cX12_stage 154 = .ok (.aload_n 0, 1) := dk_42 (dk_at dksX12_stage_6 15 rfl rfl)
theorem dX12_stage_155 : decode cX12_stage 155 = .ok (.getfield 215, 3) := dk_180 0 215 (dk_at dksX12_stage_6 16 rfl rfl)
theorem dX12_stage_158 : decode cX12_stage 158 = .ok (.ifCond .ne 14, 3) := dk_154 0 14 (dk_at dksX12_stage_6 19 rfl rfl)
theorem dX12_stage_161 : decode cX12_stage 161 = .ok (.iload_n 2, 1) := dk_28 (dk_at dksX12_stage_6 22 rfl rfl)
theorem dX12_stage_162 : decode cX12_stage 162 = .ok (.iconst 3, 1) := dk_6 (dk_at dksX12_stage_6 23 rfl rfl)
theorem dX12_stage_163 : decode cX12_stage 163 = .ok (.if_icmp .ge 9, 3) := dk_162 0 9 (dk_at dksX12_stage_7 0 rfl rfl)
theorem dX12_stage_166 : decode cX12_stage 166 = .ok (.aload_n 0, 1) := dk_42 (dk_at dksX12_stage_7 3 rfl rfl)
theorem dX12_stage_167 : decode cX12_stage 167 = .ok (.bipush 44, 2) := dk_16 44 (dk_at dksX12_stage_7 4 rfl rfl)
theorem dX12_stage_169 : decode cX12_stage 169 = .ok (.invokevirtual 226, 3) := dk_182 0 226 (dk_at dksX12_stage_7 6 rfl rfl)
theorem dX12_stage_172 : decode cX12_stage 172 = .ok (.aload_n 0, 1) := dk_42 (dk_at dksX12_stage_7 9 rfl rfl)
theorem dX12_stage_173 : decode cX12_stage 173 = .ok (.getfield 215, 3) := dk_180 0 215 (dk_at dksX12_stage_7 10 rfl rfl)
theorem dX12_stage_176 : decode cX12_stage 176 = .ok (.ifCond .ne 22, 3) := dk_154 0 22 (dk_at dksX12_stage_7 13 rfl rfl)
theorem dX12_stage_179 : decode cX12_stage 179 = .ok (.iload_n 2, 1) := dk_28 (dk_at dksX12_stage_7 16 rfl rfl)
theorem dX12_stage_180 : decode cX12_stage 180 = .ok (.iconst 3, 1) := dk_6 (dk_at dksX12_stage_7 17 rfl rfl)
theorem dX12_stage_181 : decode cX12_stage 181 = .ok (.if_icmp .ge 17, 3) := dk_162 0 17 (dk_at dksX12_stage_7 18 rfl rfl)
theorem dX12_stage_184 : decode cX12_stage 184 = .ok (.aload_n 0, 1) := dk_42 (dk_at dksX12_stage_7 21 rfl rfl)
theorem dX12_stage_185 : decode cX12_stage 185 = .ok (.getfield 157, 3) := dk_180 0 157 (dk_at dksX12_stage_8 0 rfl rfl)
theorem dX12_stage_188 : decode cX12_stage 188 = .ok (.iload_n 1, 1) := dk_27 (dk_at dksX12_stage_8 3 rfl rfl)
theorem dX12_stage_189 : decode cX12_stage 189 = .ok (.aload_n 0, 1) := dk_42 (dk_at dksX12_stage_8 4 rfl rfl)
theorem dX12_stage_190 : decode cX12_stage 190 = .ok (.bipush (-99), 2) := dk_16 157 (dk_at dksX12_stage_8 5 rfl rfl)
theorem dX12_stage_192 : decode cX12_stage 192 = .ok (.bipush 99, 2) := dk_16 99 (dk_at dksX12_stage_8 7 rfl rfl)
theorem dX12_stage_194 : decode cX12_stage 194 = .ok (.invokevirtual 230, 3) := dk_182 0 230 (dk_at dksX12_stage_8 9 rfl rfl)
theorem dX12_stage_197 : decode cX12_stage 197 = .ok (.iastore, 1) := dk_79 (dk_at dksX12_stage_8 12 rfl rfl)
theorem dX12_stage_198 : decode cX12_stage 198 = .ok (.aload_n 0, 1) := dk_42 (dk_at dksX12_stage_8 13 rfl rfl)
theorem dX12_stage_199 : decode cX12_stage 199 = .ok (.getfield 215, 3) := dk_180 0 215 (dk_at dksX12_stage_8 14 rfl rfl)
theorem dX12_stage_202 : decode cX12_stage 202 = .ok (.ifCond .ne 9, 3) := dk_154 0 9 (dk_at dksX12_stage_8 17 rfl rfl)
theorem dX12_stage_205 : decode cX12_stage 205 = .ok (.aload_n 0, 1) := dk_42 (dk_at dksX12_stage_8 20 rfl rfl)
theorem dX12_stage_206 : decode cX12_stage 206 = .ok (.bipush 41, 2) := dk_16 41 (dk_at dksX12_stage_8 21 rfl rfl)
theorem dX12_stage_208 : decode cX12_stage 208 = .ok (.invokevirtual 226, 3) := dk_182 0 226 (dk_at dksX12_stage_9 0 rfl rfl)
theorem dX12_stage_211 : decode cX12_stage 211 = .ok (.aload_n 0, 1) := dk_42 (dk_at dksX12_stage_9 3 rfl rfl)
theorem dX12_stage_212 : decode cX12_stage 212 = .ok (.getfield 215, 3) := dk_180 0 215 (dk_at dksX12_stage_9 4 rfl rfl)
theorem dX12_stage_215 : decode cX12_stage 215 = .ok (.ifCond .ne 27, 3) := dk_154 0 27 (dk_at dksX12_stage_9 7 rfl rfl)
theorem dX12_stage_218 : decode cX12_stage 218 = .ok (.aload_n 0, 1) := dk_42 (dk_at dksX12_stage_9 10 rfl rfl)
theorem dX12_stage_219 : decode cX12_stage 219 = .ok (.invokevirtual 219, 3) := dk_182 0 219 (dk_at dksX12_stage_9 11 rfl rfl)
theorem dX12_stage_222 : decode cX12_stage 222 = .ok (.bipush 48, 2) := dk_16 48 (dk_at dksX12_stage_9 14 rfl rfl)
theorem dX12_stage_224 : decode cX12_stage 224 = .ok (.bipush 57, 2) := dk_16 57 (dk_at dksX12_stage_9 16 rfl rfl)
theorem dX12_stage_226 : decode cX12_stage 226 = .ok (.invokestatic 203, 3) := dk_184 0 203 (dk_at dksX12_stage_9 18 rfl rfl)
theorem dX12_stage_229 : decode cX12_stage 229 = .ok (.ifCond .eq 13, 3) := dk_153 0 13 (dk_at dksX12_stage_9 21 rfl rfl)
theorem dX12_stage_232 : decode cX12_stage 232 = .ok (.aload_n 0, 1) := dk_42 (dk_at dksX12_stage_10 0 rfl rfl)
theorem dX12_stage_233 : decode cX12_stage 233 = .ok (.getfield 160, 3) := dk_180 0 160 (dk_at dksX12_stage_10 1 rfl rfl)
theorem dX12_stage_236 : decode cX12_stage 236 = .ok (.iload_n 1, 1) := dk_27 (dk_at dksX12_stage_10 4 rfl rfl)
theorem dX12_stage_237 : decode cX12_stage 237 = .ok (.aload_n 0, 1) := dk_42 (dk_at dksX12_stage_10 5 rfl rfl)
theorem dX12_stage_238 : decode cX12_stage 238 = .ok (.invokevirtual 234, 3) := dk_182 0 234 (dk_at dksX12_stage_10 6 rfl rfl)
theorem dX12_stage_241 : decode cX12_stage 241 = .ok (.iastore, 1) := dk_79 (dk_at dksX12_stage_10 9 rfl rfl)
theorem dX12_stage_242 : decode cX12_stage 242 = .ok (.return_, 1) := dk_177 (dk_at dksX12_stage_10 10 rfl rfl)
abbrev cX12_letter : ByteArray := prog_27_method_11_code
def yX12_letter : MethodName := ⟨RX12, "letter", "(I)I"⟩
def dkwX12_letter_3 : List UInt8 := [2, 172]
abbrev dktX12_letter_3 : List UInt8 := dkwX12_letter_3 ++ []
def dkwX12_letter_2 : List UInt8 := [167, 0, 25, 26, 16, 100, 160, 0, 7, 8, 167, 0, 15, 26, 16, 114, 160, 0, 8, 16, 6, 167, 0, 4]
abbrev dktX12_letter_2 : List UInt8 := dkwX12_letter_2 ++ dktX12_letter_3
def dkwX12_letter_1 : List UInt8 := [160, 0, 7, 5, 167, 0, 45, 26, 16, 99, 160, 0, 7, 6, 167, 0, 35, 26, 16, 115, 160, 0, 7, 7]
abbrev dktX12_letter_1 : List UInt8 := dkwX12_letter_1 ++ dktX12_letter_2
def dkwX12_letter_0 : List UInt8 := [26, 16, 109, 160, 0, 7, 3, 167, 0, 65, 26, 16, 102, 160, 0, 7, 4, 167, 0, 55, 26, 16, 107]
abbrev dktX12_letter_0 : List UInt8 := dkwX12_letter_0 ++ dktX12_letter_1
theorem dksX12_letter_0 : cX12_letter.data.toList.drop 0 = dktX12_letter_0 := by decide +kernel
theorem dksX12_letter_1 : cX12_letter.data.toList.drop 23 = dktX12_letter_1 := dk_seg dksX12_letter_0 23 rfl rfl
theorem dksX12_letter_2 : cX12_letter.data.toList.drop 47 = dktX12_letter_2 := dk_seg dksX12_letter_1 24 rfl rfl
theorem dksX12_letter_3 : cX12_letter.data.toList.drop 71 = dktX12_letter_3 := dk_seg dksX12_letter_2 24 rfl rfl
theorem dX12_letter_0 : decode cX12_letter 0 = .ok (.iload_n 0, 1) := dk_26 (dk_at dksX12_letter_0 0 rfl rfl)
theorem dX12_letter_1 : decode cX12_letter 1 = .ok (.bipush 109, 2) := dk_16 109 (dk_at dksX12_letter_0 1 rfl rfl)
theorem dX12_letter_3 : decode cX12_letter 3 = .ok (.if_icmp .ne 7, 3) := dk_160 0 7 (dk_at dksX12_letter_0 3 rfl rfl)
theorem dX12_letter_6 : decode cX12_letter 6 = .ok (.iconst 0, 1) := dk_3 (dk_at dksX12_letter_0 6 rfl rfl)
theorem dX12_letter_7 : decode cX12_letter 7 = .ok (.goto 65, 3) := dk_167 0 65 (dk_at dksX12_letter_0 7 rfl rfl)
theorem dX12_letter_10 : decode cX12_letter 10 = .ok (.iload_n 0, 1) := dk_26 (dk_at dksX12_letter_0 10 rfl rfl)
theorem dX12_letter_11 : decode cX12_letter 11 = .ok (.bipush 102, 2) := dk_16 102 (dk_at dksX12_letter_0 11 rfl rfl)
theorem dX12_letter_13 : decode cX12_letter 13 = .ok (.if_icmp .ne 7, 3) := dk_160 0 7 (dk_at dksX12_letter_0 13 rfl rfl)
theorem dX12_letter_16 : decode cX12_letter 16 = .ok (.iconst 1, 1) := dk_4 (dk_at dksX12_letter_0 16 rfl rfl)
theorem dX12_letter_17 : decode cX12_letter 17 = .ok (.goto 55, 3) := dk_167 0 55 (dk_at dksX12_letter_0 17 rfl rfl)
theorem dX12_letter_20 : decode cX12_letter 20 = .ok (.iload_n 0, 1) := dk_26 (dk_at dksX12_letter_0 20 rfl rfl)
theorem dX12_letter_21 : decode cX12_letter 21 = .ok (.bipush 107, 2) := dk_16 107 (dk_at dksX12_letter_0 21 rfl rfl)
theorem dX12_letter_23 : decode cX12_letter 23 = .ok (.if_icmp .ne 7, 3) := dk_160 0 7 (dk_at dksX12_letter_1 0 rfl rfl)
theorem dX12_letter_26 : decode cX12_letter 26 = .ok (.iconst 2, 1) := dk_5 (dk_at dksX12_letter_1 3 rfl rfl)
theorem dX12_letter_27 : decode cX12_letter 27 = .ok (.goto 45, 3) := dk_167 0 45 (dk_at dksX12_letter_1 4 rfl rfl)
theorem dX12_letter_30 : decode cX12_letter 30 = .ok (.iload_n 0, 1) := dk_26 (dk_at dksX12_letter_1 7 rfl rfl)
theorem dX12_letter_31 : decode cX12_letter 31 = .ok (.bipush 99, 2) := dk_16 99 (dk_at dksX12_letter_1 8 rfl rfl)
theorem dX12_letter_33 : decode cX12_letter 33 = .ok (.if_icmp .ne 7, 3) := dk_160 0 7 (dk_at dksX12_letter_1 10 rfl rfl)
theorem dX12_letter_36 : decode cX12_letter 36 = .ok (.iconst 3, 1) := dk_6 (dk_at dksX12_letter_1 13 rfl rfl)
theorem dX12_letter_37 : decode cX12_letter 37 = .ok (.goto 35, 3) := dk_167 0 35 (dk_at dksX12_letter_1 14 rfl rfl)
theorem dX12_letter_40 : decode cX12_letter 40 = .ok (.iload_n 0, 1) := dk_26 (dk_at dksX12_letter_1 17 rfl rfl)
theorem dX12_letter_41 : decode cX12_letter 41 = .ok (.bipush 115, 2) := dk_16 115 (dk_at dksX12_letter_1 18 rfl rfl)
theorem dX12_letter_43 : decode cX12_letter 43 = .ok (.if_icmp .ne 7, 3) := dk_160 0 7 (dk_at dksX12_letter_1 20 rfl rfl)
theorem dX12_letter_46 : decode cX12_letter 46 = .ok (.iconst 4, 1) := dk_7 (dk_at dksX12_letter_1 23 rfl rfl)
theorem dX12_letter_47 : decode cX12_letter 47 = .ok (.goto 25, 3) := dk_167 0 25 (dk_at dksX12_letter_2 0 rfl rfl)
theorem dX12_letter_50 : decode cX12_letter 50 = .ok (.iload_n 0, 1) := dk_26 (dk_at dksX12_letter_2 3 rfl rfl)
theorem dX12_letter_51 : decode cX12_letter 51 = .ok (.bipush 100, 2) := dk_16 100 (dk_at dksX12_letter_2 4 rfl rfl)
theorem dX12_letter_53 : decode cX12_letter 53 = .ok (.if_icmp .ne 7, 3) := dk_160 0 7 (dk_at dksX12_letter_2 6 rfl rfl)
theorem dX12_letter_56 : decode cX12_letter 56 = .ok (.iconst 5, 1) := dk_8 (dk_at dksX12_letter_2 9 rfl rfl)
theorem dX12_letter_57 : decode cX12_letter 57 = .ok (.goto 15, 3) := dk_167 0 15 (dk_at dksX12_letter_2 10 rfl rfl)
theorem dX12_letter_60 : decode cX12_letter 60 = .ok (.iload_n 0, 1) := dk_26 (dk_at dksX12_letter_2 13 rfl rfl)
theorem dX12_letter_61 : decode cX12_letter 61 = .ok (.bipush 114, 2) := dk_16 114 (dk_at dksX12_letter_2 14 rfl rfl)
theorem dX12_letter_63 : decode cX12_letter 63 = .ok (.if_icmp .ne 8, 3) := dk_160 0 8 (dk_at dksX12_letter_2 16 rfl rfl)
theorem dX12_letter_66 : decode cX12_letter 66 = .ok (.bipush 6, 2) := dk_16 6 (dk_at dksX12_letter_2 19 rfl rfl)
theorem dX12_letter_68 : decode cX12_letter 68 = .ok (.goto 4, 3) := dk_167 0 4 (dk_at dksX12_letter_2 21 rfl rfl)
theorem dX12_letter_71 : decode cX12_letter 71 = .ok (.iconst (-1), 1) := dk_2 (dk_at dksX12_letter_3 0 rfl rfl)
theorem dX12_letter_72 : decode cX12_letter 72 = .ok (.ireturn, 1) := dk_172 (dk_at dksX12_letter_3 1 rfl rfl)
abbrev cX12_sign : ByteArray := prog_27_method_9_code
def yX12_sign : MethodName := ⟨RX12, "sign", "(I)V"⟩
def dkwX12_sign_1 : List UInt8 := [180, 0, 212, 42, 180, 0, 215, 153, 0, 7, 3, 167, 0, 4, 4, 96, 181, 0, 212, 177]
abbrev dktX12_sign_1 : List UInt8 := dkwX12_sign_1 ++ []
def dkwX12_sign_0 : List UInt8 := [42, 89, 180, 0, 215, 42, 182, 0, 219, 27, 159, 0, 7, 4, 167, 0, 4, 3, 128, 181, 0, 215, 42, 89]
abbrev dktX12_sign_0 : List UInt8 := dkwX12_sign_0 ++ dktX12_sign_1
theorem dksX12_sign_0 : cX12_sign.data.toList.drop 0 = dktX12_sign_0 := by decide +kernel
theorem dksX12_sign_1 : cX12_sign.data.toList.drop 24 = dktX12_sign_1 := dk_seg dksX12_sign_0 24 rfl rfl
theorem dX12_sign_0 : decode cX12_sign 0 = .ok (.aload_n 0, 1) := dk_42 (dk_at dksX12_sign_0 0 rfl rfl)
theorem dX12_sign_1 : decode cX12_sign 1 = .ok (.dup, 1) := dk_89 (dk_at dksX12_sign_0 1 rfl rfl)
theorem dX12_sign_2 : decode cX12_sign 2 = .ok (.getfield 215, 3) := dk_180 0 215 (dk_at dksX12_sign_0 2 rfl rfl)
theorem dX12_sign_5 : decode cX12_sign 5 = .ok (.aload_n 0, 1) := dk_42 (dk_at dksX12_sign_0 5 rfl rfl)
theorem dX12_sign_6 : decode cX12_sign 6 = .ok (.invokevirtual 219, 3) := dk_182 0 219 (dk_at dksX12_sign_0 6 rfl rfl)
theorem dX12_sign_9 : decode cX12_sign 9 = .ok (.iload_n 1, 1) := dk_27 (dk_at dksX12_sign_0 9 rfl rfl)
theorem dX12_sign_10 : decode cX12_sign 10 = .ok (.if_icmp .eq 7, 3) := dk_159 0 7 (dk_at dksX12_sign_0 10 rfl rfl)
theorem dX12_sign_13 : decode cX12_sign 13 = .ok (.iconst 1, 1) := dk_4 (dk_at dksX12_sign_0 13 rfl rfl)
theorem dX12_sign_14 : decode cX12_sign 14 = .ok (.goto 4, 3) := dk_167 0 4 (dk_at dksX12_sign_0 14 rfl rfl)
theorem dX12_sign_17 : decode cX12_sign 17 = .ok (.iconst 0, 1) := dk_3 (dk_at dksX12_sign_0 17 rfl rfl)
theorem dX12_sign_18 : decode cX12_sign 18 = .ok (.ior, 1) := dk_128 (dk_at dksX12_sign_0 18 rfl rfl)
theorem dX12_sign_19 : decode cX12_sign 19 = .ok (.putfield 215, 3) := dk_181 0 215 (dk_at dksX12_sign_0 19 rfl rfl)
theorem dX12_sign_22 : decode cX12_sign 22 = .ok (.aload_n 0, 1) := dk_42 (dk_at dksX12_sign_0 22 rfl rfl)
theorem dX12_sign_23 : decode cX12_sign 23 = .ok (.dup, 1) := dk_89 (dk_at dksX12_sign_0 23 rfl rfl)
theorem dX12_sign_24 : decode cX12_sign 24 = .ok (.getfield 212, 3) := dk_180 0 212 (dk_at dksX12_sign_1 0 rfl rfl)
theorem dX12_sign_27 : decode cX12_sign 27 = .ok (.aload_n 0, 1) := dk_42 (dk_at dksX12_sign_1 3 rfl rfl)
theorem dX12_sign_28 : decode cX12_sign 28 = .ok (.getfield 215, 3) := dk_180 0 215 (dk_at dksX12_sign_1 4 rfl rfl)
theorem dX12_sign_31 : decode cX12_sign 31 = .ok (.ifCond .eq 7, 3) := dk_153 0 7 (dk_at dksX12_sign_1 7 rfl rfl)
theorem dX12_sign_34 : decode cX12_sign 34 = .ok (.iconst 0, 1) := dk_3 (dk_at dksX12_sign_1 10 rfl rfl)
theorem dX12_sign_35 : decode cX12_sign 35 = .ok (.goto 4, 3) := dk_167 0 4 (dk_at dksX12_sign_1 11 rfl rfl)
theorem dX12_sign_38 : decode cX12_sign 38 = .ok (.iconst 1, 1) := dk_4 (dk_at dksX12_sign_1 14 rfl rfl)
theorem dX12_sign_39 : decode cX12_sign 39 = .ok (.iadd, 1) := dk_96 (dk_at dksX12_sign_1 15 rfl rfl)
theorem dX12_sign_40 : decode cX12_sign 40 = .ok (.putfield 212, 3) := dk_181 0 212 (dk_at dksX12_sign_1 16 rfl rfl)
theorem dX12_sign_43 : decode cX12_sign 43 = .ok (.return_, 1) := dk_177 (dk_at dksX12_sign_1 19 rfl rfl)
abbrev cX12_number : ByteArray := prog_27_method_10_code
def yX12_number : MethodName := ⟨RX12, "number", "(II)I"⟩
def dkwX12_number_7 : List UInt8 := [181, 0, 215, 21, 4, 172]
abbrev dktX12_number_7 : List UInt8 := dkwX12_number_7 ++ []
def dkwX12_number_6 : List UInt8 := [54, 4, 42, 89, 180, 0, 215, 21, 4, 27, 28, 184, 0, 203, 154, 0, 7, 4, 167, 0, 4, 3, 128]
abbrev dktX12_number_6 : List UInt8 := dkwX12_number_6 ++ dktX12_number_7
def dkwX12_number_5 : List UInt8 := [54, 4, 42, 89, 180, 0, 212, 4, 96, 181, 0, 212, 29, 153, 0, 9, 21, 4, 116, 167, 0, 5, 21, 4]
abbrev dktX12_number_5 : List UInt8 := dkwX12_number_5 ++ dktX12_number_6
def dkwX12_number_4 : List UInt8 := [16, 48, 16, 57, 184, 0, 203, 153, 0, 28, 16, 10, 21, 4, 104, 42, 182, 0, 219, 96, 16, 48, 100]
abbrev dktX12_number_4 : List UInt8 := dkwX12_number_4 ++ dktX12_number_5
def dkwX12_number_3 : List UInt8 := [42, 182, 0, 219, 16, 48, 100, 54, 4, 42, 89, 180, 0, 212, 4, 96, 181, 0, 212, 42, 182, 0, 219]
abbrev dktX12_number_3 : List UInt8 := dkwX12_number_3 ++ dktX12_number_4
def dkwX12_number_2 : List UInt8 := [184, 0, 203, 154, 0, 7, 4, 167, 0, 4, 3, 128, 181, 0, 215, 42, 180, 0, 215, 153, 0, 5, 3, 172]
abbrev dktX12_number_2 : List UInt8 := dkwX12_number_2 ++ dktX12_number_3
def dkwX12_number_1 : List UInt8 := [4, 167, 0, 4, 3, 96, 181, 0, 212, 42, 89, 180, 0, 215, 42, 182, 0, 219, 16, 48, 16, 57]
abbrev dktX12_number_1 : List UInt8 := dkwX12_number_1 ++ dktX12_number_2
def dkwX12_number_0 : List UInt8 := [42, 182, 0, 219, 16, 45, 160, 0, 7, 4, 167, 0, 4, 3, 62, 42, 89, 180, 0, 212, 29, 153, 0, 7]
abbrev dktX12_number_0 : List UInt8 := dkwX12_number_0 ++ dktX12_number_1
theorem dksX12_number_0 : cX12_number.data.toList.drop 0 = dktX12_number_0 := by decide +kernel
theorem dksX12_number_1 : cX12_number.data.toList.drop 24 = dktX12_number_1 := dk_seg dksX12_number_0 24 rfl rfl
theorem dksX12_number_2 : cX12_number.data.toList.drop 46 = dktX12_number_2 := dk_seg dksX12_number_1 22 rfl rfl
theorem dksX12_number_3 : cX12_number.data.toList.drop 70 = dktX12_number_3 := dk_seg dksX12_number_2 24 rfl rfl
theorem dksX12_number_4 : cX12_number.data.toList.drop 93 = dktX12_number_4 := dk_seg dksX12_number_3 23 rfl rfl
theorem dksX12_number_5 : cX12_number.data.toList.drop 116 = dktX12_number_5 := dk_seg dksX12_number_4 23 rfl rfl
theorem dksX12_number_6 : cX12_number.data.toList.drop 140 = dktX12_number_6 := dk_seg dksX12_number_5 24 rfl rfl
theorem dksX12_number_7 : cX12_number.data.toList.drop 163 = dktX12_number_7 := dk_seg dksX12_number_6 23 rfl rfl
theorem dX12_number_0 : decode cX12_number 0 = .ok (.aload_n 0, 1) := dk_42 (dk_at dksX12_number_0 0 rfl rfl)
theorem dX12_number_1 : decode cX12_number 1 = .ok (.invokevirtual 219, 3) := dk_182 0 219 (dk_at dksX12_number_0 1 rfl rfl)
theorem dX12_number_4 : decode cX12_number 4 = .ok (.bipush 45, 2) := dk_16 45 (dk_at dksX12_number_0 4 rfl rfl)
theorem dX12_number_6 : decode cX12_number 6 = .ok (.if_icmp .ne 7, 3) := dk_160 0 7 (dk_at dksX12_number_0 6 rfl rfl)
theorem dX12_number_9 : decode cX12_number 9 = .ok (.iconst 1, 1) := dk_4 (dk_at dksX12_number_0 9 rfl rfl)
theorem dX12_number_10 : decode cX12_number 10 = .ok (.goto 4, 3) := dk_167 0 4 (dk_at dksX12_number_0 10 rfl rfl)
theorem dX12_number_13 : decode cX12_number 13 = .ok (.iconst 0, 1) := dk_3 (dk_at dksX12_number_0 13 rfl rfl)
theorem dX12_number_14 : decode cX12_number 14 = .ok (.istore_n 3, 1) := dk_62 (dk_at dksX12_number_0 14 rfl rfl)
theorem dX12_number_15 : decode cX12_number 15 = .ok (.aload_n 0, 1) := dk_42 (dk_at dksX12_number_0 15 rfl rfl)
theorem dX12_number_16 : decode cX12_number 16 = .ok (.dup, 1) := dk_89 (dk_at dksX12_number_0 16 rfl rfl)
theorem dX12_number_17 : decode cX12_number 17 = .ok (.getfield 212, 3) := dk_180 0 212 (dk_at dksX12_number_0 17 rfl rfl)
theorem dX12_number_20 : decode cX12_number 20 = .ok (.iload_n 3, 1) := dk_29 (dk_at dksX12_number_0 20 rfl rfl)
theorem dX12_number_21 : decode cX12_number 21 = .ok (.ifCond .eq 7, 3) := dk_153 0 7 (dk_at dksX12_number_0 21 rfl rfl)
theorem dX12_number_24 : decode cX12_number 24 = .ok (.iconst 1, 1) := dk_4 (dk_at dksX12_number_1 0 rfl rfl)
theorem dX12_number_25 : decode cX12_number 25 = .ok (.goto 4, 3) := dk_167 0 4 (dk_at dksX12_number_1 1 rfl rfl)
theorem dX12_number_28 : decode cX12_number 28 = .ok (.iconst 0, 1) := dk_3 (dk_at dksX12_number_1 4 rfl rfl)
theorem dX12_number_29 : decode cX12_number 29 = .ok (.iadd, 1) := dk_96 (dk_at dksX12_number_1 5 rfl rfl)
theorem dX12_number_30 : decode cX12_number 30 = .ok (.putfield 212, 3) := dk_181 0 212 (dk_at dksX12_number_1 6 rfl rfl)
theorem dX12_number_33 : decode cX12_number 33 = .ok (.aload_n 0, 1) := dk_42 (dk_at dksX12_number_1 9 rfl rfl)
theorem dX12_number_34 : decode cX12_number 34 = .ok (.dup, 1) := dk_89 (dk_at dksX12_number_1 10 rfl rfl)
theorem dX12_number_35 : decode cX12_number 35 = .ok (.getfield 215, 3) := dk_180 0 215 (dk_at dksX12_number_1 11 rfl rfl)
theorem dX12_number_38 : decode cX12_number 38 = .ok (.aload_n 0, 1) := dk_42 (dk_at dksX12_number_1 14 rfl rfl)
theorem dX12_number_39 : decode cX12_number 39 = .ok (.invokevirtual 219, 3) := dk_182 0 219 (dk_at dksX12_number_1 15 rfl rfl)
theorem dX12_number_42 : decode cX12_number 42 = .ok (.bipush 48, 2) := dk_16 48 (dk_at dksX12_number_1 18 rfl rfl)
theorem dX12_number_44 : decode cX12_number 44 = .ok (.bipush 57, 2) := dk_16 57 (dk_at dksX12_number_1 20 rfl rfl)
theorem dX12_number_46 : decode cX12_number 46 = .ok (.invokestatic 203, 3) := dk_184 0 203 (dk_at dksX12_number_2 0 rfl rfl)
theorem dX12_number_49 : decode cX12_number 49 = .ok (.ifCond .ne 7, 3) := dk_154 0 7 (dk_at dksX12_number_2 3 rfl rfl)
theorem dX12_number_52 : decode cX12_number 52 = .ok (.iconst 1, 1) := dk_4 (dk_at dksX12_number_2 6 rfl rfl)
theorem dX12_number_53 : decode cX12_number 53 = .ok (.goto 4, 3) := dk_167 0 4 (dk_at dksX12_number_2 7 rfl rfl)
theorem dX12_number_56 : decode cX12_number 56 = .ok (.iconst 0, 1) := dk_3 (dk_at dksX12_number_2 10 rfl rfl)
theorem dX12_number_57 : decode cX12_number 57 = .ok (.ior, 1) := dk_128 (dk_at dksX12_number_2 11 rfl rfl)
theorem dX12_number_58 : decode cX12_number 58 = .ok (.putfield 215, 3) := dk_181 0 215 (dk_at dksX12_number_2 12 rfl rfl)
theorem dX12_number_61 : decode cX12_number 61 = .ok (.aload_n 0, 1) := dk_42 (dk_at dksX12_number_2 15 rfl rfl)
theorem dX12_number_62 : decode cX12_number 62 = .ok (.getfield 215, 3) := dk_180 0 215 (dk_at dksX12_number_2 16 rfl rfl)
theorem dX12_number_65 : decode cX12_number 65 = .ok (.ifCond .eq 5, 3) := dk_153 0 5 (dk_at dksX12_number_2 19 rfl rfl)
theorem dX12_number_68 : decode cX12_number 68 = .ok (.iconst 0, 1) := dk_3 (dk_at dksX12_number_2 22 rfl rfl)
theorem dX12_number_69 : decode cX12_number 69 = .ok (.ireturn, 1) := dk_172 (dk_at dksX12_number_2 23 rfl rfl)
theorem dX12_number_70 : decode cX12_number 70 = .ok (.aload_n 0, 1) := dk_42 (dk_at dksX12_number_3 0 rfl rfl)
theorem dX12_number_71 : decode cX12_number 71 = .ok (.invokevirtual 219, 3) := dk_182 0 219 (dk_at dksX12_number_3 1 rfl rfl)
theorem dX12_number_74 : decode cX12_number 74 = .ok (.bipush 48, 2) := dk_16 48 (dk_at dksX12_number_3 4 rfl rfl)
theorem dX12_number_76 : decode cX12_number 76 = .ok (.isub, 1) := dk_100 (dk_at dksX12_number_3 6 rfl rfl)
theorem dX12_number_77 : decode cX12_number 77 = .ok (.istore 4, 2) := dk_54 4 (dk_at dksX12_number_3 7 rfl rfl)
theorem dX12_number_79 : decode cX12_number 79 = .ok (.aload_n 0, 1) := dk_42 (dk_at dksX12_number_3 9 rfl rfl)
theorem dX12_number_80 : decode cX12_number 80 = .ok (.dup, 1) := dk_89 (dk_at dksX12_number_3 10 rfl rfl)
theorem dX12_number_81 : decode cX12_number 81 = .ok (.getfield 212, 3) := dk_180 0 212 (dk_at dksX12_number_3 11 rfl rfl)
theorem dX12_number_84 : decode cX12_number 84 = .ok (.iconst 1, 1) := dk_4 (dk_at dksX12_number_3 14 rfl rfl)
theorem dX12_number_85 : decode cX12_number 85 = .ok (.iadd, 1) := dk_96 (dk_at dksX12_number_3 15 rfl rfl)
theorem dX12_number_86 : decode cX12_number 86 = .ok (.putfield 212, 3) := dk_181 0 212 (dk_at dksX12_number_3 16 rfl rfl)
theorem dX12_number_89 : decode cX12_number 89 = .ok (.aload_n 0, 1) := dk_42 (dk_at dksX12_number_3 19 rfl rfl)
theorem dX12_number_90 : decode cX12_number 90 = .ok (.invokevirtual 219, 3) := dk_182 0 219 (dk_at dksX12_number_3 20 rfl rfl)
theorem dX12_number_93 : decode cX12_number 93 = .ok (.bipush 48, 2) := dk_16 48 (dk_at dksX12_number_4 0 rfl rfl)
theorem dX12_number_95 : decode cX12_number 95 = .ok (.bipush 57, 2) := dk_16 57 (dk_at dksX12_number_4 2 rfl rfl)
theorem dX12_number_97 : decode cX12_number 97 = .ok (.invokestatic 203, 3) := dk_184 0 203 (dk_at dksX12_number_4 4 rfl rfl)
theorem dX12_number_100 : decode cX12_number 100 = .ok (.ifCond .eq 28, 3) := dk_153 0 28 (dk_at dksX12_number_4 7 rfl rfl)
theorem dX12_number_103 : decode cX12_number 103 = .ok (.bipush 10, 2) := dk_16 10 (dk_at dksX12_number_4 10 rfl rfl)
theorem dX12_number_105 : decode cX12_number 105 = .ok (.iload 4, 2) := dk_21 4 (dk_at dksX12_number_4 12 rfl rfl)
theorem dX12_number_107 : decode cX12_number 107 = .ok (.imul, 1) := dk_104 (dk_at dksX12_number_4 14 rfl rfl)
theorem dX12_number_108 : decode cX12_number 108 = .ok (.aload_n 0, 1) := dk_42 (dk_at dksX12_number_4 15 rfl rfl)
theorem dX12_number_109 : decode cX12_number 109 = .ok (.invokevirtual 219, 3) := dk_182 0 219 (dk_at dksX12_number_4 16 rfl rfl)
theorem dX12_number_112 : decode cX12_number 112 = .ok (.iadd, 1) := dk_96 (dk_at dksX12_number_4 19 rfl rfl)
theorem dX12_number_113 : decode cX12_number 113 = .ok (.bipush 48, 2) := dk_16 48 (dk_at dksX12_number_4 20 rfl rfl)
theorem dX12_number_115 : decode cX12_number 115 = .ok (.isub, 1) := dk_100 (dk_at dksX12_number_4 22 rfl rfl)
theorem dX12_number_116 : decode cX12_number 116 = .ok (.istore 4, 2) := dk_54 4 (dk_at dksX12_number_5 0 rfl rfl)
theorem dX12_number_118 : decode cX12_number 118 = .ok (.aload_n 0, 1) := dk_42 (dk_at dksX12_number_5 2 rfl rfl)
theorem dX12_number_119 : decode cX12_number 119 = .ok (.dup, 1) := dk_89 (dk_at dksX12_number_5 3 rfl rfl)
theorem dX12_number_120 : decode cX12_number 120 = .ok (.getfield 212, 3) := dk_180 0 212 (dk_at dksX12_number_5 4 rfl rfl)
theorem dX12_number_123 : decode cX12_number 123 = .ok (.iconst 1, 1) := dk_4 (dk_at dksX12_number_5 7 rfl rfl)
theorem dX12_number_124 : decode cX12_number 124 = .ok (.iadd, 1) := dk_96 (dk_at dksX12_number_5 8 rfl rfl)
theorem dX12_number_125 : decode cX12_number 125 = .ok (.putfield 212, 3) := dk_181 0 212 (dk_at dksX12_number_5 9 rfl rfl)
theorem dX12_number_128 : decode cX12_number 128 = .ok (.iload_n 3, 1) := dk_29 (dk_at dksX12_number_5 12 rfl rfl)
theorem dX12_number_129 : decode cX12_number 129 = .ok (.ifCond .eq 9, 3) := dk_153 0 9 (dk_at dksX12_number_5 13 rfl rfl)
theorem dX12_number_132 : decode cX12_number 132 = .ok (.iload 4, 2) := dk_21 4 (dk_at dksX12_number_5 16 rfl rfl)
theorem dX12_number_134 : decode cX12_number 134 = .ok (.ineg, 1) := dk_116 (dk_at dksX12_number_5 18 rfl rfl)
theorem dX12_number_135 : decode cX12_number 135 = .ok (.goto 5, 3) := dk_167 0 5 (dk_at dksX12_number_5 19 rfl rfl)
theorem dX12_number_138 : decode cX12_number 138 = .ok (.iload 4, 2) := dk_21 4 (dk_at dksX12_number_5 22 rfl rfl)
theorem dX12_number_140 : decode cX12_number 140 = .ok (.istore 4, 2) := dk_54 4 (dk_at dksX12_number_6 0 rfl rfl)
theorem dX12_number_142 : decode cX12_number 142 = .ok (.aload_n 0, 1) := dk_42 (dk_at dksX12_number_6 2 rfl rfl)
theorem dX12_number_143 : decode cX12_number 143 = .ok (.dup, 1) := dk_89 (dk_at dksX12_number_6 3 rfl rfl)
theorem dX12_number_144 : decode cX12_number 144 = .ok (.getfield 215, 3) := dk_180 0 215 (dk_at dksX12_number_6 4 rfl rfl)
theorem dX12_number_147 : decode cX12_number 147 = .ok (.iload 4, 2) := dk_21 4 (dk_at dksX12_number_6 7 rfl rfl)
theorem dX12_number_149 : decode cX12_number 149 = .ok (.iload_n 1, 1) := dk_27 (dk_at dksX12_number_6 9 rfl rfl)
theorem dX12_number_150 : decode cX12_number 150 = .ok (.iload_n 2, 1) := dk_28 (dk_at dksX12_number_6 10 rfl rfl)
theorem dX12_number_151 : decode cX12_number 151 = .ok (.invokestatic 203, 3) := dk_184 0 203 (dk_at dksX12_number_6 11 rfl rfl)
theorem dX12_number_154 : decode cX12_number 154 = .ok (.ifCond .ne 7, 3) := dk_154 0 7 (dk_at dksX12_number_6 14 rfl rfl)
theorem dX12_number_157 : decode cX12_number 157 = .ok (.iconst 1, 1) := dk_4 (dk_at dksX12_number_6 17 rfl rfl)
theorem dX12_number_158 : decode cX12_number 158 = .ok (.goto 4, 3) := dk_167 0 4 (dk_at dksX12_number_6 18 rfl rfl)
theorem dX12_number_161 : decode cX12_number 161 = .ok (.iconst 0, 1) := dk_3 (dk_at dksX12_number_6 21 rfl rfl)
theorem dX12_number_162 : decode cX12_number 162 = .ok (.ior, 1) := dk_128 (dk_at dksX12_number_6 22 rfl rfl)
theorem dX12_number_163 : decode cX12_number 163 = .ok (.putfield 215, 3) := dk_181 0 215 (dk_at dksX12_number_7 0 rfl rfl)
theorem dX12_number_166 : decode cX12_number 166 = .ok (.iload 4, 2) := dk_21 4 (dk_at dksX12_number_7 3 rfl rfl)
theorem dX12_number_168 : decode cX12_number 168 = .ok (.ireturn, 1) := dk_172 (dk_at dksX12_number_7 5 rfl rfl)
abbrev cX12_instances : ByteArray := prog_27_method_13_code
def yX12_instances : MethodName := ⟨RX12, "instances", "()I"⟩
def dkwX12_instances_2 : List UInt8 := [4, 96, 181, 0, 212, 27, 172]
abbrev dktX12_instances_2 : List UInt8 := dkwX12_instances_2 ++ []
def dkwX12_instances_1 : List UInt8 := [167, 0, 4, 3, 128, 181, 0, 215, 42, 89, 180, 0, 212, 42, 180, 0, 215, 153, 0, 7, 3, 167, 0, 4]
abbrev dktX12_instances_1 : List UInt8 := dkwX12_instances_1 ++ dktX12_instances_2
def dkwX12_instances_0 : List UInt8 := [42, 182, 0, 219, 16, 48, 100, 60, 42, 89, 180, 0, 215, 27, 4, 6, 184, 0, 203, 154, 0, 7, 4]
abbrev dktX12_instances_0 : List UInt8 := dkwX12_instances_0 ++ dktX12_instances_1
theorem dksX12_instances_0 : cX12_instances.data.toList.drop 0 = dktX12_instances_0 := by decide +kernel
theorem dksX12_instances_1 : cX12_instances.data.toList.drop 23 = dktX12_instances_1 := dk_seg dksX12_instances_0 23 rfl rfl
theorem dksX12_instances_2 : cX12_instances.data.toList.drop 47 = dktX12_instances_2 := dk_seg dksX12_instances_1 24 rfl rfl
theorem dX12_instances_0 : decode cX12_instances 0 = .ok (.aload_n 0, 1) := dk_42 (dk_at dksX12_instances_0 0 rfl rfl)
theorem dX12_instances_1 : decode cX12_instances 1 = .ok (.invokevirtual 219, 3) := dk_182 0 219 (dk_at dksX12_instances_0 1 rfl rfl)
theorem dX12_instances_4 : decode cX12_instances 4 = .ok (.bipush 48, 2) := dk_16 48 (dk_at dksX12_instances_0 4 rfl rfl)
theorem dX12_instances_6 : decode cX12_instances 6 = .ok (.isub, 1) := dk_100 (dk_at dksX12_instances_0 6 rfl rfl)
theorem dX12_instances_7 : decode cX12_instances 7 = .ok (.istore_n 1, 1) := dk_60 (dk_at dksX12_instances_0 7 rfl rfl)
theorem dX12_instances_8 : decode cX12_instances 8 = .ok (.aload_n 0, 1) := dk_42 (dk_at dksX12_instances_0 8 rfl rfl)
theorem dX12_instances_9 : decode cX12_instances 9 = .ok (.dup, 1) := dk_89 (dk_at dksX12_instances_0 9 rfl rfl)
theorem dX12_instances_10 : decode cX12_instances 10 = .ok (.getfield 215, 3) := dk_180 0 215 (dk_at dksX12_instances_0 10 rfl rfl)
theorem dX12_instances_13 : decode cX12_instances 13 = .ok (.iload_n 1, 1) := dk_27 (dk_at dksX12_instances_0 13 rfl rfl)
theorem dX12_instances_14 : decode cX12_instances 14 = .ok (.iconst 1, 1) := dk_4 (dk_at dksX12_instances_0 14 rfl rfl)
theorem dX12_instances_15 : decode cX12_instances 15 = .ok (.iconst 3, 1) := dk_6 (dk_at dksX12_instances_0 15 rfl rfl)
theorem dX12_instances_16 : decode cX12_instances 16 = .ok (.invokestatic 203, 3) := dk_184 0 203 (dk_at dksX12_instances_0 16 rfl rfl)
theorem dX12_instances_19 : decode cX12_instances 19 = .ok (.ifCond .ne 7, 3) := dk_154 0 7 (dk_at dksX12_instances_0 19 rfl rfl)
theorem dX12_instances_22 : decode cX12_instances 22 = .ok (.iconst 1, 1) := dk_4 (dk_at dksX12_instances_0 22 rfl rfl)
theorem dX12_instances_23 : decode cX12_instances 23 = .ok (.goto 4, 3) := dk_167 0 4 (dk_at dksX12_instances_1 0 rfl rfl)
theorem dX12_instances_26 : decode cX12_instances 26 = .ok (.iconst 0, 1) := dk_3 (dk_at dksX12_instances_1 3 rfl rfl)
theorem dX12_instances_27 : decode cX12_instances 27 = .ok (.ior, 1) := dk_128 (dk_at dksX12_instances_1 4 rfl rfl)
theorem dX12_instances_28 : decode cX12_instances 28 = .ok (.putfield 215, 3) := dk_181 0 215 (dk_at dksX12_instances_1 5 rfl rfl)
theorem dX12_instances_31 : decode cX12_instances 31 = .ok (.aload_n 0, 1) := dk_42 (dk_at dksX12_instances_1 8 rfl rfl)
theorem dX12_instances_32 : decode cX12_instances 32 = .ok (.dup, 1) := dk_89 (dk_at dksX12_instances_1 9 rfl rfl)
theorem dX12_instances_33 : decode cX12_instances 33 = .ok (.getfield 212, 3) := dk_180 0 212 (dk_at dksX12_instances_1 10 rfl rfl)
theorem dX12_instances_36 : decode cX12_instances 36 = .ok (.aload_n 0, 1) := dk_42 (dk_at dksX12_instances_1 13 rfl rfl)
theorem dX12_instances_37 : decode cX12_instances 37 = .ok (.getfield 215, 3) := dk_180 0 215 (dk_at dksX12_instances_1 14 rfl rfl)
theorem dX12_instances_40 : decode cX12_instances 40 = .ok (.ifCond .eq 7, 3) := dk_153 0 7 (dk_at dksX12_instances_1 17 rfl rfl)
theorem dX12_instances_43 : decode cX12_instances 43 = .ok (.iconst 0, 1) := dk_3 (dk_at dksX12_instances_1 20 rfl rfl)
theorem dX12_instances_44 : decode cX12_instances 44 = .ok (.goto 4, 3) := dk_167 0 4 (dk_at dksX12_instances_1 21 rfl rfl)
theorem dX12_instances_47 : decode cX12_instances 47 = .ok (.iconst 1, 1) := dk_4 (dk_at dksX12_instances_2 0 rfl rfl)
theorem dX12_instances_48 : decode cX12_instances 48 = .ok (.iadd, 1) := dk_96 (dk_at dksX12_instances_2 1 rfl rfl)
theorem dX12_instances_49 : decode cX12_instances 49 = .ok (.putfield 212, 3) := dk_181 0 212 (dk_at dksX12_instances_2 2 rfl rfl)
theorem dX12_instances_52 : decode cX12_instances 52 = .ok (.iload_n 1, 1) := dk_27 (dk_at dksX12_instances_2 5 rfl rfl)
theorem dX12_instances_53 : decode cX12_instances 53 = .ok (.ireturn, 1) := dk_172 (dk_at dksX12_instances_2 6 rfl rfl)
abbrev cX12_begins : ByteArray := prog_27_method_15_code
def yX12_begins : MethodName := ⟨RX12, "begins", "()V"⟩
def dkwX12_begins_6 : List UInt8 := [180, 0, 53, 27, 3, 79, 132, 1, 1, 167, 255, 219, 42, 182, 1, 9, 177]
abbrev dktX12_begins_6 : List UInt8 := dkwX12_begins_6 ++ []
def dkwX12_begins_5 : List UInt8 := [42, 180, 0, 44, 27, 3, 79, 42, 180, 0, 47, 27, 3, 79, 42, 180, 0, 50, 27, 3, 79, 42]
abbrev dktX12_begins_5 : List UInt8 := dkwX12_begins_5 ++ dktX12_begins_6
def dkwX12_begins_4 : List UInt8 := [162, 0, 16, 42, 180, 0, 90, 27, 3, 79, 132, 1, 1, 167, 255, 240, 3, 60, 27, 16, 6, 162, 0, 37]
abbrev dktX12_begins_4 : List UInt8 := dkwX12_begins_4 ++ dktX12_begins_5
def dkwX12_begins_3 : List UInt8 := [180, 0, 72, 27, 3, 79, 42, 180, 0, 81, 27, 3, 79, 132, 1, 1, 167, 255, 226, 3, 60, 27, 16, 18]
abbrev dktX12_begins_3 : List UInt8 := dkwX12_begins_3 ++ dktX12_begins_4
def dkwX12_begins_2 : List UInt8 := [181, 1, 3, 42, 3, 181, 1, 6, 3, 60, 27, 16, 96, 162, 0, 30, 42, 180, 0, 63, 27, 3, 84, 42]
abbrev dktX12_begins_2 : List UInt8 := dkwX12_begins_2 ++ dktX12_begins_3
def dkwX12_begins_1 : List UInt8 := [180, 0, 148, 27, 3, 79, 132, 1, 1, 167, 255, 240, 42, 3, 181, 0, 253, 42, 3, 181, 1, 0, 42, 3]
abbrev dktX12_begins_1 : List UInt8 := dkwX12_begins_1 ++ dktX12_begins_2
def dkwX12_begins_0 : List UInt8 := [42, 3, 181, 0, 243, 42, 3, 181, 0, 246, 42, 9, 181, 0, 249, 3, 60, 27, 18, 147, 162, 0, 16, 42]
abbrev dktX12_begins_0 : List UInt8 := dkwX12_begins_0 ++ dktX12_begins_1
theorem dksX12_begins_0 : cX12_begins.data.toList.drop 0 = dktX12_begins_0 := by decide +kernel
theorem dksX12_begins_1 : cX12_begins.data.toList.drop 24 = dktX12_begins_1 := dk_seg dksX12_begins_0 24 rfl rfl
theorem dksX12_begins_2 : cX12_begins.data.toList.drop 48 = dktX12_begins_2 := dk_seg dksX12_begins_1 24 rfl rfl
theorem dksX12_begins_3 : cX12_begins.data.toList.drop 72 = dktX12_begins_3 := dk_seg dksX12_begins_2 24 rfl rfl
theorem dksX12_begins_4 : cX12_begins.data.toList.drop 96 = dktX12_begins_4 := dk_seg dksX12_begins_3 24 rfl rfl
theorem dksX12_begins_5 : cX12_begins.data.toList.drop 120 = dktX12_begins_5 := dk_seg dksX12_begins_4 24 rfl rfl
theorem dksX12_begins_6 : cX12_begins.data.toList.drop 142 = dktX12_begins_6 := dk_seg dksX12_begins_5 22 rfl rfl
theorem dX12_begins_0 : decode cX12_begins 0 = .ok (.aload_n 0, 1) := dk_42 (dk_at dksX12_begins_0 0 rfl rfl)
theorem dX12_begins_1 : decode cX12_begins 1 = .ok (.iconst 0, 1) := dk_3 (dk_at dksX12_begins_0 1 rfl rfl)
theorem dX12_begins_2 : decode cX12_begins 2 = .ok (.putfield 243, 3) := dk_181 0 243 (dk_at dksX12_begins_0 2 rfl rfl)
theorem dX12_begins_5 : decode cX12_begins 5 = .ok (.aload_n 0, 1) := dk_42 (dk_at dksX12_begins_0 5 rfl rfl)
theorem dX12_begins_6 : decode cX12_begins 6 = .ok (.iconst 0, 1) := dk_3 (dk_at dksX12_begins_0 6 rfl rfl)
theorem dX12_begins_7 : decode cX12_begins 7 = .ok (.putfield 246, 3) := dk_181 0 246 (dk_at dksX12_begins_0 7 rfl rfl)
theorem dX12_begins_10 : decode cX12_begins 10 = .ok (.aload_n 0, 1) := dk_42 (dk_at dksX12_begins_0 10 rfl rfl)
theorem dX12_begins_11 : decode cX12_begins 11 = .ok (.lconst 0, 1) := dk_9 (dk_at dksX12_begins_0 11 rfl rfl)
theorem dX12_begins_12 : decode cX12_begins 12 = .ok (.putfield 249, 3) := dk_181 0 249 (dk_at dksX12_begins_0 12 rfl rfl)
theorem dX12_begins_15 : decode cX12_begins 15 = .ok (.iconst 0, 1) := dk_3 (dk_at dksX12_begins_0 15 rfl rfl)
theorem dX12_begins_16 : decode cX12_begins 16 = .ok (.istore_n 1, 1) := dk_60 (dk_at dksX12_begins_0 16 rfl rfl)
theorem dX12_begins_17 : decode cX12_begins 17 = .ok (.iload_n 1, 1) := dk_27 (dk_at dksX12_begins_0 17 rfl rfl)
theorem dX12_begins_18 : decode cX12_begins 18 = .ok (.ldc 147, 2) := dk_18 147 (dk_at dksX12_begins_0 18 rfl rfl)
theorem dX12_begins_20 : decode cX12_begins 20 = .ok (.if_icmp .ge 16, 3) := dk_162 0 16 (dk_at dksX12_begins_0 20 rfl rfl)
theorem dX12_begins_23 : decode cX12_begins 23 = .ok (.aload_n 0, 1) := dk_42 (dk_at dksX12_begins_0 23 rfl rfl)
theorem dX12_begins_24 : decode cX12_begins 24 = .ok (.getfield 148, 3) := dk_180 0 148 (dk_at dksX12_begins_1 0 rfl rfl)
theorem dX12_begins_27 : decode cX12_begins 27 = .ok (.iload_n 1, 1) := dk_27 (dk_at dksX12_begins_1 3 rfl rfl)
theorem dX12_begins_28 : decode cX12_begins 28 = .ok (.iconst 0, 1) := dk_3 (dk_at dksX12_begins_1 4 rfl rfl)
theorem dX12_begins_29 : decode cX12_begins 29 = .ok (.iastore, 1) := dk_79 (dk_at dksX12_begins_1 5 rfl rfl)
theorem dX12_begins_30 : decode cX12_begins 30 = .ok (.iinc 1 1, 3) := dk_132 1 1 (dk_at dksX12_begins_1 6 rfl rfl)
theorem dX12_begins_33 : decode cX12_begins 33 = .ok (.goto (-16), 3) := dk_167 255 240 (dk_at dksX12_begins_1 9 rfl rfl)
theorem dX12_begins_36 : decode cX12_begins 36 = .ok (.aload_n 0, 1) := dk_42 (dk_at dksX12_begins_1 12 rfl rfl)
theorem dX12_begins_37 : decode cX12_begins 37 = .ok (.iconst 0, 1) := dk_3 (dk_at dksX12_begins_1 13 rfl rfl)
theorem dX12_begins_38 : decode cX12_begins 38 = .ok (.putfield 253, 3) := dk_181 0 253 (dk_at dksX12_begins_1 14 rfl rfl)
theorem dX12_begins_41 : decode cX12_begins 41 = .ok (.aload_n 0, 1) := dk_42 (dk_at dksX12_begins_1 17 rfl rfl)
theorem dX12_begins_42 : decode cX12_begins 42 = .ok (.iconst 0, 1) := dk_3 (dk_at dksX12_begins_1 18 rfl rfl)
theorem dX12_begins_43 : decode cX12_begins 43 = .ok (.putfield 256, 3) := dk_181 1 0 (dk_at dksX12_begins_1 19 rfl rfl)
theorem dX12_begins_46 : decode cX12_begins 46 = .ok (.aload_n 0, 1) := dk_42 (dk_at dksX12_begins_1 22 rfl rfl)
theorem dX12_begins_47 : decode cX12_begins 47 = .ok (.iconst 0, 1) := dk_3 (dk_at dksX12_begins_1 23 rfl rfl)
theorem dX12_begins_48 : decode cX12_begins 48 = .ok (.putfield 259, 3) := dk_181 1 3 (dk_at dksX12_begins_2 0 rfl rfl)
theorem dX12_begins_51 : decode cX12_begins 51 = .ok (.aload_n 0, 1) := dk_42 (dk_at dksX12_begins_2 3 rfl rfl)
theorem dX12_begins_52 : decode cX12_begins 52 = .ok (.iconst 0, 1) := dk_3 (dk_at dksX12_begins_2 4 rfl rfl)
theorem dX12_begins_53 : decode cX12_begins 53 = .ok (.putfield 262, 3) := dk_181 1 6 (dk_at dksX12_begins_2 5 rfl rfl)
theorem dX12_begins_56 : decode cX12_begins 56 = .ok (.iconst 0, 1) := dk_3 (dk_at dksX12_begins_2 8 rfl rfl)
theorem dX12_begins_57 : decode cX12_begins 57 = .ok (.istore_n 1, 1) := dk_60 (dk_at dksX12_begins_2 9 rfl rfl)
theorem dX12_begins_58 : decode cX12_begins 58 = .ok (.iload_n 1, 1) := dk_27 (dk_at dksX12_begins_2 10 rfl rfl)
theorem dX12_begins_59 : decode cX12_begins 59 = .ok (.bipush 96, 2) := dk_16 96 (dk_at dksX12_begins_2 11 rfl rfl)
theorem dX12_begins_61 : decode cX12_begins 61 = .ok (.if_icmp .ge 30, 3) := dk_162 0 30 (dk_at dksX12_begins_2 13 rfl rfl)
theorem dX12_begins_64 : decode cX12_begins 64 = .ok (.aload_n 0, 1) := dk_42 (dk_at dksX12_begins_2 16 rfl rfl)
theorem dX12_begins_65 : decode cX12_begins 65 = .ok (.getfield 63, 3) := dk_180 0 63 (dk_at dksX12_begins_2 17 rfl rfl)
theorem dX12_begins_68 : decode cX12_begins 68 = .ok (.iload_n 1, 1) := dk_27 (dk_at dksX12_begins_2 20 rfl rfl)
theorem dX12_begins_69 : decode cX12_begins 69 = .ok (.iconst 0, 1) := dk_3 (dk_at dksX12_begins_2 21 rfl rfl)
theorem dX12_begins_70 : decode cX12_begins 70 = .ok (.bastore, 1) := dk_84 (dk_at dksX12_begins_2 22 rfl rfl)
theorem dX12_begins_71 : decode cX12_begins 71 = .ok (.aload_n 0, 1) := dk_42 (dk_at dksX12_begins_2 23 rfl rfl)
theorem dX12_begins_72 : decode cX12_begins 72 = .ok (.getfield 72, 3) := dk_180 0 72 (dk_at dksX12_begins_3 0 rfl rfl)
theorem dX12_begins_75 : decode cX12_begins 75 = .ok (.iload_n 1, 1) := dk_27 (dk_at dksX12_begins_3 3 rfl rfl)
theorem dX12_begins_76 : decode cX12_begins 76 = .ok (.iconst 0, 1) := dk_3 (dk_at dksX12_begins_3 4 rfl rfl)
theorem dX12_begins_77 : decode cX12_begins 77 = .ok (.iastore, 1) := dk_79 (dk_at dksX12_begins_3 5 rfl rfl)
theorem dX12_begins_78 : decode cX12_begins 78 = .ok (.aload_n 0, 1) := dk_42 (dk_at dksX12_begins_3 6 rfl rfl)
theorem dX12_begins_79 : decode cX12_begins 79 = .ok (.getfield 81, 3) := dk_180 0 81 (dk_at dksX12_begins_3 7 rfl rfl)
theorem dX12_begins_82 : decode cX12_begins 82 = .ok (.iload_n 1, 1) := dk_27 (dk_at dksX12_begins_3 10 rfl rfl)
theorem dX12_begins_83 : decode cX12_begins 83 = .ok (.iconst 0, 1) := dk_3 (dk_at dksX12_begins_3 11 rfl rfl)
theorem dX12_begins_84 : decode cX12_begins 84 = .ok (.iastore, 1) := dk_79 (dk_at dksX12_begins_3 12 rfl rfl)
theorem dX12_begins_85 : decode cX12_begins 85 = .ok (.iinc 1 1, 3) := dk_132 1 1 (dk_at dksX12_begins_3 13 rfl rfl)
theorem dX12_begins_88 : decode cX12_begins 88 = .ok (.goto (-30), 3) := dk_167 255 226 (dk_at dksX12_begins_3 16 rfl rfl)
theorem dX12_begins_91 : decode cX12_begins 91 = .ok (.iconst 0, 1) := dk_3 (dk_at dksX12_begins_3 19 rfl rfl)
theorem dX12_begins_92 : decode cX12_begins 92 = .ok (.istore_n 1, 1) := dk_60 (dk_at dksX12_begins_3 20 rfl rfl)
theorem dX12_begins_93 : decode cX12_begins 93 = .ok (.iload_n 1, 1) := dk_27 (dk_at dksX12_begins_3 21 rfl rfl)
theorem dX12_begins_94 : decode cX12_begins 94 = .ok (.bipush 18, 2) := dk_16 18 (dk_at dksX12_begins_3 22 rfl rfl)
theorem dX12_begins_96 : decode cX12_begins 96 = .ok (.if_icmp .ge 16, 3) := dk_162 0 16 (dk_at dksX12_begins_4 0 rfl rfl)
theorem dX12_begins_99 : decode cX12_begins 99 = .ok (.aload_n 0, 1) := dk_42 (dk_at dksX12_begins_4 3 rfl rfl)
theorem dX12_begins_100 : decode cX12_begins 100 = .ok (.getfield 90, 3) := dk_180 0 90 (dk_at dksX12_begins_4 4 rfl rfl)
theorem dX12_begins_103 : decode cX12_begins 103 = .ok (.iload_n 1, 1) := dk_27 (dk_at dksX12_begins_4 7 rfl rfl)
theorem dX12_begins_104 : decode cX12_begins 104 = .ok (.iconst 0, 1) := dk_3 (dk_at dksX12_begins_4 8 rfl rfl)
theorem dX12_begins_105 : decode cX12_begins 105 = .ok (.iastore, 1) := dk_79 (dk_at dksX12_begins_4 9 rfl rfl)
theorem dX12_begins_106 : decode cX12_begins 106 = .ok (.iinc 1 1, 3) := dk_132 1 1 (dk_at dksX12_begins_4 10 rfl rfl)
theorem dX12_begins_109 : decode cX12_begins 109 = .ok (.goto (-16), 3) := dk_167 255 240 (dk_at dksX12_begins_4 13 rfl rfl)
theorem dX12_begins_112 : decode cX12_begins 112 = .ok (.iconst 0, 1) := dk_3 (dk_at dksX12_begins_4 16 rfl rfl)
theorem dX12_begins_113 : decode cX12_begins 113 = .ok (.istore_n 1, 1) := dk_60 (dk_at dksX12_begins_4 17 rfl rfl)
theorem dX12_begins_114 : decode cX12_begins 114 = .ok (.iload_n 1, 1) := dk_27 (dk_at dksX12_begins_4 18 rfl rfl)
theorem dX12_begins_115 : decode cX12_begins 115 = .ok (.bipush 6, 2) := dk_16 6 (dk_at dksX12_begins_4 19 rfl rfl)
theorem dX12_begins_117 : decode cX12_begins 117 = .ok (.if_icmp .ge 37, 3) := dk_162 0 37 (dk_at dksX12_begins_4 21 rfl rfl)
theorem dX12_begins_120 : decode cX12_begins 120 = .ok (.aload_n 0, 1) := dk_42 (dk_at dksX12_begins_5 0 rfl rfl)
theorem dX12_begins_121 : decode cX12_begins 121 = .ok (.getfield 44, 3) := dk_180 0 44 (dk_at dksX12_begins_5 1 rfl rfl)
theorem dX12_begins_124 : decode cX12_begins 124 = .ok (.iload_n 1, 1) := dk_27 (dk_at dksX12_begins_5 4 rfl rfl)
theorem dX12_begins_125 : decode cX12_begins 125 = .ok (.iconst 0, 1) := dk_3 (dk_at dksX12_begins_5 5 rfl rfl)
theorem dX12_begins_126 : decode cX12_begins 126 = .ok (.iastore, 1) := dk_79 (dk_at dksX12_begins_5 6 rfl rfl)
theorem dX12_begins_127 : decode cX12_begins 127 = .ok (.aload_n 0, 1) := dk_42 (dk_at dksX12_begins_5 7 rfl rfl)
theorem dX12_begins_128 : decode cX12_begins 128 = .ok (.getfield 47, 3) := dk_180 0 47 (dk_at dksX12_begins_5 8 rfl rfl)
theorem dX12_begins_131 : decode cX12_begins 131 = .ok (.iload_n 1, 1) := dk_27 (dk_at dksX12_begins_5 11 rfl rfl)
theorem dX12_begins_132 : decode cX12_begins 132 = .ok (.iconst 0, 1) := dk_3 (dk_at dksX12_begins_5 12 rfl rfl)
theorem dX12_begins_133 : decode cX12_begins 133 = .ok (.iastore, 1) := dk_79 (dk_at dksX12_begins_5 13 rfl rfl)
theorem dX12_begins_134 : decode cX12_begins 134 = .ok (.aload_n 0, 1) := dk_42 (dk_at dksX12_begins_5 14 rfl rfl)
theorem dX12_begins_135 : decode cX12_begins 135 = .ok (.getfield 50, 3) := dk_180 0 50 (dk_at dksX12_begins_5 15 rfl rfl)
theorem dX12_begins_138 : decode cX12_begins 138 = .ok (.iload_n 1, 1) := dk_27 (dk_at dksX12_begins_5 18 rfl rfl)
theorem dX12_begins_139 : decode cX12_begins 139 = .ok (.iconst 0, 1) := dk_3 (dk_at dksX12_begins_5 19 rfl rfl)
theorem dX12_begins_140 : decode cX12_begins 140 = .ok (.iastore, 1) := dk_79 (dk_at dksX12_begins_5 20 rfl rfl)
theorem dX12_begins_141 : decode cX12_begins 141 = .ok (.aload_n 0, 1) := dk_42 (dk_at dksX12_begins_5 21 rfl rfl)
theorem dX12_begins_142 : decode cX12_begins 142 = .ok (.getfield 53, 3) := dk_180 0 53 (dk_at dksX12_begins_6 0 rfl rfl)
theorem dX12_begins_145 : decode cX12_begins 145 = .ok (.iload_n 1, 1) := dk_27 (dk_at dksX12_begins_6 3 rfl rfl)
theorem dX12_begins_146 : decode cX12_begins 146 = .ok (.iconst 0, 1) := dk_3 (dk_at dksX12_begins_6 4 rfl rfl)
theorem dX12_begins_147 : decode cX12_begins 147 = .ok (.iastore, 1) := dk_79 (dk_at dksX12_begins_6 5 rfl rfl)
theorem dX12_begins_148 : decode cX12_begins 148 = .ok (.iinc 1 1, 3) := dk_132 1 1 (dk_at dksX12_begins_6 6 rfl rfl)
theorem dX12_begins_151 : decode cX12_begins 151 = .ok (.goto (-37), 3) := dk_167 255 219 (dk_at dksX12_begins_6 9 rfl rfl)
theorem dX12_begins_154 : decode cX12_begins 154 = .ok (.aload_n 0, 1) := dk_42 (dk_at dksX12_begins_6 12 rfl rfl)
theorem dX12_begins_155 : decode cX12_begins 155 = .ok (.invokevirtual 265, 3) := dk_182 1 9 (dk_at dksX12_begins_6 13 rfl rfl)
theorem dX12_begins_158 : decode cX12_begins 158 = .ok (.return_, 1) := dk_177 (dk_at dksX12_begins_6 16 rfl rfl)
abbrev cX12_breaks : ByteArray := prog_27_method_16_code
def yX12_breaks : MethodName := ⟨RX12, "breaks", "()V"⟩
def dkwX12_breaks_6 : List UInt8 := [46, 79, 132, 1, 1, 167, 255, 211, 42, 42, 180, 1, 6, 181, 1, 15, 177]
abbrev dktX12_breaks_6 : List UInt8 := dkwX12_breaks_6 ++ []
def dkwX12_breaks_5 : List UInt8 := [51, 84, 42, 180, 0, 66, 27, 42, 180, 0, 72, 27, 46, 79, 42, 180, 0, 75, 27, 42, 180, 0, 81, 27]
abbrev dktX12_breaks_5 : List UInt8 := dkwX12_breaks_5 ++ dktX12_breaks_6
def dkwX12_breaks_4 : List UInt8 := [132, 1, 1, 167, 255, 219, 3, 60, 27, 16, 96, 162, 0, 45, 42, 180, 0, 56, 27, 42, 180, 0, 63, 27]
abbrev dktX12_breaks_4 : List UInt8 := dkwX12_breaks_4 ++ dktX12_breaks_5
def dkwX12_breaks_3 : List UInt8 := [27, 3, 79, 42, 180, 0, 117, 27, 3, 79, 42, 180, 0, 129, 27, 3, 79, 42, 180, 0, 132, 27, 3, 79]
abbrev dktX12_breaks_3 : List UInt8 := dkwX12_breaks_3 ++ dktX12_breaks_4
def dkwX12_breaks_2 : List UInt8 := [180, 0, 90, 27, 46, 79, 132, 1, 1, 167, 255, 207, 3, 60, 27, 16, 54, 162, 0, 37, 42, 180, 0, 114]
abbrev dktX12_breaks_2 : List UInt8 := dkwX12_breaks_2 ++ dktX12_breaks_3
def dkwX12_breaks_1 : List UInt8 := [27, 3, 79, 42, 180, 0, 108, 27, 3, 79, 42, 180, 0, 111, 27, 3, 84, 42, 180, 0, 84, 27, 42]
abbrev dktX12_breaks_1 : List UInt8 := dkwX12_breaks_1 ++ dktX12_breaks_2
def dkwX12_breaks_0 : List UInt8 := [42, 3, 181, 1, 12, 3, 60, 27, 16, 18, 162, 0, 49, 42, 180, 0, 93, 27, 3, 79, 42, 180, 0, 105]
abbrev dktX12_breaks_0 : List UInt8 := dkwX12_breaks_0 ++ dktX12_breaks_1
theorem dksX12_breaks_0 : cX12_breaks.data.toList.drop 0 = dktX12_breaks_0 := by decide +kernel
theorem dksX12_breaks_1 : cX12_breaks.data.toList.drop 24 = dktX12_breaks_1 := dk_seg dksX12_breaks_0 24 rfl rfl
theorem dksX12_breaks_2 : cX12_breaks.data.toList.drop 47 = dktX12_breaks_2 := dk_seg dksX12_breaks_1 23 rfl rfl
theorem dksX12_breaks_3 : cX12_breaks.data.toList.drop 71 = dktX12_breaks_3 := dk_seg dksX12_breaks_2 24 rfl rfl
theorem dksX12_breaks_4 : cX12_breaks.data.toList.drop 95 = dktX12_breaks_4 := dk_seg dksX12_breaks_3 24 rfl rfl
theorem dksX12_breaks_5 : cX12_breaks.data.toList.drop 119 = dktX12_breaks_5 := dk_seg dksX12_breaks_4 24 rfl rfl
theorem dksX12_breaks_6 : cX12_breaks.data.toList.drop 143 = dktX12_breaks_6 := dk_seg dksX12_breaks_5 24 rfl rfl
theorem dX12_breaks_0 : decode cX12_breaks 0 = .ok (.aload_n 0, 1) := dk_42 (dk_at dksX12_breaks_0 0 rfl rfl)
theorem dX12_breaks_1 : decode cX12_breaks 1 = .ok (.iconst 0, 1) := dk_3 (dk_at dksX12_breaks_0 1 rfl rfl)
theorem dX12_breaks_2 : decode cX12_breaks 2 = .ok (.putfield 268, 3) := dk_181 1 12 (dk_at dksX12_breaks_0 2 rfl rfl)
theorem dX12_breaks_5 : decode cX12_breaks 5 = .ok (.iconst 0, 1) := dk_3 (dk_at dksX12_breaks_0 5 rfl rfl)
theorem dX12_breaks_6 : decode cX12_breaks 6 = .ok (.istore_n 1, 1) := dk_60 (dk_at dksX12_breaks_0 6 rfl rfl)
theorem dX12_breaks_7 : decode cX12_breaks 7 = .ok (.iload_n 1, 1) := dk_27 (dk_at dksX12_breaks_0 7 rfl rfl)
theorem dX12_breaks_8 : decode cX12_breaks 8 = .ok (.bipush 18, 2) := dk_16 18 (dk_at dksX12_breaks_0 8 rfl rfl)
theorem dX12_breaks_10 : decode cX12_breaks 10 = .ok (.if_icmp .ge 49, 3) := dk_162 0 49 (dk_at dksX12_breaks_0 10 rfl rfl)
theorem dX12_breaks_13 : decode cX12_breaks 13 = .ok (.aload_n 0, 1) := dk_42 (dk_at dksX12_breaks_0 13 rfl rfl)
theorem dX12_breaks_14 : decode cX12_breaks 14 = .ok (.getfield 93, 3) := dk_180 0 93 (dk_at dksX12_breaks_0 14 rfl rfl)
theorem dX12_breaks_17 : decode cX12_breaks 17 = .ok (.iload_n 1, 1) := dk_27 (dk_at dksX12_breaks_0 17 rfl rfl)
theorem dX12_breaks_18 : decode cX12_breaks 18 = .ok (.iconst 0, 1) := dk_3 (dk_at dksX12_breaks_0 18 rfl rfl)
theorem dX12_breaks_19 : decode cX12_breaks 19 = .ok (.iastore, 1) := dk_79 (dk_at dksX12_breaks_0 19 rfl rfl)
theorem dX12_breaks_20 : decode cX12_breaks 20 = .ok (.aload_n 0, 1) := dk_42 (dk_at dksX12_breaks_0 20 rfl rfl)
theorem dX12_breaks_21 : decode cX12_breaks 21 = .ok (.getfield 105, 3) := dk_180 0 105 (dk_at dksX12_breaks_0 21 rfl rfl)
theorem dX12_breaks_24 : decode cX12_breaks 24 = .ok (.iload_n 1, 1) := dk_27 (dk_at dksX12_breaks_1 0 rfl rfl)
theorem dX12_breaks_25 : decode cX12_breaks 25 = .ok (.iconst 0, 1) := dk_3 (dk_at dksX12_breaks_1 1 rfl rfl)
theorem dX12_breaks_26 : decode cX12_breaks 26 = .ok (.iastore, 1) := dk_79 (dk_at dksX12_breaks_1 2 rfl rfl)
theorem dX12_breaks_27 : decode cX12_breaks 27 = .ok (.aload_n 0, 1) := dk_42 (dk_at dksX12_breaks_1 3 rfl rfl)
theorem dX12_breaks_28 : decode cX12_breaks 28 = .ok (.getfield 108, 3) := dk_180 0 108 (dk_at dksX12_breaks_1 4 rfl rfl)
theorem dX12_breaks_31 : decode cX12_breaks 31 = .ok (.iload_n 1, 1) := dk_27 (dk_at dksX12_breaks_1 7 rfl rfl)
theorem dX12_breaks_32 : decode cX12_breaks 32 = .ok (.iconst 0, 1) := dk_3 (dk_at dksX12_breaks_1 8 rfl rfl)
theorem dX12_breaks_33 : decode cX12_breaks 33 = .ok (.iastore, 1) := dk_79 (dk_at dksX12_breaks_1 9 rfl rfl)
theorem dX12_breaks_34 : decode cX12_breaks 34 = .ok (.aload_n 0, 1) := dk_42 (dk_at dksX12_breaks_1 10 rfl rfl)
theorem dX12_breaks_35 : decode cX12_breaks 35 = .ok (.getfield 111, 3) := dk_180 0 111 (dk_at dksX12_breaks_1 11 rfl rfl)
theorem dX12_breaks_38 : decode cX12_breaks 38 = .ok (.iload_n 1, 1) := dk_27 (dk_at dksX12_breaks_1 14 rfl rfl)
theorem dX12_breaks_39 : decode cX12_breaks 39 = .ok (.iconst 0, 1) := dk_3 (dk_at dksX12_breaks_1 15 rfl rfl)
theorem dX12_breaks_40 : decode cX12_breaks 40 = .ok (.bastore, 1) := dk_84 (dk_at dksX12_breaks_1 16 rfl rfl)
theorem dX12_breaks_41 : decode cX12_breaks 41 = .ok (.aload_n 0, 1) := dk_42 (dk_at dksX12_breaks_1 17 rfl rfl)
theorem dX12_breaks_42 : decode cX12_breaks 42 = .ok (.getfield 84, 3) := dk_180 0 84 (dk_at dksX12_breaks_1 18 rfl rfl)
theorem dX12_breaks_45 : decode cX12_breaks 45 = .ok (.iload_n 1, 1) := dk_27 (dk_at dksX12_breaks_1 21 rfl rfl)
theorem dX12_breaks_46 : decode cX12_breaks 46 = .ok (.aload_n 0, 1) := dk_42 (dk_at dksX12_breaks_1 22 rfl rfl)
theorem dX12_breaks_47 : decode cX12_breaks 47 = .ok (.getfield 90, 3) := dk_180 0 90 (dk_at dksX12_breaks_2 0 rfl rfl)
theorem dX12_breaks_50 : decode cX12_breaks 50 = .ok (.iload_n 1, 1) := dk_27 (dk_at dksX12_breaks_2 3 rfl rfl)
theorem dX12_breaks_51 : decode cX12_breaks 51 = .ok (.iaload, 1) := dk_46 (dk_at dksX12_breaks_2 4 rfl rfl)
theorem dX12_breaks_52 : decode cX12_breaks 52 = .ok (.iastore, 1) := dk_79 (dk_at dksX12_breaks_2 5 rfl rfl)
theorem dX12_breaks_53 : decode cX12_breaks 53 = .ok (.iinc 1 1, 3) := dk_132 1 1 (dk_at dksX12_breaks_2 6 rfl rfl)
theorem dX12_breaks_56 : decode cX12_breaks 56 = .ok (.goto (-49), 3) := dk_167 255 207 (dk_at dksX12_breaks_2 9 rfl rfl)
theorem dX12_breaks_59 : decode cX12_breaks 59 = .ok (.iconst 0, 1) := dk_3 (dk_at dksX12_breaks_2 12 rfl rfl)
theorem dX12_breaks_60 : decode cX12_breaks 60 = .ok (.istore_n 1, 1) := dk_60 (dk_at dksX12_breaks_2 13 rfl rfl)
theorem dX12_breaks_61 : decode cX12_breaks 61 = .ok (.iload_n 1, 1) := dk_27 (dk_at dksX12_breaks_2 14 rfl rfl)
theorem dX12_breaks_62 : decode cX12_breaks 62 = .ok (.bipush 54, 2) := dk_16 54 (dk_at dksX12_breaks_2 15 rfl rfl)
theorem dX12_breaks_64 : decode cX12_breaks 64 = .ok (.if_icmp .ge 37, 3) := dk_162 0 37 (dk_at dksX12_breaks_2 17 rfl rfl)
theorem dX12_breaks_67 : decode cX12_breaks 67 = .ok (.aload_n 0, 1) := dk_42 (dk_at dksX12_breaks_2 20 rfl rfl)
theorem dX12_breaks_68 : decode cX12_breaks 68 = .ok (.getfield 114, 3) := dk_180 0 114 (dk_at dksX12_breaks_2 21 rfl rfl)
theorem dX12_breaks_71 : decode cX12_breaks 71 = .ok (.iload_n 1, 1) := dk_27 (dk_at dksX12_breaks_3 0 rfl rfl)
theorem dX12_breaks_72 : decode cX12_breaks 72 = .ok (.iconst 0, 1) := dk_3 (dk_at dksX12_breaks_3 1 rfl rfl)
theorem dX12_breaks_73 : decode cX12_breaks 73 = .ok (.iastore, 1) := dk_79 (dk_at dksX12_breaks_3 2 rfl rfl)
theorem dX12_breaks_74 : decode cX12_breaks 74 = .ok (.aload_n 0, 1) := dk_42 (dk_at dksX12_breaks_3 3 rfl rfl)
theorem dX12_breaks_75 : decode cX12_breaks 75 = .ok (.getfield 117, 3) := dk_180 0 117 (dk_at dksX12_breaks_3 4 rfl rfl)
theorem dX12_breaks_78 : decode cX12_breaks 78 = .ok (.iload_n 1, 1) := dk_27 (dk_at dksX12_breaks_3 7 rfl rfl)
theorem dX12_breaks_79 : decode cX12_breaks 79 = .ok (.iconst 0, 1) := dk_3 (dk_at dksX12_breaks_3 8 rfl rfl)
theorem dX12_breaks_80 : decode cX12_breaks 80 = .ok (.iastore, 1) := dk_79 (dk_at dksX12_breaks_3 9 rfl rfl)
theorem dX12_breaks_81 : decode cX12_breaks 81 = .ok (.aload_n 0, 1) := dk_42 (dk_at dksX12_breaks_3 10 rfl rfl)
theorem dX12_breaks_82 : decode cX12_breaks 82 = .ok (.getfield 129, 3) := dk_180 0 129 (dk_at dksX12_breaks_3 11 rfl rfl)
theorem dX12_breaks_85 : decode cX12_breaks 85 = .ok (.iload_n 1, 1) := dk_27 (dk_at dksX12_breaks_3 14 rfl rfl)
theorem dX12_breaks_86 : decode cX12_breaks 86 = .ok (.iconst 0, 1) := dk_3 (dk_at dksX12_breaks_3 15 rfl rfl)
theorem dX12_breaks_87 : decode cX12_breaks 87 = .ok (.iastore, 1) := dk_79 (dk_at dksX12_breaks_3 16 rfl rfl)
theorem dX12_breaks_88 : decode cX12_breaks 88 = .ok (.aload_n 0, 1) := dk_42 (dk_at dksX12_breaks_3 17 rfl rfl)
theorem dX12_breaks_89 : decode cX12_breaks 89 = .ok (.getfield 132, 3) := dk_180 0 132 (dk_at dksX12_breaks_3 18 rfl rfl)
theorem dX12_breaks_92 : decode cX12_breaks 92 = .ok (.iload_n 1, 1) := dk_27 (dk_at dksX12_breaks_3 21 rfl rfl)
theorem dX12_breaks_93 : decode cX12_breaks 93 = .ok (.iconst 0, 1) := dk_3 (dk_at dksX12_breaks_3 22 rfl rfl)
theorem dX12_breaks_94 : decode cX12_breaks 94 = .ok (.iastore, 1) := dk_79 (dk_at dksX12_breaks_3 23 rfl rfl)
theorem dX12_breaks_95 : decode cX12_breaks 95 = .ok (.iinc 1 1, 3) := dk_132 1 1 (dk_at dksX12_breaks_4 0 rfl rfl)
theorem dX12_breaks_98 : decode cX12_breaks 98 = .ok (.goto (-37), 3) := dk_167 255 219 (dk_at dksX12_breaks_4 3 rfl rfl)
theorem dX12_breaks_101 : decode cX12_breaks 101 = .ok (.iconst 0, 1) := dk_3 (dk_at dksX12_breaks_4 6 rfl rfl)
theorem dX12_breaks_102 : decode cX12_breaks 102 = .ok (.istore_n 1, 1) := dk_60 (dk_at dksX12_breaks_4 7 rfl rfl)
theorem dX12_breaks_103 : decode cX12_breaks 103 = .ok (.iload_n 1, 1) := dk_27 (dk_at dksX12_breaks_4 8 rfl rfl)
theorem dX12_breaks_104 : decode cX12_breaks 104 = .ok (.bipush 96, 2) := dk_16 96 (dk_at dksX12_breaks_4 9 rfl rfl)
theorem dX12_breaks_106 : decode cX12_breaks 106 = .ok (.if_icmp .ge 45, 3) := dk_162 0 45 (dk_at dksX12_breaks_4 11 rfl rfl)
theorem dX12_breaks_109 : decode cX12_breaks 109 = .ok (.aload_n 0, 1) := dk_42 (dk_at dksX12_breaks_4 14 rfl rfl)
theorem dX12_breaks_110 : decode cX12_breaks 110 = .ok (.getfield 56, 3) := dk_180 0 56 (dk_at dksX12_breaks_4 15 rfl rfl)
theorem dX12_breaks_113 : decode cX12_breaks 113 = .ok (.iload_n 1, 1) := dk_27 (dk_at dksX12_breaks_4 18 rfl rfl)
theorem dX12_breaks_114 : decode cX12_breaks 114 = .ok (.aload_n 0, 1) := dk_42 (dk_at dksX12_breaks_4 19 rfl rfl)
theorem dX12_breaks_115 : decode cX12_breaks 115 = .ok (.getfield 63, 3) := dk_180 0 63 (dk_at dksX12_breaks_4 20 rfl rfl)
theorem dX12_breaks_118 : decode cX12_breaks 118 = .ok (.iload_n 1, 1) := dk_27 (dk_at dksX12_breaks_4 23 rfl rfl)
theorem dX12_breaks_119 : decode cX12_breaks 119 = .ok (.baload, 1) := dk_51 (dk_at dksX12_breaks_5 0 rfl rfl)
theorem dX12_breaks_120 : decode cX12_breaks 120 = .ok (.bastore, 1) := dk_84 (dk_at dksX12_breaks_5 1 rfl rfl)
theorem dX12_breaks_121 : decode cX12_breaks 121 = .ok (.aload_n 0, 1) := dk_42 (dk_at dksX12_breaks_5 2 rfl rfl)
theorem dX12_breaks_122 : decode cX12_breaks 122 = .ok (.getfield 66, 3) := dk_180 0 66 (dk_at dksX12_breaks_5 3 rfl rfl)
theorem dX12_breaks_125 : decode cX12_breaks 125 = .ok (.iload_n 1, 1) := dk_27 (dk_at dksX12_breaks_5 6 rfl rfl)
theorem dX12_breaks_126 : decode cX12_breaks 126 = .ok (.aload_n 0, 1) := dk_42 (dk_at dksX12_breaks_5 7 rfl rfl)
theorem dX12_breaks_127 : decode cX12_breaks 127 = .ok (.getfield 72, 3) := dk_180 0 72 (dk_at dksX12_breaks_5 8 rfl rfl)
theorem dX12_breaks_130 : decode cX12_breaks 130 = .ok (.iload_n 1, 1) := dk_27 (dk_at dksX12_breaks_5 11 rfl rfl)
theorem dX12_breaks_131 : decode cX12_breaks 131 = .ok (.iaload, 1) := dk_46 (dk_at dksX12_breaks_5 12 rfl rfl)
theorem dX12_breaks_132 : decode cX12_breaks 132 = .ok (.iastore, 1) := dk_79 (dk_at dksX12_breaks_5 13 rfl rfl)
theorem dX12_breaks_133 : decode cX12_breaks 133 = .ok (.aload_n 0, 1) := dk_42 (dk_at dksX12_breaks_5 14 rfl rfl)
theorem dX12_breaks_134 : decode cX12_breaks 134 = .ok (.getfield 75, 3) := dk_180 0 75 (dk_at dksX12_breaks_5 15 rfl rfl)
theorem dX12_breaks_137 : decode cX12_breaks 137 = .ok (.iload_n 1, 1) := dk_27 (dk_at dksX12_breaks_5 18 rfl rfl)
theorem dX12_breaks_138 : decode cX12_breaks 138 = .ok (.aload_n 0, 1) := dk_42 (dk_at dksX12_breaks_5 19 rfl rfl)
theorem dX12_breaks_139 : decode cX12_breaks 139 = .ok (.getfield 81, 3) := dk_180 0 81 (dk_at dksX12_breaks_5 20 rfl rfl)
theorem dX12_breaks_142 : decode cX12_breaks 142 = .ok (.iload_n 1, 1) := dk_27 (dk_at dksX12_breaks_5 23 rfl rfl)
theorem dX12_breaks_143 : decode cX12_breaks 143 = .ok (.iaload, 1) := dk_46 (dk_at dksX12_breaks_6 0 rfl rfl)
theorem dX12_breaks_144 : decode cX12_breaks 144 = .ok (.iastore, 1) := dk_79 (dk_at dksX12_breaks_6 1 rfl rfl)
theorem dX12_breaks_145 : decode cX12_breaks 145 = .ok (.iinc 1 1, 3) := dk_132 1 1 (dk_at dksX12_breaks_6 2 rfl rfl)
theorem dX12_breaks_148 : decode cX12_breaks 148 = .ok (.goto (-45), 3) := dk_167 255 211 (dk_at dksX12_breaks_6 5 rfl rfl)
theorem dX12_breaks_151 : decode cX12_breaks 151 = .ok (.aload_n 0, 1) := dk_42 (dk_at dksX12_breaks_6 8 rfl rfl)
theorem dX12_breaks_152 : decode cX12_breaks 152 = .ok (.aload_n 0, 1) := dk_42 (dk_at dksX12_breaks_6 9 rfl rfl)
theorem dX12_breaks_153 : decode cX12_breaks 153 = .ok (.getfield 262, 3) := dk_180 1 6 (dk_at dksX12_breaks_6 10 rfl rfl)
theorem dX12_breaks_156 : decode cX12_breaks 156 = .ok (.putfield 271, 3) := dk_181 1 15 (dk_at dksX12_breaks_6 13 rfl rfl)
theorem dX12_breaks_159 : decode cX12_breaks 159 = .ok (.return_, 1) := dk_177 (dk_at dksX12_breaks_6 16 rfl rfl)
abbrev cX12_configure : ByteArray := prog_27_method_17_code
def yX12_configure : MethodName := ⟨RX12, "configure", "(IIII)I"⟩
def dkwX12_configure_4 : List UInt8 := [181, 0, 29, 42, 29, 181, 0, 32, 42, 21, 4, 181, 0, 35, 21, 5, 172]
abbrev dktX12_configure_4 : List UInt8 := dkwX12_configure_4 ++ []
def dkwX12_configure_3 : List UInt8 := [16, 10, 42, 180, 0, 32, 104, 96, 42, 180, 0, 35, 96, 54, 5, 42, 27, 181, 0, 25, 42, 28]
abbrev dktX12_configure_3 : List UInt8 := dkwX12_configure_3 ++ dktX12_configure_4
def dkwX12_configure_2 : List UInt8 := [153, 0, 7, 19, 1, 18, 172, 17, 3, 232, 42, 180, 0, 25, 104, 16, 100, 42, 180, 0, 29, 104, 96]
abbrev dktX12_configure_2 : List UInt8 := dkwX12_configure_2 ++ dktX12_configure_3
def dkwX12_configure_1 : List UInt8 := [184, 0, 203, 153, 0, 13, 21, 4, 4, 8, 184, 0, 203, 154, 0, 6, 18, 207, 172, 42, 180, 1, 3]
abbrev dktX12_configure_1 : List UInt8 := dkwX12_configure_1 ++ dktX12_configure_2
def dkwX12_configure_0 : List UInt8 := [27, 4, 7, 184, 0, 203, 153, 0, 32, 28, 4, 16, 9, 184, 0, 203, 153, 0, 22, 29, 5, 7]
abbrev dktX12_configure_0 : List UInt8 := dkwX12_configure_0 ++ dktX12_configure_1
theorem dksX12_configure_0 : cX12_configure.data.toList.drop 0 = dktX12_configure_0 := by decide +kernel
theorem dksX12_configure_1 : cX12_configure.data.toList.drop 22 = dktX12_configure_1 := dk_seg dksX12_configure_0 22 rfl rfl
theorem dksX12_configure_2 : cX12_configure.data.toList.drop 45 = dktX12_configure_2 := dk_seg dksX12_configure_1 23 rfl rfl
theorem dksX12_configure_3 : cX12_configure.data.toList.drop 68 = dktX12_configure_3 := dk_seg dksX12_configure_2 23 rfl rfl
theorem dksX12_configure_4 : cX12_configure.data.toList.drop 90 = dktX12_configure_4 := dk_seg dksX12_configure_3 22 rfl rfl
theorem dX12_configure_0 : decode cX12_configure 0 = .ok (.iload_n 1, 1) := dk_27 (dk_at dksX12_configure_0 0 rfl rfl)
theorem dX12_configure_1 : decode cX12_configure 1 = .ok (.iconst 1, 1) := dk_4 (dk_at dksX12_configure_0 1 rfl rfl)
theorem dX12_configure_2 : decode cX12_configure 2 = .ok (.iconst 4, 1) := dk_7 (dk_at dksX12_configure_0 2 rfl rfl)
theorem dX12_configure_3 : decode cX12_configure 3 = .ok (.invokestatic 203, 3) := dk_184 0 203 (dk_at dksX12_configure_0 3 rfl rfl)
theorem dX12_configure_6 : decode cX12_configure 6 = .ok (.ifCond .eq 32, 3) := dk_153 0 32 (dk_at dksX12_configure_0 6 rfl rfl)
theorem dX12_configure_9 : decode cX12_configure 9 = .ok (.iload_n 2, 1) := dk_28 (dk_at dksX12_configure_0 9 rfl rfl)
theorem dX12_configure_10 : decode cX12_configure 10 = .ok (.iconst 1, 1) := dk_4 (dk_at dksX12_configure_0 10 rfl rfl)
theorem dX12_configure_11 : decode cX12_configure 11 = .ok (.bipush 9, 2) := dk_16 9 (dk_at dksX12_configure_0 11 rfl rfl)
theorem dX12_configure_13 : decode cX12_configure 13 = .ok (.invokestatic 203, 3) := dk_184 0 203 (dk_at dksX12_configure_0 13 rfl rfl)
theorem dX12_configure_16 : decode cX12_configure 16 = .ok (.ifCond .eq 22, 3) := dk_153 0 22 (dk_at dksX12_configure_0 16 rfl rfl)
theorem dX12_configure_19 : decode cX12_configure 19 = .ok (.iload_n 3, 1) := dk_29 (dk_at dksX12_configure_0 19 rfl rfl)
theorem dX12_configure_20 : decode cX12_configure 20 = .ok (.iconst 2, 1) := dk_5 (dk_at dksX12_configure_0 20 rfl rfl)
theorem dX12_configure_21 : decode cX12_configure 21 = .ok (.iconst 4, 1) := dk_7 (dk_at dksX12_configure_0 21 rfl rfl)
theorem dX12_configure_22 : decode cX12_configure 22 = .ok (.invokestatic 203, 3) := dk_184 0 203 (dk_at dksX12_configure_1 0 rfl rfl)
theorem dX12_configure_25 : decode cX12_configure 25 = .ok (.ifCond .eq 13, 3) := dk_153 0 13 (dk_at dksX12_configure_1 3 rfl rfl)
theorem dX12_configure_28 : decode cX12_configure 28 = .ok (.iload 4, 2) := dk_21 4 (dk_at dksX12_configure_1 6 rfl rfl)
theorem dX12_configure_30 : decode cX12_configure 30 = .ok (.iconst 1, 1) := dk_4 (dk_at dksX12_configure_1 8 rfl rfl)
theorem dX12_configure_31 : decode cX12_configure 31 = .ok (.iconst 5, 1) := dk_8 (dk_at dksX12_configure_1 9 rfl rfl)
theorem dX12_configure_32 : decode cX12_configure 32 = .ok (.invokestatic 203, 3) := dk_184 0 203 (dk_at dksX12_configure_1 10 rfl rfl)
theorem dX12_configure_35 : decode cX12_configure 35 = .ok (.ifCond .ne 6, 3) := dk_154 0 6 (dk_at dksX12_configure_1 13 rfl rfl)
theorem dX12_configure_38 : decode cX12_configure 38 = .ok (.ldc 207, 2) := dk_18 207 (dk_at dksX12_configure_1 16 rfl rfl)
theorem dX12_configure_40 : decode cX12_configure 40 = .ok (.ireturn, 1) := dk_172 (dk_at dksX12_configure_1 18 rfl rfl)
theorem dX12_configure_41 : decode cX12_configure 41 = .ok (.aload_n 0, 1) := dk_42 (dk_at dksX12_configure_1 19 rfl rfl)
theorem dX12_configure_42 : decode cX12_configure 42 = .ok (.getfield 259, 3) := dk_180 1 3 (dk_at dksX12_configure_1 20 rfl rfl)
theorem dX12_configure_45 : decode cX12_configure 45 = .ok (.ifCond .eq 7, 3) := dk_153 0 7 (dk_at dksX12_configure_2 0 rfl rfl)
theorem dX12_configure_48 : decode cX12_configure 48 = .ok (.ldc_w 274, 3) := dk_19 1 18 (dk_at dksX12_configure_2 3 rfl rfl)
theorem dX12_configure_51 : decode cX12_configure 51 = .ok (.ireturn, 1) := dk_172 (dk_at dksX12_configure_2 6 rfl rfl)
theorem dX12_configure_52 : decode cX12_configure 52 = .ok (.sipush 1000, 3) := dk_17 3 232 (dk_at dksX12_configure_2 7 rfl rfl)
theorem dX12_configure_55 : decode cX12_configure 55 = .ok (.aload_n 0, 1) := dk_42 (dk_at dksX12_configure_2 10 rfl rfl)
theorem dX12_configure_56 : decode cX12_configure 56 = .ok (.getfield 25, 3) := dk_180 0 25 (dk_at dksX12_configure_2 11 rfl rfl)
theorem dX12_configure_59 : decode cX12_configure 59 = .ok (.imul, 1) := dk_104 (dk_at dksX12_configure_2 14 rfl rfl)
theorem dX12_configure_60 : decode cX12_configure 60 = .ok (.bipush 100, 2) := dk_16 100 (dk_at dksX12_configure_2 15 rfl rfl)
theorem dX12_configure_62 : decode cX12_configure 62 = .ok (.aload_n 0, 1) := dk_42 (dk_at dksX12_configure_2 17 rfl rfl)
theorem dX12_configure_63 : decode cX12_configure 63 = .ok (.getfield 29, 3) := dk_180 0 29 (dk_at dksX12_configure_2 18 rfl rfl)
theorem dX12_configure_66 : decode cX12_configure 66 = .ok (.imul, 1) := dk_104 (dk_at dksX12_configure_2 21 rfl rfl)
theorem dX12_configure_67 : decode cX12_configure 67 = .ok (.iadd, 1) := dk_96 (dk_at dksX12_configure_2 22 rfl rfl)
theorem dX12_configure_68 : decode cX12_configure 68 = .ok (.bipush 10, 2) := dk_16 10 (dk_at dksX12_configure_3 0 rfl rfl)
theorem dX12_configure_70 : decode cX12_configure 70 = .ok (.aload_n 0, 1) := dk_42 (dk_at dksX12_configure_3 2 rfl rfl)
theorem dX12_configure_71 : decode cX12_configure 71 = .ok (.getfield 32, 3) := dk_180 0 32 (dk_at dksX12_configure_3 3 rfl rfl)
theorem dX12_configure_74 : decode cX12_configure 74 = .ok (.imul, 1) := dk_104 (dk_at dksX12_configure_3 6 rfl rfl)
theorem dX12_configure_75 : decode cX12_configure 75 = .ok (.iadd, 1) := dk_96 (dk_at dksX12_configure_3 7 rfl rfl)
theorem dX12_configure_76 : decode cX12_configure 76 = .ok (.aload_n 0, 1) := dk_42 (dk_at dksX12_configure_3 8 rfl rfl)
theorem dX12_configure_77 : decode cX12_configure 77 = .ok (.getfield 35, 3) := dk_180 0 35 (dk_at dksX12_configure_3 9 rfl rfl)
theorem dX12_configure_80 : decode cX12_configure 80 = .ok (.iadd, 1) := dk_96 (dk_at dksX12_configure_3 12 rfl rfl)
theorem dX12_configure_81 : decode cX12_configure 81 = .ok (.istore 5, 2) := dk_54 5 (dk_at dksX12_configure_3 13 rfl rfl)
theorem dX12_configure_83 : decode cX12_configure 83 = .ok (.aload_n 0, 1) := dk_42 (dk_at dksX12_configure_3 15 rfl rfl)
theorem dX12_configure_84 : decode cX12_configure 84 = .ok (.iload_n 1, 1) := dk_27 (dk_at dksX12_configure_3 16 rfl rfl)
theorem dX12_configure_85 : decode cX12_configure 85 = .ok (.putfield 25, 3) := dk_181 0 25 (dk_at dksX12_configure_3 17 rfl rfl)
theorem dX12_configure_88 : decode cX12_configure 88 = .ok (.aload_n 0, 1) := dk_42 (dk_at dksX12_configure_3 20 rfl rfl)
theorem dX12_configure_89 : decode cX12_configure 89 = .ok (.iload_n 2, 1) := dk_28 (dk_at dksX12_configure_3 21 rfl rfl)
theorem dX12_configure_90 : decode cX12_configure 90 = .ok (.putfield 29, 3) := dk_181 0 29 (dk_at dksX12_configure_4 0 rfl rfl)
theorem dX12_configure_93 : decode cX12_configure 93 = .ok (.aload_n 0, 1) := dk_42 (dk_at dksX12_configure_4 3 rfl rfl)
theorem dX12_configure_94 : decode cX12_configure 94 = .ok (.iload_n 3, 1) := dk_29 (dk_at dksX12_configure_4 4 rfl rfl)
theorem dX12_configure_95 : decode cX12_configure 95 = .ok (.putfield 32, 3) := dk_181 0 32 (dk_at dksX12_configure_4 5 rfl rfl)
theorem dX12_configure_98 : decode cX12_configure 98 = .ok (.aload_n 0, 1) := dk_42 (dk_at dksX12_configure_4 8 rfl rfl)
theorem dX12_configure_99 : decode cX12_configure 99 = .ok (.iload 4, 2) := dk_21 4 (dk_at dksX12_configure_4 9 rfl rfl)
theorem dX12_configure_101 : decode cX12_configure 101 = .ok (.putfield 35, 3) := dk_181 0 35 (dk_at dksX12_configure_4 11 rfl rfl)
theorem dX12_configure_104 : decode cX12_configure 104 = .ok (.iload 5, 2) := dk_21 5 (dk_at dksX12_configure_4 14 rfl rfl)
theorem dX12_configure_106 : decode cX12_configure 106 = .ok (.ireturn, 1) := dk_172 (dk_at dksX12_configure_4 16 rfl rfl)
abbrev cX12_push : ByteArray := prog_27_method_18_code
def yX12_push : MethodName := ⟨RX12, "push", "(II)I"⟩
def dkwX12_push_2 : List UInt8 := [180, 0, 41, 42, 180, 1, 19, 28, 79, 42, 89, 180, 1, 19, 4, 96, 181, 1, 19, 42, 180, 1, 19, 172]
abbrev dktX12_push_2 : List UInt8 := dkwX12_push_2 ++ []
def dkwX12_push_1 : List UInt8 := [42, 180, 1, 19, 16, 60, 160, 0, 6, 18, 211, 172, 42, 180, 0, 38, 42, 180, 1, 19, 27, 79, 42]
abbrev dktX12_push_1 : List UInt8 := dkwX12_push_1 ++ dktX12_push_2
def dkwX12_push_0 : List UInt8 := [27, 3, 16, 15, 184, 0, 203, 153, 0, 14, 28, 16, 157, 16, 99, 184, 0, 203, 154, 0, 6, 18, 207, 172]
abbrev dktX12_push_0 : List UInt8 := dkwX12_push_0 ++ dktX12_push_1
theorem dksX12_push_0 : cX12_push.data.toList.drop 0 = dktX12_push_0 := by decide +kernel
theorem dksX12_push_1 : cX12_push.data.toList.drop 24 = dktX12_push_1 := dk_seg dksX12_push_0 24 rfl rfl
theorem dksX12_push_2 : cX12_push.data.toList.drop 47 = dktX12_push_2 := dk_seg dksX12_push_1 23 rfl rfl
theorem dX12_push_0 : decode cX12_push 0 = .ok (.iload_n 1, 1) := dk_27 (dk_at dksX12_push_0 0 rfl rfl)
theorem dX12_push_1 : decode cX12_push 1 = .ok (.iconst 0, 1) := dk_3 (dk_at dksX12_push_0 1 rfl rfl)
theorem dX12_push_2 : decode cX12_push 2 = .ok (.bipush 15, 2) := dk_16 15 (dk_at dksX12_push_0 2 rfl rfl)
theorem dX12_push_4 : decode cX12_push 4 = .ok (.invokestatic 203, 3) := dk_184 0 203 (dk_at dksX12_push_0 4 rfl rfl)
theorem dX12_push_7 : decode cX12_push 7 = .ok (.ifCond .eq 14, 3) := dk_153 0 14 (dk_at dksX12_push_0 7 rfl rfl)
theorem dX12_push_10 : decode cX12_push 10 = .ok (.iload_n 2, 1) := dk_28 (dk_at dksX12_push_0 10 rfl rfl)
theorem dX12_push_11 : decode cX12_push 11 = .ok (.bipush (-99), 2) := dk_16 157 (dk_at dksX12_push_0 11 rfl rfl)
theorem dX12_push_13 : decode cX12_push 13 = .ok (.bipush 99, 2) := dk_16 99 (dk_at dksX12_push_0 13 rfl rfl)
theorem dX12_push_15 : decode cX12_push 15 = .ok (.invokestatic 203, 3) := dk_184 0 203 (dk_at dksX12_push_0 15 rfl rfl)
theorem dX12_push_18 : decode cX12_push 18 = .ok (.ifCond .ne 6, 3) := dk_154 0 6 (dk_at dksX12_push_0 18 rfl rfl)
theorem dX12_push_21 : decode cX12_push 21 = .ok (.ldc 207, 2) := dk_18 207 (dk_at dksX12_push_0 21 rfl rfl)
theorem dX12_push_23 : decode cX12_push 23 = .ok (.ireturn, 1) := dk_172 (dk_at dksX12_push_0 23 rfl rfl)
theorem dX12_push_24 : decode cX12_push 24 = .ok (.aload_n 0, 1) := dk_42 (dk_at dksX12_push_1 0 rfl rfl)
theorem dX12_push_25 : decode cX12_push 25 = .ok (.getfield 275, 3) := dk_180 1 19 (dk_at dksX12_push_1 1 rfl rfl)
theorem dX12_push_28 : decode cX12_push 28 = .ok (.bipush 60, 2) := dk_16 60 (dk_at dksX12_push_1 4 rfl rfl)
theorem dX12_push_30 : decode cX12_push 30 = .ok (.if_icmp .ne 6, 3) := dk_160 0 6 (dk_at dksX12_push_1 6 rfl rfl)
theorem dX12_push_33 : decode cX12_push 33 = .ok (.ldc 211, 2) := dk_18 211 (dk_at dksX12_push_1 9 rfl rfl)
theorem dX12_push_35 : decode cX12_push 35 = .ok (.ireturn, 1) := dk_172 (dk_at dksX12_push_1 11 rfl rfl)
theorem dX12_push_36 : decode cX12_push 36 = .ok (.aload_n 0, 1) := dk_42 (dk_at dksX12_push_1 12 rfl rfl)
theorem dX12_push_37 : decode cX12_push 37 = .ok (.getfield 38, 3) := dk_180 0 38 (dk_at dksX12_push_1 13 rfl rfl)
theorem dX12_push_40 : decode cX12_push 40 = .ok (.aload_n 0, 1) := dk_42 (dk_at dksX12_push_1 16 rfl rfl)
theorem dX12_push_41 : decode cX12_push 41 = .ok (.getfield 275, 3) := dk_180 1 19 (dk_at dksX12_push_1 17 rfl rfl)
theorem dX12_push_44 : decode cX12_push 44 = .ok (.iload_n 1, 1) := dk_27 (dk_at dksX12_push_1 20 rfl rfl)
theorem dX12_push_45 : decode cX12_push 45 = .ok (.iastore, 1) := dk_79 (dk_at dksX12_push_1 21 rfl rfl)
theorem dX12_push_46 : decode cX12_push 46 = .ok (.aload_n 0, 1) := dk_42 (dk_at dksX12_push_1 22 rfl rfl)
theorem dX12_push_47 : decode cX12_push 47 = .ok (.getfield 41, 3) := dk_180 0 41 (dk_at dksX12_push_2 0 rfl rfl)
theorem dX12_push_50 : decode cX12_push 50 = .ok (.aload_n 0, 1) := dk_42 (dk_at dksX12_push_2 3 rfl rfl)
theorem dX12_push_51 : decode cX12_push 51 = .ok (.getfield 275, 3) := dk_180 1 19 (dk_at dksX12_push_2 4 rfl rfl)
theorem dX12_push_54 : decode cX12_push 54 = .ok (.iload_n 2, 1) := dk_28 (dk_at dksX12_push_2 7 rfl rfl)
theorem dX12_push_55 : decode cX12_push 55 = .ok (.iastore, 1) := dk_79 (dk_at dksX12_push_2 8 rfl rfl)
theorem dX12_push_56 : decode cX12_push 56 = .ok (.aload_n 0, 1) := dk_42 (dk_at dksX12_push_2 9 rfl rfl)
theorem dX12_push_57 : decode cX12_push 57 = .ok (.dup, 1) := dk_89 (dk_at dksX12_push_2 10 rfl rfl)
theorem dX12_push_58 : decode cX12_push 58 = .ok (.getfield 275, 3) := dk_180 1 19 (dk_at dksX12_push_2 11 rfl rfl)
theorem dX12_push_61 : decode cX12_push 61 = .ok (.iconst 1, 1) := dk_4 (dk_at dksX12_push_2 14 rfl rfl)
theorem dX12_push_62 : decode cX12_push 62 = .ok (.iadd, 1) := dk_96 (dk_at dksX12_push_2 15 rfl rfl)
theorem dX12_push_63 : decode cX12_push 63 = .ok (.putfield 275, 3) := dk_181 1 19 (dk_at dksX12_push_2 16 rfl rfl)
theorem dX12_push_66 : decode cX12_push 66 = .ok (.aload_n 0, 1) := dk_42 (dk_at dksX12_push_2 19 rfl rfl)
theorem dX12_push_67 : decode cX12_push 67 = .ok (.getfield 275, 3) := dk_180 1 19 (dk_at dksX12_push_2 20 rfl rfl)
theorem dX12_push_70 : decode cX12_push 70 = .ok (.ireturn, 1) := dk_172 (dk_at dksX12_push_2 23 rfl rfl)
abbrev cX12_clear : ByteArray := prog_27_method_19_code
def yX12_clear : MethodName := ⟨RX12, "clear", "()I"⟩
def dkwX12_clear_0 : List UInt8 := [42, 180, 1, 19, 60, 42, 3, 181, 1, 19, 42, 182, 0, 240, 27, 172]
abbrev dktX12_clear_0 : List UInt8 := dkwX12_clear_0 ++ []
theorem dksX12_clear_0 : cX12_clear.data.toList.drop 0 = dktX12_clear_0 := by decide +kernel
theorem dX12_clear_0 : decode cX12_clear 0 = .ok (.aload_n 0, 1) := dk_42 (dk_at dksX12_clear_0 0 rfl rfl)
theorem dX12_clear_1 : decode cX12_clear 1 = .ok (.getfield 275, 3) := dk_180 1 19 (dk_at dksX12_clear_0 1 rfl rfl)
theorem dX12_clear_4 : decode cX12_clear 4 = .ok (.istore_n 1, 1) := dk_60 (dk_at dksX12_clear_0 4 rfl rfl)
theorem dX12_clear_5 : decode cX12_clear 5 = .ok (.aload_n 0, 1) := dk_42 (dk_at dksX12_clear_0 5 rfl rfl)
theorem dX12_clear_6 : decode cX12_clear 6 = .ok (.iconst 0, 1) := dk_3 (dk_at dksX12_clear_0 6 rfl rfl)
theorem dX12_clear_7 : decode cX12_clear 7 = .ok (.putfield 275, 3) := dk_181 1 19 (dk_at dksX12_clear_0 7 rfl rfl)
theorem dX12_clear_10 : decode cX12_clear 10 = .ok (.aload_n 0, 1) := dk_42 (dk_at dksX12_clear_0 10 rfl rfl)
theorem dX12_clear_11 : decode cX12_clear 11 = .ok (.invokevirtual 240, 3) := dk_182 0 240 (dk_at dksX12_clear_0 11 rfl rfl)
theorem dX12_clear_14 : decode cX12_clear 14 = .ok (.iload_n 1, 1) := dk_27 (dk_at dksX12_clear_0 14 rfl rfl)
theorem dX12_clear_15 : decode cX12_clear 15 = .ok (.ireturn, 1) := dk_172 (dk_at dksX12_clear_0 15 rfl rfl)
abbrev cX12_tick : ByteArray := prog_27_method_46_code
def yX12_tick : MethodName := ⟨RX12, "tick", "(I)I"⟩
def dkwX12_tick_1 : List UInt8 := [182, 1, 114, 154, 0, 13, 42, 182, 1, 118, 132, 2, 1, 167, 255, 237, 28, 172]
abbrev dktX12_tick_1 : List UInt8 := dkwX12_tick_1 ++ []
def dkwX12_tick_0 : List UInt8 := [27, 4, 17, 0, 200, 184, 0, 203, 154, 0, 6, 18, 207, 172, 3, 61, 28, 27, 162, 0, 20, 42]
abbrev dktX12_tick_0 : List UInt8 := dkwX12_tick_0 ++ dktX12_tick_1
theorem dksX12_tick_0 : cX12_tick.data.toList.drop 0 = dktX12_tick_0 := by decide +kernel
theorem dksX12_tick_1 : cX12_tick.data.toList.drop 22 = dktX12_tick_1 := dk_seg dksX12_tick_0 22 rfl rfl
theorem dX12_tick_0 : decode cX12_tick 0 = .ok (.iload_n 1, 1) := dk_27 (dk_at dksX12_tick_0 0 rfl rfl)
theorem dX12_tick_1 : decode cX12_tick 1 = .ok (.iconst 1, 1) := dk_4 (dk_at dksX12_tick_0 1 rfl rfl)
theorem dX12_tick_2 : decode cX12_tick 2 = .ok (.sipush 200, 3) := dk_17 0 200 (dk_at dksX12_tick_0 2 rfl rfl)
theorem dX12_tick_5 : decode cX12_tick 5 = .ok (.invokestatic 203, 3) := dk_184 0 203 (dk_at dksX12_tick_0 5 rfl rfl)
theorem dX12_tick_8 : decode cX12_tick 8 = .ok (.ifCond .ne 6, 3) := dk_154 0 6 (dk_at dksX12_tick_0 8 rfl rfl)
theorem dX12_tick_11 : decode cX12_tick 11 = .ok (.ldc 207, 2) := dk_18 207 (dk_at dksX12_tick_0 11 rfl rfl)
theorem dX12_tick_13 : decode cX12_tick 13 = .ok (.ireturn, 1) := dk_172 (dk_at dksX12_tick_0 13 rfl rfl)
theorem dX12_tick_14 : decode cX12_tick 14 = .ok (.iconst 0, 1) := dk_3 (dk_at dksX12_tick_0 14 rfl rfl)
theorem dX12_tick_15 : decode cX12_tick 15 = .ok (.istore_n 2, 1) := dk_61 (dk_at dksX12_tick_0 15 rfl rfl)
theorem dX12_tick_16 : decode cX12_tick 16 = .ok (.iload_n 2, 1) := dk_28 (dk_at dksX12_tick_0 16 rfl rfl)
theorem dX12_tick_17 : decode cX12_tick 17 = .ok (.iload_n 1, 1) := dk_27 (dk_at dksX12_tick_0 17 rfl rfl)
theorem dX12_tick_18 : decode cX12_tick 18 = .ok (.if_icmp .ge 20, 3) := dk_162 0 20 (dk_at dksX12_tick_0 18 rfl rfl)
theorem dX12_tick_21 : decode cX12_tick 21 = .ok (.aload_n 0, 1) := dk_42 (dk_at dksX12_tick_0 21 rfl rfl)
theorem dX12_tick_22 : decode cX12_tick 22 = .ok (.invokevirtual 370, 3) := dk_182 1 114 (dk_at dksX12_tick_1 0 rfl rfl)
theorem dX12_tick_25 : decode cX12_tick 25 = .ok (.ifCond .ne 13, 3) := dk_154 0 13 (dk_at dksX12_tick_1 3 rfl rfl)
theorem dX12_tick_28 : decode cX12_tick 28 = .ok (.aload_n 0, 1) := dk_42 (dk_at dksX12_tick_1 6 rfl rfl)
theorem dX12_tick_29 : decode cX12_tick 29 = .ok (.invokevirtual 374, 3) := dk_182 1 118 (dk_at dksX12_tick_1 7 rfl rfl)
theorem dX12_tick_32 : decode cX12_tick 32 = .ok (.iinc 2 1, 3) := dk_132 2 1 (dk_at dksX12_tick_1 10 rfl rfl)
theorem dX12_tick_35 : decode cX12_tick 35 = .ok (.goto (-19), 3) := dk_167 255 237 (dk_at dksX12_tick_1 13 rfl rfl)
theorem dX12_tick_38 : decode cX12_tick 38 = .ok (.iload_n 2, 1) := dk_28 (dk_at dksX12_tick_1 16 rfl rfl)
theorem dX12_tick_39 : decode cX12_tick 39 = .ok (.ireturn, 1) := dk_172 (dk_at dksX12_tick_1 17 rfl rfl)
abbrev cX12_quiet : ByteArray := prog_27_method_44_code
def yX12_quiet : MethodName := ⟨RX12, "quiet", "()Z"⟩
def dkwX12_quiet_3 : List UInt8 := [3, 172, 132, 1, 1, 167, 255, 227, 4, 172]
abbrev dktX12_quiet_3 : List UInt8 := dkwX12_quiet_3 ++ []
def dkwX12_quiet_2 : List UInt8 := [27, 16, 54, 162, 0, 29, 42, 180, 0, 114, 27, 46, 157, 0, 12, 42, 180, 0, 129, 27, 46, 158, 0, 5]
abbrev dktX12_quiet_2 : List UInt8 := dkwX12_quiet_2 ++ dktX12_quiet_3
def dkwX12_quiet_1 : List UInt8 := [16, 18, 162, 0, 20, 42, 180, 0, 93, 27, 46, 158, 0, 5, 3, 172, 132, 1, 1, 167, 255, 236, 3, 60]
abbrev dktX12_quiet_1 : List UInt8 := dkwX12_quiet_1 ++ dktX12_quiet_2
def dkwX12_quiet_0 : List UInt8 := [42, 180, 1, 15, 42, 180, 1, 19, 161, 0, 10, 42, 180, 1, 12, 158, 0, 5, 3, 172, 3, 60, 27]
abbrev dktX12_quiet_0 : List UInt8 := dkwX12_quiet_0 ++ dktX12_quiet_1
theorem dksX12_quiet_0 : cX12_quiet.data.toList.drop 0 = dktX12_quiet_0 := by decide +kernel
theorem dksX12_quiet_1 : cX12_quiet.data.toList.drop 23 = dktX12_quiet_1 := dk_seg dksX12_quiet_0 23 rfl rfl
theorem dksX12_quiet_2 : cX12_quiet.data.toList.drop 47 = dktX12_quiet_2 := dk_seg dksX12_quiet_1 24 rfl rfl
theorem dksX12_quiet_3 : cX12_quiet.data.toList.drop 71 = dktX12_quiet_3 := dk_seg dksX12_quiet_2 24 rfl rfl
theorem dX12_quiet_0 : decode cX12_quiet 0 = .ok (.aload_n 0, 1) := dk_42 (dk_at dksX12_quiet_0 0 rfl rfl)
theorem dX12_quiet_1 : decode cX12_quiet 1 = .ok (.getfield 271, 3) := dk_180 1 15 (dk_at dksX12_quiet_0 1 rfl rfl)
theorem dX12_quiet_4 : decode cX12_quiet 4 = .ok (.aload_n 0, 1) := dk_42 (dk_at dksX12_quiet_0 4 rfl rfl)
theorem dX12_quiet_5 : decode cX12_quiet 5 = .ok (.getfield 275, 3) := dk_180 1 19 (dk_at dksX12_quiet_0 5 rfl rfl)
theorem dX12_quiet_8 : decode cX12_quiet 8 = .ok (.if_icmp .lt 10, 3) := dk_161 0 10 (dk_at dksX12_quiet_0 8 rfl rfl)
theorem dX12_quiet_11 : decode cX12_quiet 11 = .ok (.aload_n 0, 1) := dk_42 (dk_at dksX12_quiet_0 11 rfl rfl)
theorem dX12_quiet_12 : decode cX12_quiet 12 = .ok (.getfield 268, 3) := dk_180 1 12 (dk_at dksX12_quiet_0 12 rfl rfl)
theorem dX12_quiet_15 : decode cX12_quiet 15 = .ok (.ifCond .le 5, 3) := dk_158 0 5 (dk_at dksX12_quiet_0 15 rfl rfl)
theorem dX12_quiet_18 : decode cX12_quiet 18 = .ok (.iconst 0, 1) := dk_3 (dk_at dksX12_quiet_0 18 rfl rfl)
theorem dX12_quiet_19 : decode cX12_quiet 19 = .ok (.ireturn, 1) := dk_172 (dk_at dksX12_quiet_0 19 rfl rfl)
theorem dX12_quiet_20 : decode cX12_quiet 20 = .ok (.iconst 0, 1) := dk_3 (dk_at dksX12_quiet_0 20 rfl rfl)
theorem dX12_quiet_21 : decode cX12_quiet 21 = .ok (.istore_n 1, 1) := dk_60 (dk_at dksX12_quiet_0 21 rfl rfl)
theorem dX12_quiet_22 : decode cX12_quiet 22 = .ok (.iload_n 1, 1) := dk_27 (dk_at dksX12_quiet_0 22 rfl rfl)
theorem dX12_quiet_23 : decode cX12_quiet 23 = .ok (.bipush 18, 2) := dk_16 18 (dk_at dksX12_quiet_1 0 rfl rfl)
theorem dX12_quiet_25 : decode cX12_quiet 25 = .ok (.if_icmp .ge 20, 3) := dk_162 0 20 (dk_at dksX12_quiet_1 2 rfl rfl)
theorem dX12_quiet_28 : decode cX12_quiet 28 = .ok (.aload_n 0, 1) := dk_42 (dk_at dksX12_quiet_1 5 rfl rfl)
theorem dX12_quiet_29 : decode cX12_quiet 29 = .ok (.getfield 93, 3) := dk_180 0 93 (dk_at dksX12_quiet_1 6 rfl rfl)
theorem dX12_quiet_32 : decode cX12_quiet 32 = .ok (.iload_n 1, 1) := dk_27 (dk_at dksX12_quiet_1 9 rfl rfl)
theorem dX12_quiet_33 : decode cX12_quiet 33 = .ok (.iaload, 1) := dk_46 (dk_at dksX12_quiet_1 10 rfl rfl)
theorem dX12_quiet_34 : decode cX12_quiet 34 = .ok (.ifCond .le 5, 3) := dk_158 0 5 (dk_at dksX12_quiet_1 11 rfl rfl)
theorem dX12_quiet_37 : decode cX12_quiet 37 = .ok (.iconst 0, 1) := dk_3 (dk_at dksX12_quiet_1 14 rfl rfl)
theorem dX12_quiet_38 : decode cX12_quiet 38 = .ok (.ireturn, 1) := dk_172 (dk_at dksX12_quiet_1 15 rfl rfl)
theorem dX12_quiet_39 : decode cX12_quiet 39 = .ok (.iinc 1 1, 3) := dk_132 1 1 (dk_at dksX12_quiet_1 16 rfl rfl)
theorem dX12_quiet_42 : decode cX12_quiet 42 = .ok (.goto (-20), 3) := dk_167 255 236 (dk_at dksX12_quiet_1 19 rfl rfl)
theorem dX12_quiet_45 : decode cX12_quiet 45 = .ok (.iconst 0, 1) := dk_3 (dk_at dksX12_quiet_1 22 rfl rfl)
theorem dX12_quiet_46 : decode cX12_quiet 46 = .ok (.istore_n 1, 1) := dk_60 (dk_at dksX12_quiet_1 23 rfl rfl)
theorem dX12_quiet_47 : decode cX12_quiet 47 = .ok (.iload_n 1, 1) := dk_27 (dk_at dksX12_quiet_2 0 rfl rfl)
theorem dX12_quiet_48 : decode cX12_quiet 48 = .ok (.bipush 54, 2) := dk_16 54 (dk_at dksX12_quiet_2 1 rfl rfl)
theorem dX12_quiet_50 : decode cX12_quiet 50 = .ok (.if_icmp .ge 29, 3) := dk_162 0 29 (dk_at dksX12_quiet_2 3 rfl rfl)
theorem dX12_quiet_53 : decode cX12_quiet 53 = .ok (.aload_n 0, 1) := dk_42 (dk_at dksX12_quiet_2 6 rfl rfl)
theorem dX12_quiet_54 : decode cX12_quiet 54 = .ok (.getfield 114, 3) := dk_180 0 114 (dk_at dksX12_quiet_2 7 rfl rfl)
theorem dX12_quiet_57 : decode cX12_quiet 57 = .ok (.iload_n 1, 1) := dk_27 (dk_at dksX12_quiet_2 10 rfl rfl)
theorem dX12_quiet_58 : decode cX12_quiet 58 = .ok (.iaload, 1) := dk_46 (dk_at dksX12_quiet_2 11 rfl rfl)
theorem dX12_quiet_59 : decode cX12_quiet 59 = .ok (.ifCond .gt 12, 3) := dk_157 0 12 (dk_at dksX12_quiet_2 12 rfl rfl)
theorem dX12_quiet_62 : decode cX12_quiet 62 = .ok (.aload_n 0, 1) := dk_42 (dk_at dksX12_quiet_2 15 rfl rfl)
theorem dX12_quiet_63 : decode cX12_quiet 63 = .ok (.getfield 129, 3) := dk_180 0 129 (dk_at dksX12_quiet_2 16 rfl rfl)
theorem dX12_quiet_66 : decode cX12_quiet 66 = .ok (.iload_n 1, 1) := dk_27 (dk_at dksX12_quiet_2 19 rfl rfl)
theorem dX12_quiet_67 : decode cX12_quiet 67 = .ok (.iaload, 1) := dk_46 (dk_at dksX12_quiet_2 20 rfl rfl)
theorem dX12_quiet_68 : decode cX12_quiet 68 = .ok (.ifCond .le 5, 3) := dk_158 0 5 (dk_at dksX12_quiet_2 21 rfl rfl)
theorem dX12_quiet_71 : decode cX12_quiet 71 = .ok (.iconst 0, 1) := dk_3 (dk_at dksX12_quiet_3 0 rfl rfl)
theorem dX12_quiet_72 : decode cX12_quiet 72 = .ok (.ireturn, 1) := dk_172 (dk_at dksX12_quiet_3 1 rfl rfl)
theorem dX12_quiet_73 : decode cX12_quiet 73 = .ok (.iinc 1 1, 3) := dk_132 1 1 (dk_at dksX12_quiet_3 2 rfl rfl)
theorem dX12_quiet_76 : decode cX12_quiet 76 = .ok (.goto (-29), 3) := dk_167 255 227 (dk_at dksX12_quiet_3 5 rfl rfl)
theorem dX12_quiet_79 : decode cX12_quiet 79 = .ok (.iconst 1, 1) := dk_4 (dk_at dksX12_quiet_3 8 rfl rfl)
theorem dX12_quiet_80 : decode cX12_quiet 80 = .ok (.ireturn, 1) := dk_172 (dk_at dksX12_quiet_3 9 rfl rfl)
abbrev cX12_ticks : ByteArray := prog_27_method_45_code
def yX12_ticks : MethodName := ⟨RX12, "ticks", "()V"⟩
def dkwX12_ticks_5 : List UInt8 := [132, 1, 255, 167, 255, 225, 177]
abbrev dktX12_ticks_5 : List UInt8 := dkwX12_ticks_5 ++ []
def dkwX12_ticks_4 : List UInt8 := [61, 28, 42, 180, 0, 22, 27, 46, 162, 0, 15, 42, 27, 28, 182, 1, 111, 132, 2, 1, 167, 255, 237]
abbrev dktX12_ticks_4 : List UInt8 := dkwX12_ticks_4 ++ dktX12_ticks_5
def dkwX12_ticks_3 : List UInt8 := [162, 0, 8, 42, 27, 182, 1, 22, 132, 1, 1, 167, 255, 194, 42, 182, 0, 199, 60, 27, 155, 0, 33, 3]
abbrev dktX12_ticks_3 : List UInt8 := dkwX12_ticks_3 ++ dktX12_ticks_4
def dkwX12_ticks_2 : List UInt8 := [180, 0, 117, 27, 46, 42, 180, 0, 29, 161, 0, 21, 42, 180, 0, 129, 27, 46, 42, 180, 0, 32]
abbrev dktX12_ticks_2 : List UInt8 := dkwX12_ticks_2 ++ dktX12_ticks_3
def dkwX12_ticks_1 : List UInt8 := [180, 0, 114, 27, 46, 154, 0, 6, 167, 0, 44, 42, 180, 0, 117, 27, 92, 46, 4, 96, 79, 42]
abbrev dktX12_ticks_1 : List UInt8 := dkwX12_ticks_1 ++ dktX12_ticks_2
def dkwX12_ticks_0 : List UInt8 := [42, 89, 180, 0, 243, 4, 96, 181, 0, 243, 42, 4, 181, 1, 3, 3, 60, 27, 16, 54, 162, 0, 62, 42]
abbrev dktX12_ticks_0 : List UInt8 := dkwX12_ticks_0 ++ dktX12_ticks_1
theorem dksX12_ticks_0 : cX12_ticks.data.toList.drop 0 = dktX12_ticks_0 := by decide +kernel
theorem dksX12_ticks_1 : cX12_ticks.data.toList.drop 24 = dktX12_ticks_1 := dk_seg dksX12_ticks_0 24 rfl rfl
theorem dksX12_ticks_2 : cX12_ticks.data.toList.drop 46 = dktX12_ticks_2 := dk_seg dksX12_ticks_1 22 rfl rfl
theorem dksX12_ticks_3 : cX12_ticks.data.toList.drop 68 = dktX12_ticks_3 := dk_seg dksX12_ticks_2 22 rfl rfl
theorem dksX12_ticks_4 : cX12_ticks.data.toList.drop 92 = dktX12_ticks_4 := dk_seg dksX12_ticks_3 24 rfl rfl
theorem dksX12_ticks_5 : cX12_ticks.data.toList.drop 115 = dktX12_ticks_5 := dk_seg dksX12_ticks_4 23 rfl rfl
theorem dX12_ticks_0 : decode cX12_ticks 0 = .ok (.aload_n 0, 1) := dk_42 (dk_at dksX12_ticks_0 0 rfl rfl)
theorem dX12_ticks_1 : decode cX12_ticks 1 = .ok (.dup, 1) := dk_89 (dk_at dksX12_ticks_0 1 rfl rfl)
theorem dX12_ticks_2 : decode cX12_ticks 2 = .ok (.getfield 243, 3) := dk_180 0 243 (dk_at dksX12_ticks_0 2 rfl rfl)
theorem dX12_ticks_5 : decode cX12_ticks 5 = .ok (.iconst 1, 1) := dk_4 (dk_at dksX12_ticks_0 5 rfl rfl)
theorem dX12_ticks_6 : decode cX12_ticks 6 = .ok (.iadd, 1) := dk_96 (dk_at dksX12_ticks_0 6 rfl rfl)
theorem dX12_ticks_7 : decode cX12_ticks 7 = .ok (.putfield 243, 3) := dk_181 0 243 (dk_at dksX12_ticks_0 7 rfl rfl)
theorem dX12_ticks_10 : decode cX12_ticks 10 = .ok (.aload_n 0, 1) := dk_42 (dk_at dksX12_ticks_0 10 rfl rfl)
theorem dX12_ticks_11 : decode cX12_ticks 11 = .ok (.iconst 1, 1) := dk_4 (dk_at dksX12_ticks_0 11 rfl rfl)
theorem dX12_ticks_12 : decode cX12_ticks 12 = .ok (.putfield 259, 3) := dk_181 1 3 (dk_at dksX12_ticks_0 12 rfl rfl)
theorem dX12_ticks_15 : decode cX12_ticks 15 = .ok (.iconst 0, 1) := dk_3 (dk_at dksX12_ticks_0 15 rfl rfl)
theorem dX12_ticks_16 : decode cX12_ticks 16 = .ok (.istore_n 1, 1) := dk_60 (dk_at dksX12_ticks_0 16 rfl rfl)
theorem dX12_ticks_17 : decode cX12_ticks 17 = .ok (.iload_n 1, 1) := dk_27 (dk_at dksX12_ticks_0 17 rfl rfl)
theorem dX12_ticks_18 : decode cX12_ticks 18 = .ok (.bipush 54, 2) := dk_16 54 (dk_at dksX12_ticks_0 18 rfl rfl)
theorem dX12_ticks_20 : decode cX12_ticks 20 = .ok (.if_icmp .ge 62, 3) := dk_162 0 62 (dk_at dksX12_ticks_0 20 rfl rfl)
theorem dX12_ticks_23 : decode cX12_ticks 23 = .ok (.aload_n 0, 1) := dk_42 (dk_at dksX12_ticks_0 23 rfl rfl)
theorem dX12_ticks_24 : decode cX12_ticks 24 = .ok (.getfield 114, 3) := dk_180 0 114 (dk_at dksX12_ticks_1 0 rfl rfl)
theorem dX12_ticks_27 : decode cX12_ticks 27 = .ok (.iload_n 1, 1) := dk_27 (dk_at dksX12_ticks_1 3 rfl rfl)
theorem dX12_ticks_28 : decode cX12_ticks 28 = .ok (.iaload, 1) := dk_46 (dk_at dksX12_ticks_1 4 rfl rfl)
theorem dX12_ticks_29 : decode cX12_ticks 29 = .ok (.ifCond .ne 6, 3) := dk_154 0 6 (dk_at dksX12_ticks_1 5 rfl rfl)
theorem dX12_ticks_32 : decode cX12_ticks 32 = .ok (.goto 44, 3) := dk_167 0 44 (dk_at dksX12_ticks_1 8 rfl rfl)
theorem dX12_ticks_35 : decode cX12_ticks 35 = .ok (.aload_n 0, 1) := dk_42 (dk_at dksX12_ticks_1 11 rfl rfl)
theorem dX12_ticks_36 : decode cX12_ticks 36 = .ok (.getfield 117, 3) := dk_180 0 117 (dk_at dksX12_ticks_1 12 rfl rfl)
theorem dX12_ticks_39 : decode cX12_ticks 39 = .ok (.iload_n 1, 1) := dk_27 (dk_at dksX12_ticks_1 15 rfl rfl)
theorem dX12_ticks_40 : decode cX12_ticks 40 = .ok (.dup2, 1) := dk_92 (dk_at dksX12_ticks_1 16 rfl rfl)
theorem dX12_ticks_41 : decode cX12_ticks 41 = .ok (.iaload, 1) := dk_46 (dk_at dksX12_ticks_1 17 rfl rfl)
theorem dX12_ticks_42 : decode cX12_ticks 42 = .ok (.iconst 1, 1) := dk_4 (dk_at dksX12_ticks_1 18 rfl rfl)
theorem dX12_ticks_43 : decode cX12_ticks 43 = .ok (.iadd, 1) := dk_96 (dk_at dksX12_ticks_1 19 rfl rfl)
theorem dX12_ticks_44 : decode cX12_ticks 44 = .ok (.iastore, 1) := dk_79 (dk_at dksX12_ticks_1 20 rfl rfl)
theorem dX12_ticks_45 : decode cX12_ticks 45 = .ok (.aload_n 0, 1) := dk_42 (dk_at dksX12_ticks_1 21 rfl rfl)
theorem dX12_ticks_46 : decode cX12_ticks 46 = .ok (.getfield 117, 3) := dk_180 0 117 (dk_at dksX12_ticks_2 0 rfl rfl)
theorem dX12_ticks_49 : decode cX12_ticks 49 = .ok (.iload_n 1, 1) := dk_27 (dk_at dksX12_ticks_2 3 rfl rfl)
theorem dX12_ticks_50 : decode cX12_ticks 50 = .ok (.iaload, 1) := dk_46 (dk_at dksX12_ticks_2 4 rfl rfl)
theorem dX12_ticks_51 : decode cX12_ticks 51 = .ok (.aload_n 0, 1) := dk_42 (dk_at dksX12_ticks_2 5 rfl rfl)
theorem dX12_ticks_52 : decode cX12_ticks 52 = .ok (.getfield 29, 3) := dk_180 0 29 (dk_at dksX12_ticks_2 6 rfl rfl)
theorem dX12_ticks_55 : decode cX12_ticks 55 = .ok (.if_icmp .lt 21, 3) := dk_161 0 21 (dk_at dksX12_ticks_2 9 rfl rfl)
theorem dX12_ticks_58 : decode cX12_ticks 58 = .ok (.aload_n 0, 1) := dk_42 (dk_at dksX12_ticks_2 12 rfl rfl)
theorem dX12_ticks_59 : decode cX12_ticks 59 = .ok (.getfield 129, 3) := dk_180 0 129 (dk_at dksX12_ticks_2 13 rfl rfl)
theorem dX12_ticks_62 : decode cX12_ticks 62 = .ok (.iload_n 1, 1) := dk_27 (dk_at dksX12_ticks_2 16 rfl rfl)
theorem dX12_ticks_63 : decode cX12_ticks 63 = .ok (.iaload, 1) := dk_46 (dk_at dksX12_ticks_2 17 rfl rfl)
theorem dX12_ticks_64 : decode cX12_ticks 64 = .ok (.aload_n 0, 1) := dk_42 (dk_at dksX12_ticks_2 18 rfl rfl)
theorem dX12_ticks_65 : decode cX12_ticks 65 = .ok (.getfield 32, 3) := dk_180 0 32 (dk_at dksX12_ticks_2 19 rfl rfl)
theorem dX12_ticks_68 : decode cX12_ticks 68 = .ok (.if_icmp .ge 8, 3) := dk_162 0 8 (dk_at dksX12_ticks_3 0 rfl rfl)
theorem dX12_ticks_71 : decode cX12_ticks 71 = .ok (.aload_n 0, 1) := dk_42 (dk_at dksX12_ticks_3 3 rfl rfl)
theorem dX12_ticks_72 : decode cX12_ticks 72 = .ok (.iload_n 1, 1) := dk_27 (dk_at dksX12_ticks_3 4 rfl rfl)
theorem dX12_ticks_73 : decode cX12_ticks 73 = .ok (.invokevirtual 278, 3) := dk_182 1 22 (dk_at dksX12_ticks_3 5 rfl rfl)
theorem dX12_ticks_76 : decode cX12_ticks 76 = .ok (.iinc 1 1, 3) := dk_132 1 1 (dk_at dksX12_ticks_3 8 rfl rfl)
theorem dX12_ticks_79 : decode cX12_ticks 79 = .ok (.goto (-62), 3) := dk_167 255 194 (dk_at dksX12_ticks_3 11 rfl rfl)
theorem dX12_ticks_82 : decode cX12_ticks 82 = .ok (.aload_n 0, 1) := dk_42 (dk_at dksX12_ticks_3 14 rfl rfl)
theorem dX12_ticks_83 : decode cX12_ticks 83 = .ok (.invokevirtual 199, 3) := dk_182 0 199 (dk_at dksX12_ticks_3 15 rfl rfl)
theorem dX12_ticks_86 : decode cX12_ticks 86 = .ok (.istore_n 1, 1) := dk_60 (dk_at dksX12_ticks_3 18 rfl rfl)
theorem dX12_ticks_87 : decode cX12_ticks 87 = .ok (.iload_n 1, 1) := dk_27 (dk_at dksX12_ticks_3 19 rfl rfl)
theorem dX12_ticks_88 : decode cX12_ticks 88 = .ok (.ifCond .lt 33, 3) := dk_155 0 33 (dk_at dksX12_ticks_3 20 rfl rfl)
theorem dX12_ticks_91 : decode cX12_ticks 91 = .ok (.iconst 0, 1) := dk_3 (dk_at dksX12_ticks_3 23 rfl rfl)
theorem dX12_ticks_92 : decode cX12_ticks 92 = .ok (.istore_n 2, 1) := dk_61 (dk_at dksX12_ticks_4 0 rfl rfl)
theorem dX12_ticks_93 : decode cX12_ticks 93 = .ok (.iload_n 2, 1) := dk_28 (dk_at dksX12_ticks_4 1 rfl rfl)
theorem dX12_ticks_94 : decode cX12_ticks 94 = .ok (.aload_n 0, 1) := dk_42 (dk_at dksX12_ticks_4 2 rfl rfl)
theorem dX12_ticks_95 : decode cX12_ticks 95 = .ok (.getfield 22, 3) := dk_180 0 22 (dk_at dksX12_ticks_4 3 rfl rfl)
theorem dX12_ticks_98 : decode cX12_ticks 98 = .ok (.iload_n 1, 1) := dk_27 (dk_at dksX12_ticks_4 6 rfl rfl)
theorem dX12_ticks_99 : decode cX12_ticks 99 = .ok (.iaload, 1) := dk_46 (dk_at dksX12_ticks_4 7 rfl rfl)
theorem dX12_ticks_100 : decode cX12_ticks 100 = .ok (.if_icmp .ge 15, 3) := dk_162 0 15 (dk_at dksX12_ticks_4 8 rfl rfl)
theorem dX12_ticks_103 : decode cX12_ticks 103 = .ok (.aload_n 0, 1) := dk_42 (dk_at dksX12_ticks_4 11 rfl rfl)
theorem dX12_ticks_104 : decode cX12_ticks 104 = .ok (.iload_n 1, 1) := dk_27 (dk_at dksX12_ticks_4 12 rfl rfl)
theorem dX12_ticks_105 : decode cX12_ticks 105 = .ok (.iload_n 2, 1) := dk_28 (dk_at dksX12_ticks_4 13 rfl rfl)
theorem dX12_ticks_106 : decode cX12_ticks 106 = .ok (.invokevirtual 367, 3) := dk_182 1 111 (dk_at dksX12_ticks_4 14 rfl rfl)
theorem dX12_ticks_109 : decode cX12_ticks 109 = .ok (.iinc 2 1, 3) := dk_132 2 1 (dk_at dksX12_ticks_4 17 rfl rfl)
theorem dX12_ticks_112 : decode cX12_ticks 112 = .ok (.goto (-19), 3) := dk_167 255 237 (dk_at dksX12_ticks_4 20 rfl rfl)
theorem dX12_ticks_115 : decode cX12_ticks 115 = .ok (.iinc 1 (-1), 3) := dk_132 1 255 (dk_at dksX12_ticks_5 0 rfl rfl)
theorem dX12_ticks_118 : decode cX12_ticks 118 = .ok (.goto (-31), 3) := dk_167 255 225 (dk_at dksX12_ticks_5 3 rfl rfl)
theorem dX12_ticks_121 : decode cX12_ticks 121 = .ok (.return_, 1) := dk_177 (dk_at dksX12_ticks_5 6 rfl rfl)
abbrev cX12_closes : ByteArray := prog_27_method_24_code
def yX12_closes : MethodName := ⟨RX12, "closes", "(I)V"⟩
def dkwX12_closes_5 : List UInt8 := [180, 0, 117, 27, 3, 79, 177]
abbrev dktX12_closes_5 : List UInt8 := dkwX12_closes_5 ++ []
def dkwX12_closes_4 : List UInt8 := [132, 3, 1, 167, 255, 183, 42, 180, 0, 129, 27, 92, 46, 4, 96, 79, 42, 180, 0, 114, 27, 3, 79, 42]
abbrev dktX12_closes_4 : List UInt8 := dkwX12_closes_4 ++ dktX12_closes_5
def dkwX12_closes_3 : List UInt8 := [96, 46, 79, 42, 180, 0, 144, 7, 28, 104, 29, 96, 42, 180, 0, 126, 7, 27, 104, 29, 96, 46, 79]
abbrev dktX12_closes_3 : List UInt8 := dkwX12_closes_3 ++ dktX12_closes_4
def dkwX12_closes_2 : List UInt8 := [7, 27, 104, 29, 96, 46, 79, 42, 180, 0, 141, 7, 28, 104, 29, 96, 42, 180, 0, 123, 7, 27, 104, 29]
abbrev dktX12_closes_2 : List UInt8 := dkwX12_closes_2 ++ dktX12_closes_3
def dkwX12_closes_1 : List UInt8 := [62, 29, 42, 180, 0, 114, 27, 46, 162, 0, 69, 42, 180, 0, 138, 7, 28, 104, 29, 96, 42, 180, 0, 120]
abbrev dktX12_closes_1 : List UInt8 := dkwX12_closes_1 ++ dktX12_closes_2
def dkwX12_closes_0 : List UInt8 := [7, 27, 104, 42, 180, 0, 129, 27, 46, 96, 61, 42, 180, 0, 135, 28, 42, 180, 0, 114, 27, 46, 79, 3]
abbrev dktX12_closes_0 : List UInt8 := dkwX12_closes_0 ++ dktX12_closes_1
theorem dksX12_closes_0 : cX12_closes.data.toList.drop 0 = dktX12_closes_0 := by decide +kernel
theorem dksX12_closes_1 : cX12_closes.data.toList.drop 24 = dktX12_closes_1 := dk_seg dksX12_closes_0 24 rfl rfl
theorem dksX12_closes_2 : cX12_closes.data.toList.drop 48 = dktX12_closes_2 := dk_seg dksX12_closes_1 24 rfl rfl
theorem dksX12_closes_3 : cX12_closes.data.toList.drop 72 = dktX12_closes_3 := dk_seg dksX12_closes_2 24 rfl rfl
theorem dksX12_closes_4 : cX12_closes.data.toList.drop 95 = dktX12_closes_4 := dk_seg dksX12_closes_3 23 rfl rfl
theorem dksX12_closes_5 : cX12_closes.data.toList.drop 119 = dktX12_closes_5 := dk_seg dksX12_closes_4 24 rfl rfl
theorem dX12_closes_0 : decode cX12_closes 0 = .ok (.iconst 4, 1) := dk_7 (dk_at dksX12_closes_0 0 rfl rfl)
theorem dX12_closes_1 : decode cX12_closes 1 = .ok (.iload_n 1, 1) := dk_27 (dk_at dksX12_closes_0 1 rfl rfl)
theorem dX12_closes_2 : decode cX12_closes 2 = .ok (.imul, 1) := dk_104 (dk_at dksX12_closes_0 2 rfl rfl)
theorem dX12_closes_3 : decode cX12_closes 3 = .ok (.aload_n 0, 1) := dk_42 (dk_at dksX12_closes_0 3 rfl rfl)
theorem dX12_closes_4 : decode cX12_closes 4 = .ok (.getfield 129, 3) := dk_180 0 129 (dk_at dksX12_closes_0 4 rfl rfl)
theorem dX12_closes_7 : decode cX12_closes 7 = .ok (.iload_n 1, 1) := dk_27 (dk_at dksX12_closes_0 7 rfl rfl)
theorem dX12_closes_8 : decode cX12_closes 8 = .ok (.iaload, 1) := dk_46 (dk_at dksX12_closes_0 8 rfl rfl)
theorem dX12_closes_9 : decode cX12_closes 9 = .ok (.iadd, 1) := dk_96 (dk_at dksX12_closes_0 9 rfl rfl)
theorem dX12_closes_10 : decode cX12_closes 10 = .ok (.istore_n 2, 1) := dk_61 (dk_at dksX12_closes_0 10 rfl rfl)
theorem dX12_closes_11 : decode cX12_closes 11 = .ok (.aload_n 0, 1) := dk_42 (dk_at dksX12_closes_0 11 rfl rfl)
theorem dX12_closes_12 : decode cX12_closes 12 = .ok (.getfield 135, 3) := dk_180 0 135 (dk_at dksX12_closes_0 12 rfl rfl)
theorem dX12_closes_15 : decode cX12_closes 15 = .ok (.iload_n 2, 1) := dk_28 (dk_at dksX12_closes_0 15 rfl rfl)
theorem dX12_closes_16 : decode cX12_closes 16 = .ok (.aload_n 0, 1) := dk_42 (dk_at dksX12_closes_0 16 rfl rfl)
theorem dX12_closes_17 : decode cX12_closes 17 = .ok (.getfield 114, 3) := dk_180 0 114 (dk_at dksX12_closes_0 17 rfl rfl)
theorem dX12_closes_20 : decode cX12_closes 20 = .ok (.iload_n 1, 1) := dk_27 (dk_at dksX12_closes_0 20 rfl rfl)
theorem dX12_closes_21 : decode cX12_closes 21 = .ok (.iaload, 1) := dk_46 (dk_at dksX12_closes_0 21 rfl rfl)
theorem dX12_closes_22 : decode cX12_closes 22 = .ok (.iastore, 1) := dk_79 (dk_at dksX12_closes_0 22 rfl rfl)
theorem dX12_closes_23 : decode cX12_closes 23 = .ok (.iconst 0, 1) := dk_3 (dk_at dksX12_closes_0 23 rfl rfl)
theorem dX12_closes_24 : decode cX12_closes 24 = .ok (.istore_n 3, 1) := dk_62 (dk_at dksX12_closes_1 0 rfl rfl)
theorem dX12_closes_25 : decode cX12_closes 25 = .ok (.iload_n 3, 1) := dk_29 (dk_at dksX12_closes_1 1 rfl rfl)
theorem dX12_closes_26 : decode cX12_closes 26 = .ok (.aload_n 0, 1) := dk_42 (dk_at dksX12_closes_1 2 rfl rfl)
theorem dX12_closes_27 : decode cX12_closes 27 = .ok (.getfield 114, 3) := dk_180 0 114 (dk_at dksX12_closes_1 3 rfl rfl)
theorem dX12_closes_30 : decode cX12_closes 30 = .ok (.iload_n 1, 1) := dk_27 (dk_at dksX12_closes_1 6 rfl rfl)
theorem dX12_closes_31 : decode cX12_closes 31 = .ok (.iaload, 1) := dk_46 (dk_at dksX12_closes_1 7 rfl rfl)
theorem dX12_closes_32 : decode cX12_closes 32 = .ok (.if_icmp .ge 69, 3) := dk_162 0 69 (dk_at dksX12_closes_1 8 rfl rfl)
theorem dX12_closes_35 : decode cX12_closes 35 = .ok (.aload_n 0, 1) := dk_42 (dk_at dksX12_closes_1 11 rfl rfl)
theorem dX12_closes_36 : decode cX12_closes 36 = .ok (.getfield 138, 3) := dk_180 0 138 (dk_at dksX12_closes_1 12 rfl rfl)
theorem dX12_closes_39 : decode cX12_closes 39 = .ok (.iconst 4, 1) := dk_7 (dk_at dksX12_closes_1 15 rfl rfl)
theorem dX12_closes_40 : decode cX12_closes 40 = .ok (.iload_n 2, 1) := dk_28 (dk_at dksX12_closes_1 16 rfl rfl)
theorem dX12_closes_41 : decode cX12_closes 41 = .ok (.imul, 1) := dk_104 (dk_at dksX12_closes_1 17 rfl rfl)
theorem dX12_closes_42 : decode cX12_closes 42 = .ok (.iload_n 3, 1) := dk_29 (dk_at dksX12_closes_1 18 rfl rfl)
theorem dX12_closes_43 : decode cX12_closes 43 = .ok (.iadd, 1) := dk_96 (dk_at dksX12_closes_1 19 rfl rfl)
theorem dX12_closes_44 : decode cX12_closes 44 = .ok (.aload_n 0, 1) := dk_42 (dk_at dksX12_closes_1 20 rfl rfl)
theorem dX12_closes_45 : decode cX12_closes 45 = .ok (.getfield 120, 3) := dk_180 0 120 (dk_at dksX12_closes_1 21 rfl rfl)
theorem dX12_closes_48 : decode cX12_closes 48 = .ok (.iconst 4, 1) := dk_7 (dk_at dksX12_closes_2 0 rfl rfl)
theorem dX12_closes_49 : decode cX12_closes 49 = .ok (.iload_n 1, 1) := dk_27 (dk_at dksX12_closes_2 1 rfl rfl)
theorem dX12_closes_50 : decode cX12_closes 50 = .ok (.imul, 1) := dk_104 (dk_at dksX12_closes_2 2 rfl rfl)
theorem dX12_closes_51 : decode cX12_closes 51 = .ok (.iload_n 3, 1) := dk_29 (dk_at dksX12_closes_2 3 rfl rfl)
theorem dX12_closes_52 : decode cX12_closes 52 = .ok (.iadd, 1) := dk_96 (dk_at dksX12_closes_2 4 rfl rfl)
theorem dX12_closes_53 : decode cX12_closes 53 = .ok (.iaload, 1) := dk_46 (dk_at dksX12_closes_2 5 rfl rfl)
theorem dX12_closes_54 : decode cX12_closes 54 = .ok (.iastore, 1) := dk_79 (dk_at dksX12_closes_2 6 rfl rfl)
theorem dX12_closes_55 : decode cX12_closes 55 = .ok (.aload_n 0, 1) := dk_42 (dk_at dksX12_closes_2 7 rfl rfl)
theorem dX12_closes_56 : decode cX12_closes 56 = .ok (.getfield 141, 3) := dk_180 0 141 (dk_at dksX12_closes_2 8 rfl rfl)
theorem dX12_closes_59 : decode cX12_closes 59 = .ok (.iconst 4, 1) := dk_7 (dk_at dksX12_closes_2 11 rfl rfl)
theorem dX12_closes_60 : decode cX12_closes 60 = .ok (.iload_n 2, 1) := dk_28 (dk_at dksX12_closes_2 12 rfl rfl)
theorem dX12_closes_61 : decode cX12_closes 61 = .ok (.imul, 1) := dk_104 (dk_at dksX12_closes_2 13 rfl rfl)
theorem dX12_closes_62 : decode cX12_closes 62 = .ok (.iload_n 3, 1) := dk_29 (dk_at dksX12_closes_2 14 rfl rfl)
theorem dX12_closes_63 : decode cX12_closes 63 = .ok (.iadd, 1) := dk_96 (dk_at dksX12_closes_2 15 rfl rfl)
theorem dX12_closes_64 : decode cX12_closes 64 = .ok (.aload_n 0, 1) := dk_42 (dk_at dksX12_closes_2 16 rfl rfl)
theorem dX12_closes_65 : decode cX12_closes 65 = .ok (.getfield 123, 3) := dk_180 0 123 (dk_at dksX12_closes_2 17 rfl rfl)
theorem dX12_closes_68 : decode cX12_closes 68 = .ok (.iconst 4, 1) := dk_7 (dk_at dksX12_closes_2 20 rfl rfl)
theorem dX12_closes_69 : decode cX12_closes 69 = .ok (.iload_n 1, 1) := dk_27 (dk_at dksX12_closes_2 21 rfl rfl)
theorem dX12_closes_70 : decode cX12_closes 70 = .ok (.imul, 1) := dk_104 (dk_at dksX12_closes_2 22 rfl rfl)
theorem dX12_closes_71 : decode cX12_closes 71 = .ok (.iload_n 3, 1) := dk_29 (dk_at dksX12_closes_2 23 rfl rfl)
theorem dX12_closes_72 : decode cX12_closes 72 = .ok (.iadd, 1) := dk_96 (dk_at dksX12_closes_3 0 rfl rfl)
theorem dX12_closes_73 : decode cX12_closes 73 = .ok (.iaload, 1) := dk_46 (dk_at dksX12_closes_3 1 rfl rfl)
theorem dX12_closes_74 : decode cX12_closes 74 = .ok (.iastore, 1) := dk_79 (dk_at dksX12_closes_3 2 rfl rfl)
theorem dX12_closes_75 : decode cX12_closes 75 = .ok (.aload_n 0, 1) := dk_42 (dk_at dksX12_closes_3 3 rfl rfl)
theorem dX12_closes_76 : decode cX12_closes 76 = .ok (.getfield 144, 3) := dk_180 0 144 (dk_at dksX12_closes_3 4 rfl rfl)
theorem dX12_closes_79 : decode cX12_closes 79 = .ok (.iconst 4, 1) := dk_7 (dk_at dksX12_closes_3 7 rfl rfl)
theorem dX12_closes_80 : decode cX12_closes 80 = .ok (.iload_n 2, 1) := dk_28 (dk_at dksX12_closes_3 8 rfl rfl)
theorem dX12_closes_81 : decode cX12_closes 81 = .ok (.imul, 1) := dk_104 (dk_at dksX12_closes_3 9 rfl rfl)
theorem dX12_closes_82 : decode cX12_closes 82 = .ok (.iload_n 3, 1) := dk_29 (dk_at dksX12_closes_3 10 rfl rfl)
theorem dX12_closes_83 : decode cX12_closes 83 = .ok (.iadd, 1) := dk_96 (dk_at dksX12_closes_3 11 rfl rfl)
theorem dX12_closes_84 : decode cX12_closes 84 = .ok (.aload_n 0, 1) := dk_42 (dk_at dksX12_closes_3 12 rfl rfl)
theorem dX12_closes_85 : decode cX12_closes 85 = .ok (.getfield 126, 3) := dk_180 0 126 (dk_at dksX12_closes_3 13 rfl rfl)
theorem dX12_closes_88 : decode cX12_closes 88 = .ok (.iconst 4, 1) := dk_7 (dk_at dksX12_closes_3 16 rfl rfl)
theorem dX12_closes_89 : decode cX12_closes 89 = .ok (.iload_n 1, 1) := dk_27 (dk_at dksX12_closes_3 17 rfl rfl)
theorem dX12_closes_90 : decode cX12_closes 90 = .ok (.imul, 1) := dk_104 (dk_at dksX12_closes_3 18 rfl rfl)
theorem dX12_closes_91 : decode cX12_closes 91 = .ok (.iload_n 3, 1) := dk_29 (dk_at dksX12_closes_3 19 rfl rfl)
theorem dX12_closes_92 : decode cX12_closes 92 = .ok (.iadd, 1) := dk_96 (dk_at dksX12_closes_3 20 rfl rfl)
theorem dX12_closes_93 : decode cX12_closes 93 = .ok (.iaload, 1) := dk_46 (dk_at dksX12_closes_3 21 rfl rfl)
theorem dX12_closes_94 : decode cX12_closes 94 = .ok (.iastore, 1) := dk_79 (dk_at dksX12_closes_3 22 rfl rfl)
theorem dX12_closes_95 : decode cX12_closes 95 = .ok (.iinc 3 1, 3) := dk_132 3 1 (dk_at dksX12_closes_4 0 rfl rfl)
theorem dX12_closes_98 : decode cX12_closes 98 = .ok (.goto (-73), 3) := dk_167 255 183 (dk_at dksX12_closes_4 3 rfl rfl)
theorem dX12_closes_101 : decode cX12_closes 101 = .ok (.aload_n 0, 1) := dk_42 (dk_at dksX12_closes_4 6 rfl rfl)
theorem dX12_closes_102 : decode cX12_closes 102 = .ok (.getfield 129, 3) := dk_180 0 129 (dk_at dksX12_closes_4 7 rfl rfl)
theorem dX12_closes_105 : decode cX12_closes 105 = .ok (.iload_n 1, 1) := dk_27 (dk_at dksX12_closes_4 10 rfl rfl)
theorem dX12_closes_106 : decode cX12_closes 106 = .ok (.dup2, 1) := dk_92 (dk_at dksX12_closes_4 11 rfl rfl)
theorem dX12_closes_107 : decode cX12_closes 107 = .ok (.iaload, 1) := dk_46 (dk_at dksX12_closes_4 12 rfl rfl)
theorem dX12_closes_108 : decode cX12_closes 108 = .ok (.iconst 1, 1) := dk_4 (dk_at dksX12_closes_4 13 rfl rfl)
theorem dX12_closes_109 : decode cX12_closes 109 = .ok (.iadd, 1) := dk_96 (dk_at dksX12_closes_4 14 rfl rfl)
theorem dX12_closes_110 : decode cX12_closes 110 = .ok (.iastore, 1) := dk_79 (dk_at dksX12_closes_4 15 rfl rfl)
theorem dX12_closes_111 : decode cX12_closes 111 = .ok (.aload_n 0, 1) := dk_42 (dk_at dksX12_closes_4 16 rfl rfl)
theorem dX12_closes_112 : decode cX12_closes 112 = .ok (.getfield 114, 3) := dk_180 0 114 (dk_at dksX12_closes_4 17 rfl rfl)
theorem dX12_closes_115 : decode cX12_closes 115 = .ok (.iload_n 1, 1) := dk_27 (dk_at dksX12_closes_4 20 rfl rfl)
theorem dX12_closes_116 : decode cX12_closes 116 = .ok (.iconst 0, 1) := dk_3 (dk_at dksX12_closes_4 21 rfl rfl)
theorem dX12_closes_117 : decode cX12_closes 117 = .ok (.iastore, 1) := dk_79 (dk_at dksX12_closes_4 22 rfl rfl)
theorem dX12_closes_118 : decode cX12_closes 118 = .ok (.aload_n 0, 1) := dk_42 (dk_at dksX12_closes_4 23 rfl rfl)
theorem dX12_closes_119 : decode cX12_closes 119 = .ok (.getfield 117, 3) := dk_180 0 117 (dk_at dksX12_closes_5 0 rfl rfl)
theorem dX12_closes_122 : decode cX12_closes 122 = .ok (.iload_n 1, 1) := dk_27 (dk_at dksX12_closes_5 3 rfl rfl)
theorem dX12_closes_123 : decode cX12_closes 123 = .ok (.iconst 0, 1) := dk_3 (dk_at dksX12_closes_5 4 rfl rfl)
theorem dX12_closes_124 : decode cX12_closes 124 = .ok (.iastore, 1) := dk_79 (dk_at dksX12_closes_5 5 rfl rfl)
theorem dX12_closes_125 : decode cX12_closes 125 = .ok (.return_, 1) := dk_177 (dk_at dksX12_closes_5 6 rfl rfl)
abbrev cX12_sink : ByteArray := prog_27_method_3_code
def yX12_sink : MethodName := ⟨RX12, "sink", "()I"⟩
def dkwX12_sink_0 : List UInt8 := [42, 180, 0, 196, 4, 96, 172]
abbrev dktX12_sink_0 : List UInt8 := dkwX12_sink_0 ++ []
theorem dksX12_sink_0 : cX12_sink.data.toList.drop 0 = dktX12_sink_0 := by decide +kernel
theorem dX12_sink_0 : decode cX12_sink 0 = .ok (.aload_n 0, 1) := dk_42 (dk_at dksX12_sink_0 0 rfl rfl)
theorem dX12_sink_1 : decode cX12_sink 1 = .ok (.getfield 196, 3) := dk_180 0 196 (dk_at dksX12_sink_0 1 rfl rfl)
theorem dX12_sink_4 : decode cX12_sink 4 = .ok (.iconst 1, 1) := dk_4 (dk_at dksX12_sink_0 4 rfl rfl)
theorem dX12_sink_5 : decode cX12_sink 5 = .ok (.iadd, 1) := dk_96 (dk_at dksX12_sink_0 5 rfl rfl)
theorem dX12_sink_6 : decode cX12_sink 6 = .ok (.ireturn, 1) := dk_172 (dk_at dksX12_sink_0 6 rfl rfl)
abbrev cX12_works : ByteArray := prog_27_method_43_code
def yX12_works : MethodName := ⟨RX12, "works", "(II)V"⟩
def dkwX12_works_3 : List UInt8 := [154, 0, 16, 42, 180, 0, 53, 27, 92, 46, 4, 96, 79, 3, 54, 4, 132, 3, 255, 167, 255, 174, 177]
abbrev dktX12_works_3 : List UInt8 := dkwX12_works_3 ++ []
def dkwX12_works_2 : List UInt8 := [46, 4, 96, 79, 167, 0, 35, 29, 154, 0, 9, 3, 54, 4, 167, 0, 25, 42, 27, 28, 182, 1, 108]
abbrev dktX12_works_2 : List UInt8 := dkwX12_works_2 ++ dktX12_works_3
def dkwX12_works_1 : List UInt8 := [182, 1, 104, 153, 0, 7, 4, 167, 0, 4, 3, 54, 4, 21, 4, 154, 0, 16, 42, 180, 0, 50, 27, 92]
abbrev dktX12_works_1 : List UInt8 := dkwX12_works_1 ++ dktX12_works_2
def dkwX12_works_0 : List UInt8 := [42, 180, 0, 35, 62, 4, 54, 4, 21, 4, 153, 0, 83, 27, 42, 182, 0, 199, 159, 0, 12, 42, 27, 28]
abbrev dktX12_works_0 : List UInt8 := dkwX12_works_0 ++ dktX12_works_1
theorem dksX12_works_0 : cX12_works.data.toList.drop 0 = dktX12_works_0 := by decide +kernel
theorem dksX12_works_1 : cX12_works.data.toList.drop 24 = dktX12_works_1 := dk_seg dksX12_works_0 24 rfl rfl
theorem dksX12_works_2 : cX12_works.data.toList.drop 48 = dktX12_works_2 := dk_seg dksX12_works_1 24 rfl rfl
theorem dksX12_works_3 : cX12_works.data.toList.drop 71 = dktX12_works_3 := dk_seg dksX12_works_2 23 rfl rfl
theorem dX12_works_0 : decode cX12_works 0 = .ok (.aload_n 0, 1) := dk_42 (dk_at dksX12_works_0 0 rfl rfl)
theorem dX12_works_1 : decode cX12_works 1 = .ok (.getfield 35, 3) := dk_180 0 35 (dk_at dksX12_works_0 1 rfl rfl)
theorem dX12_works_4 : decode cX12_works 4 = .ok (.istore_n 3, 1) := dk_62 (dk_at dksX12_works_0 4 rfl rfl)
theorem dX12_works_5 : decode cX12_works 5 = .ok (.iconst 1, 1) := dk_4 (dk_at dksX12_works_0 5 rfl rfl)
theorem dX12_works_6 : decode cX12_works 6 = .ok (.istore 4, 2) := dk_54 4 (dk_at dksX12_works_0 6 rfl rfl)
theorem dX12_works_8 : decode cX12_works 8 = .ok (.iload 4, 2) := dk_21 4 (dk_at dksX12_works_0 8 rfl rfl)
theorem dX12_works_10 : decode cX12_works 10 = .ok (.ifCond .eq 83, 3) := dk_153 0 83 (dk_at dksX12_works_0 10 rfl rfl)
theorem dX12_works_13 : decode cX12_works 13 = .ok (.iload_n 1, 1) := dk_27 (dk_at dksX12_works_0 13 rfl rfl)
theorem dX12_works_14 : decode cX12_works 14 = .ok (.aload_n 0, 1) := dk_42 (dk_at dksX12_works_0 14 rfl rfl)
theorem dX12_works_15 : decode cX12_works 15 = .ok (.invokevirtual 199, 3) := dk_182 0 199 (dk_at dksX12_works_0 15 rfl rfl)
theorem dX12_works_18 : decode cX12_works 18 = .ok (.if_icmp .eq 12, 3) := dk_159 0 12 (dk_at dksX12_works_0 18 rfl rfl)
theorem dX12_works_21 : decode cX12_works 21 = .ok (.aload_n 0, 1) := dk_42 (dk_at dksX12_works_0 21 rfl rfl)
theorem dX12_works_22 : decode cX12_works 22 = .ok (.iload_n 1, 1) := dk_27 (dk_at dksX12_works_0 22 rfl rfl)
theorem dX12_works_23 : decode cX12_works 23 = .ok (.iload_n 2, 1) := dk_28 (dk_at dksX12_works_0 23 rfl rfl)
theorem dX12_works_24 : decode cX12_works 24 = .ok (.invokevirtual 360, 3) := dk_182 1 104 (dk_at dksX12_works_1 0 rfl rfl)
theorem dX12_works_27 : decode cX12_works 27 = .ok (.ifCond .eq 7, 3) := dk_153 0 7 (dk_at dksX12_works_1 3 rfl rfl)
theorem dX12_works_30 : decode cX12_works 30 = .ok (.iconst 1, 1) := dk_4 (dk_at dksX12_works_1 6 rfl rfl)
theorem dX12_works_31 : decode cX12_works 31 = .ok (.goto 4, 3) := dk_167 0 4 (dk_at dksX12_works_1 7 rfl rfl)
theorem dX12_works_34 : decode cX12_works 34 = .ok (.iconst 0, 1) := dk_3 (dk_at dksX12_works_1 10 rfl rfl)
theorem dX12_works_35 : decode cX12_works 35 = .ok (.istore 4, 2) := dk_54 4 (dk_at dksX12_works_1 11 rfl rfl)
theorem dX12_works_37 : decode cX12_works 37 = .ok (.iload 4, 2) := dk_21 4 (dk_at dksX12_works_1 13 rfl rfl)
theorem dX12_works_39 : decode cX12_works 39 = .ok (.ifCond .ne 16, 3) := dk_154 0 16 (dk_at dksX12_works_1 15 rfl rfl)
theorem dX12_works_42 : decode cX12_works 42 = .ok (.aload_n 0, 1) := dk_42 (dk_at dksX12_works_1 18 rfl rfl)
theorem dX12_works_43 : decode cX12_works 43 = .ok (.getfield 50, 3) := dk_180 0 50 (dk_at dksX12_works_1 19 rfl rfl)
theorem dX12_works_46 : decode cX12_works 46 = .ok (.iload_n 1, 1) := dk_27 (dk_at dksX12_works_1 22 rfl rfl)
theorem dX12_works_47 : decode cX12_works 47 = .ok (.dup2, 1) := dk_92 (dk_at dksX12_works_1 23 rfl rfl)
theorem dX12_works_48 : decode cX12_works 48 = .ok (.iaload, 1) := dk_46 (dk_at dksX12_works_2 0 rfl rfl)
theorem dX12_works_49 : decode cX12_works 49 = .ok (.iconst 1, 1) := dk_4 (dk_at dksX12_works_2 1 rfl rfl)
theorem dX12_works_50 : decode cX12_works 50 = .ok (.iadd, 1) := dk_96 (dk_at dksX12_works_2 2 rfl rfl)
theorem dX12_works_51 : decode cX12_works 51 = .ok (.iastore, 1) := dk_79 (dk_at dksX12_works_2 3 rfl rfl)
theorem dX12_works_52 : decode cX12_works 52 = .ok (.goto 35, 3) := dk_167 0 35 (dk_at dksX12_works_2 4 rfl rfl)
theorem dX12_works_55 : decode cX12_works 55 = .ok (.iload_n 3, 1) := dk_29 (dk_at dksX12_works_2 7 rfl rfl)
theorem dX12_works_56 : decode cX12_works 56 = .ok (.ifCond .ne 9, 3) := dk_154 0 9 (dk_at dksX12_works_2 8 rfl rfl)
theorem dX12_works_59 : decode cX12_works 59 = .ok (.iconst 0, 1) := dk_3 (dk_at dksX12_works_2 11 rfl rfl)
theorem dX12_works_60 : decode cX12_works 60 = .ok (.istore 4, 2) := dk_54 4 (dk_at dksX12_works_2 12 rfl rfl)
theorem dX12_works_62 : decode cX12_works 62 = .ok (.goto 25, 3) := dk_167 0 25 (dk_at dksX12_works_2 14 rfl rfl)
theorem dX12_works_65 : decode cX12_works 65 = .ok (.aload_n 0, 1) := dk_42 (dk_at dksX12_works_2 17 rfl rfl)
theorem dX12_works_66 : decode cX12_works 66 = .ok (.iload_n 1, 1) := dk_27 (dk_at dksX12_works_2 18 rfl rfl)
theorem dX12_works_67 : decode cX12_works 67 = .ok (.iload_n 2, 1) := dk_28 (dk_at dksX12_works_2 19 rfl rfl)
theorem dX12_works_68 : decode cX12_works 68 = .ok (.invokevirtual 364, 3) := dk_182 1 108 (dk_at dksX12_works_2 20 rfl rfl)
theorem dX12_works_71 : decode cX12_works 71 = .ok (.ifCond .ne 16, 3) := dk_154 0 16 (dk_at dksX12_works_3 0 rfl rfl)
theorem dX12_works_74 : decode cX12_works 74 = .ok (.aload_n 0, 1) := dk_42 (dk_at dksX12_works_3 3 rfl rfl)
theorem dX12_works_75 : decode cX12_works 75 = .ok (.getfield 53, 3) := dk_180 0 53 (dk_at dksX12_works_3 4 rfl rfl)
theorem dX12_works_78 : decode cX12_works 78 = .ok (.iload_n 1, 1) := dk_27 (dk_at dksX12_works_3 7 rfl rfl)
theorem dX12_works_79 : decode cX12_works 79 = .ok (.dup2, 1) := dk_92 (dk_at dksX12_works_3 8 rfl rfl)
theorem dX12_works_80 : decode cX12_works 80 = .ok (.iaload, 1) := dk_46 (dk_at dksX12_works_3 9 rfl rfl)
theorem dX12_works_81 : decode cX12_works 81 = .ok (.iconst 1, 1) := dk_4 (dk_at dksX12_works_3 10 rfl rfl)
theorem dX12_works_82 : decode cX12_works 82 = .ok (.iadd, 1) := dk_96 (dk_at dksX12_works_3 11 rfl rfl)
theorem dX12_works_83 : decode cX12_works 83 = .ok (.iastore, 1) := dk_79 (dk_at dksX12_works_3 12 rfl rfl)
theorem dX12_works_84 : decode cX12_works 84 = .ok (.iconst 0, 1) := dk_3 (dk_at dksX12_works_3 13 rfl rfl)
theorem dX12_works_85 : decode cX12_works 85 = .ok (.istore 4, 2) := dk_54 4 (dk_at dksX12_works_3 14 rfl rfl)
theorem dX12_works_87 : decode cX12_works 87 = .ok (.iinc 3 (-1), 3) := dk_132 3 255 (dk_at dksX12_works_3 16 rfl rfl)
theorem dX12_works_90 : decode cX12_works 90 = .ok (.goto (-82), 3) := dk_167 255 174 (dk_at dksX12_works_3 19 rfl rfl)
theorem dX12_works_93 : decode cX12_works 93 = .ok (.return_, 1) := dk_177 (dk_at dksX12_works_3 22 rfl rfl)
abbrev cX12_sends : ByteArray := prog_27_method_42_code
def yX12_sends : MethodName := ⟨RX12, "sends", "(II)Z"⟩
def dkwX12_sends_11 : List UInt8 := [167, 255, 229, 42, 180, 0, 111, 29, 3, 84, 4, 172]
abbrev dktX12_sends_11 : List UInt8 := dkwX12_sends_11 ++ []
def dkwX12_sends_10 : List UInt8 := [180, 0, 22, 27, 4, 96, 46, 162, 0, 20, 42, 27, 28, 21, 4, 184, 1, 68, 182, 1, 101, 132, 4, 1]
abbrev dktX12_sends_10 : List UInt8 := dkwX12_sends_10 ++ dktX12_sends_11
def dkwX12_sends_9 : List UInt8 := [154, 0, 5, 4, 172, 42, 27, 28, 182, 1, 98, 155, 0, 5, 3, 172, 3, 54, 4, 21, 4, 42]
abbrev dktX12_sends_9 : List UInt8 := dkwX12_sends_9 ++ dktX12_sends_10
def dkwX12_sends_8 : List UInt8 := [104, 21, 6, 96, 4, 96, 46, 79, 132, 6, 1, 167, 255, 170, 167, 255, 61, 42, 180, 0, 111, 29, 51]
abbrev dktX12_sends_8 : List UInt8 := dkwX12_sends_8 ++ dktX12_sends_9
def dkwX12_sends_7 : List UInt8 := [104, 21, 6, 96, 4, 96, 46, 79, 42, 180, 0, 102, 6, 29, 104, 21, 6, 96, 42, 180, 0, 102, 6, 29]
abbrev dktX12_sends_7 : List UInt8 := dkwX12_sends_7 ++ dktX12_sends_8
def dkwX12_sends_6 : List UInt8 := [104, 21, 6, 96, 4, 96, 46, 79, 42, 180, 0, 99, 6, 29, 104, 21, 6, 96, 42, 180, 0, 99, 6, 29]
abbrev dktX12_sends_6 : List UInt8 := dkwX12_sends_6 ++ dktX12_sends_7
def dkwX12_sends_5 : List UInt8 := [180, 0, 93, 29, 46, 162, 0, 81, 42, 180, 0, 96, 6, 29, 104, 21, 6, 96, 42, 180, 0, 96, 6, 29]
abbrev dktX12_sends_5 : List UInt8 := dkwX12_sends_5 ++ dktX12_sends_6
def dkwX12_sends_4 : List UInt8 := [167, 0, 4, 4, 96, 79, 42, 180, 0, 93, 29, 92, 46, 4, 100, 79, 3, 54, 6, 21, 6, 42]
abbrev dktX12_sends_4 : List UInt8 := dkwX12_sends_4 ++ dktX12_sends_5
def dkwX12_sends_3 : List UInt8 := [104, 46, 182, 1, 94, 42, 180, 0, 84, 29, 92, 46, 42, 27, 4, 96, 182, 1, 25, 153, 0, 7, 3]
abbrev dktX12_sends_3 : List UInt8 := dkwX12_sends_3 ++ dktX12_sends_4
def dkwX12_sends_2 : List UInt8 := [154, 0, 5, 3, 172, 42, 21, 5, 21, 4, 42, 180, 0, 99, 6, 29, 104, 46, 42, 180, 0, 102, 6, 29]
abbrev dktX12_sends_2 : List UInt8 := dkwX12_sends_2 ++ dktX12_sends_3
def dkwX12_sends_1 : List UInt8 := [54, 4, 27, 28, 42, 27, 28, 21, 4, 182, 1, 88, 184, 1, 68, 54, 5, 42, 21, 5, 182, 1, 91]
abbrev dktX12_sends_1 : List UInt8 := dkwX12_sends_1 ++ dktX12_sends_2
def dkwX12_sends_0 : List UInt8 := [27, 28, 184, 1, 32, 62, 42, 180, 0, 93, 29, 46, 158, 0, 192, 42, 180, 0, 96, 6, 29, 104, 46]
abbrev dktX12_sends_0 : List UInt8 := dkwX12_sends_0 ++ dktX12_sends_1
theorem dksX12_sends_0 : cX12_sends.data.toList.drop 0 = dktX12_sends_0 := by decide +kernel
theorem dksX12_sends_1 : cX12_sends.data.toList.drop 23 = dktX12_sends_1 := dk_seg dksX12_sends_0 23 rfl rfl
theorem dksX12_sends_2 : cX12_sends.data.toList.drop 46 = dktX12_sends_2 := dk_seg dksX12_sends_1 23 rfl rfl
theorem dksX12_sends_3 : cX12_sends.data.toList.drop 70 = dktX12_sends_3 := dk_seg dksX12_sends_2 24 rfl rfl
theorem dksX12_sends_4 : cX12_sends.data.toList.drop 93 = dktX12_sends_4 := dk_seg dksX12_sends_3 23 rfl rfl
theorem dksX12_sends_5 : cX12_sends.data.toList.drop 115 = dktX12_sends_5 := dk_seg dksX12_sends_4 22 rfl rfl
theorem dksX12_sends_6 : cX12_sends.data.toList.drop 139 = dktX12_sends_6 := dk_seg dksX12_sends_5 24 rfl rfl
theorem dksX12_sends_7 : cX12_sends.data.toList.drop 163 = dktX12_sends_7 := dk_seg dksX12_sends_6 24 rfl rfl
theorem dksX12_sends_8 : cX12_sends.data.toList.drop 187 = dktX12_sends_8 := dk_seg dksX12_sends_7 24 rfl rfl
theorem dksX12_sends_9 : cX12_sends.data.toList.drop 210 = dktX12_sends_9 := dk_seg dksX12_sends_8 23 rfl rfl
theorem dksX12_sends_10 : cX12_sends.data.toList.drop 232 = dktX12_sends_10 := dk_seg dksX12_sends_9 22 rfl rfl
theorem dksX12_sends_11 : cX12_sends.data.toList.drop 256 = dktX12_sends_11 := dk_seg dksX12_sends_10 24 rfl rfl
theorem dX12_sends_0 : decode cX12_sends 0 = .ok (.iload_n 1, 1) := dk_27 (dk_at dksX12_sends_0 0 rfl rfl)
theorem dX12_sends_1 : decode cX12_sends 1 = .ok (.iload_n 2, 1) := dk_28 (dk_at dksX12_sends_0 1 rfl rfl)
theorem dX12_sends_2 : decode cX12_sends 2 = .ok (.invokestatic 288, 3) := dk_184 1 32 (dk_at dksX12_sends_0 2 rfl rfl)
theorem dX12_sends_5 : decode cX12_sends 5 = .ok (.istore_n 3, 1) := dk_62 (dk_at dksX12_sends_0 5 rfl rfl)
theorem dX12_sends_6 : decode cX12_sends 6 = .ok (.aload_n 0, 1) := dk_42 (dk_at dksX12_sends_0 6 rfl rfl)
theorem dX12_sends_7 : decode cX12_sends 7 = .ok (.getfield 93, 3) := dk_180 0 93 (dk_at dksX12_sends_0 7 rfl rfl)
theorem dX12_sends_10 : decode cX12_sends 10 = .ok (.iload_n 3, 1) := dk_29 (dk_at dksX12_sends_0 10 rfl rfl)
theorem dX12_sends_11 : decode cX12_sends 11 = .ok (.iaload, 1) := dk_46 (dk_at dksX12_sends_0 11 rfl rfl)
theorem dX12_sends_12 : decode cX12_sends 12 = .ok (.ifCond .le 192, 3) := dk_158 0 192 (dk_at dksX12_sends_0 12 rfl rfl)
theorem dX12_sends_15 : decode cX12_sends 15 = .ok (.aload_n 0, 1) := dk_42 (dk_at dksX12_sends_0 15 rfl rfl)
theorem dX12_sends_16 : decode cX12_sends 16 = .ok (.getfield 96, 3) := dk_180 0 96 (dk_at dksX12_sends_0 16 rfl rfl)
theorem dX12_sends_19 : decode cX12_sends 19 = .ok (.iconst 3, 1) := dk_6 (dk_at dksX12_sends_0 19 rfl rfl)
theorem dX12_sends_20 : decode cX12_sends 20 = .ok (.iload_n 3, 1) := dk_29 (dk_at dksX12_sends_0 20 rfl rfl)
theorem dX12_sends_21 : decode cX12_sends 21 = .ok (.imul, 1) := dk_104 (dk_at dksX12_sends_0 21 rfl rfl)
theorem dX12_sends_22 : decode cX12_sends 22 = .ok (.iaload, 1) := dk_46 (dk_at dksX12_sends_0 22 rfl rfl)
theorem dX12_sends_23 : decode cX12_sends 23 = .ok (.istore 4, 2) := dk_54 4 (dk_at dksX12_sends_1 0 rfl rfl)
theorem dX12_sends_25 : decode cX12_sends 25 = .ok (.iload_n 1, 1) := dk_27 (dk_at dksX12_sends_1 2 rfl rfl)
theorem dX12_sends_26 : decode cX12_sends 26 = .ok (.iload_n 2, 1) := dk_28 (dk_at dksX12_sends_1 3 rfl rfl)
theorem dX12_sends_27 : decode cX12_sends 27 = .ok (.aload_n 0, 1) := dk_42 (dk_at dksX12_sends_1 4 rfl rfl)
theorem dX12_sends_28 : decode cX12_sends 28 = .ok (.iload_n 1, 1) := dk_27 (dk_at dksX12_sends_1 5 rfl rfl)
theorem dX12_sends_29 : decode cX12_sends 29 = .ok (.iload_n 2, 1) := dk_28 (dk_at dksX12_sends_1 6 rfl rfl)
theorem dX12_sends_30 : decode cX12_sends 30 = .ok (.iload 4, 2) := dk_21 4 (dk_at dksX12_sends_1 7 rfl rfl)
theorem dX12_sends_32 : decode cX12_sends 32 = .ok (.invokevirtual 344, 3) := dk_182 1 88 (dk_at dksX12_sends_1 9 rfl rfl)
theorem dX12_sends_35 : decode cX12_sends 35 = .ok (.invokestatic 324, 3) := dk_184 1 68 (dk_at dksX12_sends_1 12 rfl rfl)
theorem dX12_sends_38 : decode cX12_sends 38 = .ok (.istore 5, 2) := dk_54 5 (dk_at dksX12_sends_1 15 rfl rfl)
theorem dX12_sends_40 : decode cX12_sends 40 = .ok (.aload_n 0, 1) := dk_42 (dk_at dksX12_sends_1 17 rfl rfl)
theorem dX12_sends_41 : decode cX12_sends 41 = .ok (.iload 5, 2) := dk_21 5 (dk_at dksX12_sends_1 18 rfl rfl)
theorem dX12_sends_43 : decode cX12_sends 43 = .ok (.invokevirtual 347, 3) := dk_182 1 91 (dk_at dksX12_sends_1 20 rfl rfl)
theorem dX12_sends_46 : decode cX12_sends 46 = .ok (.ifCond .ne 5, 3) := dk_154 0 5 (dk_at dksX12_sends_2 0 rfl rfl)
theorem dX12_sends_49 : decode cX12_sends 49 = .ok (.iconst 0, 1) := dk_3 (dk_at dksX12_sends_2 3 rfl rfl)
theorem dX12_sends_50 : decode cX12_sends 50 = .ok (.ireturn, 1) := dk_172 (dk_at dksX12_sends_2 4 rfl rfl)
theorem dX12_sends_51 : decode cX12_sends 51 = .ok (.aload_n 0, 1) := dk_42 (dk_at dksX12_sends_2 5 rfl rfl)
theorem dX12_sends_52 : decode cX12_sends 52 = .ok (.iload 5, 2) := dk_21 5 (dk_at dksX12_sends_2 6 rfl rfl)
theorem dX12_sends_54 : decode cX12_sends 54 = .ok (.iload 4, 2) := dk_21 4 (dk_at dksX12_sends_2 8 rfl rfl)
theorem dX12_sends_56 : decode cX12_sends 56 = .ok (.aload_n 0, 1) := dk_42 (dk_at dksX12_sends_2 10 rfl rfl)
theorem dX12_sends_57 : decode cX12_sends 57 = .ok (.getfield 99, 3) := dk_180 0 99 (dk_at dksX12_sends_2 11 rfl rfl)
theorem dX12_sends_60 : decode cX12_sends 60 = .ok (.iconst 3, 1) := dk_6 (dk_at dksX12_sends_2 14 rfl rfl)
theorem dX12_sends_61 : decode cX12_sends 61 = .ok (.iload_n 3, 1) := dk_29 (dk_at dksX12_sends_2 15 rfl rfl)
theorem dX12_sends_62 : decode cX12_sends 62 = .ok (.imul, 1) := dk_104 (dk_at dksX12_sends_2 16 rfl rfl)
theorem dX12_sends_63 : decode cX12_sends 63 = .ok (.iaload, 1) := dk_46 (dk_at dksX12_sends_2 17 rfl rfl)
theorem dX12_sends_64 : decode cX12_sends 64 = .ok (.aload_n 0, 1) := dk_42 (dk_at dksX12_sends_2 18 rfl rfl)
theorem dX12_sends_65 : decode cX12_sends 65 = .ok (.getfield 102, 3) := dk_180 0 102 (dk_at dksX12_sends_2 19 rfl rfl)
theorem dX12_sends_68 : decode cX12_sends 68 = .ok (.iconst 3, 1) := dk_6 (dk_at dksX12_sends_2 22 rfl rfl)
theorem dX12_sends_69 : decode cX12_sends 69 = .ok (.iload_n 3, 1) := dk_29 (dk_at dksX12_sends_2 23 rfl rfl)
theorem dX12_sends_70 : decode cX12_sends 70 = .ok (.imul, 1) := dk_104 (dk_at dksX12_sends_3 0 rfl rfl)
theorem dX12_sends_71 : decode cX12_sends 71 = .ok (.iaload, 1) := dk_46 (dk_at dksX12_sends_3 1 rfl rfl)
theorem dX12_sends_72 : decode cX12_sends 72 = .ok (.invokevirtual 350, 3) := dk_182 1 94 (dk_at dksX12_sends_3 2 rfl rfl)
theorem dX12_sends_75 : decode cX12_sends 75 = .ok (.aload_n 0, 1) := dk_42 (dk_at dksX12_sends_3 5 rfl rfl)
theorem dX12_sends_76 : decode cX12_sends 76 = .ok (.getfield 84, 3) := dk_180 0 84 (dk_at dksX12_sends_3 6 rfl rfl)
theorem dX12_sends_79 : decode cX12_sends 79 = .ok (.iload_n 3, 1) := dk_29 (dk_at dksX12_sends_3 9 rfl rfl)
theorem dX12_sends_80 : decode cX12_sends 80 = .ok (.dup2, 1) := dk_92 (dk_at dksX12_sends_3 10 rfl rfl)
theorem dX12_sends_81 : decode cX12_sends 81 = .ok (.iaload, 1) := dk_46 (dk_at dksX12_sends_3 11 rfl rfl)
theorem dX12_sends_82 : decode cX12_sends 82 = .ok (.aload_n 0, 1) := dk_42 (dk_at dksX12_sends_3 12 rfl rfl)
theorem dX12_sends_83 : decode cX12_sends 83 = .ok (.iload_n 1, 1) := dk_27 (dk_at dksX12_sends_3 13 rfl rfl)
theorem dX12_sends_84 : decode cX12_sends 84 = .ok (.iconst 1, 1) := dk_4 (dk_at dksX12_sends_3 14 rfl rfl)
theorem dX12_sends_85 : decode cX12_sends 85 = .ok (.iadd, 1) := dk_96 (dk_at dksX12_sends_3 15 rfl rfl)
theorem dX12_sends_86 : decode cX12_sends 86 = .ok (.invokevirtual 281, 3) := dk_182 1 25 (dk_at dksX12_sends_3 16 rfl rfl)
theorem dX12_sends_89 : decode cX12_sends 89 = .ok (.ifCond .eq 7, 3) := dk_153 0 7 (dk_at dksX12_sends_3 19 rfl rfl)
theorem dX12_sends_92 : decode cX12_sends 92 = .ok (.iconst 0, 1) := dk_3 (dk_at dksX12_sends_3 22 rfl rfl)
theorem dX12_sends_93 : decode cX12_sends 93 = .ok (.goto 4, 3) := dk_167 0 4 (dk_at dksX12_sends_4 0 rfl rfl)
theorem dX12_sends_96 : decode cX12_sends 96 = .ok (.iconst 1, 1) := dk_4 (dk_at dksX12_sends_4 3 rfl rfl)
theorem dX12_sends_97 : decode cX12_sends 97 = .ok (.iadd, 1) := dk_96 (dk_at dksX12_sends_4 4 rfl rfl)
theorem dX12_sends_98 : decode cX12_sends 98 = .ok (.iastore, 1) := dk_79 (dk_at dksX12_sends_4 5 rfl rfl)
theorem dX12_sends_99 : decode cX12_sends 99 = .ok (.aload_n 0, 1) := dk_42 (dk_at dksX12_sends_4 6 rfl rfl)
theorem dX12_sends_100 : decode cX12_sends 100 = .ok (.getfield 93, 3) := dk_180 0 93 (dk_at dksX12_sends_4 7 rfl rfl)
theorem dX12_sends_103 : decode cX12_sends 103 = .ok (.iload_n 3, 1) := dk_29 (dk_at dksX12_sends_4 10 rfl rfl)
theorem dX12_sends_104 : decode cX12_sends 104 = .ok (.dup2, 1) := dk_92 (dk_at dksX12_sends_4 11 rfl rfl)
theorem dX12_sends_105 : decode cX12_sends 105 = .ok (.iaload, 1) := dk_46 (dk_at dksX12_sends_4 12 rfl rfl)
theorem dX12_sends_106 : decode cX12_sends 106 = .ok (.iconst 1, 1) := dk_4 (dk_at dksX12_sends_4 13 rfl rfl)
theorem dX12_sends_107 : decode cX12_sends 107 = .ok (.isub, 1) := dk_100 (dk_at dksX12_sends_4 14 rfl rfl)
theorem dX12_sends_108 : decode cX12_sends 108 = .ok (.iastore, 1) := dk_79 (dk_at dksX12_sends_4 15 rfl rfl)
theorem dX12_sends_109 : decode cX12_sends 109 = .ok (.iconst 0, 1) := dk_3 (dk_at dksX12_sends_4 16 rfl rfl)
theorem dX12_sends_110 : decode cX12_sends 110 = .ok (.istore 6, 2) := dk_54 6 (dk_at dksX12_sends_4 17 rfl rfl)
theorem dX12_sends_112 : decode cX12_sends 112 = .ok (.iload 6, 2) := dk_21 6 (dk_at dksX12_sends_4 19 rfl rfl)
theorem dX12_sends_114 : decode cX12_sends 114 = .ok (.aload_n 0, 1) := dk_42 (dk_at dksX12_sends_4 21 rfl rfl)
theorem dX12_sends_115 : decode cX12_sends 115 = .ok (.getfield 93, 3) := dk_180 0 93 (dk_at dksX12_sends_5 0 rfl rfl)
theorem dX12_sends_118 : decode cX12_sends 118 = .ok (.iload_n 3, 1) := dk_29 (dk_at dksX12_sends_5 3 rfl rfl)
theorem dX12_sends_119 : decode cX12_sends 119 = .ok (.iaload, 1) := dk_46 (dk_at dksX12_sends_5 4 rfl rfl)
theorem dX12_sends_120 : decode cX12_sends 120 = .ok (.if_icmp .ge 81, 3) := dk_162 0 81 (dk_at dksX12_sends_5 5 rfl rfl)
theorem dX12_sends_123 : decode cX12_sends 123 = .ok (.aload_n 0, 1) := dk_42 (dk_at dksX12_sends_5 8 rfl rfl)
theorem dX12_sends_124 : decode cX12_sends 124 = .ok (.getfield 96, 3) := dk_180 0 96 (dk_at dksX12_sends_5 9 rfl rfl)
theorem dX12_sends_127 : decode cX12_sends 127 = .ok (.iconst 3, 1) := dk_6 (dk_at dksX12_sends_5 12 rfl rfl)
theorem dX12_sends_128 : decode cX12_sends 128 = .ok (.iload_n 3, 1) := dk_29 (dk_at dksX12_sends_5 13 rfl rfl)
theorem dX12_sends_129 : decode cX12_sends 129 = .ok (.imul, 1) := dk_104 (dk_at dksX12_sends_5 14 rfl rfl)
theorem dX12_sends_130 : decode cX12_sends 130 = .ok (.iload 6, 2) := dk_21 6 (dk_at dksX12_sends_5 15 rfl rfl)
theorem dX12_sends_132 : decode cX12_sends 132 = .ok (.iadd, 1) := dk_96 (dk_at dksX12_sends_5 17 rfl rfl)
theorem dX12_sends_133 : decode cX12_sends 133 = .ok (.aload_n 0, 1) := dk_42 (dk_at dksX12_sends_5 18 rfl rfl)
theorem dX12_sends_134 : decode cX12_sends 134 = .ok (.getfield 96, 3) := dk_180 0 96 (dk_at dksX12_sends_5 19 rfl rfl)
theorem dX12_sends_137 : decode cX12_sends 137 = .ok (.iconst 3, 1) := dk_6 (dk_at dksX12_sends_5 22 rfl rfl)
theorem dX12_sends_138 : decode cX12_sends 138 = .ok (.iload_n 3, 1) := dk_29 (dk_at dksX12_sends_5 23 rfl rfl)
theorem dX12_sends_139 : decode cX12_sends 139 = .ok (.imul, 1) := dk_104 (dk_at dksX12_sends_6 0 rfl rfl)
theorem dX12_sends_140 : decode cX12_sends 140 = .ok (.iload 6, 2) := dk_21 6 (dk_at dksX12_sends_6 1 rfl rfl)
theorem dX12_sends_142 : decode cX12_sends 142 = .ok (.iadd, 1) := dk_96 (dk_at dksX12_sends_6 3 rfl rfl)
theorem dX12_sends_143 : decode cX12_sends 143 = .ok (.iconst 1, 1) := dk_4 (dk_at dksX12_sends_6 4 rfl rfl)
theorem dX12_sends_144 : decode cX12_sends 144 = .ok (.iadd, 1) := dk_96 (dk_at dksX12_sends_6 5 rfl rfl)
theorem dX12_sends_145 : decode cX12_sends 145 = .ok (.iaload, 1) := dk_46 (dk_at dksX12_sends_6 6 rfl rfl)
theorem dX12_sends_146 : decode cX12_sends 146 = .ok (.iastore, 1) := dk_79 (dk_at dksX12_sends_6 7 rfl rfl)
theorem dX12_sends_147 : decode cX12_sends 147 = .ok (.aload_n 0, 1) := dk_42 (dk_at dksX12_sends_6 8 rfl rfl)
theorem dX12_sends_148 : decode cX12_sends 148 = .ok (.getfield 99, 3) := dk_180 0 99 (dk_at dksX12_sends_6 9 rfl rfl)
theorem dX12_sends_151 : decode cX12_sends 151 = .ok (.iconst 3, 1) := dk_6 (dk_at dksX12_sends_6 12 rfl rfl)
theorem dX12_sends_152 : decode cX12_sends 152 = .ok (.iload_n 3, 1) := dk_29 (dk_at dksX12_sends_6 13 rfl rfl)
theorem dX12_sends_153 : decode cX12_sends 153 = .ok (.imul, 1) := dk_104 (dk_at dksX12_sends_6 14 rfl rfl)
theorem dX12_sends_154 : decode cX12_sends 154 = .ok (.iload 6, 2) := dk_21 6 (dk_at dksX12_sends_6 15 rfl rfl)
theorem dX12_sends_156 : decode cX12_sends 156 = .ok (.iadd, 1) := dk_96 (dk_at dksX12_sends_6 17 rfl rfl)
theorem dX12_sends_157 : decode cX12_sends 157 = .ok (.aload_n 0, 1) := dk_42 (dk_at dksX12_sends_6 18 rfl rfl)
theorem dX12_sends_158 : decode cX12_sends 158 = .ok (.getfield 99, 3) := dk_180 0 99 (dk_at dksX12_sends_6 19 rfl rfl)
theorem dX12_sends_161 : decode cX12_sends 161 = .ok (.iconst 3, 1) := dk_6 (dk_at dksX12_sends_6 22 rfl rfl)
theorem dX12_sends_162 : decode cX12_sends 162 = .ok (.iload_n 3, 1) := dk_29 (dk_at dksX12_sends_6 23 rfl rfl)
theorem dX12_sends_163 : decode cX12_sends 163 = .ok (.imul, 1) := dk_104 (dk_at dksX12_sends_7 0 rfl rfl)
theorem dX12_sends_164 : decode cX12_sends 164 = .ok (.iload 6, 2) := dk_21 6 (dk_at dksX12_sends_7 1 rfl rfl)
theorem dX12_sends_166 : decode cX12_sends 166 = .ok (.iadd, 1) := dk_96 (dk_at dksX12_sends_7 3 rfl rfl)
theorem dX12_sends_167 : decode cX12_sends 167 = .ok (.iconst 1, 1) := dk_4 (dk_at dksX12_sends_7 4 rfl rfl)
theorem dX12_sends_168 : decode cX12_sends 168 = .ok (.iadd, 1) := dk_96 (dk_at dksX12_sends_7 5 rfl rfl)
theorem dX12_sends_169 : decode cX12_sends 169 = .ok (.iaload, 1) := dk_46 (dk_at dksX12_sends_7 6 rfl rfl)
theorem dX12_sends_170 : decode cX12_sends 170 = .ok (.iastore, 1) := dk_79 (dk_at dksX12_sends_7 7 rfl rfl)
theorem dX12_sends_171 : decode cX12_sends 171 = .ok (.aload_n 0, 1) := dk_42 (dk_at dksX12_sends_7 8 rfl rfl)
theorem dX12_sends_172 : decode cX12_sends 172 = .ok (.getfield 102, 3) := dk_180 0 102 (dk_at dksX12_sends_7 9 rfl rfl)
theorem dX12_sends_175 : decode cX12_sends 175 = .ok (.iconst 3, 1) := dk_6 (dk_at dksX12_sends_7 12 rfl rfl)
theorem dX12_sends_176 : decode cX12_sends 176 = .ok (.iload_n 3, 1) := dk_29 (dk_at dksX12_sends_7 13 rfl rfl)
theorem dX12_sends_177 : decode cX12_sends 177 = .ok (.imul, 1) := dk_104 (dk_at dksX12_sends_7 14 rfl rfl)
theorem dX12_sends_178 : decode cX12_sends 178 = .ok (.iload 6, 2) := dk_21 6 (dk_at dksX12_sends_7 15 rfl rfl)
theorem dX12_sends_180 : decode cX12_sends 180 = .ok (.iadd, 1) := dk_96 (dk_at dksX12_sends_7 17 rfl rfl)
theorem dX12_sends_181 : decode cX12_sends 181 = .ok (.aload_n 0, 1) := dk_42 (dk_at dksX12_sends_7 18 rfl rfl)
theorem dX12_sends_182 : decode cX12_sends 182 = .ok (.getfield 102, 3) := dk_180 0 102 (dk_at dksX12_sends_7 19 rfl rfl)
theorem dX12_sends_185 : decode cX12_sends 185 = .ok (.iconst 3, 1) := dk_6 (dk_at dksX12_sends_7 22 rfl rfl)
theorem dX12_sends_186 : decode cX12_sends 186 = .ok (.iload_n 3, 1) := dk_29 (dk_at dksX12_sends_7 23 rfl rfl)
theorem dX12_sends_187 : decode cX12_sends 187 = .ok (.imul, 1) := dk_104 (dk_at dksX12_sends_8 0 rfl rfl)
theorem dX12_sends_188 : decode cX12_sends 188 = .ok (.iload 6, 2) := dk_21 6 (dk_at dksX12_sends_8 1 rfl rfl)
theorem dX12_sends_190 : decode cX12_sends 190 = .ok (.iadd, 1) := dk_96 (dk_at dksX12_sends_8 3 rfl rfl)
theorem dX12_sends_191 : decode cX12_sends 191 = .ok (.iconst 1, 1) := dk_4 (dk_at dksX12_sends_8 4 rfl rfl)
theorem dX12_sends_192 : decode cX12_sends 192 = .ok (.iadd, 1) := dk_96 (dk_at dksX12_sends_8 5 rfl rfl)
theorem dX12_sends_193 : decode cX12_sends 193 = .ok (.iaload, 1) := dk_46 (dk_at dksX12_sends_8 6 rfl rfl)
theorem dX12_sends_194 : decode cX12_sends 194 = .ok (.iastore, 1) := dk_79 (dk_at dksX12_sends_8 7 rfl rfl)
theorem dX12_sends_195 : decode cX12_sends 195 = .ok (.iinc 6 1, 3) := dk_132 6 1 (dk_at dksX12_sends_8 8 rfl rfl)
theorem dX12_sends_198 : decode cX12_sends 198 = .ok (.goto (-86), 3) := dk_167 255 170 (dk_at dksX12_sends_8 11 rfl rfl)
theorem dX12_sends_201 : decode cX12_sends 201 = .ok (.goto (-195), 3) := dk_167 255 61 (dk_at dksX12_sends_8 14 rfl rfl)
theorem dX12_sends_204 : decode cX12_sends 204 = .ok (.aload_n 0, 1) := dk_42 (dk_at dksX12_sends_8 17 rfl rfl)
theorem dX12_sends_205 : decode cX12_sends 205 = .ok (.getfield 111, 3) := dk_180 0 111 (dk_at dksX12_sends_8 18 rfl rfl)
theorem dX12_sends_208 : decode cX12_sends 208 = .ok (.iload_n 3, 1) := dk_29 (dk_at dksX12_sends_8 21 rfl rfl)
theorem dX12_sends_209 : decode cX12_sends 209 = .ok (.baload, 1) := dk_51 (dk_at dksX12_sends_8 22 rfl rfl)
theorem dX12_sends_210 : decode cX12_sends 210 = .ok (.ifCond .ne 5, 3) := dk_154 0 5 (dk_at dksX12_sends_9 0 rfl rfl)
theorem dX12_sends_213 : decode cX12_sends 213 = .ok (.iconst 1, 1) := dk_4 (dk_at dksX12_sends_9 3 rfl rfl)
theorem dX12_sends_214 : decode cX12_sends 214 = .ok (.ireturn, 1) := dk_172 (dk_at dksX12_sends_9 4 rfl rfl)
theorem dX12_sends_215 : decode cX12_sends 215 = .ok (.aload_n 0, 1) := dk_42 (dk_at dksX12_sends_9 5 rfl rfl)
theorem dX12_sends_216 : decode cX12_sends 216 = .ok (.iload_n 1, 1) := dk_27 (dk_at dksX12_sends_9 6 rfl rfl)
theorem dX12_sends_217 : decode cX12_sends 217 = .ok (.iload_n 2, 1) := dk_28 (dk_at dksX12_sends_9 7 rfl rfl)
theorem dX12_sends_218 : decode cX12_sends 218 = .ok (.invokevirtual 354, 3) := dk_182 1 98 (dk_at dksX12_sends_9 8 rfl rfl)
theorem dX12_sends_221 : decode cX12_sends 221 = .ok (.ifCond .lt 5, 3) := dk_155 0 5 (dk_at dksX12_sends_9 11 rfl rfl)
theorem dX12_sends_224 : decode cX12_sends 224 = .ok (.iconst 0, 1) := dk_3 (dk_at dksX12_sends_9 14 rfl rfl)
theorem dX12_sends_225 : decode cX12_sends 225 = .ok (.ireturn, 1) := dk_172 (dk_at dksX12_sends_9 15 rfl rfl)
theorem dX12_sends_226 : decode cX12_sends 226 = .ok (.iconst 0, 1) := dk_3 (dk_at dksX12_sends_9 16 rfl rfl)
theorem dX12_sends_227 : decode cX12_sends 227 = .ok (.istore 4, 2) := dk_54 4 (dk_at dksX12_sends_9 17 rfl rfl)
theorem dX12_sends_229 : decode cX12_sends 229 = .ok (.iload 4, 2) := dk_21 4 (dk_at dksX12_sends_9 19 rfl rfl)
theorem dX12_sends_231 : decode cX12_sends 231 = .ok (.aload_n 0, 1) := dk_42 (dk_at dksX12_sends_9 21 rfl rfl)
theorem dX12_sends_232 : decode cX12_sends 232 = .ok (.getfield 22, 3) := dk_180 0 22 (dk_at dksX12_sends_10 0 rfl rfl)
theorem dX12_sends_235 : decode cX12_sends 235 = .ok (.iload_n 1, 1) := dk_27 (dk_at dksX12_sends_10 3 rfl rfl)
theorem dX12_sends_236 : decode cX12_sends 236 = .ok (.iconst 1, 1) := dk_4 (dk_at dksX12_sends_10 4 rfl rfl)
theorem dX12_sends_237 : decode cX12_sends 237 = .ok (.iadd, 1) := dk_96 (dk_at dksX12_sends_10 5 rfl rfl)
theorem dX12_sends_238 : decode cX12_sends 238 = .ok (.iaload, 1) := dk_46 (dk_at dksX12_sends_10 6 rfl rfl)
theorem dX12_sends_239 : decode cX12_sends 239 = .ok (.if_icmp .ge 20, 3) := dk_162 0 20 (dk_at dksX12_sends_10 7 rfl rfl)
theorem dX12_sends_242 : decode cX12_sends 242 = .ok (.aload_n 0, 1) := dk_42 (dk_at dksX12_sends_10 10 rfl rfl)
theorem dX12_sends_243 : decode cX12_sends 243 = .ok (.iload_n 1, 1) := dk_27 (dk_at dksX12_sends_10 11 rfl rfl)
theorem dX12_sends_244 : decode cX12_sends 244 = .ok (.iload_n 2, 1) := dk_28 (dk_at dksX12_sends_10 12 rfl rfl)
theorem dX12_sends_245 : decode cX12_sends 245 = .ok (.iload 4, 2) := dk_21 4 (dk_at dksX12_sends_10 13 rfl rfl)
theorem dX12_sends_247 : decode cX12_sends 247 = .ok (.invokestatic 324, 3) := dk_184 1 68 (dk_at dksX12_sends_10 15 rfl rfl)
theorem dX12_sends_250 : decode cX12_sends 250 = .ok (.invokevirtual 357, 3) := dk_182 1 101 (dk_at dksX12_sends_10 18 rfl rfl)
theorem dX12_sends_253 : decode cX12_sends 253 = .ok (.iinc 4 1, 3) := dk_132 4 1 (dk_at dksX12_sends_10 21 rfl rfl)
theorem dX12_sends_256 : decode cX12_sends 256 = .ok (.goto (-27), 3) := dk_167 255 229 (dk_at dksX12_sends_11 0 rfl rfl)
theorem dX12_sends_259 : decode cX12_sends 259 = .ok (.aload_n 0, 1) := dk_42 (dk_at dksX12_sends_11 3 rfl rfl)
theorem dX12_sends_260 : decode cX12_sends 260 = .ok (.getfield 111, 3) := dk_180 0 111 (dk_at dksX12_sends_11 4 rfl rfl)
theorem dX12_sends_263 : decode cX12_sends 263 = .ok (.iload_n 3, 1) := dk_29 (dk_at dksX12_sends_11 7 rfl rfl)
theorem dX12_sends_264 : decode cX12_sends 264 = .ok (.iconst 0, 1) := dk_3 (dk_at dksX12_sends_11 8 rfl rfl)
theorem dX12_sends_265 : decode cX12_sends 265 = .ok (.bastore, 1) := dk_84 (dk_at dksX12_sends_11 9 rfl rfl)
theorem dX12_sends_266 : decode cX12_sends 266 = .ok (.iconst 1, 1) := dk_4 (dk_at dksX12_sends_11 10 rfl rfl)
theorem dX12_sends_267 : decode cX12_sends 267 = .ok (.ireturn, 1) := dk_172 (dk_at dksX12_sends_11 11 rfl rfl)
abbrev cX12_spot : ByteArray := prog_27_method_20_code
def yX12_spot : MethodName := ⟨RX12, "spot", "(II)I"⟩
def dkwX12_spot_0 : List UInt8 := [6, 26, 104, 27, 96, 172]
abbrev dktX12_spot_0 : List UInt8 := dkwX12_spot_0 ++ []
theorem dksX12_spot_0 : cX12_spot.data.toList.drop 0 = dktX12_spot_0 := by decide +kernel
theorem dX12_spot_0 : decode cX12_spot 0 = .ok (.iconst 3, 1) := dk_6 (dk_at dksX12_spot_0 0 rfl rfl)
theorem dX12_spot_1 : decode cX12_spot 1 = .ok (.iload_n 0, 1) := dk_26 (dk_at dksX12_spot_0 1 rfl rfl)
theorem dX12_spot_2 : decode cX12_spot 2 = .ok (.imul, 1) := dk_104 (dk_at dksX12_spot_0 2 rfl rfl)
theorem dX12_spot_3 : decode cX12_spot 3 = .ok (.iload_n 1, 1) := dk_27 (dk_at dksX12_spot_0 3 rfl rfl)
theorem dX12_spot_4 : decode cX12_spot 4 = .ok (.iadd, 1) := dk_96 (dk_at dksX12_spot_0 4 rfl rfl)
theorem dX12_spot_5 : decode cX12_spot 5 = .ok (.ireturn, 1) := dk_172 (dk_at dksX12_spot_0 5 rfl rfl)
abbrev cX12_goal : ByteArray := prog_27_method_29_code
def yX12_goal : MethodName := ⟨RX12, "goal", "(III)I"⟩
def dkwX12_goal_1 : List UInt8 := [180, 0, 84, 27, 28, 184, 1, 32, 46, 42, 180, 0, 22, 27, 4, 96, 46, 112, 172]
abbrev dktX12_goal_1 : List UInt8 := dkwX12_goal_1 ++ []
def dkwX12_goal_0 : List UInt8 := [42, 27, 4, 96, 182, 1, 25, 153, 0, 14, 42, 27, 4, 96, 29, 182, 1, 29, 167, 0, 22, 42]
abbrev dktX12_goal_0 : List UInt8 := dkwX12_goal_0 ++ dktX12_goal_1
theorem dksX12_goal_0 : cX12_goal.data.toList.drop 0 = dktX12_goal_0 := by decide +kernel
theorem dksX12_goal_1 : cX12_goal.data.toList.drop 22 = dktX12_goal_1 := dk_seg dksX12_goal_0 22 rfl rfl
theorem dX12_goal_0 : decode cX12_goal 0 = .ok (.aload_n 0, 1) := dk_42 (dk_at dksX12_goal_0 0 rfl rfl)
theorem dX12_goal_1 : decode cX12_goal 1 = .ok (.iload_n 1, 1) := dk_27 (dk_at dksX12_goal_0 1 rfl rfl)
theorem dX12_goal_2 : decode cX12_goal 2 = .ok (.iconst 1, 1) := dk_4 (dk_at dksX12_goal_0 2 rfl rfl)
theorem dX12_goal_3 : decode cX12_goal 3 = .ok (.iadd, 1) := dk_96 (dk_at dksX12_goal_0 3 rfl rfl)
theorem dX12_goal_4 : decode cX12_goal 4 = .ok (.invokevirtual 281, 3) := dk_182 1 25 (dk_at dksX12_goal_0 4 rfl rfl)
theorem dX12_goal_7 : decode cX12_goal 7 = .ok (.ifCond .eq 14, 3) := dk_153 0 14 (dk_at dksX12_goal_0 7 rfl rfl)
theorem dX12_goal_10 : decode cX12_goal 10 = .ok (.aload_n 0, 1) := dk_42 (dk_at dksX12_goal_0 10 rfl rfl)
theorem dX12_goal_11 : decode cX12_goal 11 = .ok (.iload_n 1, 1) := dk_27 (dk_at dksX12_goal_0 11 rfl rfl)
theorem dX12_goal_12 : decode cX12_goal 12 = .ok (.iconst 1, 1) := dk_4 (dk_at dksX12_goal_0 12 rfl rfl)
theorem dX12_goal_13 : decode cX12_goal 13 = .ok (.iadd, 1) := dk_96 (dk_at dksX12_goal_0 13 rfl rfl)
theorem dX12_goal_14 : decode cX12_goal 14 = .ok (.iload_n 3, 1) := dk_29 (dk_at dksX12_goal_0 14 rfl rfl)
theorem dX12_goal_15 : decode cX12_goal 15 = .ok (.invokevirtual 285, 3) := dk_182 1 29 (dk_at dksX12_goal_0 15 rfl rfl)
theorem dX12_goal_18 : decode cX12_goal 18 = .ok (.goto 22, 3) := dk_167 0 22 (dk_at dksX12_goal_0 18 rfl rfl)
theorem dX12_goal_21 : decode cX12_goal 21 = .ok (.aload_n 0, 1) := dk_42 (dk_at dksX12_goal_0 21 rfl rfl)
theorem dX12_goal_22 : decode cX12_goal 22 = .ok (.getfield 84, 3) := dk_180 0 84 (dk_at dksX12_goal_1 0 rfl rfl)
theorem dX12_goal_25 : decode cX12_goal 25 = .ok (.iload_n 1, 1) := dk_27 (dk_at dksX12_goal_1 3 rfl rfl)
theorem dX12_goal_26 : decode cX12_goal 26 = .ok (.iload_n 2, 1) := dk_28 (dk_at dksX12_goal_1 4 rfl rfl)
theorem dX12_goal_27 : decode cX12_goal 27 = .ok (.invokestatic 288, 3) := dk_184 1 32 (dk_at dksX12_goal_1 5 rfl rfl)
theorem dX12_goal_30 : decode cX12_goal 30 = .ok (.iaload, 1) := dk_46 (dk_at dksX12_goal_1 8 rfl rfl)
theorem dX12_goal_31 : decode cX12_goal 31 = .ok (.aload_n 0, 1) := dk_42 (dk_at dksX12_goal_1 9 rfl rfl)
theorem dX12_goal_32 : decode cX12_goal 32 = .ok (.getfield 22, 3) := dk_180 0 22 (dk_at dksX12_goal_1 10 rfl rfl)
theorem dX12_goal_35 : decode cX12_goal 35 = .ok (.iload_n 1, 1) := dk_27 (dk_at dksX12_goal_1 13 rfl rfl)
theorem dX12_goal_36 : decode cX12_goal 36 = .ok (.iconst 1, 1) := dk_4 (dk_at dksX12_goal_1 14 rfl rfl)
theorem dX12_goal_37 : decode cX12_goal 37 = .ok (.iadd, 1) := dk_96 (dk_at dksX12_goal_1 15 rfl rfl)
theorem dX12_goal_38 : decode cX12_goal 38 = .ok (.iaload, 1) := dk_46 (dk_at dksX12_goal_1 16 rfl rfl)
theorem dX12_goal_39 : decode cX12_goal 39 = .ok (.irem, 1) := dk_112 (dk_at dksX12_goal_1 17 rfl rfl)
theorem dX12_goal_40 : decode cX12_goal 40 = .ok (.ireturn, 1) := dk_172 (dk_at dksX12_goal_1 18 rfl rfl)
abbrev cX12_isKeyed : ByteArray := prog_27_method_5_code
def yX12_isKeyed : MethodName := ⟨RX12, "isKeyed", "(I)Z"⟩
def dkwX12_isKeyed_1 : List UInt8 := [27, 46, 16, 6, 159, 0, 14, 42, 180, 0, 13, 27, 46, 16, 8, 160, 0, 7, 4, 167, 0, 4, 3, 172]
abbrev dktX12_isKeyed_1 : List UInt8 := dkwX12_isKeyed_1 ++ []
def dkwX12_isKeyed_0 : List UInt8 := [42, 180, 0, 13, 27, 46, 7, 159, 0, 35, 42, 180, 0, 13, 27, 46, 8, 159, 0, 25, 42, 180, 0, 13]
abbrev dktX12_isKeyed_0 : List UInt8 := dkwX12_isKeyed_0 ++ dktX12_isKeyed_1
theorem dksX12_isKeyed_0 : cX12_isKeyed.data.toList.drop 0 = dktX12_isKeyed_0 := by decide +kernel
theorem dksX12_isKeyed_1 : cX12_isKeyed.data.toList.drop 24 = dktX12_isKeyed_1 := dk_seg dksX12_isKeyed_0 24 rfl rfl
theorem dX12_isKeyed_0 : decode cX12_isKeyed 0 = .ok (.aload_n 0, 1) := dk_42 (dk_at dksX12_isKeyed_0 0 rfl rfl)
theorem dX12_isKeyed_1 : decode cX12_isKeyed 1 = .ok (.getfield 13, 3) := dk_180 0 13 (dk_at dksX12_isKeyed_0 1 rfl rfl)
theorem dX12_isKeyed_4 : decode cX12_isKeyed 4 = .ok (.iload_n 1, 1) := dk_27 (dk_at dksX12_isKeyed_0 4 rfl rfl)
theorem dX12_isKeyed_5 : decode cX12_isKeyed 5 = .ok (.iaload, 1) := dk_46 (dk_at dksX12_isKeyed_0 5 rfl rfl)
theorem dX12_isKeyed_6 : decode cX12_isKeyed 6 = .ok (.iconst 4, 1) := dk_7 (dk_at dksX12_isKeyed_0 6 rfl rfl)
theorem dX12_isKeyed_7 : decode cX12_isKeyed 7 = .ok (.if_icmp .eq 35, 3) := dk_159 0 35 (dk_at dksX12_isKeyed_0 7 rfl rfl)
theorem dX12_isKeyed_10 : decode cX12_isKeyed 10 = .ok (.aload_n 0, 1) := dk_42 (dk_at dksX12_isKeyed_0 10 rfl rfl)
theorem dX12_isKeyed_11 : decode cX12_isKeyed 11 = .ok (.getfield 13, 3) := dk_180 0 13 (dk_at dksX12_isKeyed_0 11 rfl rfl)
theorem dX12_isKeyed_14 : decode cX12_isKeyed 14 = .ok (.iload_n 1, 1) := dk_27 (dk_at dksX12_isKeyed_0 14 rfl rfl)
theorem dX12_isKeyed_15 : decode cX12_isKeyed 15 = .ok (.iaload, 1) := dk_46 (dk_at dksX12_isKeyed_0 15 rfl rfl)
theorem dX12_isKeyed_16 : decode cX12_isKeyed 16 = .ok (.iconst 5, 1) := dk_8 (dk_at dksX12_isKeyed_0 16 rfl rfl)
theorem dX12_isKeyed_17 : decode cX12_isKeyed 17 = .ok (.if_icmp .eq 25, 3) := dk_159 0 25 (dk_at dksX12_isKeyed_0 17 rfl rfl)
theorem dX12_isKeyed_20 : decode cX12_isKeyed 20 = .ok (.aload_n 0, 1) := dk_42 (dk_at dksX12_isKeyed_0 20 rfl rfl)
theorem dX12_isKeyed_21 : decode cX12_isKeyed 21 = .ok (.getfield 13, 3) := dk_180 0 13 (dk_at dksX12_isKeyed_0 21 rfl rfl)
theorem dX12_isKeyed_24 : decode cX12_isKeyed 24 = .ok (.iload_n 1, 1) := dk_27 (dk_at dksX12_isKeyed_1 0 rfl rfl)
theorem dX12_isKeyed_25 : decode cX12_isKeyed 25 = .ok (.iaload, 1) := dk_46 (dk_at dksX12_isKeyed_1 1 rfl rfl)
theorem dX12_isKeyed_26 : decode cX12_isKeyed 26 = .ok (.bipush 6, 2) := dk_16 6 (dk_at dksX12_isKeyed_1 2 rfl rfl)
theorem dX12_isKeyed_28 : decode cX12_isKeyed 28 = .ok (.if_icmp .eq 14, 3) := dk_159 0 14 (dk_at dksX12_isKeyed_1 4 rfl rfl)
theorem dX12_isKeyed_31 : decode cX12_isKeyed 31 = .ok (.aload_n 0, 1) := dk_42 (dk_at dksX12_isKeyed_1 7 rfl rfl)
theorem dX12_isKeyed_32 : decode cX12_isKeyed 32 = .ok (.getfield 13, 3) := dk_180 0 13 (dk_at dksX12_isKeyed_1 8 rfl rfl)
theorem dX12_isKeyed_35 : decode cX12_isKeyed 35 = .ok (.iload_n 1, 1) := dk_27 (dk_at dksX12_isKeyed_1 11 rfl rfl)
theorem dX12_isKeyed_36 : decode cX12_isKeyed 36 = .ok (.iaload, 1) := dk_46 (dk_at dksX12_isKeyed_1 12 rfl rfl)
theorem dX12_isKeyed_37 : decode cX12_isKeyed 37 = .ok (.bipush 8, 2) := dk_16 8 (dk_at dksX12_isKeyed_1 13 rfl rfl)
theorem dX12_isKeyed_39 : decode cX12_isKeyed 39 = .ok (.if_icmp .ne 7, 3) := dk_160 0 7 (dk_at dksX12_isKeyed_1 15 rfl rfl)
theorem dX12_isKeyed_42 : decode cX12_isKeyed 42 = .ok (.iconst 1, 1) := dk_4 (dk_at dksX12_isKeyed_1 18 rfl rfl)
theorem dX12_isKeyed_43 : decode cX12_isKeyed 43 = .ok (.goto 4, 3) := dk_167 0 4 (dk_at dksX12_isKeyed_1 19 rfl rfl)
theorem dX12_isKeyed_46 : decode cX12_isKeyed 46 = .ok (.iconst 0, 1) := dk_3 (dk_at dksX12_isKeyed_1 22 rfl rfl)
theorem dX12_isKeyed_47 : decode cX12_isKeyed 47 = .ok (.ireturn, 1) := dk_172 (dk_at dksX12_isKeyed_1 23 rfl rfl)
abbrev cX12_home : ByteArray := prog_27_method_6_code
def yX12_home : MethodName := ⟨RX12, "home", "(II)I"⟩
def dkwX12_home_0 : List UInt8 := [28, 16, 8, 112, 42, 180, 0, 22, 27, 46, 104, 16, 8, 108, 172]
abbrev dktX12_home_0 : List UInt8 := dkwX12_home_0 ++ []
theorem dksX12_home_0 : cX12_home.data.toList.drop 0 = dktX12_home_0 := by decide +kernel
theorem dX12_home_0 : decode cX12_home 0 = .ok (.iload_n 2, 1) := dk_28 (dk_at dksX12_home_0 0 rfl rfl)
theorem dX12_home_1 : decode cX12_home 1 = .ok (.bipush 8, 2) := dk_16 8 (dk_at dksX12_home_0 1 rfl rfl)
theorem dX12_home_3 : decode cX12_home 3 = .ok (.irem, 1) := dk_112 (dk_at dksX12_home_0 3 rfl rfl)
theorem dX12_home_4 : decode cX12_home 4 = .ok (.aload_n 0, 1) := dk_42 (dk_at dksX12_home_0 4 rfl rfl)
theorem dX12_home_5 : decode cX12_home 5 = .ok (.getfield 22, 3) := dk_180 0 22 (dk_at dksX12_home_0 5 rfl rfl)
theorem dX12_home_8 : decode cX12_home 8 = .ok (.iload_n 1, 1) := dk_27 (dk_at dksX12_home_0 8 rfl rfl)
theorem dX12_home_9 : decode cX12_home 9 = .ok (.iaload, 1) := dk_46 (dk_at dksX12_home_0 9 rfl rfl)
theorem dX12_home_10 : decode cX12_home 10 = .ok (.imul, 1) := dk_104 (dk_at dksX12_home_0 10 rfl rfl)
theorem dX12_home_11 : decode cX12_home 11 = .ok (.bipush 8, 2) := dk_16 8 (dk_at dksX12_home_0 11 rfl rfl)
theorem dX12_home_13 : decode cX12_home 13 = .ok (.idiv, 1) := dk_108 (dk_at dksX12_home_0 13 rfl rfl)
theorem dX12_home_14 : decode cX12_home 14 = .ok (.ireturn, 1) := dk_172 (dk_at dksX12_home_0 14 rfl rfl)
abbrev cX12_line : ByteArray := prog_27_method_21_code
def yX12_line : MethodName := ⟨RX12, "line", "(III)I"⟩
def dkwX12_line_0 : List UInt8 := [6, 6, 26, 104, 27, 96, 104, 28, 96, 172]
abbrev dktX12_line_0 : List UInt8 := dkwX12_line_0 ++ []
theorem dksX12_line_0 : cX12_line.data.toList.drop 0 = dktX12_line_0 := by decide +kernel
theorem dX12_line_0 : decode cX12_line 0 = .ok (.iconst 3, 1) := dk_6 (dk_at dksX12_line_0 0 rfl rfl)
theorem dX12_line_1 : decode cX12_line 1 = .ok (.iconst 3, 1) := dk_6 (dk_at dksX12_line_0 1 rfl rfl)
theorem dX12_line_2 : decode cX12_line 2 = .ok (.iload_n 0, 1) := dk_26 (dk_at dksX12_line_0 2 rfl rfl)
theorem dX12_line_3 : decode cX12_line 3 = .ok (.imul, 1) := dk_104 (dk_at dksX12_line_0 3 rfl rfl)
theorem dX12_line_4 : decode cX12_line 4 = .ok (.iload_n 1, 1) := dk_27 (dk_at dksX12_line_0 4 rfl rfl)
theorem dX12_line_5 : decode cX12_line 5 = .ok (.iadd, 1) := dk_96 (dk_at dksX12_line_0 5 rfl rfl)
theorem dX12_line_6 : decode cX12_line 6 = .ok (.imul, 1) := dk_104 (dk_at dksX12_line_0 6 rfl rfl)
theorem dX12_line_7 : decode cX12_line 7 = .ok (.iload_n 2, 1) := dk_28 (dk_at dksX12_line_0 7 rfl rfl)
theorem dX12_line_8 : decode cX12_line 8 = .ok (.iadd, 1) := dk_96 (dk_at dksX12_line_0 8 rfl rfl)
theorem dX12_line_9 : decode cX12_line 9 = .ok (.ireturn, 1) := dk_172 (dk_at dksX12_line_0 9 rfl rfl)
abbrev cX12_takesRecord : ByteArray := prog_27_method_22_code
def yX12_takesRecord : MethodName := ⟨RX12, "takesRecord", "(I)Z"⟩
def dkwX12_takesRecord_1 : List UInt8 := [162, 0, 7, 4, 167, 0, 4, 3, 172]
abbrev dktX12_takesRecord_1 : List UInt8 := dkwX12_takesRecord_1 ++ []
def dkwX12_takesRecord_0 : List UInt8 := [42, 180, 0, 114, 27, 46, 42, 180, 0, 25, 161, 0, 16, 42, 180, 0, 129, 27, 46, 42, 180, 0, 32]
abbrev dktX12_takesRecord_0 : List UInt8 := dkwX12_takesRecord_0 ++ dktX12_takesRecord_1
theorem dksX12_takesRecord_0 : cX12_takesRecord.data.toList.drop 0 = dktX12_takesRecord_0 := by decide +kernel
theorem dksX12_takesRecord_1 : cX12_takesRecord.data.toList.drop 23 = dktX12_takesRecord_1 := dk_seg dksX12_takesRecord_0 23 rfl rfl
theorem dX12_takesRecord_0 : decode cX12_takesRecord 0 = .ok (.aload_n 0, 1) := dk_42 (dk_at dksX12_takesRecord_0 0 rfl rfl)
theorem dX12_takesRecord_1 : decode cX12_takesRecord 1 = .ok (.getfield 114, 3) := dk_180 0 114 (dk_at dksX12_takesRecord_0 1 rfl rfl)
theorem dX12_takesRecord_4 : decode cX12_takesRecord 4 = .ok (.iload_n 1, 1) := dk_27 (dk_at dksX12_takesRecord_0 4 rfl rfl)
theorem dX12_takesRecord_5 : decode cX12_takesRecord 5 = .ok (.iaload, 1) := dk_46 (dk_at dksX12_takesRecord_0 5 rfl rfl)
theorem dX12_takesRecord_6 : decode cX12_takesRecord 6 = .ok (.aload_n 0, 1) := dk_42 (dk_at dksX12_takesRecord_0 6 rfl rfl)
theorem dX12_takesRecord_7 : decode cX12_takesRecord 7 = .ok (.getfield 25, 3) := dk_180 0 25 (dk_at dksX12_takesRecord_0 7 rfl rfl)
theorem dX12_takesRecord_10 : decode cX12_takesRecord 10 = .ok (.if_icmp .lt 16, 3) := dk_161 0 16 (dk_at dksX12_takesRecord_0 10 rfl rfl)
theorem dX12_takesRecord_13 : decode cX12_takesRecord 13 = .ok (.aload_n 0, 1) := dk_42 (dk_at dksX12_takesRecord_0 13 rfl rfl)
theorem dX12_takesRecord_14 : decode cX12_takesRecord 14 = .ok (.getfield 129, 3) := dk_180 0 129 (dk_at dksX12_takesRecord_0 14 rfl rfl)
theorem dX12_takesRecord_17 : decode cX12_takesRecord 17 = .ok (.iload_n 1, 1) := dk_27 (dk_at dksX12_takesRecord_0 17 rfl rfl)
theorem dX12_takesRecord_18 : decode cX12_takesRecord 18 = .ok (.iaload, 1) := dk_46 (dk_at dksX12_takesRecord_0 18 rfl rfl)
theorem dX12_takesRecord_19 : decode cX12_takesRecord 19 = .ok (.aload_n 0, 1) := dk_42 (dk_at dksX12_takesRecord_0 19 rfl rfl)
theorem dX12_takesRecord_20 : decode cX12_takesRecord 20 = .ok (.getfield 32, 3) := dk_180 0 32 (dk_at dksX12_takesRecord_0 20 rfl rfl)
theorem dX12_takesRecord_23 : decode cX12_takesRecord 23 = .ok (.if_icmp .ge 7, 3) := dk_162 0 7 (dk_at dksX12_takesRecord_1 0 rfl rfl)
theorem dX12_takesRecord_26 : decode cX12_takesRecord 26 = .ok (.iconst 1, 1) := dk_4 (dk_at dksX12_takesRecord_1 3 rfl rfl)
theorem dX12_takesRecord_27 : decode cX12_takesRecord 27 = .ok (.goto 4, 3) := dk_167 0 4 (dk_at dksX12_takesRecord_1 4 rfl rfl)
theorem dX12_takesRecord_30 : decode cX12_takesRecord 30 = .ok (.iconst 0, 1) := dk_3 (dk_at dksX12_takesRecord_1 7 rfl rfl)
theorem dX12_takesRecord_31 : decode cX12_takesRecord 31 = .ok (.ireturn, 1) := dk_172 (dk_at dksX12_takesRecord_1 8 rfl rfl)
abbrev cX12_puts : ByteArray := prog_27_method_25_code
def yX12_puts : MethodName := ⟨RX12, "puts", "(IIII)V"⟩
def dkwX12_puts_4 : List UInt8 := [42, 180, 0, 32, 162, 0, 8, 42, 27, 182, 1, 22, 177]
abbrev dktX12_puts_4 : List UInt8 := dkwX12_puts_4 ++ []
def dkwX12_puts_3 : List UInt8 := [92, 46, 4, 96, 79, 42, 180, 0, 114, 27, 46, 42, 180, 0, 25, 160, 0, 21, 42, 180, 0, 129, 27, 46]
abbrev dktX12_puts_3 : List UInt8 := dkwX12_puts_3 ++ dktX12_puts_4
def dkwX12_puts_2 : List UInt8 := [29, 79, 42, 180, 0, 126, 7, 27, 104, 42, 180, 0, 114, 27, 46, 96, 21, 4, 79, 42, 180, 0, 114, 27]
abbrev dktX12_puts_2 : List UInt8 := dkwX12_puts_2 ++ dktX12_puts_3
def dkwX12_puts_1 : List UInt8 := [104, 42, 180, 0, 114, 27, 46, 96, 28, 79, 42, 180, 0, 123, 7, 27, 104, 42, 180, 0, 114, 27, 46, 96]
abbrev dktX12_puts_1 : List UInt8 := dkwX12_puts_1 ++ dktX12_puts_2
def dkwX12_puts_0 : List UInt8 := [42, 180, 0, 114, 27, 46, 42, 180, 0, 25, 160, 0, 8, 42, 27, 182, 1, 22, 42, 180, 0, 120, 7, 27]
abbrev dktX12_puts_0 : List UInt8 := dkwX12_puts_0 ++ dktX12_puts_1
theorem dksX12_puts_0 : cX12_puts.data.toList.drop 0 = dktX12_puts_0 := by decide +kernel
theorem dksX12_puts_1 : cX12_puts.data.toList.drop 24 = dktX12_puts_1 := dk_seg dksX12_puts_0 24 rfl rfl
theorem dksX12_puts_2 : cX12_puts.data.toList.drop 48 = dktX12_puts_2 := dk_seg dksX12_puts_1 24 rfl rfl
theorem dksX12_puts_3 : cX12_puts.data.toList.drop 72 = dktX12_puts_3 := dk_seg dksX12_puts_2 24 rfl rfl
theorem dksX12_puts_4 : cX12_puts.data.toList.drop 96 = dktX12_puts_4 := dk_seg dksX12_puts_3 24 rfl rfl
theorem dX12_puts_0 : decode cX12_puts 0 = .ok (.aload_n 0, 1) := dk_42 (dk_at dksX12_puts_0 0 rfl rfl)
theorem dX12_puts_1 : decode cX12_puts 1 = .ok (.getfield 114, 3) := dk_180 0 114 (dk_at dksX12_puts_0 1 rfl rfl)
theorem dX12_puts_4 : decode cX12_puts 4 = .ok (.iload_n 1, 1) := dk_27 (dk_at dksX12_puts_0 4 rfl rfl)
theorem dX12_puts_5 : decode cX12_puts 5 = .ok (.iaload, 1) := dk_46 (dk_at dksX12_puts_0 5 rfl rfl)
theorem dX12_puts_6 : decode cX12_puts 6 = .ok (.aload_n 0, 1) := dk_42 (dk_at dksX12_puts_0 6 rfl rfl)
theorem dX12_puts_7 : decode cX12_puts 7 = .ok (.getfield 25, 3) := dk_180 0 25 (dk_at dksX12_puts_0 7 rfl rfl)
theorem dX12_puts_10 : decode cX12_puts 10 = .ok (.if_icmp .ne 8, 3) := dk_160 0 8 (dk_at dksX12_puts_0 10 rfl rfl)
theorem dX12_puts_13 : decode cX12_puts 13 = .ok (.aload_n 0, 1) := dk_42 (dk_at dksX12_puts_0 13 rfl rfl)
theorem dX12_puts_14 : decode cX12_puts 14 = .ok (.iload_n 1, 1) := dk_27 (dk_at dksX12_puts_0 14 rfl rfl)
theorem dX12_puts_15 : decode cX12_puts 15 = .ok (.invokevirtual 278, 3) := dk_182 1 22 (dk_at dksX12_puts_0 15 rfl rfl)
theorem dX12_puts_18 : decode cX12_puts 18 = .ok (.aload_n 0, 1) := dk_42 (dk_at dksX12_puts_0 18 rfl rfl)
theorem dX12_puts_19 : decode cX12_puts 19 = .ok (.getfield 120, 3) := dk_180 0 120 (dk_at dksX12_puts_0 19 rfl rfl)
theorem dX12_puts_22 : decode cX12_puts 22 = .ok (.iconst 4, 1) := dk_7 (dk_at dksX12_puts_0 22 rfl rfl)
theorem dX12_puts_23 : decode cX12_puts 23 = .ok (.iload_n 1, 1) := dk_27 (dk_at dksX12_puts_0 23 rfl rfl)
theorem dX12_puts_24 : decode cX12_puts 24 = .ok (.imul, 1) := dk_104 (dk_at dksX12_puts_1 0 rfl rfl)
theorem dX12_puts_25 : decode cX12_puts 25 = .ok (.aload_n 0, 1) := dk_42 (dk_at dksX12_puts_1 1 rfl rfl)
theorem dX12_puts_26 : decode cX12_puts 26 = .ok (.getfield 114, 3) := dk_180 0 114 (dk_at dksX12_puts_1 2 rfl rfl)
theorem dX12_puts_29 : decode cX12_puts 29 = .ok (.iload_n 1, 1) := dk_27 (dk_at dksX12_puts_1 5 rfl rfl)
theorem dX12_puts_30 : decode cX12_puts 30 = .ok (.iaload, 1) := dk_46 (dk_at dksX12_puts_1 6 rfl rfl)
theorem dX12_puts_31 : decode cX12_puts 31 = .ok (.iadd, 1) := dk_96 (dk_at dksX12_puts_1 7 rfl rfl)
theorem dX12_puts_32 : decode cX12_puts 32 = .ok (.iload_n 2, 1) := dk_28 (dk_at dksX12_puts_1 8 rfl rfl)
theorem dX12_puts_33 : decode cX12_puts 33 = .ok (.iastore, 1) := dk_79 (dk_at dksX12_puts_1 9 rfl rfl)
theorem dX12_puts_34 : decode cX12_puts 34 = .ok (.aload_n 0, 1) := dk_42 (dk_at dksX12_puts_1 10 rfl rfl)
theorem dX12_puts_35 : decode cX12_puts 35 = .ok (.getfield 123, 3) := dk_180 0 123 (dk_at dksX12_puts_1 11 rfl rfl)
theorem dX12_puts_38 : decode cX12_puts 38 = .ok (.iconst 4, 1) := dk_7 (dk_at dksX12_puts_1 14 rfl rfl)
theorem dX12_puts_39 : decode cX12_puts 39 = .ok (.iload_n 1, 1) := dk_27 (dk_at dksX12_puts_1 15 rfl rfl)
theorem dX12_puts_40 : decode cX12_puts 40 = .ok (.imul, 1) := dk_104 (dk_at dksX12_puts_1 16 rfl rfl)
theorem dX12_puts_41 : decode cX12_puts 41 = .ok (.aload_n 0, 1) := dk_42 (dk_at dksX12_puts_1 17 rfl rfl)
theorem dX12_puts_42 : decode cX12_puts 42 = .ok (.getfield 114, 3) := dk_180 0 114 (dk_at dksX12_puts_1 18 rfl rfl)
theorem dX12_puts_45 : decode cX12_puts 45 = .ok (.iload_n 1, 1) := dk_27 (dk_at dksX12_puts_1 21 rfl rfl)
theorem dX12_puts_46 : decode cX12_puts 46 = .ok (.iaload, 1) := dk_46 (dk_at dksX12_puts_1 22 rfl rfl)
theorem dX12_puts_47 : decode cX12_puts 47 = .ok (.iadd, 1) := dk_96 (dk_at dksX12_puts_1 23 rfl rfl)
theorem dX12_puts_48 : decode cX12_puts 48 = .ok (.iload_n 3, 1) := dk_29 (dk_at dksX12_puts_2 0 rfl rfl)
theorem dX12_puts_49 : decode cX12_puts 49 = .ok (.iastore, 1) := dk_79 (dk_at dksX12_puts_2 1 rfl rfl)
theorem dX12_puts_50 : decode cX12_puts 50 = .ok (.aload_n 0, 1) := dk_42 (dk_at dksX12_puts_2 2 rfl rfl)
theorem dX12_puts_51 : decode cX12_puts 51 = .ok (.getfield 126, 3) := dk_180 0 126 (dk_at dksX12_puts_2 3 rfl rfl)
theorem dX12_puts_54 : decode cX12_puts 54 = .ok (.iconst 4, 1) := dk_7 (dk_at dksX12_puts_2 6 rfl rfl)
theorem dX12_puts_55 : decode cX12_puts 55 = .ok (.iload_n 1, 1) := dk_27 (dk_at dksX12_puts_2 7 rfl rfl)
theorem dX12_puts_56 : decode cX12_puts 56 = .ok (.imul, 1) := dk_104 (dk_at dksX12_puts_2 8 rfl rfl)
theorem dX12_puts_57 : decode cX12_puts 57 = .ok (.aload_n 0, 1) := dk_42 (dk_at dksX12_puts_2 9 rfl rfl)
theorem dX12_puts_58 : decode cX12_puts 58 = .ok (.getfield 114, 3) := dk_180 0 114 (dk_at dksX12_puts_2 10 rfl rfl)
theorem dX12_puts_61 : decode cX12_puts 61 = .ok (.iload_n 1, 1) := dk_27 (dk_at dksX12_puts_2 13 rfl rfl)
theorem dX12_puts_62 : decode cX12_puts 62 = .ok (.iaload, 1) := dk_46 (dk_at dksX12_puts_2 14 rfl rfl)
theorem dX12_puts_63 : decode cX12_puts 63 = .ok (.iadd, 1) := dk_96 (dk_at dksX12_puts_2 15 rfl rfl)
theorem dX12_puts_64 : decode cX12_puts 64 = .ok (.iload 4, 2) := dk_21 4 (dk_at dksX12_puts_2 16 rfl rfl)
theorem dX12_puts_66 : decode cX12_puts 66 = .ok (.iastore, 1) := dk_79 (dk_at dksX12_puts_2 18 rfl rfl)
theorem dX12_puts_67 : decode cX12_puts 67 = .ok (.aload_n 0, 1) := dk_42 (dk_at dksX12_puts_2 19 rfl rfl)
theorem dX12_puts_68 : decode cX12_puts 68 = .ok (.getfield 114, 3) := dk_180 0 114 (dk_at dksX12_puts_2 20 rfl rfl)
theorem dX12_puts_71 : decode cX12_puts 71 = .ok (.iload_n 1, 1) := dk_27 (dk_at dksX12_puts_2 23 rfl rfl)
theorem dX12_puts_72 : decode cX12_puts 72 = .ok (.dup2, 1) := dk_92 (dk_at dksX12_puts_3 0 rfl rfl)
theorem dX12_puts_73 : decode cX12_puts 73 = .ok (.iaload, 1) := dk_46 (dk_at dksX12_puts_3 1 rfl rfl)
theorem dX12_puts_74 : decode cX12_puts 74 = .ok (.iconst 1, 1) := dk_4 (dk_at dksX12_puts_3 2 rfl rfl)
theorem dX12_puts_75 : decode cX12_puts 75 = .ok (.iadd, 1) := dk_96 (dk_at dksX12_puts_3 3 rfl rfl)
theorem dX12_puts_76 : decode cX12_puts 76 = .ok (.iastore, 1) := dk_79 (dk_at dksX12_puts_3 4 rfl rfl)
theorem dX12_puts_77 : decode cX12_puts 77 = .ok (.aload_n 0, 1) := dk_42 (dk_at dksX12_puts_3 5 rfl rfl)
theorem dX12_puts_78 : decode cX12_puts 78 = .ok (.getfield 114, 3) := dk_180 0 114 (dk_at dksX12_puts_3 6 rfl rfl)
theorem dX12_puts_81 : decode cX12_puts 81 = .ok (.iload_n 1, 1) := dk_27 (dk_at dksX12_puts_3 9 rfl rfl)
theorem dX12_puts_82 : decode cX12_puts 82 = .ok (.iaload, 1) := dk_46 (dk_at dksX12_puts_3 10 rfl rfl)
theorem dX12_puts_83 : decode cX12_puts 83 = .ok (.aload_n 0, 1) := dk_42 (dk_at dksX12_puts_3 11 rfl rfl)
theorem dX12_puts_84 : decode cX12_puts 84 = .ok (.getfield 25, 3) := dk_180 0 25 (dk_at dksX12_puts_3 12 rfl rfl)
theorem dX12_puts_87 : decode cX12_puts 87 = .ok (.if_icmp .ne 21, 3) := dk_160 0 21 (dk_at dksX12_puts_3 15 rfl rfl)
theorem dX12_puts_90 : decode cX12_puts 90 = .ok (.aload_n 0, 1) := dk_42 (dk_at dksX12_puts_3 18 rfl rfl)
theorem dX12_puts_91 : decode cX12_puts 91 = .ok (.getfield 129, 3) := dk_180 0 129 (dk_at dksX12_puts_3 19 rfl rfl)
theorem dX12_puts_94 : decode cX12_puts 94 = .ok (.iload_n 1, 1) := dk_27 (dk_at dksX12_puts_3 22 rfl rfl)
theorem dX12_puts_95 : decode cX12_puts 95 = .ok (.iaload, 1) := dk_46 (dk_at dksX12_puts_3 23 rfl rfl)
theorem dX12_puts_96 : decode cX12_puts 96 = .ok (.aload_n 0, 1) := dk_42 (dk_at dksX12_puts_4 0 rfl rfl)
theorem dX12_puts_97 : decode cX12_puts 97 = .ok (.getfield 32, 3) := dk_180 0 32 (dk_at dksX12_puts_4 1 rfl rfl)
theorem dX12_puts_100 : decode cX12_puts 100 = .ok (.if_icmp .ge 8, 3) := dk_162 0 8 (dk_at dksX12_puts_4 4 rfl rfl)
theorem dX12_puts_103 : decode cX12_puts 103 = .ok (.aload_n 0, 1) := dk_42 (dk_at dksX12_puts_4 7 rfl rfl)
theorem dX12_puts_104 : decode cX12_puts 104 = .ok (.iload_n 1, 1) := dk_27 (dk_at dksX12_puts_4 8 rfl rfl)
theorem dX12_puts_105 : decode cX12_puts 105 = .ok (.invokevirtual 278, 3) := dk_182 1 22 (dk_at dksX12_puts_4 9 rfl rfl)
theorem dX12_puts_108 : decode cX12_puts 108 = .ok (.return_, 1) := dk_177 (dk_at dksX12_puts_4 12 rfl rfl)
abbrev cX12_refusing : ByteArray := prog_27_method_41_code
def yX12_refusing : MethodName := ⟨RX12, "refusing", "(II)I"⟩
def dkwX12_refusing_1 : List UInt8 := [154, 0, 5, 29, 172, 132, 3, 1, 167, 255, 226, 2, 172]
abbrev dktX12_refusing_1 : List UInt8 := dkwX12_refusing_1 ++ []
def dkwX12_refusing_0 : List UInt8 := [3, 62, 29, 42, 180, 0, 22, 27, 4, 96, 46, 162, 0, 24, 42, 27, 28, 29, 184, 1, 68, 182, 1, 85]
abbrev dktX12_refusing_0 : List UInt8 := dkwX12_refusing_0 ++ dktX12_refusing_1
theorem dksX12_refusing_0 : cX12_refusing.data.toList.drop 0 = dktX12_refusing_0 := by decide +kernel
theorem dksX12_refusing_1 : cX12_refusing.data.toList.drop 24 = dktX12_refusing_1 := dk_seg dksX12_refusing_0 24 rfl rfl
theorem dX12_refusing_0 : decode cX12_refusing 0 = .ok (.iconst 0, 1) := dk_3 (dk_at dksX12_refusing_0 0 rfl rfl)
theorem dX12_refusing_1 : decode cX12_refusing 1 = .ok (.istore_n 3, 1) := dk_62 (dk_at dksX12_refusing_0 1 rfl rfl)
theorem dX12_refusing_2 : decode cX12_refusing 2 = .ok (.iload_n 3, 1) := dk_29 (dk_at dksX12_refusing_0 2 rfl rfl)
theorem dX12_refusing_3 : decode cX12_refusing 3 = .ok (.aload_n 0, 1) := dk_42 (dk_at dksX12_refusing_0 3 rfl rfl)
theorem dX12_refusing_4 : decode cX12_refusing 4 = .ok (.getfield 22, 3) := dk_180 0 22 (dk_at dksX12_refusing_0 4 rfl rfl)
theorem dX12_refusing_7 : decode cX12_refusing 7 = .ok (.iload_n 1, 1) := dk_27 (dk_at dksX12_refusing_0 7 rfl rfl)
theorem dX12_refusing_8 : decode cX12_refusing 8 = .ok (.iconst 1, 1) := dk_4 (dk_at dksX12_refusing_0 8 rfl rfl)
theorem dX12_refusing_9 : decode cX12_refusing 9 = .ok (.iadd, 1) := dk_96 (dk_at dksX12_refusing_0 9 rfl rfl)
theorem dX12_refusing_10 : decode cX12_refusing 10 = .ok (.iaload, 1) := dk_46 (dk_at dksX12_refusing_0 10 rfl rfl)
theorem dX12_refusing_11 : decode cX12_refusing 11 = .ok (.if_icmp .ge 24, 3) := dk_162 0 24 (dk_at dksX12_refusing_0 11 rfl rfl)
theorem dX12_refusing_14 : decode cX12_refusing 14 = .ok (.aload_n 0, 1) := dk_42 (dk_at dksX12_refusing_0 14 rfl rfl)
theorem dX12_refusing_15 : decode cX12_refusing 15 = .ok (.iload_n 1, 1) := dk_27 (dk_at dksX12_refusing_0 15 rfl rfl)
theorem dX12_refusing_16 : decode cX12_refusing 16 = .ok (.iload_n 2, 1) := dk_28 (dk_at dksX12_refusing_0 16 rfl rfl)
theorem dX12_refusing_17 : decode cX12_refusing 17 = .ok (.iload_n 3, 1) := dk_29 (dk_at dksX12_refusing_0 17 rfl rfl)
theorem dX12_refusing_18 : decode cX12_refusing 18 = .ok (.invokestatic 324, 3) := dk_184 1 68 (dk_at dksX12_refusing_0 18 rfl rfl)
theorem dX12_refusing_21 : decode cX12_refusing 21 = .ok (.invokevirtual 341, 3) := dk_182 1 85 (dk_at dksX12_refusing_0 21 rfl rfl)
theorem dX12_refusing_24 : decode cX12_refusing 24 = .ok (.ifCond .ne 5, 3) := dk_154 0 5 (dk_at dksX12_refusing_1 0 rfl rfl)
theorem dX12_refusing_27 : decode cX12_refusing 27 = .ok (.iload_n 3, 1) := dk_29 (dk_at dksX12_refusing_1 3 rfl rfl)
theorem dX12_refusing_28 : decode cX12_refusing 28 = .ok (.ireturn, 1) := dk_172 (dk_at dksX12_refusing_1 4 rfl rfl)
theorem dX12_refusing_29 : decode cX12_refusing 29 = .ok (.iinc 3 1, 3) := dk_132 3 1 (dk_at dksX12_refusing_1 5 rfl rfl)
theorem dX12_refusing_32 : decode cX12_refusing 32 = .ok (.goto (-30), 3) := dk_167 255 226 (dk_at dksX12_refusing_1 8 rfl rfl)
theorem dX12_refusing_35 : decode cX12_refusing 35 = .ok (.iconst (-1), 1) := dk_2 (dk_at dksX12_refusing_1 11 rfl rfl)
theorem dX12_refusing_36 : decode cX12_refusing 36 = .ok (.ireturn, 1) := dk_172 (dk_at dksX12_refusing_1 12 rfl rfl)
abbrev cX12_takesBarrier : ByteArray := prog_27_method_23_code
def yX12_takesBarrier : MethodName := ⟨RX12, "takesBarrier", "(I)Z"⟩
def dkwX12_takesBarrier_1 : List UInt8 := [180, 0, 32, 162, 0, 7, 4, 167, 0, 4, 3, 172]
abbrev dktX12_takesBarrier_1 : List UInt8 := dkwX12_takesBarrier_1 ++ []
def dkwX12_takesBarrier_0 : List UInt8 := [42, 180, 0, 129, 27, 46, 42, 180, 0, 114, 27, 46, 158, 0, 7, 4, 167, 0, 4, 3, 96, 42]
abbrev dktX12_takesBarrier_0 : List UInt8 := dkwX12_takesBarrier_0 ++ dktX12_takesBarrier_1
theorem dksX12_takesBarrier_0 : cX12_takesBarrier.data.toList.drop 0 = dktX12_takesBarrier_0 := by decide +kernel
theorem dksX12_takesBarrier_1 : cX12_takesBarrier.data.toList.drop 22 = dktX12_takesBarrier_1 := dk_seg dksX12_takesBarrier_0 22 rfl rfl
theorem dX12_takesBarrier_0 : decode cX12_takesBarrier 0 = .ok (.aload_n 0, 1) := dk_42 (dk_at dksX12_takesBarrier_0 0 rfl rfl)
theorem dX12_takesBarrier_1 : decode cX12_takesBarrier 1 = .ok (.getfield 129, 3) := dk_180 0 129 (dk_at dksX12_takesBarrier_0 1 rfl rfl)
theorem dX12_takesBarrier_4 : decode cX12_takesBarrier 4 = .ok (.iload_n 1, 1) := dk_27 (dk_at dksX12_takesBarrier_0 4 rfl rfl)
theorem dX12_takesBarrier_5 : decode cX12_takesBarrier 5 = .ok (.iaload, 1) := dk_46 (dk_at dksX12_takesBarrier_0 5 rfl rfl)
theorem dX12_takesBarrier_6 : decode cX12_takesBarrier 6 = .ok (.aload_n 0, 1) := dk_42 (dk_at dksX12_takesBarrier_0 6 rfl rfl)
theorem dX12_takesBarrier_7 : decode cX12_takesBarrier 7 = .ok (.getfield 114, 3) := dk_180 0 114 (dk_at dksX12_takesBarrier_0 7 rfl rfl)
theorem dX12_takesBarrier_10 : decode cX12_takesBarrier 10 = .ok (.iload_n 1, 1) := dk_27 (dk_at dksX12_takesBarrier_0 10 rfl rfl)
theorem dX12_takesBarrier_11 : decode cX12_takesBarrier 11 = .ok (.iaload, 1) := dk_46 (dk_at dksX12_takesBarrier_0 11 rfl rfl)
theorem dX12_takesBarrier_12 : decode cX12_takesBarrier 12 = .ok (.ifCond .le 7, 3) := dk_158 0 7 (dk_at dksX12_takesBarrier_0 12 rfl rfl)
theorem dX12_takesBarrier_15 : decode cX12_takesBarrier 15 = .ok (.iconst 1, 1) := dk_4 (dk_at dksX12_takesBarrier_0 15 rfl rfl)
theorem dX12_takesBarrier_16 : decode cX12_takesBarrier 16 = .ok (.goto 4, 3) := dk_167 0 4 (dk_at dksX12_takesBarrier_0 16 rfl rfl)
theorem dX12_takesBarrier_19 : decode cX12_takesBarrier 19 = .ok (.iconst 0, 1) := dk_3 (dk_at dksX12_takesBarrier_0 19 rfl rfl)
theorem dX12_takesBarrier_20 : decode cX12_takesBarrier 20 = .ok (.iadd, 1) := dk_96 (dk_at dksX12_takesBarrier_0 20 rfl rfl)
theorem dX12_takesBarrier_21 : decode cX12_takesBarrier 21 = .ok (.aload_n 0, 1) := dk_42 (dk_at dksX12_takesBarrier_0 21 rfl rfl)
theorem dX12_takesBarrier_22 : decode cX12_takesBarrier 22 = .ok (.getfield 32, 3) := dk_180 0 32 (dk_at dksX12_takesBarrier_1 0 rfl rfl)
theorem dX12_takesBarrier_25 : decode cX12_takesBarrier 25 = .ok (.if_icmp .ge 7, 3) := dk_162 0 7 (dk_at dksX12_takesBarrier_1 3 rfl rfl)
theorem dX12_takesBarrier_28 : decode cX12_takesBarrier 28 = .ok (.iconst 1, 1) := dk_4 (dk_at dksX12_takesBarrier_1 6 rfl rfl)
theorem dX12_takesBarrier_29 : decode cX12_takesBarrier 29 = .ok (.goto 4, 3) := dk_167 0 4 (dk_at dksX12_takesBarrier_1 7 rfl rfl)
theorem dX12_takesBarrier_32 : decode cX12_takesBarrier 32 = .ok (.iconst 0, 1) := dk_3 (dk_at dksX12_takesBarrier_1 10 rfl rfl)
theorem dX12_takesBarrier_33 : decode cX12_takesBarrier 33 = .ok (.ireturn, 1) := dk_172 (dk_at dksX12_takesBarrier_1 11 rfl rfl)
abbrev cX12_putsBarrier : ByteArray := prog_27_method_26_code
def yX12_putsBarrier : MethodName := ⟨RX12, "putsBarrier", "(I)V"⟩
def dkwX12_putsBarrier_1 : List UInt8 := [180, 0, 129, 27, 46, 96, 2, 79, 42, 180, 0, 129, 27, 92, 46, 4, 96, 79, 177]
abbrev dktX12_putsBarrier_1 : List UInt8 := dkwX12_putsBarrier_1 ++ []
def dkwX12_putsBarrier_0 : List UInt8 := [42, 180, 0, 114, 27, 46, 158, 0, 8, 42, 27, 182, 1, 22, 42, 180, 0, 135, 7, 27, 104, 42]
abbrev dktX12_putsBarrier_0 : List UInt8 := dkwX12_putsBarrier_0 ++ dktX12_putsBarrier_1
theorem dksX12_putsBarrier_0 : cX12_putsBarrier.data.toList.drop 0 = dktX12_putsBarrier_0 := by decide +kernel
theorem dksX12_putsBarrier_1 : cX12_putsBarrier.data.toList.drop 22 = dktX12_putsBarrier_1 := dk_seg dksX12_putsBarrier_0 22 rfl rfl
theorem dX12_putsBarrier_0 : decode cX12_putsBarrier 0 = .ok (.aload_n 0, 1) := dk_42 (dk_at dksX12_putsBarrier_0 0 rfl rfl)
theorem dX12_putsBarrier_1 : decode cX12_putsBarrier 1 = .ok (.getfield 114, 3) := dk_180 0 114 (dk_at dksX12_putsBarrier_0 1 rfl rfl)
theorem dX12_putsBarrier_4 : decode cX12_putsBarrier 4 = .ok (.iload_n 1, 1) := dk_27 (dk_at dksX12_putsBarrier_0 4 rfl rfl)
theorem dX12_putsBarrier_5 : decode cX12_putsBarrier 5 = .ok (.iaload, 1) := dk_46 (dk_at dksX12_putsBarrier_0 5 rfl rfl)
theorem dX12_putsBarrier_6 : decode cX12_putsBarrier 6 = .ok (.ifCond .le 8, 3) := dk_158 0 8 (dk_at dksX12_putsBarrier_0 6 rfl rfl)
theorem dX12_putsBarrier_9 : decode cX12_putsBarrier 9 = .ok (.aload_n 0, 1) := dk_42 (dk_at dksX12_putsBarrier_0 9 rfl rfl)
theorem dX12_putsBarrier_10 : decode cX12_putsBarrier 10 = .ok (.iload_n 1, 1) := dk_27 (dk_at dksX12_putsBarrier_0 10 rfl rfl)
theorem dX12_putsBarrier_11 : decode cX12_putsBarrier 11 = .ok (.invokevirtual 278, 3) := dk_182 1 22 (dk_at dksX12_putsBarrier_0 11 rfl rfl)
theorem dX12_putsBarrier_14 : decode cX12_putsBarrier 14 = .ok (.aload_n 0, 1) := dk_42 (dk_at dksX12_putsBarrier_0 14 rfl rfl)
theorem dX12_putsBarrier_15 : decode cX12_putsBarrier 15 = .ok (.getfield 135, 3) := dk_180 0 135 (dk_at dksX12_putsBarrier_0 15 rfl rfl)
theorem dX12_putsBarrier_18 : decode cX12_putsBarrier 18 = .ok (.iconst 4, 1) := dk_7 (dk_at dksX12_putsBarrier_0 18 rfl rfl)
theorem dX12_putsBarrier_19 : decode cX12_putsBarrier 19 = .ok (.iload_n 1, 1) := dk_27 (dk_at dksX12_putsBarrier_0 19 rfl rfl)
theorem dX12_putsBarrier_20 : decode cX12_putsBarrier 20 = .ok (.imul, 1) := dk_104 (dk_at dksX12_putsBarrier_0 20 rfl rfl)
theorem dX12_putsBarrier_21 : decode cX12_putsBarrier 21 = .ok (.aload_n 0, 1) := dk_42 (dk_at dksX12_putsBarrier_0 21 rfl rfl)
theorem dX12_putsBarrier_22 : decode cX12_putsBarrier 22 = .ok (.getfield 129, 3) := dk_180 0 129 (dk_at dksX12_putsBarrier_1 0 rfl rfl)
theorem dX12_putsBarrier_25 : decode cX12_putsBarrier 25 = .ok (.iload_n 1, 1) := dk_27 (dk_at dksX12_putsBarrier_1 3 rfl rfl)
theorem dX12_putsBarrier_26 : decode cX12_putsBarrier 26 = .ok (.iaload, 1) := dk_46 (dk_at dksX12_putsBarrier_1 4 rfl rfl)
theorem dX12_putsBarrier_27 : decode cX12_putsBarrier 27 = .ok (.iadd, 1) := dk_96 (dk_at dksX12_putsBarrier_1 5 rfl rfl)
theorem dX12_putsBarrier_28 : decode cX12_putsBarrier 28 = .ok (.iconst (-1), 1) := dk_2 (dk_at dksX12_putsBarrier_1 6 rfl rfl)
theorem dX12_putsBarrier_29 : decode cX12_putsBarrier 29 = .ok (.iastore, 1) := dk_79 (dk_at dksX12_putsBarrier_1 7 rfl rfl)
theorem dX12_putsBarrier_30 : decode cX12_putsBarrier 30 = .ok (.aload_n 0, 1) := dk_42 (dk_at dksX12_putsBarrier_1 8 rfl rfl)
theorem dX12_putsBarrier_31 : decode cX12_putsBarrier 31 = .ok (.getfield 129, 3) := dk_180 0 129 (dk_at dksX12_putsBarrier_1 9 rfl rfl)
theorem dX12_putsBarrier_34 : decode cX12_putsBarrier 34 = .ok (.iload_n 1, 1) := dk_27 (dk_at dksX12_putsBarrier_1 12 rfl rfl)
theorem dX12_putsBarrier_35 : decode cX12_putsBarrier 35 = .ok (.dup2, 1) := dk_92 (dk_at dksX12_putsBarrier_1 13 rfl rfl)
theorem dX12_putsBarrier_36 : decode cX12_putsBarrier 36 = .ok (.iaload, 1) := dk_46 (dk_at dksX12_putsBarrier_1 14 rfl rfl)
theorem dX12_putsBarrier_37 : decode cX12_putsBarrier 37 = .ok (.iconst 1, 1) := dk_4 (dk_at dksX12_putsBarrier_1 15 rfl rfl)
theorem dX12_putsBarrier_38 : decode cX12_putsBarrier 38 = .ok (.iadd, 1) := dk_96 (dk_at dksX12_putsBarrier_1 16 rfl rfl)
theorem dX12_putsBarrier_39 : decode cX12_putsBarrier 39 = .ok (.iastore, 1) := dk_79 (dk_at dksX12_putsBarrier_1 17 rfl rfl)
theorem dX12_putsBarrier_40 : decode cX12_putsBarrier 40 = .ok (.return_, 1) := dk_177 (dk_at dksX12_putsBarrier_1 18 rfl rfl)
abbrev cX12_takes : ByteArray := prog_27_method_40_code
def yX12_takes : MethodName := ⟨RX12, "takes", "(II)Z"⟩
def dkwX12_takes_10 : List UInt8 := [42, 27, 28, 21, 5, 21, 6, 21, 7, 182, 1, 82, 4, 172]
abbrev dktX12_takes_10 : List UInt8 := dkwX12_takes_10 ++ []
def dkwX12_takes_9 : List UInt8 := [180, 0, 132, 21, 4, 46, 42, 180, 0, 135, 7, 21, 4, 104, 46, 160, 0, 9, 42, 21, 4, 182, 1, 75]
abbrev dktX12_takes_9 : List UInt8 := dkwX12_takes_9 ++ dktX12_takes_10
def dkwX12_takes_8 : List UInt8 := [104, 42, 180, 0, 132, 21, 4, 46, 96, 46, 54, 7, 42, 180, 0, 132, 21, 4, 92, 46, 4, 96, 79, 42]
abbrev dktX12_takes_8 : List UInt8 := dkwX12_takes_8 ++ dktX12_takes_9
def dkwX12_takes_7 : List UInt8 := [16, 16, 21, 4, 104, 42, 180, 0, 132, 21, 4, 46, 96, 46, 54, 6, 42, 180, 0, 144, 16, 16, 21, 4]
abbrev dktX12_takes_7 : List UInt8 := dkwX12_takes_7 ++ dktX12_takes_8
def dkwX12_takes_6 : List UInt8 := [180, 0, 138, 16, 16, 21, 4, 104, 42, 180, 0, 132, 21, 4, 46, 96, 46, 54, 5, 42, 180, 0, 141]
abbrev dktX12_takes_6 : List UInt8 := dkwX12_takes_6 ++ dktX12_takes_7
def dkwX12_takes_5 : List UInt8 := [21, 4, 104, 46, 156, 0, 18, 42, 21, 4, 182, 1, 75, 42, 27, 28, 29, 182, 1, 78, 4, 172, 42]
abbrev dktX12_takes_5 : List UInt8 := dkwX12_takes_5 ++ dktX12_takes_6
def dkwX12_takes_4 : List UInt8 := [180, 0, 22, 27, 4, 100, 46, 112, 79, 27, 4, 100, 29, 28, 184, 1, 68, 54, 4, 42, 180, 0, 135, 7]
abbrev dktX12_takes_4 : List UInt8 := dkwX12_takes_4 ++ dktX12_takes_5
def dkwX12_takes_3 : List UInt8 := [182, 1, 72, 62, 29, 156, 0, 5, 3, 172, 42, 180, 0, 108, 27, 28, 184, 1, 32, 29, 4, 96, 42]
abbrev dktX12_takes_3 : List UInt8 := dkwX12_takes_3 ++ dktX12_takes_4
def dkwX12_takes_2 : List UInt8 := [42, 180, 0, 243, 4, 100, 182, 1, 49, 42, 89, 180, 1, 15, 4, 96, 181, 1, 15, 4, 172, 42, 27, 28]
abbrev dktX12_takes_2 : List UInt8 := dkwX12_takes_2 ++ dktX12_takes_3
def dkwX12_takes_1 : List UInt8 := [4, 96, 79, 42, 3, 3, 42, 180, 0, 38, 42, 180, 1, 15, 46, 42, 180, 0, 41, 42, 180, 1, 15, 46]
abbrev dktX12_takes_1 : List UInt8 := dkwX12_takes_1 ++ dktX12_takes_2
def dkwX12_takes_0 : List UInt8 := [27, 154, 0, 68, 42, 180, 1, 15, 42, 180, 1, 19, 160, 0, 5, 3, 172, 42, 180, 0, 44, 3, 92, 46]
abbrev dktX12_takes_0 : List UInt8 := dkwX12_takes_0 ++ dktX12_takes_1
theorem dksX12_takes_0 : cX12_takes.data.toList.drop 0 = dktX12_takes_0 := by decide +kernel
theorem dksX12_takes_1 : cX12_takes.data.toList.drop 24 = dktX12_takes_1 := dk_seg dksX12_takes_0 24 rfl rfl
theorem dksX12_takes_2 : cX12_takes.data.toList.drop 48 = dktX12_takes_2 := dk_seg dksX12_takes_1 24 rfl rfl
theorem dksX12_takes_3 : cX12_takes.data.toList.drop 72 = dktX12_takes_3 := dk_seg dksX12_takes_2 24 rfl rfl
theorem dksX12_takes_4 : cX12_takes.data.toList.drop 95 = dktX12_takes_4 := dk_seg dksX12_takes_3 23 rfl rfl
theorem dksX12_takes_5 : cX12_takes.data.toList.drop 119 = dktX12_takes_5 := dk_seg dksX12_takes_4 24 rfl rfl
theorem dksX12_takes_6 : cX12_takes.data.toList.drop 142 = dktX12_takes_6 := dk_seg dksX12_takes_5 23 rfl rfl
theorem dksX12_takes_7 : cX12_takes.data.toList.drop 165 = dktX12_takes_7 := dk_seg dksX12_takes_6 23 rfl rfl
theorem dksX12_takes_8 : cX12_takes.data.toList.drop 189 = dktX12_takes_8 := dk_seg dksX12_takes_7 24 rfl rfl
theorem dksX12_takes_9 : cX12_takes.data.toList.drop 213 = dktX12_takes_9 := dk_seg dksX12_takes_8 24 rfl rfl
theorem dksX12_takes_10 : cX12_takes.data.toList.drop 237 = dktX12_takes_10 := dk_seg dksX12_takes_9 24 rfl rfl
theorem dX12_takes_0 : decode cX12_takes 0 = .ok (.iload_n 1, 1) := dk_27 (dk_at dksX12_takes_0 0 rfl rfl)
theorem dX12_takes_1 : decode cX12_takes 1 = .ok (.ifCond .ne 68, 3) := dk_154 0 68 (dk_at dksX12_takes_0 1 rfl rfl)
theorem dX12_takes_4 : decode cX12_takes 4 = .ok (.aload_n 0, 1) := dk_42 (dk_at dksX12_takes_0 4 rfl rfl)
theorem dX12_takes_5 : decode cX12_takes 5 = .ok (.getfield 271, 3) := dk_180 1 15 (dk_at dksX12_takes_0 5 rfl rfl)
theorem dX12_takes_8 : decode cX12_takes 8 = .ok (.aload_n 0, 1) := dk_42 (dk_at dksX12_takes_0 8 rfl rfl)
theorem dX12_takes_9 : decode cX12_takes 9 = .ok (.getfield 275, 3) := dk_180 1 19 (dk_at dksX12_takes_0 9 rfl rfl)
theorem dX12_takes_12 : decode cX12_takes 12 = .ok (.if_icmp .ne 5, 3) := dk_160 0 5 (dk_at dksX12_takes_0 12 rfl rfl)
theorem dX12_takes_15 : decode cX12_takes 15 = .ok (.iconst 0, 1) := dk_3 (dk_at dksX12_takes_0 15 rfl rfl)
theorem dX12_takes_16 : decode cX12_takes 16 = .ok (.ireturn, 1) := dk_172 (dk_at dksX12_takes_0 16 rfl rfl)
theorem dX12_takes_17 : decode cX12_takes 17 = .ok (.aload_n 0, 1) := dk_42 (dk_at dksX12_takes_0 17 rfl rfl)
theorem dX12_takes_18 : decode cX12_takes 18 = .ok (.getfield 44, 3) := dk_180 0 44 (dk_at dksX12_takes_0 18 rfl rfl)
theorem dX12_takes_21 : decode cX12_takes 21 = .ok (.iconst 0, 1) := dk_3 (dk_at dksX12_takes_0 21 rfl rfl)
theorem dX12_takes_22 : decode cX12_takes 22 = .ok (.dup2, 1) := dk_92 (dk_at dksX12_takes_0 22 rfl rfl)
theorem dX12_takes_23 : decode cX12_takes 23 = .ok (.iaload, 1) := dk_46 (dk_at dksX12_takes_0 23 rfl rfl)
theorem dX12_takes_24 : decode cX12_takes 24 = .ok (.iconst 1, 1) := dk_4 (dk_at dksX12_takes_1 0 rfl rfl)
theorem dX12_takes_25 : decode cX12_takes 25 = .ok (.iadd, 1) := dk_96 (dk_at dksX12_takes_1 1 rfl rfl)
theorem dX12_takes_26 : decode cX12_takes 26 = .ok (.iastore, 1) := dk_79 (dk_at dksX12_takes_1 2 rfl rfl)
theorem dX12_takes_27 : decode cX12_takes 27 = .ok (.aload_n 0, 1) := dk_42 (dk_at dksX12_takes_1 3 rfl rfl)
theorem dX12_takes_28 : decode cX12_takes 28 = .ok (.iconst 0, 1) := dk_3 (dk_at dksX12_takes_1 4 rfl rfl)
theorem dX12_takes_29 : decode cX12_takes 29 = .ok (.iconst 0, 1) := dk_3 (dk_at dksX12_takes_1 5 rfl rfl)
theorem dX12_takes_30 : decode cX12_takes 30 = .ok (.aload_n 0, 1) := dk_42 (dk_at dksX12_takes_1 6 rfl rfl)
theorem dX12_takes_31 : decode cX12_takes 31 = .ok (.getfield 38, 3) := dk_180 0 38 (dk_at dksX12_takes_1 7 rfl rfl)
theorem dX12_takes_34 : decode cX12_takes 34 = .ok (.aload_n 0, 1) := dk_42 (dk_at dksX12_takes_1 10 rfl rfl)
theorem dX12_takes_35 : decode cX12_takes 35 = .ok (.getfield 271, 3) := dk_180 1 15 (dk_at dksX12_takes_1 11 rfl rfl)
theorem dX12_takes_38 : decode cX12_takes 38 = .ok (.iaload, 1) := dk_46 (dk_at dksX12_takes_1 14 rfl rfl)
theorem dX12_takes_39 : decode cX12_takes 39 = .ok (.aload_n 0, 1) := dk_42 (dk_at dksX12_takes_1 15 rfl rfl)
theorem dX12_takes_40 : decode cX12_takes 40 = .ok (.getfield 41, 3) := dk_180 0 41 (dk_at dksX12_takes_1 16 rfl rfl)
theorem dX12_takes_43 : decode cX12_takes 43 = .ok (.aload_n 0, 1) := dk_42 (dk_at dksX12_takes_1 19 rfl rfl)
theorem dX12_takes_44 : decode cX12_takes 44 = .ok (.getfield 271, 3) := dk_180 1 15 (dk_at dksX12_takes_1 20 rfl rfl)
theorem dX12_takes_47 : decode cX12_takes 47 = .ok (.iaload, 1) := dk_46 (dk_at dksX12_takes_1 23 rfl rfl)
theorem dX12_takes_48 : decode cX12_takes 48 = .ok (.aload_n 0, 1) := dk_42 (dk_at dksX12_takes_2 0 rfl rfl)
theorem dX12_takes_49 : decode cX12_takes 49 = .ok (.getfield 243, 3) := dk_180 0 243 (dk_at dksX12_takes_2 1 rfl rfl)
theorem dX12_takes_52 : decode cX12_takes 52 = .ok (.iconst 1, 1) := dk_4 (dk_at dksX12_takes_2 4 rfl rfl)
theorem dX12_takes_53 : decode cX12_takes 53 = .ok (.isub, 1) := dk_100 (dk_at dksX12_takes_2 5 rfl rfl)
theorem dX12_takes_54 : decode cX12_takes 54 = .ok (.invokevirtual 305, 3) := dk_182 1 49 (dk_at dksX12_takes_2 6 rfl rfl)
theorem dX12_takes_57 : decode cX12_takes 57 = .ok (.aload_n 0, 1) := dk_42 (dk_at dksX12_takes_2 9 rfl rfl)
theorem dX12_takes_58 : decode cX12_takes 58 = .ok (.dup, 1) := dk_89 (dk_at dksX12_takes_2 10 rfl rfl)
theorem dX12_takes_59 : decode cX12_takes 59 = .ok (.getfield 271, 3) := dk_180 1 15 (dk_at dksX12_takes_2 11 rfl rfl)
theorem dX12_takes_62 : decode cX12_takes 62 = .ok (.iconst 1, 1) := dk_4 (dk_at dksX12_takes_2 14 rfl rfl)
theorem dX12_takes_63 : decode cX12_takes 63 = .ok (.iadd, 1) := dk_96 (dk_at dksX12_takes_2 15 rfl rfl)
theorem dX12_takes_64 : decode cX12_takes 64 = .ok (.putfield 271, 3) := dk_181 1 15 (dk_at dksX12_takes_2 16 rfl rfl)
theorem dX12_takes_67 : decode cX12_takes 67 = .ok (.iconst 1, 1) := dk_4 (dk_at dksX12_takes_2 19 rfl rfl)
theorem dX12_takes_68 : decode cX12_takes 68 = .ok (.ireturn, 1) := dk_172 (dk_at dksX12_takes_2 20 rfl rfl)
theorem dX12_takes_69 : decode cX12_takes 69 = .ok (.aload_n 0, 1) := dk_42 (dk_at dksX12_takes_2 21 rfl rfl)
theorem dX12_takes_70 : decode cX12_takes 70 = .ok (.iload_n 1, 1) := dk_27 (dk_at dksX12_takes_2 22 rfl rfl)
theorem dX12_takes_71 : decode cX12_takes 71 = .ok (.iload_n 2, 1) := dk_28 (dk_at dksX12_takes_2 23 rfl rfl)
theorem dX12_takes_72 : decode cX12_takes 72 = .ok (.invokevirtual 328, 3) := dk_182 1 72 (dk_at dksX12_takes_3 0 rfl rfl)
theorem dX12_takes_75 : decode cX12_takes 75 = .ok (.istore_n 3, 1) := dk_62 (dk_at dksX12_takes_3 3 rfl rfl)
theorem dX12_takes_76 : decode cX12_takes 76 = .ok (.iload_n 3, 1) := dk_29 (dk_at dksX12_takes_3 4 rfl rfl)
theorem dX12_takes_77 : decode cX12_takes 77 = .ok (.ifCond .ge 5, 3) := dk_156 0 5 (dk_at dksX12_takes_3 5 rfl rfl)
theorem dX12_takes_80 : decode cX12_takes 80 = .ok (.iconst 0, 1) := dk_3 (dk_at dksX12_takes_3 8 rfl rfl)
theorem dX12_takes_81 : decode cX12_takes 81 = .ok (.ireturn, 1) := dk_172 (dk_at dksX12_takes_3 9 rfl rfl)
theorem dX12_takes_82 : decode cX12_takes 82 = .ok (.aload_n 0, 1) := dk_42 (dk_at dksX12_takes_3 10 rfl rfl)
theorem dX12_takes_83 : decode cX12_takes 83 = .ok (.getfield 108, 3) := dk_180 0 108 (dk_at dksX12_takes_3 11 rfl rfl)
theorem dX12_takes_86 : decode cX12_takes 86 = .ok (.iload_n 1, 1) := dk_27 (dk_at dksX12_takes_3 14 rfl rfl)
theorem dX12_takes_87 : decode cX12_takes 87 = .ok (.iload_n 2, 1) := dk_28 (dk_at dksX12_takes_3 15 rfl rfl)
theorem dX12_takes_88 : decode cX12_takes 88 = .ok (.invokestatic 288, 3) := dk_184 1 32 (dk_at dksX12_takes_3 16 rfl rfl)
theorem dX12_takes_91 : decode cX12_takes 91 = .ok (.iload_n 3, 1) := dk_29 (dk_at dksX12_takes_3 19 rfl rfl)
theorem dX12_takes_92 : decode cX12_takes 92 = .ok (.iconst 1, 1) := dk_4 (dk_at dksX12_takes_3 20 rfl rfl)
theorem dX12_takes_93 : decode cX12_takes 93 = .ok (.iadd, 1) := dk_96 (dk_at dksX12_takes_3 21 rfl rfl)
theorem dX12_takes_94 : decode cX12_takes 94 = .ok (.aload_n 0, 1) := dk_42 (dk_at dksX12_takes_3 22 rfl rfl)
theorem dX12_takes_95 : decode cX12_takes 95 = .ok (.getfield 22, 3) := dk_180 0 22 (dk_at dksX12_takes_4 0 rfl rfl)
theorem dX12_takes_98 : decode cX12_takes 98 = .ok (.iload_n 1, 1) := dk_27 (dk_at dksX12_takes_4 3 rfl rfl)
theorem dX12_takes_99 : decode cX12_takes 99 = .ok (.iconst 1, 1) := dk_4 (dk_at dksX12_takes_4 4 rfl rfl)
theorem dX12_takes_100 : decode cX12_takes 100 = .ok (.isub, 1) := dk_100 (dk_at dksX12_takes_4 5 rfl rfl)
theorem dX12_takes_101 : decode cX12_takes 101 = .ok (.iaload, 1) := dk_46 (dk_at dksX12_takes_4 6 rfl rfl)
theorem dX12_takes_102 : decode cX12_takes 102 = .ok (.irem, 1) := dk_112 (dk_at dksX12_takes_4 7 rfl rfl)
theorem dX12_takes_103 : decode cX12_takes 103 = .ok (.iastore, 1) := dk_79 (dk_at dksX12_takes_4 8 rfl rfl)
theorem dX12_takes_104 : decode cX12_takes 104 = .ok (.iload_n 1, 1) := dk_27 (dk_at dksX12_takes_4 9 rfl rfl)
theorem dX12_takes_105 : decode cX12_takes 105 = .ok (.iconst 1, 1) := dk_4 (dk_at dksX12_takes_4 10 rfl rfl)
theorem dX12_takes_106 : decode cX12_takes 106 = .ok (.isub, 1) := dk_100 (dk_at dksX12_takes_4 11 rfl rfl)
theorem dX12_takes_107 : decode cX12_takes 107 = .ok (.iload_n 3, 1) := dk_29 (dk_at dksX12_takes_4 12 rfl rfl)
theorem dX12_takes_108 : decode cX12_takes 108 = .ok (.iload_n 2, 1) := dk_28 (dk_at dksX12_takes_4 13 rfl rfl)
theorem dX12_takes_109 : decode cX12_takes 109 = .ok (.invokestatic 324, 3) := dk_184 1 68 (dk_at dksX12_takes_4 14 rfl rfl)
theorem dX12_takes_112 : decode cX12_takes 112 = .ok (.istore 4, 2) := dk_54 4 (dk_at dksX12_takes_4 17 rfl rfl)
theorem dX12_takes_114 : decode cX12_takes 114 = .ok (.aload_n 0, 1) := dk_42 (dk_at dksX12_takes_4 19 rfl rfl)
theorem dX12_takes_115 : decode cX12_takes 115 = .ok (.getfield 135, 3) := dk_180 0 135 (dk_at dksX12_takes_4 20 rfl rfl)
theorem dX12_takes_118 : decode cX12_takes 118 = .ok (.iconst 4, 1) := dk_7 (dk_at dksX12_takes_4 23 rfl rfl)
theorem dX12_takes_119 : decode cX12_takes 119 = .ok (.iload 4, 2) := dk_21 4 (dk_at dksX12_takes_5 0 rfl rfl)
theorem dX12_takes_121 : decode cX12_takes 121 = .ok (.imul, 1) := dk_104 (dk_at dksX12_takes_5 2 rfl rfl)
theorem dX12_takes_122 : decode cX12_takes 122 = .ok (.iaload, 1) := dk_46 (dk_at dksX12_takes_5 3 rfl rfl)
theorem dX12_takes_123 : decode cX12_takes 123 = .ok (.ifCond .ge 18, 3) := dk_156 0 18 (dk_at dksX12_takes_5 4 rfl rfl)
theorem dX12_takes_126 : decode cX12_takes 126 = .ok (.aload_n 0, 1) := dk_42 (dk_at dksX12_takes_5 7 rfl rfl)
theorem dX12_takes_127 : decode cX12_takes 127 = .ok (.iload 4, 2) := dk_21 4 (dk_at dksX12_takes_5 8 rfl rfl)
theorem dX12_takes_129 : decode cX12_takes 129 = .ok (.invokevirtual 331, 3) := dk_182 1 75 (dk_at dksX12_takes_5 10 rfl rfl)
theorem dX12_takes_132 : decode cX12_takes 132 = .ok (.aload_n 0, 1) := dk_42 (dk_at dksX12_takes_5 13 rfl rfl)
theorem dX12_takes_133 : decode cX12_takes 133 = .ok (.iload_n 1, 1) := dk_27 (dk_at dksX12_takes_5 14 rfl rfl)
theorem dX12_takes_134 : decode cX12_takes 134 = .ok (.iload_n 2, 1) := dk_28 (dk_at dksX12_takes_5 15 rfl rfl)
theorem dX12_takes_135 : decode cX12_takes 135 = .ok (.iload_n 3, 1) := dk_29 (dk_at dksX12_takes_5 16 rfl rfl)
theorem dX12_takes_136 : decode cX12_takes 136 = .ok (.invokevirtual 334, 3) := dk_182 1 78 (dk_at dksX12_takes_5 17 rfl rfl)
theorem dX12_takes_139 : decode cX12_takes 139 = .ok (.iconst 1, 1) := dk_4 (dk_at dksX12_takes_5 20 rfl rfl)
theorem dX12_takes_140 : decode cX12_takes 140 = .ok (.ireturn, 1) := dk_172 (dk_at dksX12_takes_5 21 rfl rfl)
theorem dX12_takes_141 : decode cX12_takes 141 = .ok (.aload_n 0, 1) := dk_42 (dk_at dksX12_takes_5 22 rfl rfl)
theorem dX12_takes_142 : decode cX12_takes 142 = .ok (.getfield 138, 3) := dk_180 0 138 (dk_at dksX12_takes_6 0 rfl rfl)
theorem dX12_takes_145 : decode cX12_takes 145 = .ok (.bipush 16, 2) := dk_16 16 (dk_at dksX12_takes_6 3 rfl rfl)
theorem dX12_takes_147 : decode cX12_takes 147 = .ok (.iload 4, 2) := dk_21 4 (dk_at dksX12_takes_6 5 rfl rfl)
theorem dX12_takes_149 : decode cX12_takes 149 = .ok (.imul, 1) := dk_104 (dk_at dksX12_takes_6 7 rfl rfl)
theorem dX12_takes_150 : decode cX12_takes 150 = .ok (.aload_n 0, 1) := dk_42 (dk_at dksX12_takes_6 8 rfl rfl)
theorem dX12_takes_151 : decode cX12_takes 151 = .ok (.getfield 132, 3) := dk_180 0 132 (dk_at dksX12_takes_6 9 rfl rfl)
theorem dX12_takes_154 : decode cX12_takes 154 = .ok (.iload 4, 2) := dk_21 4 (dk_at dksX12_takes_6 12 rfl rfl)
theorem dX12_takes_156 : decode cX12_takes 156 = .ok (.iaload, 1) := dk_46 (dk_at dksX12_takes_6 14 rfl rfl)
theorem dX12_takes_157 : decode cX12_takes 157 = .ok (.iadd, 1) := dk_96 (dk_at dksX12_takes_6 15 rfl rfl)
theorem dX12_takes_158 : decode cX12_takes 158 = .ok (.iaload, 1) := dk_46 (dk_at dksX12_takes_6 16 rfl rfl)
theorem dX12_takes_159 : decode cX12_takes 159 = .ok (.istore 5, 2) := dk_54 5 (dk_at dksX12_takes_6 17 rfl rfl)
theorem dX12_takes_161 : decode cX12_takes 161 = .ok (.aload_n 0, 1) := dk_42 (dk_at dksX12_takes_6 19 rfl rfl)
theorem dX12_takes_162 : decode cX12_takes 162 = .ok (.getfield 141, 3) := dk_180 0 141 (dk_at dksX12_takes_6 20 rfl rfl)
theorem dX12_takes_165 : decode cX12_takes 165 = .ok (.bipush 16, 2) := dk_16 16 (dk_at dksX12_takes_7 0 rfl rfl)
theorem dX12_takes_167 : decode cX12_takes 167 = .ok (.iload 4, 2) := dk_21 4 (dk_at dksX12_takes_7 2 rfl rfl)
theorem dX12_takes_169 : decode cX12_takes 169 = .ok (.imul, 1) := dk_104 (dk_at dksX12_takes_7 4 rfl rfl)
theorem dX12_takes_170 : decode cX12_takes 170 = .ok (.aload_n 0, 1) := dk_42 (dk_at dksX12_takes_7 5 rfl rfl)
theorem dX12_takes_171 : decode cX12_takes 171 = .ok (.getfield 132, 3) := dk_180 0 132 (dk_at dksX12_takes_7 6 rfl rfl)
theorem dX12_takes_174 : decode cX12_takes 174 = .ok (.iload 4, 2) := dk_21 4 (dk_at dksX12_takes_7 9 rfl rfl)
theorem dX12_takes_176 : decode cX12_takes 176 = .ok (.iaload, 1) := dk_46 (dk_at dksX12_takes_7 11 rfl rfl)
theorem dX12_takes_177 : decode cX12_takes 177 = .ok (.iadd, 1) := dk_96 (dk_at dksX12_takes_7 12 rfl rfl)
theorem dX12_takes_178 : decode cX12_takes 178 = .ok (.iaload, 1) := dk_46 (dk_at dksX12_takes_7 13 rfl rfl)
theorem dX12_takes_179 : decode cX12_takes 179 = .ok (.istore 6, 2) := dk_54 6 (dk_at dksX12_takes_7 14 rfl rfl)
theorem dX12_takes_181 : decode cX12_takes 181 = .ok (.aload_n 0, 1) := dk_42 (dk_at dksX12_takes_7 16 rfl rfl)
theorem dX12_takes_182 : decode cX12_takes 182 = .ok (.getfield 144, 3) := dk_180 0 144 (dk_at dksX12_takes_7 17 rfl rfl)
theorem dX12_takes_185 : decode cX12_takes 185 = .ok (.bipush 16, 2) := dk_16 16 (dk_at dksX12_takes_7 20 rfl rfl)
theorem dX12_takes_187 : decode cX12_takes 187 = .ok (.iload 4, 2) := dk_21 4 (dk_at dksX12_takes_7 22 rfl rfl)
theorem dX12_takes_189 : decode cX12_takes 189 = .ok (.imul, 1) := dk_104 (dk_at dksX12_takes_8 0 rfl rfl)
theorem dX12_takes_190 : decode cX12_takes 190 = .ok (.aload_n 0, 1) := dk_42 (dk_at dksX12_takes_8 1 rfl rfl)
theorem dX12_takes_191 : decode cX12_takes 191 = .ok (.getfield 132, 3) := dk_180 0 132 (dk_at dksX12_takes_8 2 rfl rfl)
theorem dX12_takes_194 : decode cX12_takes 194 = .ok (.iload 4, 2) := dk_21 4 (dk_at dksX12_takes_8 5 rfl rfl)
theorem dX12_takes_196 : decode cX12_takes 196 = .ok (.iaload, 1) := dk_46 (dk_at dksX12_takes_8 7 rfl rfl)
theorem dX12_takes_197 : decode cX12_takes 197 = .ok (.iadd, 1) := dk_96 (dk_at dksX12_takes_8 8 rfl rfl)
theorem dX12_takes_198 : decode cX12_takes 198 = .ok (.iaload, 1) := dk_46 (dk_at dksX12_takes_8 9 rfl rfl)
theorem dX12_takes_199 : decode cX12_takes 199 = .ok (.istore 7, 2) := dk_54 7 (dk_at dksX12_takes_8 10 rfl rfl)
theorem dX12_takes_201 : decode cX12_takes 201 = .ok (.aload_n 0, 1) := dk_42 (dk_at dksX12_takes_8 12 rfl rfl)
theorem dX12_takes_202 : decode cX12_takes 202 = .ok (.getfield 132, 3) := dk_180 0 132 (dk_at dksX12_takes_8 13 rfl rfl)
theorem dX12_takes_205 : decode cX12_takes 205 = .ok (.iload 4, 2) := dk_21 4 (dk_at dksX12_takes_8 16 rfl rfl)
theorem dX12_takes_207 : decode cX12_takes 207 = .ok (.dup2, 1) := dk_92 (dk_at dksX12_takes_8 18 rfl rfl)
theorem dX12_takes_208 : decode cX12_takes 208 = .ok (.iaload, 1) := dk_46 (dk_at dksX12_takes_8 19 rfl rfl)
theorem dX12_takes_209 : decode cX12_takes 209 = .ok (.iconst 1, 1) := dk_4 (dk_at dksX12_takes_8 20 rfl rfl)
theorem dX12_takes_210 : decode cX12_takes 210 = .ok (.iadd, 1) := dk_96 (dk_at dksX12_takes_8 21 rfl rfl)
theorem dX12_takes_211 : decode cX12_takes 211 = .ok (.iastore, 1) := dk_79 (dk_at dksX12_takes_8 22 rfl rfl)
theorem dX12_takes_212 : decode cX12_takes 212 = .ok (.aload_n 0, 1) := dk_42 (dk_at dksX12_takes_8 23 rfl rfl)
theorem dX12_takes_213 : decode cX12_takes 213 = .ok (.getfield 132, 3) := dk_180 0 132 (dk_at dksX12_takes_9 0 rfl rfl)
theorem dX12_takes_216 : decode cX12_takes 216 = .ok (.iload 4, 2) := dk_21 4 (dk_at dksX12_takes_9 3 rfl rfl)
theorem dX12_takes_218 : decode cX12_takes 218 = .ok (.iaload, 1) := dk_46 (dk_at dksX12_takes_9 5 rfl rfl)
theorem dX12_takes_219 : decode cX12_takes 219 = .ok (.aload_n 0, 1) := dk_42 (dk_at dksX12_takes_9 6 rfl rfl)
theorem dX12_takes_220 : decode cX12_takes 220 = .ok (.getfield 135, 3) := dk_180 0 135 (dk_at dksX12_takes_9 7 rfl rfl)
theorem dX12_takes_223 : decode cX12_takes 223 = .ok (.iconst 4, 1) := dk_7 (dk_at dksX12_takes_9 10 rfl rfl)
theorem dX12_takes_224 : decode cX12_takes 224 = .ok (.iload 4, 2) := dk_21 4 (dk_at dksX12_takes_9 11 rfl rfl)
theorem dX12_takes_226 : decode cX12_takes 226 = .ok (.imul, 1) := dk_104 (dk_at dksX12_takes_9 13 rfl rfl)
theorem dX12_takes_227 : decode cX12_takes 227 = .ok (.iaload, 1) := dk_46 (dk_at dksX12_takes_9 14 rfl rfl)
theorem dX12_takes_228 : decode cX12_takes 228 = .ok (.if_icmp .ne 9, 3) := dk_160 0 9 (dk_at dksX12_takes_9 15 rfl rfl)
theorem dX12_takes_231 : decode cX12_takes 231 = .ok (.aload_n 0, 1) := dk_42 (dk_at dksX12_takes_9 18 rfl rfl)
theorem dX12_takes_232 : decode cX12_takes 232 = .ok (.iload 4, 2) := dk_21 4 (dk_at dksX12_takes_9 19 rfl rfl)
theorem dX12_takes_234 : decode cX12_takes 234 = .ok (.invokevirtual 331, 3) := dk_182 1 75 (dk_at dksX12_takes_9 21 rfl rfl)
theorem dX12_takes_237 : decode cX12_takes 237 = .ok (.aload_n 0, 1) := dk_42 (dk_at dksX12_takes_10 0 rfl rfl)
theorem dX12_takes_238 : decode cX12_takes 238 = .ok (.iload_n 1, 1) := dk_27 (dk_at dksX12_takes_10 1 rfl rfl)
theorem dX12_takes_239 : decode cX12_takes 239 = .ok (.iload_n 2, 1) := dk_28 (dk_at dksX12_takes_10 2 rfl rfl)
theorem dX12_takes_240 : decode cX12_takes 240 = .ok (.iload 5, 2) := dk_21 5 (dk_at dksX12_takes_10 3 rfl rfl)
theorem dX12_takes_242 : decode cX12_takes 242 = .ok (.iload 6, 2) := dk_21 6 (dk_at dksX12_takes_10 5 rfl rfl)
theorem dX12_takes_244 : decode cX12_takes 244 = .ok (.iload 7, 2) := dk_21 7 (dk_at dksX12_takes_10 7 rfl rfl)
theorem dX12_takes_246 : decode cX12_takes 246 = .ok (.invokevirtual 338, 3) := dk_182 1 82 (dk_at dksX12_takes_10 9 rfl rfl)
theorem dX12_takes_249 : decode cX12_takes 249 = .ok (.iconst 1, 1) := dk_4 (dk_at dksX12_takes_10 12 rfl rfl)
theorem dX12_takes_250 : decode cX12_takes 250 = .ok (.ireturn, 1) := dk_172 (dk_at dksX12_takes_10 13 rfl rfl)
abbrev cX12_emits : ByteArray := prog_27_method_30_code
def yX12_emits : MethodName := ⟨RX12, "emits", "(IIIII)V"⟩
def dkwX12_emits_3 : List UInt8 := [96, 79, 42, 180, 0, 47, 27, 92, 46, 4, 96, 79, 177]
abbrev dktX12_emits_3 : List UInt8 := dkwX12_emits_3 ++ []
def dkwX12_emits_2 : List UInt8 := [6, 21, 6, 104, 42, 180, 0, 93, 21, 6, 46, 96, 21, 5, 79, 42, 180, 0, 93, 21, 6, 92, 46, 4]
abbrev dktX12_emits_2 : List UInt8 := dkwX12_emits_2 ++ dktX12_emits_3
def dkwX12_emits_1 : List UInt8 := [79, 42, 180, 0, 99, 6, 21, 6, 104, 42, 180, 0, 93, 21, 6, 46, 96, 21, 4, 79, 42, 180, 0, 102]
abbrev dktX12_emits_1 : List UInt8 := dkwX12_emits_1 ++ dktX12_emits_2
def dkwX12_emits_0 : List UInt8 := [27, 28, 184, 1, 32, 54, 6, 42, 180, 0, 96, 6, 21, 6, 104, 42, 180, 0, 93, 21, 6, 46, 96, 29]
abbrev dktX12_emits_0 : List UInt8 := dkwX12_emits_0 ++ dktX12_emits_1
theorem dksX12_emits_0 : cX12_emits.data.toList.drop 0 = dktX12_emits_0 := by decide +kernel
theorem dksX12_emits_1 : cX12_emits.data.toList.drop 24 = dktX12_emits_1 := dk_seg dksX12_emits_0 24 rfl rfl
theorem dksX12_emits_2 : cX12_emits.data.toList.drop 48 = dktX12_emits_2 := dk_seg dksX12_emits_1 24 rfl rfl
theorem dksX12_emits_3 : cX12_emits.data.toList.drop 72 = dktX12_emits_3 := dk_seg dksX12_emits_2 24 rfl rfl
theorem dX12_emits_0 : decode cX12_emits 0 = .ok (.iload_n 1, 1) := dk_27 (dk_at dksX12_emits_0 0 rfl rfl)
theorem dX12_emits_1 : decode cX12_emits 1 = .ok (.iload_n 2, 1) := dk_28 (dk_at dksX12_emits_0 1 rfl rfl)
theorem dX12_emits_2 : decode cX12_emits 2 = .ok (.invokestatic 288, 3) := dk_184 1 32 (dk_at dksX12_emits_0 2 rfl rfl)
theorem dX12_emits_5 : decode cX12_emits 5 = .ok (.istore 6, 2) := dk_54 6 (dk_at dksX12_emits_0 5 rfl rfl)
theorem dX12_emits_7 : decode cX12_emits 7 = .ok (.aload_n 0, 1) := dk_42 (dk_at dksX12_emits_0 7 rfl rfl)
theorem dX12_emits_8 : decode cX12_emits 8 = .ok (.getfield 96, 3) := dk_180 0 96 (dk_at dksX12_emits_0 8 rfl rfl)
theorem dX12_emits_11 : decode cX12_emits 11 = .ok (.iconst 3, 1) := dk_6 (dk_at dksX12_emits_0 11 rfl rfl)
theorem dX12_emits_12 : decode cX12_emits 12 = .ok (.iload 6, 2) := dk_21 6 (dk_at dksX12_emits_0 12 rfl rfl)
theorem dX12_emits_14 : decode cX12_emits 14 = .ok (.imul, 1) := dk_104 (dk_at dksX12_emits_0 14 rfl rfl)
theorem dX12_emits_15 : decode cX12_emits 15 = .ok (.aload_n 0, 1) := dk_42 (dk_at dksX12_emits_0 15 rfl rfl)
theorem dX12_emits_16 : decode cX12_emits 16 = .ok (.getfield 93, 3) := dk_180 0 93 (dk_at dksX12_emits_0 16 rfl rfl)
theorem dX12_emits_19 : decode cX12_emits 19 = .ok (.iload 6, 2) := dk_21 6 (dk_at dksX12_emits_0 19 rfl rfl)
theorem dX12_emits_21 : decode cX12_emits 21 = .ok (.iaload, 1) := dk_46 (dk_at dksX12_emits_0 21 rfl rfl)
theorem dX12_emits_22 : decode cX12_emits 22 = .ok (.iadd, 1) := dk_96 (dk_at dksX12_emits_0 22 rfl rfl)
theorem dX12_emits_23 : decode cX12_emits 23 = .ok (.iload_n 3, 1) := dk_29 (dk_at dksX12_emits_0 23 rfl rfl)
theorem dX12_emits_24 : decode cX12_emits 24 = .ok (.iastore, 1) := dk_79 (dk_at dksX12_emits_1 0 rfl rfl)
theorem dX12_emits_25 : decode cX12_emits 25 = .ok (.aload_n 0, 1) := dk_42 (dk_at dksX12_emits_1 1 rfl rfl)
theorem dX12_emits_26 : decode cX12_emits 26 = .ok (.getfield 99, 3) := dk_180 0 99 (dk_at dksX12_emits_1 2 rfl rfl)
theorem dX12_emits_29 : decode cX12_emits 29 = .ok (.iconst 3, 1) := dk_6 (dk_at dksX12_emits_1 5 rfl rfl)
theorem dX12_emits_30 : decode cX12_emits 30 = .ok (.iload 6, 2) := dk_21 6 (dk_at dksX12_emits_1 6 rfl rfl)
theorem dX12_emits_32 : decode cX12_emits 32 = .ok (.imul, 1) := dk_104 (dk_at dksX12_emits_1 8 rfl rfl)
theorem dX12_emits_33 : decode cX12_emits 33 = .ok (.aload_n 0, 1) := dk_42 (dk_at dksX12_emits_1 9 rfl rfl)
theorem dX12_emits_34 : decode cX12_emits 34 = .ok (.getfield 93, 3) := dk_180 0 93 (dk_at dksX12_emits_1 10 rfl rfl)
theorem dX12_emits_37 : decode cX12_emits 37 = .ok (.iload 6, 2) := dk_21 6 (dk_at dksX12_emits_1 13 rfl rfl)
theorem dX12_emits_39 : decode cX12_emits 39 = .ok (.iaload, 1) := dk_46 (dk_at dksX12_emits_1 15 rfl rfl)
theorem dX12_emits_40 : decode cX12_emits 40 = .ok (.iadd, 1) := dk_96 (dk_at dksX12_emits_1 16 rfl rfl)
theorem dX12_emits_41 : decode cX12_emits 41 = .ok (.iload 4, 2) := dk_21 4 (dk_at dksX12_emits_1 17 rfl rfl)
theorem dX12_emits_43 : decode cX12_emits 43 = .ok (.iastore, 1) := dk_79 (dk_at dksX12_emits_1 19 rfl rfl)
theorem dX12_emits_44 : decode cX12_emits 44 = .ok (.aload_n 0, 1) := dk_42 (dk_at dksX12_emits_1 20 rfl rfl)
theorem dX12_emits_45 : decode cX12_emits 45 = .ok (.getfield 102, 3) := dk_180 0 102 (dk_at dksX12_emits_1 21 rfl rfl)
theorem dX12_emits_48 : decode cX12_emits 48 = .ok (.iconst 3, 1) := dk_6 (dk_at dksX12_emits_2 0 rfl rfl)
theorem dX12_emits_49 : decode cX12_emits 49 = .ok (.iload 6, 2) := dk_21 6 (dk_at dksX12_emits_2 1 rfl rfl)
theorem dX12_emits_51 : decode cX12_emits 51 = .ok (.imul, 1) := dk_104 (dk_at dksX12_emits_2 3 rfl rfl)
theorem dX12_emits_52 : decode cX12_emits 52 = .ok (.aload_n 0, 1) := dk_42 (dk_at dksX12_emits_2 4 rfl rfl)
theorem dX12_emits_53 : decode cX12_emits 53 = .ok (.getfield 93, 3) := dk_180 0 93 (dk_at dksX12_emits_2 5 rfl rfl)
theorem dX12_emits_56 : decode cX12_emits 56 = .ok (.iload 6, 2) := dk_21 6 (dk_at dksX12_emits_2 8 rfl rfl)
theorem dX12_emits_58 : decode cX12_emits 58 = .ok (.iaload, 1) := dk_46 (dk_at dksX12_emits_2 10 rfl rfl)
theorem dX12_emits_59 : decode cX12_emits 59 = .ok (.iadd, 1) := dk_96 (dk_at dksX12_emits_2 11 rfl rfl)
theorem dX12_emits_60 : decode cX12_emits 60 = .ok (.iload 5, 2) := dk_21 5 (dk_at dksX12_emits_2 12 rfl rfl)
theorem dX12_emits_62 : decode cX12_emits 62 = .ok (.iastore, 1) := dk_79 (dk_at dksX12_emits_2 14 rfl rfl)
theorem dX12_emits_63 : decode cX12_emits 63 = .ok (.aload_n 0, 1) := dk_42 (dk_at dksX12_emits_2 15 rfl rfl)
theorem dX12_emits_64 : decode cX12_emits 64 = .ok (.getfield 93, 3) := dk_180 0 93 (dk_at dksX12_emits_2 16 rfl rfl)
theorem dX12_emits_67 : decode cX12_emits 67 = .ok (.iload 6, 2) := dk_21 6 (dk_at dksX12_emits_2 19 rfl rfl)
theorem dX12_emits_69 : decode cX12_emits 69 = .ok (.dup2, 1) := dk_92 (dk_at dksX12_emits_2 21 rfl rfl)
theorem dX12_emits_70 : decode cX12_emits 70 = .ok (.iaload, 1) := dk_46 (dk_at dksX12_emits_2 22 rfl rfl)
theorem dX12_emits_71 : decode cX12_emits 71 = .ok (.iconst 1, 1) := dk_4 (dk_at dksX12_emits_2 23 rfl rfl)
theorem dX12_emits_72 : decode cX12_emits 72 = .ok (.iadd, 1) := dk_96 (dk_at dksX12_emits_3 0 rfl rfl)
theorem dX12_emits_73 : decode cX12_emits 73 = .ok (.iastore, 1) := dk_79 (dk_at dksX12_emits_3 1 rfl rfl)
theorem dX12_emits_74 : decode cX12_emits 74 = .ok (.aload_n 0, 1) := dk_42 (dk_at dksX12_emits_3 2 rfl rfl)
theorem dX12_emits_75 : decode cX12_emits 75 = .ok (.getfield 47, 3) := dk_180 0 47 (dk_at dksX12_emits_3 3 rfl rfl)
theorem dX12_emits_78 : decode cX12_emits 78 = .ok (.iload_n 1, 1) := dk_27 (dk_at dksX12_emits_3 6 rfl rfl)
theorem dX12_emits_79 : decode cX12_emits 79 = .ok (.dup2, 1) := dk_92 (dk_at dksX12_emits_3 7 rfl rfl)
theorem dX12_emits_80 : decode cX12_emits 80 = .ok (.iaload, 1) := dk_46 (dk_at dksX12_emits_3 8 rfl rfl)
theorem dX12_emits_81 : decode cX12_emits 81 = .ok (.iconst 1, 1) := dk_4 (dk_at dksX12_emits_3 9 rfl rfl)
theorem dX12_emits_82 : decode cX12_emits 82 = .ok (.iadd, 1) := dk_96 (dk_at dksX12_emits_3 10 rfl rfl)
theorem dX12_emits_83 : decode cX12_emits 83 = .ok (.iastore, 1) := dk_79 (dk_at dksX12_emits_3 11 rfl rfl)
theorem dX12_emits_84 : decode cX12_emits 84 = .ok (.return_, 1) := dk_177 (dk_at dksX12_emits_3 12 rfl rfl)
abbrev cX12_ready : ByteArray := prog_27_method_39_code
def yX12_ready : MethodName := ⟨RX12, "ready", "(II)I"⟩
def dkwX12_ready_3 : List UInt8 := [158, 0, 6, 21, 5, 172, 132, 4, 1, 167, 255, 186, 2, 172]
abbrev dktX12_ready_3 : List UInt8 := dkwX12_ready_3 ++ []
def dkwX12_ready_2 : List UInt8 := [46, 21, 5, 122, 4, 126, 154, 0, 23, 42, 180, 0, 129, 27, 4, 100, 21, 5, 28, 184, 1, 68, 46]
abbrev dktX12_ready_2 : List UInt8 := dkwX12_ready_2 ++ dktX12_ready_3
def dkwX12_ready_1 : List UInt8 := [180, 0, 108, 29, 46, 21, 4, 96, 42, 180, 0, 22, 27, 4, 100, 46, 112, 54, 5, 42, 180, 0, 105, 29]
abbrev dktX12_ready_1 : List UInt8 := dkwX12_ready_1 ++ dktX12_ready_2
def dkwX12_ready_0 : List UInt8 := [27, 28, 184, 1, 32, 62, 3, 54, 4, 21, 4, 42, 180, 0, 22, 27, 4, 100, 46, 162, 0, 63, 42]
abbrev dktX12_ready_0 : List UInt8 := dkwX12_ready_0 ++ dktX12_ready_1
theorem dksX12_ready_0 : cX12_ready.data.toList.drop 0 = dktX12_ready_0 := by decide +kernel
theorem dksX12_ready_1 : cX12_ready.data.toList.drop 23 = dktX12_ready_1 := dk_seg dksX12_ready_0 23 rfl rfl
theorem dksX12_ready_2 : cX12_ready.data.toList.drop 47 = dktX12_ready_2 := dk_seg dksX12_ready_1 24 rfl rfl
theorem dksX12_ready_3 : cX12_ready.data.toList.drop 70 = dktX12_ready_3 := dk_seg dksX12_ready_2 23 rfl rfl
theorem dX12_ready_0 : decode cX12_ready 0 = .ok (.iload_n 1, 1) := dk_27 (dk_at dksX12_ready_0 0 rfl rfl)
theorem dX12_ready_1 : decode cX12_ready 1 = .ok (.iload_n 2, 1) := dk_28 (dk_at dksX12_ready_0 1 rfl rfl)
theorem dX12_ready_2 : decode cX12_ready 2 = .ok (.invokestatic 288, 3) := dk_184 1 32 (dk_at dksX12_ready_0 2 rfl rfl)
theorem dX12_ready_5 : decode cX12_ready 5 = .ok (.istore_n 3, 1) := dk_62 (dk_at dksX12_ready_0 5 rfl rfl)
theorem dX12_ready_6 : decode cX12_ready 6 = .ok (.iconst 0, 1) := dk_3 (dk_at dksX12_ready_0 6 rfl rfl)
theorem dX12_ready_7 : decode cX12_ready 7 = .ok (.istore 4, 2) := dk_54 4 (dk_at dksX12_ready_0 7 rfl rfl)
theorem dX12_ready_9 : decode cX12_ready 9 = .ok (.iload 4, 2) := dk_21 4 (dk_at dksX12_ready_0 9 rfl rfl)
theorem dX12_ready_11 : decode cX12_ready 11 = .ok (.aload_n 0, 1) := dk_42 (dk_at dksX12_ready_0 11 rfl rfl)
theorem dX12_ready_12 : decode cX12_ready 12 = .ok (.getfield 22, 3) := dk_180 0 22 (dk_at dksX12_ready_0 12 rfl rfl)
theorem dX12_ready_15 : decode cX12_ready 15 = .ok (.iload_n 1, 1) := dk_27 (dk_at dksX12_ready_0 15 rfl rfl)
theorem dX12_ready_16 : decode cX12_ready 16 = .ok (.iconst 1, 1) := dk_4 (dk_at dksX12_ready_0 16 rfl rfl)
theorem dX12_ready_17 : decode cX12_ready 17 = .ok (.isub, 1) := dk_100 (dk_at dksX12_ready_0 17 rfl rfl)
theorem dX12_ready_18 : decode cX12_ready 18 = .ok (.iaload, 1) := dk_46 (dk_at dksX12_ready_0 18 rfl rfl)
theorem dX12_ready_19 : decode cX12_ready 19 = .ok (.if_icmp .ge 63, 3) := dk_162 0 63 (dk_at dksX12_ready_0 19 rfl rfl)
theorem dX12_ready_22 : decode cX12_ready 22 = .ok (.aload_n 0, 1) := dk_42 (dk_at dksX12_ready_0 22 rfl rfl)
theorem dX12_ready_23 : decode cX12_ready 23 = .ok (.getfield 108, 3) := dk_180 0 108 (dk_at dksX12_ready_1 0 rfl rfl)
theorem dX12_ready_26 : decode cX12_ready 26 = .ok (.iload_n 3, 1) := dk_29 (dk_at dksX12_ready_1 3 rfl rfl)
theorem dX12_ready_27 : decode cX12_ready 27 = .ok (.iaload, 1) := dk_46 (dk_at dksX12_ready_1 4 rfl rfl)
theorem dX12_ready_28 : decode cX12_ready 28 = .ok (.iload 4, 2) := dk_21 4 (dk_at dksX12_ready_1 5 rfl rfl)
theorem dX12_ready_30 : decode cX12_ready 30 = .ok (.iadd, 1) := dk_96 (dk_at dksX12_ready_1 7 rfl rfl)
theorem dX12_ready_31 : decode cX12_ready 31 = .ok (.aload_n 0, 1) := dk_42 (dk_at dksX12_ready_1 8 rfl rfl)
theorem dX12_ready_32 : decode cX12_ready 32 = .ok (.getfield 22, 3) := dk_180 0 22 (dk_at dksX12_ready_1 9 rfl rfl)
theorem dX12_ready_35 : decode cX12_ready 35 = .ok (.iload_n 1, 1) := dk_27 (dk_at dksX12_ready_1 12 rfl rfl)
theorem dX12_ready_36 : decode cX12_ready 36 = .ok (.iconst 1, 1) := dk_4 (dk_at dksX12_ready_1 13 rfl rfl)
theorem dX12_ready_37 : decode cX12_ready 37 = .ok (.isub, 1) := dk_100 (dk_at dksX12_ready_1 14 rfl rfl)
theorem dX12_ready_38 : decode cX12_ready 38 = .ok (.iaload, 1) := dk_46 (dk_at dksX12_ready_1 15 rfl rfl)
theorem dX12_ready_39 : decode cX12_ready 39 = .ok (.irem, 1) := dk_112 (dk_at dksX12_ready_1 16 rfl rfl)
theorem dX12_ready_40 : decode cX12_ready 40 = .ok (.istore 5, 2) := dk_54 5 (dk_at dksX12_ready_1 17 rfl rfl)
theorem dX12_ready_42 : decode cX12_ready 42 = .ok (.aload_n 0, 1) := dk_42 (dk_at dksX12_ready_1 19 rfl rfl)
theorem dX12_ready_43 : decode cX12_ready 43 = .ok (.getfield 105, 3) := dk_180 0 105 (dk_at dksX12_ready_1 20 rfl rfl)
theorem dX12_ready_46 : decode cX12_ready 46 = .ok (.iload_n 3, 1) := dk_29 (dk_at dksX12_ready_1 23 rfl rfl)
theorem dX12_ready_47 : decode cX12_ready 47 = .ok (.iaload, 1) := dk_46 (dk_at dksX12_ready_2 0 rfl rfl)
theorem dX12_ready_48 : decode cX12_ready 48 = .ok (.iload 5, 2) := dk_21 5 (dk_at dksX12_ready_2 1 rfl rfl)
theorem dX12_ready_50 : decode cX12_ready 50 = .ok (.ishr, 1) := dk_122 (dk_at dksX12_ready_2 3 rfl rfl)
theorem dX12_ready_51 : decode cX12_ready 51 = .ok (.iconst 1, 1) := dk_4 (dk_at dksX12_ready_2 4 rfl rfl)
theorem dX12_ready_52 : decode cX12_ready 52 = .ok (.iand, 1) := dk_126 (dk_at dksX12_ready_2 5 rfl rfl)
theorem dX12_ready_53 : decode cX12_ready 53 = .ok (.ifCond .ne 23, 3) := dk_154 0 23 (dk_at dksX12_ready_2 6 rfl rfl)
theorem dX12_ready_56 : decode cX12_ready 56 = .ok (.aload_n 0, 1) := dk_42 (dk_at dksX12_ready_2 9 rfl rfl)
theorem dX12_ready_57 : decode cX12_ready 57 = .ok (.getfield 129, 3) := dk_180 0 129 (dk_at dksX12_ready_2 10 rfl rfl)
theorem dX12_ready_60 : decode cX12_ready 60 = .ok (.iload_n 1, 1) := dk_27 (dk_at dksX12_ready_2 13 rfl rfl)
theorem dX12_ready_61 : decode cX12_ready 61 = .ok (.iconst 1, 1) := dk_4 (dk_at dksX12_ready_2 14 rfl rfl)
theorem dX12_ready_62 : decode cX12_ready 62 = .ok (.isub, 1) := dk_100 (dk_at dksX12_ready_2 15 rfl rfl)
theorem dX12_ready_63 : decode cX12_ready 63 = .ok (.iload 5, 2) := dk_21 5 (dk_at dksX12_ready_2 16 rfl rfl)
theorem dX12_ready_65 : decode cX12_ready 65 = .ok (.iload_n 2, 1) := dk_28 (dk_at dksX12_ready_2 18 rfl rfl)
theorem dX12_ready_66 : decode cX12_ready 66 = .ok (.invokestatic 324, 3) := dk_184 1 68 (dk_at dksX12_ready_2 19 rfl rfl)
theorem dX12_ready_69 : decode cX12_ready 69 = .ok (.iaload, 1) := dk_46 (dk_at dksX12_ready_2 22 rfl rfl)
theorem dX12_ready_70 : decode cX12_ready 70 = .ok (.ifCond .le 6, 3) := dk_158 0 6 (dk_at dksX12_ready_3 0 rfl rfl)
theorem dX12_ready_73 : decode cX12_ready 73 = .ok (.iload 5, 2) := dk_21 5 (dk_at dksX12_ready_3 3 rfl rfl)
theorem dX12_ready_75 : decode cX12_ready 75 = .ok (.ireturn, 1) := dk_172 (dk_at dksX12_ready_3 5 rfl rfl)
theorem dX12_ready_76 : decode cX12_ready 76 = .ok (.iinc 4 1, 3) := dk_132 4 1 (dk_at dksX12_ready_3 6 rfl rfl)
theorem dX12_ready_79 : decode cX12_ready 79 = .ok (.goto (-70), 3) := dk_167 255 186 (dk_at dksX12_ready_3 9 rfl rfl)
theorem dX12_ready_82 : decode cX12_ready 82 = .ok (.iconst (-1), 1) := dk_2 (dk_at dksX12_ready_3 12 rfl rfl)
theorem dX12_ready_83 : decode cX12_ready 83 = .ok (.ireturn, 1) := dk_172 (dk_at dksX12_ready_3 13 rfl rfl)
abbrev cX12_pops : ByteArray := prog_27_method_27_code
def yX12_pops : MethodName := ⟨RX12, "pops", "(I)V"⟩
def dkwX12_pops_5 : List UInt8 := [42, 180, 0, 129, 27, 92, 46, 4, 100, 79, 42, 180, 0, 132, 27, 3, 79, 177]
abbrev dktX12_pops_5 : List UInt8 := dkwX12_pops_5 ++ []
def dkwX12_pops_4 : List UInt8 := [180, 0, 144, 7, 28, 4, 96, 104, 29, 96, 46, 79, 132, 3, 1, 167, 255, 182, 132, 2, 1, 167, 255, 144]
abbrev dktX12_pops_4 : List UInt8 := dkwX12_pops_4 ++ dktX12_pops_5
def dkwX12_pops_3 : List UInt8 := [42, 180, 0, 141, 7, 28, 4, 96, 104, 29, 96, 46, 79, 42, 180, 0, 144, 7, 28, 104, 29, 96, 42]
abbrev dktX12_pops_3 : List UInt8 := dkwX12_pops_3 ++ dktX12_pops_4
def dkwX12_pops_2 : List UInt8 := [29, 96, 42, 180, 0, 138, 7, 28, 4, 96, 104, 29, 96, 46, 79, 42, 180, 0, 141, 7, 28, 104, 29, 96]
abbrev dktX12_pops_2 : List UInt8 := dkwX12_pops_2 ++ dktX12_pops_3
def dkwX12_pops_1 : List UInt8 := [28, 42, 180, 0, 135, 28, 4, 96, 46, 79, 3, 62, 29, 7, 162, 0, 75, 42, 180, 0, 138, 7, 28, 104]
abbrev dktX12_pops_1 : List UInt8 := dkwX12_pops_1 ++ dktX12_pops_2
def dkwX12_pops_0 : List UInt8 := [7, 27, 104, 61, 28, 4, 96, 7, 27, 104, 42, 180, 0, 129, 27, 46, 96, 162, 0, 102, 42, 180, 0, 135]
abbrev dktX12_pops_0 : List UInt8 := dkwX12_pops_0 ++ dktX12_pops_1
theorem dksX12_pops_0 : cX12_pops.data.toList.drop 0 = dktX12_pops_0 := by decide +kernel
theorem dksX12_pops_1 : cX12_pops.data.toList.drop 24 = dktX12_pops_1 := dk_seg dksX12_pops_0 24 rfl rfl
theorem dksX12_pops_2 : cX12_pops.data.toList.drop 48 = dktX12_pops_2 := dk_seg dksX12_pops_1 24 rfl rfl
theorem dksX12_pops_3 : cX12_pops.data.toList.drop 72 = dktX12_pops_3 := dk_seg dksX12_pops_2 24 rfl rfl
theorem dksX12_pops_4 : cX12_pops.data.toList.drop 95 = dktX12_pops_4 := dk_seg dksX12_pops_3 23 rfl rfl
theorem dksX12_pops_5 : cX12_pops.data.toList.drop 119 = dktX12_pops_5 := dk_seg dksX12_pops_4 24 rfl rfl
theorem dX12_pops_0 : decode cX12_pops 0 = .ok (.iconst 4, 1) := dk_7 (dk_at dksX12_pops_0 0 rfl rfl)
theorem dX12_pops_1 : decode cX12_pops 1 = .ok (.iload_n 1, 1) := dk_27 (dk_at dksX12_pops_0 1 rfl rfl)
theorem dX12_pops_2 : decode cX12_pops 2 = .ok (.imul, 1) := dk_104 (dk_at dksX12_pops_0 2 rfl rfl)
theorem dX12_pops_3 : decode cX12_pops 3 = .ok (.istore_n 2, 1) := dk_61 (dk_at dksX12_pops_0 3 rfl rfl)
theorem dX12_pops_4 : decode cX12_pops 4 = .ok (.iload_n 2, 1) := dk_28 (dk_at dksX12_pops_0 4 rfl rfl)
theorem dX12_pops_5 : decode cX12_pops 5 = .ok (.iconst 1, 1) := dk_4 (dk_at dksX12_pops_0 5 rfl rfl)
theorem dX12_pops_6 : decode cX12_pops 6 = .ok (.iadd, 1) := dk_96 (dk_at dksX12_pops_0 6 rfl rfl)
theorem dX12_pops_7 : decode cX12_pops 7 = .ok (.iconst 4, 1) := dk_7 (dk_at dksX12_pops_0 7 rfl rfl)
theorem dX12_pops_8 : decode cX12_pops 8 = .ok (.iload_n 1, 1) := dk_27 (dk_at dksX12_pops_0 8 rfl rfl)
theorem dX12_pops_9 : decode cX12_pops 9 = .ok (.imul, 1) := dk_104 (dk_at dksX12_pops_0 9 rfl rfl)
theorem dX12_pops_10 : decode cX12_pops 10 = .ok (.aload_n 0, 1) := dk_42 (dk_at dksX12_pops_0 10 rfl rfl)
theorem dX12_pops_11 : decode cX12_pops 11 = .ok (.getfield 129, 3) := dk_180 0 129 (dk_at dksX12_pops_0 11 rfl rfl)
theorem dX12_pops_14 : decode cX12_pops 14 = .ok (.iload_n 1, 1) := dk_27 (dk_at dksX12_pops_0 14 rfl rfl)
theorem dX12_pops_15 : decode cX12_pops 15 = .ok (.iaload, 1) := dk_46 (dk_at dksX12_pops_0 15 rfl rfl)
theorem dX12_pops_16 : decode cX12_pops 16 = .ok (.iadd, 1) := dk_96 (dk_at dksX12_pops_0 16 rfl rfl)
theorem dX12_pops_17 : decode cX12_pops 17 = .ok (.if_icmp .ge 102, 3) := dk_162 0 102 (dk_at dksX12_pops_0 17 rfl rfl)
theorem dX12_pops_20 : decode cX12_pops 20 = .ok (.aload_n 0, 1) := dk_42 (dk_at dksX12_pops_0 20 rfl rfl)
theorem dX12_pops_21 : decode cX12_pops 21 = .ok (.getfield 135, 3) := dk_180 0 135 (dk_at dksX12_pops_0 21 rfl rfl)
theorem dX12_pops_24 : decode cX12_pops 24 = .ok (.iload_n 2, 1) := dk_28 (dk_at dksX12_pops_1 0 rfl rfl)
theorem dX12_pops_25 : decode cX12_pops 25 = .ok (.aload_n 0, 1) := dk_42 (dk_at dksX12_pops_1 1 rfl rfl)
theorem dX12_pops_26 : decode cX12_pops 26 = .ok (.getfield 135, 3) := dk_180 0 135 (dk_at dksX12_pops_1 2 rfl rfl)
theorem dX12_pops_29 : decode cX12_pops 29 = .ok (.iload_n 2, 1) := dk_28 (dk_at dksX12_pops_1 5 rfl rfl)
theorem dX12_pops_30 : decode cX12_pops 30 = .ok (.iconst 1, 1) := dk_4 (dk_at dksX12_pops_1 6 rfl rfl)
theorem dX12_pops_31 : decode cX12_pops 31 = .ok (.iadd, 1) := dk_96 (dk_at dksX12_pops_1 7 rfl rfl)
theorem dX12_pops_32 : decode cX12_pops 32 = .ok (.iaload, 1) := dk_46 (dk_at dksX12_pops_1 8 rfl rfl)
theorem dX12_pops_33 : decode cX12_pops 33 = .ok (.iastore, 1) := dk_79 (dk_at dksX12_pops_1 9 rfl rfl)
theorem dX12_pops_34 : decode cX12_pops 34 = .ok (.iconst 0, 1) := dk_3 (dk_at dksX12_pops_1 10 rfl rfl)
theorem dX12_pops_35 : decode cX12_pops 35 = .ok (.istore_n 3, 1) := dk_62 (dk_at dksX12_pops_1 11 rfl rfl)
theorem dX12_pops_36 : decode cX12_pops 36 = .ok (.iload_n 3, 1) := dk_29 (dk_at dksX12_pops_1 12 rfl rfl)
theorem dX12_pops_37 : decode cX12_pops 37 = .ok (.iconst 4, 1) := dk_7 (dk_at dksX12_pops_1 13 rfl rfl)
theorem dX12_pops_38 : decode cX12_pops 38 = .ok (.if_icmp .ge 75, 3) := dk_162 0 75 (dk_at dksX12_pops_1 14 rfl rfl)
theorem dX12_pops_41 : decode cX12_pops 41 = .ok (.aload_n 0, 1) := dk_42 (dk_at dksX12_pops_1 17 rfl rfl)
theorem dX12_pops_42 : decode cX12_pops 42 = .ok (.getfield 138, 3) := dk_180 0 138 (dk_at dksX12_pops_1 18 rfl rfl)
theorem dX12_pops_45 : decode cX12_pops 45 = .ok (.iconst 4, 1) := dk_7 (dk_at dksX12_pops_1 21 rfl rfl)
theorem dX12_pops_46 : decode cX12_pops 46 = .ok (.iload_n 2, 1) := dk_28 (dk_at dksX12_pops_1 22 rfl rfl)
theorem dX12_pops_47 : decode cX12_pops 47 = .ok (.imul, 1) := dk_104 (dk_at dksX12_pops_1 23 rfl rfl)
theorem dX12_pops_48 : decode cX12_pops 48 = .ok (.iload_n 3, 1) := dk_29 (dk_at dksX12_pops_2 0 rfl rfl)
theorem dX12_pops_49 : decode cX12_pops 49 = .ok (.iadd, 1) := dk_96 (dk_at dksX12_pops_2 1 rfl rfl)
theorem dX12_pops_50 : decode cX12_pops 50 = .ok (.aload_n 0, 1) := dk_42 (dk_at dksX12_pops_2 2 rfl rfl)
theorem dX12_pops_51 : decode cX12_pops 51 = .ok (.getfield 138, 3) := dk_180 0 138 (dk_at dksX12_pops_2 3 rfl rfl)
theorem dX12_pops_54 : decode cX12_pops 54 = .ok (.iconst 4, 1) := dk_7 (dk_at dksX12_pops_2 6 rfl rfl)
theorem dX12_pops_55 : decode cX12_pops 55 = .ok (.iload_n 2, 1) := dk_28 (dk_at dksX12_pops_2 7 rfl rfl)
theorem dX12_pops_56 : decode cX12_pops 56 = .ok (.iconst 1, 1) := dk_4 (dk_at dksX12_pops_2 8 rfl rfl)
theorem dX12_pops_57 : decode cX12_pops 57 = .ok (.iadd, 1) := dk_96 (dk_at dksX12_pops_2 9 rfl rfl)
theorem dX12_pops_58 : decode cX12_pops 58 = .ok (.imul, 1) := dk_104 (dk_at dksX12_pops_2 10 rfl rfl)
theorem dX12_pops_59 : decode cX12_pops 59 = .ok (.iload_n 3, 1) := dk_29 (dk_at dksX12_pops_2 11 rfl rfl)
theorem dX12_pops_60 : decode cX12_pops 60 = .ok (.iadd, 1) := dk_96 (dk_at dksX12_pops_2 12 rfl rfl)
theorem dX12_pops_61 : decode cX12_pops 61 = .ok (.iaload, 1) := dk_46 (dk_at dksX12_pops_2 13 rfl rfl)
theorem dX12_pops_62 : decode cX12_pops 62 = .ok (.iastore, 1) := dk_79 (dk_at dksX12_pops_2 14 rfl rfl)
theorem dX12_pops_63 : decode cX12_pops 63 = .ok (.aload_n 0, 1) := dk_42 (dk_at dksX12_pops_2 15 rfl rfl)
theorem dX12_pops_64 : decode cX12_pops 64 = .ok (.getfield 141, 3) := dk_180 0 141 (dk_at dksX12_pops_2 16 rfl rfl)
theorem dX12_pops_67 : decode cX12_pops 67 = .ok (.iconst 4, 1) := dk_7 (dk_at dksX12_pops_2 19 rfl rfl)
theorem dX12_pops_68 : decode cX12_pops 68 = .ok (.iload_n 2, 1) := dk_28 (dk_at dksX12_pops_2 20 rfl rfl)
theorem dX12_pops_69 : decode cX12_pops 69 = .ok (.imul, 1) := dk_104 (dk_at dksX12_pops_2 21 rfl rfl)
theorem dX12_pops_70 : decode cX12_pops 70 = .ok (.iload_n 3, 1) := dk_29 (dk_at dksX12_pops_2 22 rfl rfl)
theorem dX12_pops_71 : decode cX12_pops 71 = .ok (.iadd, 1) := dk_96 (dk_at dksX12_pops_2 23 rfl rfl)
theorem dX12_pops_72 : decode cX12_pops 72 = .ok (.aload_n 0, 1) := dk_42 (dk_at dksX12_pops_3 0 rfl rfl)
theorem dX12_pops_73 : decode cX12_pops 73 = .ok (.getfield 141, 3) := dk_180 0 141 (dk_at dksX12_pops_3 1 rfl rfl)
theorem dX12_pops_76 : decode cX12_pops 76 = .ok (.iconst 4, 1) := dk_7 (dk_at dksX12_pops_3 4 rfl rfl)
theorem dX12_pops_77 : decode cX12_pops 77 = .ok (.iload_n 2, 1) := dk_28 (dk_at dksX12_pops_3 5 rfl rfl)
theorem dX12_pops_78 : decode cX12_pops 78 = .ok (.iconst 1, 1) := dk_4 (dk_at dksX12_pops_3 6 rfl rfl)
theorem dX12_pops_79 : decode cX12_pops 79 = .ok (.iadd, 1) := dk_96 (dk_at dksX12_pops_3 7 rfl rfl)
theorem dX12_pops_80 : decode cX12_pops 80 = .ok (.imul, 1) := dk_104 (dk_at dksX12_pops_3 8 rfl rfl)
theorem dX12_pops_81 : decode cX12_pops 81 = .ok (.iload_n 3, 1) := dk_29 (dk_at dksX12_pops_3 9 rfl rfl)
theorem dX12_pops_82 : decode cX12_pops 82 = .ok (.iadd, 1) := dk_96 (dk_at dksX12_pops_3 10 rfl rfl)
theorem dX12_pops_83 : decode cX12_pops 83 = .ok (.iaload, 1) := dk_46 (dk_at dksX12_pops_3 11 rfl rfl)
theorem dX12_pops_84 : decode cX12_pops 84 = .ok (.iastore, 1) := dk_79 (dk_at dksX12_pops_3 12 rfl rfl)
theorem dX12_pops_85 : decode cX12_pops 85 = .ok (.aload_n 0, 1) := dk_42 (dk_at dksX12_pops_3 13 rfl rfl)
theorem dX12_pops_86 : decode cX12_pops 86 = .ok (.getfield 144, 3) := dk_180 0 144 (dk_at dksX12_pops_3 14 rfl rfl)
theorem dX12_pops_89 : decode cX12_pops 89 = .ok (.iconst 4, 1) := dk_7 (dk_at dksX12_pops_3 17 rfl rfl)
theorem dX12_pops_90 : decode cX12_pops 90 = .ok (.iload_n 2, 1) := dk_28 (dk_at dksX12_pops_3 18 rfl rfl)
theorem dX12_pops_91 : decode cX12_pops 91 = .ok (.imul, 1) := dk_104 (dk_at dksX12_pops_3 19 rfl rfl)
theorem dX12_pops_92 : decode cX12_pops 92 = .ok (.iload_n 3, 1) := dk_29 (dk_at dksX12_pops_3 20 rfl rfl)
theorem dX12_pops_93 : decode cX12_pops 93 = .ok (.iadd, 1) := dk_96 (dk_at dksX12_pops_3 21 rfl rfl)
theorem dX12_pops_94 : decode cX12_pops 94 = .ok (.aload_n 0, 1) := dk_42 (dk_at dksX12_pops_3 22 rfl rfl)
theorem dX12_pops_95 : decode cX12_pops 95 = .ok (.getfield 144, 3) := dk_180 0 144 (dk_at dksX12_pops_4 0 rfl rfl)
theorem dX12_pops_98 : decode cX12_pops 98 = .ok (.iconst 4, 1) := dk_7 (dk_at dksX12_pops_4 3 rfl rfl)
theorem dX12_pops_99 : decode cX12_pops 99 = .ok (.iload_n 2, 1) := dk_28 (dk_at dksX12_pops_4 4 rfl rfl)
theorem dX12_pops_100 : decode cX12_pops 100 = .ok (.iconst 1, 1) := dk_4 (dk_at dksX12_pops_4 5 rfl rfl)
theorem dX12_pops_101 : decode cX12_pops 101 = .ok (.iadd, 1) := dk_96 (dk_at dksX12_pops_4 6 rfl rfl)
theorem dX12_pops_102 : decode cX12_pops 102 = .ok (.imul, 1) := dk_104 (dk_at dksX12_pops_4 7 rfl rfl)
theorem dX12_pops_103 : decode cX12_pops 103 = .ok (.iload_n 3, 1) := dk_29 (dk_at dksX12_pops_4 8 rfl rfl)
theorem dX12_pops_104 : decode cX12_pops 104 = .ok (.iadd, 1) := dk_96 (dk_at dksX12_pops_4 9 rfl rfl)
theorem dX12_pops_105 : decode cX12_pops 105 = .ok (.iaload, 1) := dk_46 (dk_at dksX12_pops_4 10 rfl rfl)
theorem dX12_pops_106 : decode cX12_pops 106 = .ok (.iastore, 1) := dk_79 (dk_at dksX12_pops_4 11 rfl rfl)
theorem dX12_pops_107 : decode cX12_pops 107 = .ok (.iinc 3 1, 3) := dk_132 3 1 (dk_at dksX12_pops_4 12 rfl rfl)
theorem dX12_pops_110 : decode cX12_pops 110 = .ok (.goto (-74), 3) := dk_167 255 182 (dk_at dksX12_pops_4 15 rfl rfl)
theorem dX12_pops_113 : decode cX12_pops 113 = .ok (.iinc 2 1, 3) := dk_132 2 1 (dk_at dksX12_pops_4 18 rfl rfl)
theorem dX12_pops_116 : decode cX12_pops 116 = .ok (.goto (-112), 3) := dk_167 255 144 (dk_at dksX12_pops_4 21 rfl rfl)
theorem dX12_pops_119 : decode cX12_pops 119 = .ok (.aload_n 0, 1) := dk_42 (dk_at dksX12_pops_5 0 rfl rfl)
theorem dX12_pops_120 : decode cX12_pops 120 = .ok (.getfield 129, 3) := dk_180 0 129 (dk_at dksX12_pops_5 1 rfl rfl)
theorem dX12_pops_123 : decode cX12_pops 123 = .ok (.iload_n 1, 1) := dk_27 (dk_at dksX12_pops_5 4 rfl rfl)
theorem dX12_pops_124 : decode cX12_pops 124 = .ok (.dup2, 1) := dk_92 (dk_at dksX12_pops_5 5 rfl rfl)
theorem dX12_pops_125 : decode cX12_pops 125 = .ok (.iaload, 1) := dk_46 (dk_at dksX12_pops_5 6 rfl rfl)
theorem dX12_pops_126 : decode cX12_pops 126 = .ok (.iconst 1, 1) := dk_4 (dk_at dksX12_pops_5 7 rfl rfl)
theorem dX12_pops_127 : decode cX12_pops 127 = .ok (.isub, 1) := dk_100 (dk_at dksX12_pops_5 8 rfl rfl)
theorem dX12_pops_128 : decode cX12_pops 128 = .ok (.iastore, 1) := dk_79 (dk_at dksX12_pops_5 9 rfl rfl)
theorem dX12_pops_129 : decode cX12_pops 129 = .ok (.aload_n 0, 1) := dk_42 (dk_at dksX12_pops_5 10 rfl rfl)
theorem dX12_pops_130 : decode cX12_pops 130 = .ok (.getfield 132, 3) := dk_180 0 132 (dk_at dksX12_pops_5 11 rfl rfl)
theorem dX12_pops_133 : decode cX12_pops 133 = .ok (.iload_n 1, 1) := dk_27 (dk_at dksX12_pops_5 14 rfl rfl)
theorem dX12_pops_134 : decode cX12_pops 134 = .ok (.iconst 0, 1) := dk_3 (dk_at dksX12_pops_5 15 rfl rfl)
theorem dX12_pops_135 : decode cX12_pops 135 = .ok (.iastore, 1) := dk_79 (dk_at dksX12_pops_5 16 rfl rfl)
theorem dX12_pops_136 : decode cX12_pops 136 = .ok (.return_, 1) := dk_177 (dk_at dksX12_pops_5 17 rfl rfl)
abbrev cX12_barrier : ByteArray := prog_27_method_38_code
def yX12_barrier : MethodName := ⟨RX12, "barrier", "(III)V"⟩
def dkwX12_barrier_4 : List UInt8 := [160, 0, 7, 42, 182, 1, 65, 177]
abbrev dktX12_barrier_4 : List UInt8 := dkwX12_barrier_4 ++ []
def dkwX12_barrier_3 : List UInt8 := [4, 84, 177, 42, 89, 180, 1, 62, 4, 96, 181, 1, 62, 42, 180, 1, 62, 42, 180, 0, 22, 27, 46]
abbrev dktX12_barrier_3 : List UInt8 := dkwX12_barrier_3 ++ dktX12_barrier_4
def dkwX12_barrier_2 : List UInt8 := [21, 4, 3, 79, 42, 27, 28, 182, 1, 59, 27, 42, 182, 0, 199, 162, 0, 12, 42, 180, 0, 111, 21, 4]
abbrev dktX12_barrier_2 : List UInt8 := dkwX12_barrier_2 ++ dktX12_barrier_3
def dkwX12_barrier_1 : List UInt8 := [21, 4, 46, 4, 42, 180, 0, 22, 27, 4, 100, 46, 120, 4, 100, 159, 0, 4, 177, 42, 180, 0, 105]
abbrev dktX12_barrier_1 : List UInt8 := dkwX12_barrier_1 ++ dktX12_barrier_2
def dkwX12_barrier_0 : List UInt8 := [27, 28, 184, 1, 32, 54, 4, 42, 180, 0, 105, 21, 4, 92, 46, 4, 29, 120, 128, 79, 42, 180, 0, 105]
abbrev dktX12_barrier_0 : List UInt8 := dkwX12_barrier_0 ++ dktX12_barrier_1
theorem dksX12_barrier_0 : cX12_barrier.data.toList.drop 0 = dktX12_barrier_0 := by decide +kernel
theorem dksX12_barrier_1 : cX12_barrier.data.toList.drop 24 = dktX12_barrier_1 := dk_seg dksX12_barrier_0 24 rfl rfl
theorem dksX12_barrier_2 : cX12_barrier.data.toList.drop 47 = dktX12_barrier_2 := dk_seg dksX12_barrier_1 23 rfl rfl
theorem dksX12_barrier_3 : cX12_barrier.data.toList.drop 71 = dktX12_barrier_3 := dk_seg dksX12_barrier_2 24 rfl rfl
theorem dksX12_barrier_4 : cX12_barrier.data.toList.drop 94 = dktX12_barrier_4 := dk_seg dksX12_barrier_3 23 rfl rfl
theorem dX12_barrier_0 : decode cX12_barrier 0 = .ok (.iload_n 1, 1) := dk_27 (dk_at dksX12_barrier_0 0 rfl rfl)
theorem dX12_barrier_1 : decode cX12_barrier 1 = .ok (.iload_n 2, 1) := dk_28 (dk_at dksX12_barrier_0 1 rfl rfl)
theorem dX12_barrier_2 : decode cX12_barrier 2 = .ok (.invokestatic 288, 3) := dk_184 1 32 (dk_at dksX12_barrier_0 2 rfl rfl)
theorem dX12_barrier_5 : decode cX12_barrier 5 = .ok (.istore 4, 2) := dk_54 4 (dk_at dksX12_barrier_0 5 rfl rfl)
theorem dX12_barrier_7 : decode cX12_barrier 7 = .ok (.aload_n 0, 1) := dk_42 (dk_at dksX12_barrier_0 7 rfl rfl)
theorem dX12_barrier_8 : decode cX12_barrier 8 = .ok (.getfield 105, 3) := dk_180 0 105 (dk_at dksX12_barrier_0 8 rfl rfl)
theorem dX12_barrier_11 : decode cX12_barrier 11 = .ok (.iload 4, 2) := dk_21 4 (dk_at dksX12_barrier_0 11 rfl rfl)
theorem dX12_barrier_13 : decode cX12_barrier 13 = .ok (.dup2, 1) := dk_92 (dk_at dksX12_barrier_0 13 rfl rfl)
theorem dX12_barrier_14 : decode cX12_barrier 14 = .ok (.iaload, 1) := dk_46 (dk_at dksX12_barrier_0 14 rfl rfl)
theorem dX12_barrier_15 : decode cX12_barrier 15 = .ok (.iconst 1, 1) := dk_4 (dk_at dksX12_barrier_0 15 rfl rfl)
theorem dX12_barrier_16 : decode cX12_barrier 16 = .ok (.iload_n 3, 1) := dk_29 (dk_at dksX12_barrier_0 16 rfl rfl)
theorem dX12_barrier_17 : decode cX12_barrier 17 = .ok (.ishl, 1) := dk_120 (dk_at dksX12_barrier_0 17 rfl rfl)
theorem dX12_barrier_18 : decode cX12_barrier 18 = .ok (.ior, 1) := dk_128 (dk_at dksX12_barrier_0 18 rfl rfl)
theorem dX12_barrier_19 : decode cX12_barrier 19 = .ok (.iastore, 1) := dk_79 (dk_at dksX12_barrier_0 19 rfl rfl)
theorem dX12_barrier_20 : decode cX12_barrier 20 = .ok (.aload_n 0, 1) := dk_42 (dk_at dksX12_barrier_0 20 rfl rfl)
theorem dX12_barrier_21 : decode cX12_barrier 21 = .ok (.getfield 105, 3) := dk_180 0 105 (dk_at dksX12_barrier_0 21 rfl rfl)
theorem dX12_barrier_24 : decode cX12_barrier 24 = .ok (.iload 4, 2) := dk_21 4 (dk_at dksX12_barrier_1 0 rfl rfl)
theorem dX12_barrier_26 : decode cX12_barrier 26 = .ok (.iaload, 1) := dk_46 (dk_at dksX12_barrier_1 2 rfl rfl)
theorem dX12_barrier_27 : decode cX12_barrier 27 = .ok (.iconst 1, 1) := dk_4 (dk_at dksX12_barrier_1 3 rfl rfl)
theorem dX12_barrier_28 : decode cX12_barrier 28 = .ok (.aload_n 0, 1) := dk_42 (dk_at dksX12_barrier_1 4 rfl rfl)
theorem dX12_barrier_29 : decode cX12_barrier 29 = .ok (.getfield 22, 3) := dk_180 0 22 (dk_at dksX12_barrier_1 5 rfl rfl)
theorem dX12_barrier_32 : decode cX12_barrier 32 = .ok (.iload_n 1, 1) := dk_27 (dk_at dksX12_barrier_1 8 rfl rfl)
theorem dX12_barrier_33 : decode cX12_barrier 33 = .ok (.iconst 1, 1) := dk_4 (dk_at dksX12_barrier_1 9 rfl rfl)
theorem dX12_barrier_34 : decode cX12_barrier 34 = .ok (.isub, 1) := dk_100 (dk_at dksX12_barrier_1 10 rfl rfl)
theorem dX12_barrier_35 : decode cX12_barrier 35 = .ok (.iaload, 1) := dk_46 (dk_at dksX12_barrier_1 11 rfl rfl)
theorem dX12_barrier_36 : decode cX12_barrier 36 = .ok (.ishl, 1) := dk_120 (dk_at dksX12_barrier_1 12 rfl rfl)
theorem dX12_barrier_37 : decode cX12_barrier 37 = .ok (.iconst 1, 1) := dk_4 (dk_at dksX12_barrier_1 13 rfl rfl)
theorem dX12_barrier_38 : decode cX12_barrier 38 = .ok (.isub, 1) := dk_100 (dk_at dksX12_barrier_1 14 rfl rfl)
theorem dX12_barrier_39 : decode cX12_barrier 39 = .ok (.if_icmp .eq 4, 3) := dk_159 0 4 (dk_at dksX12_barrier_1 15 rfl rfl)
theorem dX12_barrier_42 : decode cX12_barrier 42 = .ok (.return_, 1) := dk_177 (dk_at dksX12_barrier_1 18 rfl rfl)
theorem dX12_barrier_43 : decode cX12_barrier 43 = .ok (.aload_n 0, 1) := dk_42 (dk_at dksX12_barrier_1 19 rfl rfl)
theorem dX12_barrier_44 : decode cX12_barrier 44 = .ok (.getfield 105, 3) := dk_180 0 105 (dk_at dksX12_barrier_1 20 rfl rfl)
theorem dX12_barrier_47 : decode cX12_barrier 47 = .ok (.iload 4, 2) := dk_21 4 (dk_at dksX12_barrier_2 0 rfl rfl)
theorem dX12_barrier_49 : decode cX12_barrier 49 = .ok (.iconst 0, 1) := dk_3 (dk_at dksX12_barrier_2 2 rfl rfl)
theorem dX12_barrier_50 : decode cX12_barrier 50 = .ok (.iastore, 1) := dk_79 (dk_at dksX12_barrier_2 3 rfl rfl)
theorem dX12_barrier_51 : decode cX12_barrier 51 = .ok (.aload_n 0, 1) := dk_42 (dk_at dksX12_barrier_2 4 rfl rfl)
theorem dX12_barrier_52 : decode cX12_barrier 52 = .ok (.iload_n 1, 1) := dk_27 (dk_at dksX12_barrier_2 5 rfl rfl)
theorem dX12_barrier_53 : decode cX12_barrier 53 = .ok (.iload_n 2, 1) := dk_28 (dk_at dksX12_barrier_2 6 rfl rfl)
theorem dX12_barrier_54 : decode cX12_barrier 54 = .ok (.invokevirtual 315, 3) := dk_182 1 59 (dk_at dksX12_barrier_2 7 rfl rfl)
theorem dX12_barrier_57 : decode cX12_barrier 57 = .ok (.iload_n 1, 1) := dk_27 (dk_at dksX12_barrier_2 10 rfl rfl)
theorem dX12_barrier_58 : decode cX12_barrier 58 = .ok (.aload_n 0, 1) := dk_42 (dk_at dksX12_barrier_2 11 rfl rfl)
theorem dX12_barrier_59 : decode cX12_barrier 59 = .ok (.invokevirtual 199, 3) := dk_182 0 199 (dk_at dksX12_barrier_2 12 rfl rfl)
theorem dX12_barrier_62 : decode cX12_barrier 62 = .ok (.if_icmp .ge 12, 3) := dk_162 0 12 (dk_at dksX12_barrier_2 15 rfl rfl)
theorem dX12_barrier_65 : decode cX12_barrier 65 = .ok (.aload_n 0, 1) := dk_42 (dk_at dksX12_barrier_2 18 rfl rfl)
theorem dX12_barrier_66 : decode cX12_barrier 66 = .ok (.getfield 111, 3) := dk_180 0 111 (dk_at dksX12_barrier_2 19 rfl rfl)
theorem dX12_barrier_69 : decode cX12_barrier 69 = .ok (.iload 4, 2) := dk_21 4 (dk_at dksX12_barrier_2 22 rfl rfl)
theorem dX12_barrier_71 : decode cX12_barrier 71 = .ok (.iconst 1, 1) := dk_4 (dk_at dksX12_barrier_3 0 rfl rfl)
theorem dX12_barrier_72 : decode cX12_barrier 72 = .ok (.bastore, 1) := dk_84 (dk_at dksX12_barrier_3 1 rfl rfl)
theorem dX12_barrier_73 : decode cX12_barrier 73 = .ok (.return_, 1) := dk_177 (dk_at dksX12_barrier_3 2 rfl rfl)
theorem dX12_barrier_74 : decode cX12_barrier 74 = .ok (.aload_n 0, 1) := dk_42 (dk_at dksX12_barrier_3 3 rfl rfl)
theorem dX12_barrier_75 : decode cX12_barrier 75 = .ok (.dup, 1) := dk_89 (dk_at dksX12_barrier_3 4 rfl rfl)
theorem dX12_barrier_76 : decode cX12_barrier 76 = .ok (.getfield 318, 3) := dk_180 1 62 (dk_at dksX12_barrier_3 5 rfl rfl)
theorem dX12_barrier_79 : decode cX12_barrier 79 = .ok (.iconst 1, 1) := dk_4 (dk_at dksX12_barrier_3 8 rfl rfl)
theorem dX12_barrier_80 : decode cX12_barrier 80 = .ok (.iadd, 1) := dk_96 (dk_at dksX12_barrier_3 9 rfl rfl)
theorem dX12_barrier_81 : decode cX12_barrier 81 = .ok (.putfield 318, 3) := dk_181 1 62 (dk_at dksX12_barrier_3 10 rfl rfl)
theorem dX12_barrier_84 : decode cX12_barrier 84 = .ok (.aload_n 0, 1) := dk_42 (dk_at dksX12_barrier_3 13 rfl rfl)
theorem dX12_barrier_85 : decode cX12_barrier 85 = .ok (.getfield 318, 3) := dk_180 1 62 (dk_at dksX12_barrier_3 14 rfl rfl)
theorem dX12_barrier_88 : decode cX12_barrier 88 = .ok (.aload_n 0, 1) := dk_42 (dk_at dksX12_barrier_3 17 rfl rfl)
theorem dX12_barrier_89 : decode cX12_barrier 89 = .ok (.getfield 22, 3) := dk_180 0 22 (dk_at dksX12_barrier_3 18 rfl rfl)
theorem dX12_barrier_92 : decode cX12_barrier 92 = .ok (.iload_n 1, 1) := dk_27 (dk_at dksX12_barrier_3 21 rfl rfl)
theorem dX12_barrier_93 : decode cX12_barrier 93 = .ok (.iaload, 1) := dk_46 (dk_at dksX12_barrier_3 22 rfl rfl)
theorem dX12_barrier_94 : decode cX12_barrier 94 = .ok (.if_icmp .ne 7, 3) := dk_160 0 7 (dk_at dksX12_barrier_4 0 rfl rfl)
theorem dX12_barrier_97 : decode cX12_barrier 97 = .ok (.aload_n 0, 1) := dk_42 (dk_at dksX12_barrier_4 3 rfl rfl)
theorem dX12_barrier_98 : decode cX12_barrier 98 = .ok (.invokevirtual 321, 3) := dk_182 1 65 (dk_at dksX12_barrier_4 4 rfl rfl)
theorem dX12_barrier_101 : decode cX12_barrier 101 = .ok (.return_, 1) := dk_177 (dk_at dksX12_barrier_4 7 rfl rfl)
abbrev cX12_saves : ByteArray := prog_27_method_36_code
def yX12_saves : MethodName := ⟨RX12, "saves", "(II)V"⟩
def dkwX12_saves_4 : List UInt8 := [180, 0, 84, 27, 28, 184, 1, 32, 46, 79, 177]
abbrev dktX12_saves_4 : List UInt8 := dkwX12_saves_4 ++ []
def dkwX12_saves_3 : List UInt8 := [42, 180, 0, 75, 21, 4, 46, 79, 132, 3, 1, 167, 255, 176, 42, 180, 0, 87, 27, 28, 184, 1, 32, 42]
abbrev dktX12_saves_3 : List UInt8 := dkwX12_saves_3 ++ dktX12_saves_4
def dkwX12_saves_2 : List UInt8 := [21, 4, 51, 84, 42, 180, 0, 69, 21, 4, 42, 180, 0, 66, 21, 4, 46, 79, 42, 180, 0, 78, 21, 4]
abbrev dktX12_saves_2 : List UInt8 := dkwX12_saves_2 ++ dktX12_saves_3
def dkwX12_saves_1 : List UInt8 := [42, 27, 29, 182, 1, 29, 28, 159, 0, 6, 167, 0, 45, 42, 180, 0, 60, 21, 4, 42, 180, 0, 56]
abbrev dktX12_saves_1 : List UInt8 := dkwX12_saves_1 ++ dktX12_saves_2
def dkwX12_saves_0 : List UInt8 := [3, 62, 29, 16, 16, 162, 0, 80, 42, 27, 182, 1, 25, 153, 0, 72, 16, 16, 27, 104, 29, 96, 54, 4]
abbrev dktX12_saves_0 : List UInt8 := dkwX12_saves_0 ++ dktX12_saves_1
theorem dksX12_saves_0 : cX12_saves.data.toList.drop 0 = dktX12_saves_0 := by decide +kernel
theorem dksX12_saves_1 : cX12_saves.data.toList.drop 24 = dktX12_saves_1 := dk_seg dksX12_saves_0 24 rfl rfl
theorem dksX12_saves_2 : cX12_saves.data.toList.drop 47 = dktX12_saves_2 := dk_seg dksX12_saves_1 23 rfl rfl
theorem dksX12_saves_3 : cX12_saves.data.toList.drop 71 = dktX12_saves_3 := dk_seg dksX12_saves_2 24 rfl rfl
theorem dksX12_saves_4 : cX12_saves.data.toList.drop 95 = dktX12_saves_4 := dk_seg dksX12_saves_3 24 rfl rfl
theorem dX12_saves_0 : decode cX12_saves 0 = .ok (.iconst 0, 1) := dk_3 (dk_at dksX12_saves_0 0 rfl rfl)
theorem dX12_saves_1 : decode cX12_saves 1 = .ok (.istore_n 3, 1) := dk_62 (dk_at dksX12_saves_0 1 rfl rfl)
theorem dX12_saves_2 : decode cX12_saves 2 = .ok (.iload_n 3, 1) := dk_29 (dk_at dksX12_saves_0 2 rfl rfl)
theorem dX12_saves_3 : decode cX12_saves 3 = .ok (.bipush 16, 2) := dk_16 16 (dk_at dksX12_saves_0 3 rfl rfl)
theorem dX12_saves_5 : decode cX12_saves 5 = .ok (.if_icmp .ge 80, 3) := dk_162 0 80 (dk_at dksX12_saves_0 5 rfl rfl)
theorem dX12_saves_8 : decode cX12_saves 8 = .ok (.aload_n 0, 1) := dk_42 (dk_at dksX12_saves_0 8 rfl rfl)
theorem dX12_saves_9 : decode cX12_saves 9 = .ok (.iload_n 1, 1) := dk_27 (dk_at dksX12_saves_0 9 rfl rfl)
theorem dX12_saves_10 : decode cX12_saves 10 = .ok (.invokevirtual 281, 3) := dk_182 1 25 (dk_at dksX12_saves_0 10 rfl rfl)
theorem dX12_saves_13 : decode cX12_saves 13 = .ok (.ifCond .eq 72, 3) := dk_153 0 72 (dk_at dksX12_saves_0 13 rfl rfl)
theorem dX12_saves_16 : decode cX12_saves 16 = .ok (.bipush 16, 2) := dk_16 16 (dk_at dksX12_saves_0 16 rfl rfl)
theorem dX12_saves_18 : decode cX12_saves 18 = .ok (.iload_n 1, 1) := dk_27 (dk_at dksX12_saves_0 18 rfl rfl)
theorem dX12_saves_19 : decode cX12_saves 19 = .ok (.imul, 1) := dk_104 (dk_at dksX12_saves_0 19 rfl rfl)
theorem dX12_saves_20 : decode cX12_saves 20 = .ok (.iload_n 3, 1) := dk_29 (dk_at dksX12_saves_0 20 rfl rfl)
theorem dX12_saves_21 : decode cX12_saves 21 = .ok (.iadd, 1) := dk_96 (dk_at dksX12_saves_0 21 rfl rfl)
theorem dX12_saves_22 : decode cX12_saves 22 = .ok (.istore 4, 2) := dk_54 4 (dk_at dksX12_saves_0 22 rfl rfl)
theorem dX12_saves_24 : decode cX12_saves 24 = .ok (.aload_n 0, 1) := dk_42 (dk_at dksX12_saves_1 0 rfl rfl)
theorem dX12_saves_25 : decode cX12_saves 25 = .ok (.iload_n 1, 1) := dk_27 (dk_at dksX12_saves_1 1 rfl rfl)
theorem dX12_saves_26 : decode cX12_saves 26 = .ok (.iload_n 3, 1) := dk_29 (dk_at dksX12_saves_1 2 rfl rfl)
theorem dX12_saves_27 : decode cX12_saves 27 = .ok (.invokevirtual 285, 3) := dk_182 1 29 (dk_at dksX12_saves_1 3 rfl rfl)
theorem dX12_saves_30 : decode cX12_saves 30 = .ok (.iload_n 2, 1) := dk_28 (dk_at dksX12_saves_1 6 rfl rfl)
theorem dX12_saves_31 : decode cX12_saves 31 = .ok (.if_icmp .eq 6, 3) := dk_159 0 6 (dk_at dksX12_saves_1 7 rfl rfl)
theorem dX12_saves_34 : decode cX12_saves 34 = .ok (.goto 45, 3) := dk_167 0 45 (dk_at dksX12_saves_1 10 rfl rfl)
theorem dX12_saves_37 : decode cX12_saves 37 = .ok (.aload_n 0, 1) := dk_42 (dk_at dksX12_saves_1 13 rfl rfl)
theorem dX12_saves_38 : decode cX12_saves 38 = .ok (.getfield 60, 3) := dk_180 0 60 (dk_at dksX12_saves_1 14 rfl rfl)
theorem dX12_saves_41 : decode cX12_saves 41 = .ok (.iload 4, 2) := dk_21 4 (dk_at dksX12_saves_1 17 rfl rfl)
theorem dX12_saves_43 : decode cX12_saves 43 = .ok (.aload_n 0, 1) := dk_42 (dk_at dksX12_saves_1 19 rfl rfl)
theorem dX12_saves_44 : decode cX12_saves 44 = .ok (.getfield 56, 3) := dk_180 0 56 (dk_at dksX12_saves_1 20 rfl rfl)
theorem dX12_saves_47 : decode cX12_saves 47 = .ok (.iload 4, 2) := dk_21 4 (dk_at dksX12_saves_2 0 rfl rfl)
theorem dX12_saves_49 : decode cX12_saves 49 = .ok (.baload, 1) := dk_51 (dk_at dksX12_saves_2 2 rfl rfl)
theorem dX12_saves_50 : decode cX12_saves 50 = .ok (.bastore, 1) := dk_84 (dk_at dksX12_saves_2 3 rfl rfl)
theorem dX12_saves_51 : decode cX12_saves 51 = .ok (.aload_n 0, 1) := dk_42 (dk_at dksX12_saves_2 4 rfl rfl)
theorem dX12_saves_52 : decode cX12_saves 52 = .ok (.getfield 69, 3) := dk_180 0 69 (dk_at dksX12_saves_2 5 rfl rfl)
theorem dX12_saves_55 : decode cX12_saves 55 = .ok (.iload 4, 2) := dk_21 4 (dk_at dksX12_saves_2 8 rfl rfl)
theorem dX12_saves_57 : decode cX12_saves 57 = .ok (.aload_n 0, 1) := dk_42 (dk_at dksX12_saves_2 10 rfl rfl)
theorem dX12_saves_58 : decode cX12_saves 58 = .ok (.getfield 66, 3) := dk_180 0 66 (dk_at dksX12_saves_2 11 rfl rfl)
theorem dX12_saves_61 : decode cX12_saves 61 = .ok (.iload 4, 2) := dk_21 4 (dk_at dksX12_saves_2 14 rfl rfl)
theorem dX12_saves_63 : decode cX12_saves 63 = .ok (.iaload, 1) := dk_46 (dk_at dksX12_saves_2 16 rfl rfl)
theorem dX12_saves_64 : decode cX12_saves 64 = .ok (.iastore, 1) := dk_79 (dk_at dksX12_saves_2 17 rfl rfl)
theorem dX12_saves_65 : decode cX12_saves 65 = .ok (.aload_n 0, 1) := dk_42 (dk_at dksX12_saves_2 18 rfl rfl)
theorem dX12_saves_66 : decode cX12_saves 66 = .ok (.getfield 78, 3) := dk_180 0 78 (dk_at dksX12_saves_2 19 rfl rfl)
theorem dX12_saves_69 : decode cX12_saves 69 = .ok (.iload 4, 2) := dk_21 4 (dk_at dksX12_saves_2 22 rfl rfl)
theorem dX12_saves_71 : decode cX12_saves 71 = .ok (.aload_n 0, 1) := dk_42 (dk_at dksX12_saves_3 0 rfl rfl)
theorem dX12_saves_72 : decode cX12_saves 72 = .ok (.getfield 75, 3) := dk_180 0 75 (dk_at dksX12_saves_3 1 rfl rfl)
theorem dX12_saves_75 : decode cX12_saves 75 = .ok (.iload 4, 2) := dk_21 4 (dk_at dksX12_saves_3 4 rfl rfl)
theorem dX12_saves_77 : decode cX12_saves 77 = .ok (.iaload, 1) := dk_46 (dk_at dksX12_saves_3 6 rfl rfl)
theorem dX12_saves_78 : decode cX12_saves 78 = .ok (.iastore, 1) := dk_79 (dk_at dksX12_saves_3 7 rfl rfl)
theorem dX12_saves_79 : decode cX12_saves 79 = .ok (.iinc 3 1, 3) := dk_132 3 1 (dk_at dksX12_saves_3 8 rfl rfl)
theorem dX12_saves_82 : decode cX12_saves 82 = .ok (.goto (-80), 3) := dk_167 255 176 (dk_at dksX12_saves_3 11 rfl rfl)
theorem dX12_saves_85 : decode cX12_saves 85 = .ok (.aload_n 0, 1) := dk_42 (dk_at dksX12_saves_3 14 rfl rfl)
theorem dX12_saves_86 : decode cX12_saves 86 = .ok (.getfield 87, 3) := dk_180 0 87 (dk_at dksX12_saves_3 15 rfl rfl)
theorem dX12_saves_89 : decode cX12_saves 89 = .ok (.iload_n 1, 1) := dk_27 (dk_at dksX12_saves_3 18 rfl rfl)
theorem dX12_saves_90 : decode cX12_saves 90 = .ok (.iload_n 2, 1) := dk_28 (dk_at dksX12_saves_3 19 rfl rfl)
theorem dX12_saves_91 : decode cX12_saves 91 = .ok (.invokestatic 288, 3) := dk_184 1 32 (dk_at dksX12_saves_3 20 rfl rfl)
theorem dX12_saves_94 : decode cX12_saves 94 = .ok (.aload_n 0, 1) := dk_42 (dk_at dksX12_saves_3 23 rfl rfl)
theorem dX12_saves_95 : decode cX12_saves 95 = .ok (.getfield 84, 3) := dk_180 0 84 (dk_at dksX12_saves_4 0 rfl rfl)
theorem dX12_saves_98 : decode cX12_saves 98 = .ok (.iload_n 1, 1) := dk_27 (dk_at dksX12_saves_4 3 rfl rfl)
theorem dX12_saves_99 : decode cX12_saves 99 = .ok (.iload_n 2, 1) := dk_28 (dk_at dksX12_saves_4 4 rfl rfl)
theorem dX12_saves_100 : decode cX12_saves 100 = .ok (.invokestatic 288, 3) := dk_184 1 32 (dk_at dksX12_saves_4 5 rfl rfl)
theorem dX12_saves_103 : decode cX12_saves 103 = .ok (.iaload, 1) := dk_46 (dk_at dksX12_saves_4 8 rfl rfl)
theorem dX12_saves_104 : decode cX12_saves 104 = .ok (.iastore, 1) := dk_79 (dk_at dksX12_saves_4 9 rfl rfl)
theorem dX12_saves_105 : decode cX12_saves 105 = .ok (.return_, 1) := dk_177 (dk_at dksX12_saves_4 10 rfl rfl)
abbrev cX12_completes : ByteArray := prog_27_method_37_code
def yX12_completes : MethodName := ⟨RX12, "completes", "()V"⟩
def dkwX12_completes_4 : List UInt8 := [181, 1, 12, 177]
abbrev dktX12_completes_4 : List UInt8 := dkwX12_completes_4 ++ []
def dkwX12_completes_3 : List UInt8 := [132, 1, 1, 167, 255, 235, 42, 42, 180, 1, 56, 181, 1, 6, 42, 42, 180, 1, 12, 181, 0, 253, 42, 3]
abbrev dktX12_completes_3 : List UInt8 := dkwX12_completes_3 ++ dktX12_completes_4
def dkwX12_completes_2 : List UInt8 := [167, 255, 211, 3, 60, 27, 16, 18, 162, 0, 21, 42, 180, 0, 90, 27, 42, 180, 0, 87, 27, 46, 79]
abbrev dktX12_completes_2 : List UInt8 := dkwX12_completes_2 ++ dktX12_completes_3
def dkwX12_completes_1 : List UInt8 := [27, 42, 180, 0, 69, 27, 46, 79, 42, 180, 0, 81, 27, 42, 180, 0, 78, 27, 46, 79, 132, 1, 1]
abbrev dktX12_completes_1 : List UInt8 := dkwX12_completes_1 ++ dktX12_completes_2
def dkwX12_completes_0 : List UInt8 := [3, 60, 27, 16, 96, 162, 0, 45, 42, 180, 0, 63, 27, 42, 180, 0, 60, 27, 51, 84, 42, 180, 0, 72]
abbrev dktX12_completes_0 : List UInt8 := dkwX12_completes_0 ++ dktX12_completes_1
theorem dksX12_completes_0 : cX12_completes.data.toList.drop 0 = dktX12_completes_0 := by decide +kernel
theorem dksX12_completes_1 : cX12_completes.data.toList.drop 24 = dktX12_completes_1 := dk_seg dksX12_completes_0 24 rfl rfl
theorem dksX12_completes_2 : cX12_completes.data.toList.drop 47 = dktX12_completes_2 := dk_seg dksX12_completes_1 23 rfl rfl
theorem dksX12_completes_3 : cX12_completes.data.toList.drop 70 = dktX12_completes_3 := dk_seg dksX12_completes_2 23 rfl rfl
theorem dksX12_completes_4 : cX12_completes.data.toList.drop 94 = dktX12_completes_4 := dk_seg dksX12_completes_3 24 rfl rfl
theorem dX12_completes_0 : decode cX12_completes 0 = .ok (.iconst 0, 1) := dk_3 (dk_at dksX12_completes_0 0 rfl rfl)
theorem dX12_completes_1 : decode cX12_completes 1 = .ok (.istore_n 1, 1) := dk_60 (dk_at dksX12_completes_0 1 rfl rfl)
theorem dX12_completes_2 : decode cX12_completes 2 = .ok (.iload_n 1, 1) := dk_27 (dk_at dksX12_completes_0 2 rfl rfl)
theorem dX12_completes_3 : decode cX12_completes 3 = .ok (.bipush 96, 2) := dk_16 96 (dk_at dksX12_completes_0 3 rfl rfl)
theorem dX12_completes_5 : decode cX12_completes 5 = .ok (.if_icmp .ge 45, 3) := dk_162 0 45 (dk_at dksX12_completes_0 5 rfl rfl)
theorem dX12_completes_8 : decode cX12_completes 8 = .ok (.aload_n 0, 1) := dk_42 (dk_at dksX12_completes_0 8 rfl rfl)
theorem dX12_completes_9 : decode cX12_completes 9 = .ok (.getfield 63, 3) := dk_180 0 63 (dk_at dksX12_completes_0 9 rfl rfl)
theorem dX12_completes_12 : decode cX12_completes 12 = .ok (.iload_n 1, 1) := dk_27 (dk_at dksX12_completes_0 12 rfl rfl)
theorem dX12_completes_13 : decode cX12_completes 13 = .ok (.aload_n 0, 1) := dk_42 (dk_at dksX12_completes_0 13 rfl rfl)
theorem dX12_completes_14 : decode cX12_completes 14 = .ok (.getfield 60, 3) := dk_180 0 60 (dk_at dksX12_completes_0 14 rfl rfl)
theorem dX12_completes_17 : decode cX12_completes 17 = .ok (.iload_n 1, 1) := dk_27 (dk_at dksX12_completes_0 17 rfl rfl)
theorem dX12_completes_18 : decode cX12_completes 18 = .ok (.baload, 1) := dk_51 (dk_at dksX12_completes_0 18 rfl rfl)
theorem dX12_completes_19 : decode cX12_completes 19 = .ok (.bastore, 1) := dk_84 (dk_at dksX12_completes_0 19 rfl rfl)
theorem dX12_completes_20 : decode cX12_completes 20 = .ok (.aload_n 0, 1) := dk_42 (dk_at dksX12_completes_0 20 rfl rfl)
theorem dX12_completes_21 : decode cX12_completes 21 = .ok (.getfield 72, 3) := dk_180 0 72 (dk_at dksX12_completes_0 21 rfl rfl)
theorem dX12_completes_24 : decode cX12_completes 24 = .ok (.iload_n 1, 1) := dk_27 (dk_at dksX12_completes_1 0 rfl rfl)
theorem dX12_completes_25 : decode cX12_completes 25 = .ok (.aload_n 0, 1) := dk_42 (dk_at dksX12_completes_1 1 rfl rfl)
theorem dX12_completes_26 : decode cX12_completes 26 = .ok (.getfield 69, 3) := dk_180 0 69 (dk_at dksX12_completes_1 2 rfl rfl)
theorem dX12_completes_29 : decode cX12_completes 29 = .ok (.iload_n 1, 1) := dk_27 (dk_at dksX12_completes_1 5 rfl rfl)
theorem dX12_completes_30 : decode cX12_completes 30 = .ok (.iaload, 1) := dk_46 (dk_at dksX12_completes_1 6 rfl rfl)
theorem dX12_completes_31 : decode cX12_completes 31 = .ok (.iastore, 1) := dk_79 (dk_at dksX12_completes_1 7 rfl rfl)
theorem dX12_completes_32 : decode cX12_completes 32 = .ok (.aload_n 0, 1) := dk_42 (dk_at dksX12_completes_1 8 rfl rfl)
theorem dX12_completes_33 : decode cX12_completes 33 = .ok (.getfield 81, 3) := dk_180 0 81 (dk_at dksX12_completes_1 9 rfl rfl)
theorem dX12_completes_36 : decode cX12_completes 36 = .ok (.iload_n 1, 1) := dk_27 (dk_at dksX12_completes_1 12 rfl rfl)
theorem dX12_completes_37 : decode cX12_completes 37 = .ok (.aload_n 0, 1) := dk_42 (dk_at dksX12_completes_1 13 rfl rfl)
theorem dX12_completes_38 : decode cX12_completes 38 = .ok (.getfield 78, 3) := dk_180 0 78 (dk_at dksX12_completes_1 14 rfl rfl)
theorem dX12_completes_41 : decode cX12_completes 41 = .ok (.iload_n 1, 1) := dk_27 (dk_at dksX12_completes_1 17 rfl rfl)
theorem dX12_completes_42 : decode cX12_completes 42 = .ok (.iaload, 1) := dk_46 (dk_at dksX12_completes_1 18 rfl rfl)
theorem dX12_completes_43 : decode cX12_completes 43 = .ok (.iastore, 1) := dk_79 (dk_at dksX12_completes_1 19 rfl rfl)
theorem dX12_completes_44 : decode cX12_completes 44 = .ok (.iinc 1 1, 3) := dk_132 1 1 (dk_at dksX12_completes_1 20 rfl rfl)
theorem dX12_completes_47 : decode cX12_completes 47 = .ok (.goto (-45), 3) := dk_167 255 211 (dk_at dksX12_completes_2 0 rfl rfl)
theorem dX12_completes_50 : decode cX12_completes 50 = .ok (.iconst 0, 1) := dk_3 (dk_at dksX12_completes_2 3 rfl rfl)
theorem dX12_completes_51 : decode cX12_completes 51 = .ok (.istore_n 1, 1) := dk_60 (dk_at dksX12_completes_2 4 rfl rfl)
theorem dX12_completes_52 : decode cX12_completes 52 = .ok (.iload_n 1, 1) := dk_27 (dk_at dksX12_completes_2 5 rfl rfl)
theorem dX12_completes_53 : decode cX12_completes 53 = .ok (.bipush 18, 2) := dk_16 18 (dk_at dksX12_completes_2 6 rfl rfl)
theorem dX12_completes_55 : decode cX12_completes 55 = .ok (.if_icmp .ge 21, 3) := dk_162 0 21 (dk_at dksX12_completes_2 8 rfl rfl)
theorem dX12_completes_58 : decode cX12_completes 58 = .ok (.aload_n 0, 1) := dk_42 (dk_at dksX12_completes_2 11 rfl rfl)
theorem dX12_completes_59 : decode cX12_completes 59 = .ok (.getfield 90, 3) := dk_180 0 90 (dk_at dksX12_completes_2 12 rfl rfl)
theorem dX12_completes_62 : decode cX12_completes 62 = .ok (.iload_n 1, 1) := dk_27 (dk_at dksX12_completes_2 15 rfl rfl)
theorem dX12_completes_63 : decode cX12_completes 63 = .ok (.aload_n 0, 1) := dk_42 (dk_at dksX12_completes_2 16 rfl rfl)
theorem dX12_completes_64 : decode cX12_completes 64 = .ok (.getfield 87, 3) := dk_180 0 87 (dk_at dksX12_completes_2 17 rfl rfl)
theorem dX12_completes_67 : decode cX12_completes 67 = .ok (.iload_n 1, 1) := dk_27 (dk_at dksX12_completes_2 20 rfl rfl)
theorem dX12_completes_68 : decode cX12_completes 68 = .ok (.iaload, 1) := dk_46 (dk_at dksX12_completes_2 21 rfl rfl)
theorem dX12_completes_69 : decode cX12_completes 69 = .ok (.iastore, 1) := dk_79 (dk_at dksX12_completes_2 22 rfl rfl)
theorem dX12_completes_70 : decode cX12_completes 70 = .ok (.iinc 1 1, 3) := dk_132 1 1 (dk_at dksX12_completes_3 0 rfl rfl)
theorem dX12_completes_73 : decode cX12_completes 73 = .ok (.goto (-21), 3) := dk_167 255 235 (dk_at dksX12_completes_3 3 rfl rfl)
theorem dX12_completes_76 : decode cX12_completes 76 = .ok (.aload_n 0, 1) := dk_42 (dk_at dksX12_completes_3 6 rfl rfl)
theorem dX12_completes_77 : decode cX12_completes 77 = .ok (.aload_n 0, 1) := dk_42 (dk_at dksX12_completes_3 7 rfl rfl)
theorem dX12_completes_78 : decode cX12_completes 78 = .ok (.getfield 312, 3) := dk_180 1 56 (dk_at dksX12_completes_3 8 rfl rfl)
theorem dX12_completes_81 : decode cX12_completes 81 = .ok (.putfield 262, 3) := dk_181 1 6 (dk_at dksX12_completes_3 11 rfl rfl)
theorem dX12_completes_84 : decode cX12_completes 84 = .ok (.aload_n 0, 1) := dk_42 (dk_at dksX12_completes_3 14 rfl rfl)
theorem dX12_completes_85 : decode cX12_completes 85 = .ok (.aload_n 0, 1) := dk_42 (dk_at dksX12_completes_3 15 rfl rfl)
theorem dX12_completes_86 : decode cX12_completes 86 = .ok (.getfield 268, 3) := dk_180 1 12 (dk_at dksX12_completes_3 16 rfl rfl)
theorem dX12_completes_89 : decode cX12_completes 89 = .ok (.putfield 253, 3) := dk_181 0 253 (dk_at dksX12_completes_3 19 rfl rfl)
theorem dX12_completes_92 : decode cX12_completes 92 = .ok (.aload_n 0, 1) := dk_42 (dk_at dksX12_completes_3 22 rfl rfl)
theorem dX12_completes_93 : decode cX12_completes 93 = .ok (.iconst 0, 1) := dk_3 (dk_at dksX12_completes_3 23 rfl rfl)
theorem dX12_completes_94 : decode cX12_completes 94 = .ok (.putfield 268, 3) := dk_181 1 12 (dk_at dksX12_completes_4 0 rfl rfl)
theorem dX12_completes_97 : decode cX12_completes 97 = .ok (.return_, 1) := dk_177 (dk_at dksX12_completes_4 3 rfl rfl)
abbrev cX12_takesIn : ByteArray := prog_27_method_34_code
def yX12_takesIn : MethodName := ⟨RX12, "takesIn", "(IIIII)V"⟩
def dkwX12_takesIn_5 : List UInt8 := [21, 5, 100, 133, 97, 181, 0, 249, 177]
abbrev dktX12_takesIn_5 : List UInt8 := dkwX12_takesIn_5 ++ []
def dkwX12_takesIn_4 : List UInt8 := [4, 96, 79, 42, 89, 180, 0, 246, 4, 96, 181, 0, 246, 42, 89, 180, 0, 249, 42, 180, 0, 243, 4, 100]
abbrev dktX12_takesIn_4 : List UInt8 := dkwX12_takesIn_4 ++ dktX12_takesIn_5
def dkwX12_takesIn_3 : List UInt8 := [27, 42, 182, 0, 199, 162, 0, 4, 177, 42, 180, 0, 148, 42, 180, 0, 243, 4, 100, 21, 5, 100, 92, 46]
abbrev dktX12_takesIn_3 : List UInt8 := dkwX12_takesIn_3 ++ dktX12_takesIn_4
def dkwX12_takesIn_2 : List UInt8 := [180, 0, 163, 21, 6, 46, 42, 180, 0, 166, 21, 6, 46, 21, 5, 182, 1, 49, 132, 6, 1, 167, 255, 222]
abbrev dktX12_takesIn_2 : List UInt8 := dkwX12_takesIn_2 ++ dktX12_takesIn_3
def dkwX12_takesIn_1 : List UInt8 := [180, 0, 75, 182, 1, 45, 3, 54, 6, 21, 6, 42, 180, 1, 35, 162, 0, 31, 42, 27, 28, 42]
abbrev dktX12_takesIn_1 : List UInt8 := dkwX12_takesIn_1 ++ dktX12_takesIn_2
def dkwX12_takesIn_0 : List UInt8 := [42, 180, 0, 44, 27, 92, 46, 4, 96, 79, 42, 27, 29, 21, 4, 42, 180, 0, 56, 42, 180, 0, 66, 42]
abbrev dktX12_takesIn_0 : List UInt8 := dkwX12_takesIn_0 ++ dktX12_takesIn_1
theorem dksX12_takesIn_0 : cX12_takesIn.data.toList.drop 0 = dktX12_takesIn_0 := by decide +kernel
theorem dksX12_takesIn_1 : cX12_takesIn.data.toList.drop 24 = dktX12_takesIn_1 := dk_seg dksX12_takesIn_0 24 rfl rfl
theorem dksX12_takesIn_2 : cX12_takesIn.data.toList.drop 46 = dktX12_takesIn_2 := dk_seg dksX12_takesIn_1 22 rfl rfl
theorem dksX12_takesIn_3 : cX12_takesIn.data.toList.drop 70 = dktX12_takesIn_3 := dk_seg dksX12_takesIn_2 24 rfl rfl
theorem dksX12_takesIn_4 : cX12_takesIn.data.toList.drop 94 = dktX12_takesIn_4 := dk_seg dksX12_takesIn_3 24 rfl rfl
theorem dksX12_takesIn_5 : cX12_takesIn.data.toList.drop 118 = dktX12_takesIn_5 := dk_seg dksX12_takesIn_4 24 rfl rfl
theorem dX12_takesIn_0 : decode cX12_takesIn 0 = .ok (.aload_n 0, 1) := dk_42 (dk_at dksX12_takesIn_0 0 rfl rfl)
theorem dX12_takesIn_1 : decode cX12_takesIn 1 = .ok (.getfield 44, 3) := dk_180 0 44 (dk_at dksX12_takesIn_0 1 rfl rfl)
theorem dX12_takesIn_4 : decode cX12_takesIn 4 = .ok (.iload_n 1, 1) := dk_27 (dk_at dksX12_takesIn_0 4 rfl rfl)
theorem dX12_takesIn_5 : decode cX12_takesIn 5 = .ok (.dup2, 1) := dk_92 (dk_at dksX12_takesIn_0 5 rfl rfl)
theorem dX12_takesIn_6 : decode cX12_takesIn 6 = .ok (.iaload, 1) := dk_46 (dk_at dksX12_takesIn_0 6 rfl rfl)
theorem dX12_takesIn_7 : decode cX12_takesIn 7 = .ok (.iconst 1, 1) := dk_4 (dk_at dksX12_takesIn_0 7 rfl rfl)
theorem dX12_takesIn_8 : decode cX12_takesIn 8 = .ok (.iadd, 1) := dk_96 (dk_at dksX12_takesIn_0 8 rfl rfl)
theorem dX12_takesIn_9 : decode cX12_takesIn 9 = .ok (.iastore, 1) := dk_79 (dk_at dksX12_takesIn_0 9 rfl rfl)
theorem dX12_takesIn_10 : decode cX12_takesIn 10 = .ok (.aload_n 0, 1) := dk_42 (dk_at dksX12_takesIn_0 10 rfl rfl)
theorem dX12_takesIn_11 : decode cX12_takesIn 11 = .ok (.iload_n 1, 1) := dk_27 (dk_at dksX12_takesIn_0 11 rfl rfl)
theorem dX12_takesIn_12 : decode cX12_takesIn 12 = .ok (.iload_n 3, 1) := dk_29 (dk_at dksX12_takesIn_0 12 rfl rfl)
theorem dX12_takesIn_13 : decode cX12_takesIn 13 = .ok (.iload 4, 2) := dk_21 4 (dk_at dksX12_takesIn_0 13 rfl rfl)
theorem dX12_takesIn_15 : decode cX12_takesIn 15 = .ok (.aload_n 0, 1) := dk_42 (dk_at dksX12_takesIn_0 15 rfl rfl)
theorem dX12_takesIn_16 : decode cX12_takesIn 16 = .ok (.getfield 56, 3) := dk_180 0 56 (dk_at dksX12_takesIn_0 16 rfl rfl)
theorem dX12_takesIn_19 : decode cX12_takesIn 19 = .ok (.aload_n 0, 1) := dk_42 (dk_at dksX12_takesIn_0 19 rfl rfl)
theorem dX12_takesIn_20 : decode cX12_takesIn 20 = .ok (.getfield 66, 3) := dk_180 0 66 (dk_at dksX12_takesIn_0 20 rfl rfl)
theorem dX12_takesIn_23 : decode cX12_takesIn 23 = .ok (.aload_n 0, 1) := dk_42 (dk_at dksX12_takesIn_0 23 rfl rfl)
theorem dX12_takesIn_24 : decode cX12_takesIn 24 = .ok (.getfield 75, 3) := dk_180 0 75 (dk_at dksX12_takesIn_1 0 rfl rfl)
theorem dX12_takesIn_27 : decode cX12_takesIn 27 = .ok (.invokevirtual 301, 3) := dk_182 1 45 (dk_at dksX12_takesIn_1 3 rfl rfl)
theorem dX12_takesIn_30 : decode cX12_takesIn 30 = .ok (.iconst 0, 1) := dk_3 (dk_at dksX12_takesIn_1 6 rfl rfl)
theorem dX12_takesIn_31 : decode cX12_takesIn 31 = .ok (.istore 6, 2) := dk_54 6 (dk_at dksX12_takesIn_1 7 rfl rfl)
theorem dX12_takesIn_33 : decode cX12_takesIn 33 = .ok (.iload 6, 2) := dk_21 6 (dk_at dksX12_takesIn_1 9 rfl rfl)
theorem dX12_takesIn_35 : decode cX12_takesIn 35 = .ok (.aload_n 0, 1) := dk_42 (dk_at dksX12_takesIn_1 11 rfl rfl)
theorem dX12_takesIn_36 : decode cX12_takesIn 36 = .ok (.getfield 291, 3) := dk_180 1 35 (dk_at dksX12_takesIn_1 12 rfl rfl)
theorem dX12_takesIn_39 : decode cX12_takesIn 39 = .ok (.if_icmp .ge 31, 3) := dk_162 0 31 (dk_at dksX12_takesIn_1 15 rfl rfl)
theorem dX12_takesIn_42 : decode cX12_takesIn 42 = .ok (.aload_n 0, 1) := dk_42 (dk_at dksX12_takesIn_1 18 rfl rfl)
theorem dX12_takesIn_43 : decode cX12_takesIn 43 = .ok (.iload_n 1, 1) := dk_27 (dk_at dksX12_takesIn_1 19 rfl rfl)
theorem dX12_takesIn_44 : decode cX12_takesIn 44 = .ok (.iload_n 2, 1) := dk_28 (dk_at dksX12_takesIn_1 20 rfl rfl)
theorem dX12_takesIn_45 : decode cX12_takesIn 45 = .ok (.aload_n 0, 1) := dk_42 (dk_at dksX12_takesIn_1 21 rfl rfl)
theorem dX12_takesIn_46 : decode cX12_takesIn 46 = .ok (.getfield 163, 3) := dk_180 0 163 (dk_at dksX12_takesIn_2 0 rfl rfl)
theorem dX12_takesIn_49 : decode cX12_takesIn 49 = .ok (.iload 6, 2) := dk_21 6 (dk_at dksX12_takesIn_2 3 rfl rfl)
theorem dX12_takesIn_51 : decode cX12_takesIn 51 = .ok (.iaload, 1) := dk_46 (dk_at dksX12_takesIn_2 5 rfl rfl)
theorem dX12_takesIn_52 : decode cX12_takesIn 52 = .ok (.aload_n 0, 1) := dk_42 (dk_at dksX12_takesIn_2 6 rfl rfl)
theorem dX12_takesIn_53 : decode cX12_takesIn 53 = .ok (.getfield 166, 3) := dk_180 0 166 (dk_at dksX12_takesIn_2 7 rfl rfl)
theorem dX12_takesIn_56 : decode cX12_takesIn 56 = .ok (.iload 6, 2) := dk_21 6 (dk_at dksX12_takesIn_2 10 rfl rfl)
theorem dX12_takesIn_58 : decode cX12_takesIn 58 = .ok (.iaload, 1) := dk_46 (dk_at dksX12_takesIn_2 12 rfl rfl)
theorem dX12_takesIn_59 : decode cX12_takesIn 59 = .ok (.iload 5, 2) := dk_21 5 (dk_at dksX12_takesIn_2 13 rfl rfl)
theorem dX12_takesIn_61 : decode cX12_takesIn 61 = .ok (.invokevirtual 305, 3) := dk_182 1 49 (dk_at dksX12_takesIn_2 15 rfl rfl)
theorem dX12_takesIn_64 : decode cX12_takesIn 64 = .ok (.iinc 6 1, 3) := dk_132 6 1 (dk_at dksX12_takesIn_2 18 rfl rfl)
theorem dX12_takesIn_67 : decode cX12_takesIn 67 = .ok (.goto (-34), 3) := dk_167 255 222 (dk_at dksX12_takesIn_2 21 rfl rfl)
theorem dX12_takesIn_70 : decode cX12_takesIn 70 = .ok (.iload_n 1, 1) := dk_27 (dk_at dksX12_takesIn_3 0 rfl rfl)
theorem dX12_takesIn_71 : decode cX12_takesIn 71 = .ok (.aload_n 0, 1) := dk_42 (dk_at dksX12_takesIn_3 1 rfl rfl)
theorem dX12_takesIn_72 : decode cX12_takesIn 72 = .ok (.invokevirtual 199, 3) := dk_182 0 199 (dk_at dksX12_takesIn_3 2 rfl rfl)
theorem dX12_takesIn_75 : decode cX12_takesIn 75 = .ok (.if_icmp .ge 4, 3) := dk_162 0 4 (dk_at dksX12_takesIn_3 5 rfl rfl)
theorem dX12_takesIn_78 : decode cX12_takesIn 78 = .ok (.return_, 1) := dk_177 (dk_at dksX12_takesIn_3 8 rfl rfl)
theorem dX12_takesIn_79 : decode cX12_takesIn 79 = .ok (.aload_n 0, 1) := dk_42 (dk_at dksX12_takesIn_3 9 rfl rfl)
theorem dX12_takesIn_80 : decode cX12_takesIn 80 = .ok (.getfield 148, 3) := dk_180 0 148 (dk_at dksX12_takesIn_3 10 rfl rfl)
theorem dX12_takesIn_83 : decode cX12_takesIn 83 = .ok (.aload_n 0, 1) := dk_42 (dk_at dksX12_takesIn_3 13 rfl rfl)
theorem dX12_takesIn_84 : decode cX12_takesIn 84 = .ok (.getfield 243, 3) := dk_180 0 243 (dk_at dksX12_takesIn_3 14 rfl rfl)
theorem dX12_takesIn_87 : decode cX12_takesIn 87 = .ok (.iconst 1, 1) := dk_4 (dk_at dksX12_takesIn_3 17 rfl rfl)
theorem dX12_takesIn_88 : decode cX12_takesIn 88 = .ok (.isub, 1) := dk_100 (dk_at dksX12_takesIn_3 18 rfl rfl)
theorem dX12_takesIn_89 : decode cX12_takesIn 89 = .ok (.iload 5, 2) := dk_21 5 (dk_at dksX12_takesIn_3 19 rfl rfl)
theorem dX12_takesIn_91 : decode cX12_takesIn 91 = .ok (.isub, 1) := dk_100 (dk_at dksX12_takesIn_3 21 rfl rfl)
theorem dX12_takesIn_92 : decode cX12_takesIn 92 = .ok (.dup2, 1) := dk_92 (dk_at dksX12_takesIn_3 22 rfl rfl)
theorem dX12_takesIn_93 : decode cX12_takesIn 93 = .ok (.iaload, 1) := dk_46 (dk_at dksX12_takesIn_3 23 rfl rfl)
theorem dX12_takesIn_94 : decode cX12_takesIn 94 = .ok (.iconst 1, 1) := dk_4 (dk_at dksX12_takesIn_4 0 rfl rfl)
theorem dX12_takesIn_95 : decode cX12_takesIn 95 = .ok (.iadd, 1) := dk_96 (dk_at dksX12_takesIn_4 1 rfl rfl)
theorem dX12_takesIn_96 : decode cX12_takesIn 96 = .ok (.iastore, 1) := dk_79 (dk_at dksX12_takesIn_4 2 rfl rfl)
theorem dX12_takesIn_97 : decode cX12_takesIn 97 = .ok (.aload_n 0, 1) := dk_42 (dk_at dksX12_takesIn_4 3 rfl rfl)
theorem dX12_takesIn_98 : decode cX12_takesIn 98 = .ok (.dup, 1) := dk_89 (dk_at dksX12_takesIn_4 4 rfl rfl)
theorem dX12_takesIn_99 : decode cX12_takesIn 99 = .ok (.getfield 246, 3) := dk_180 0 246 (dk_at dksX12_takesIn_4 5 rfl rfl)
theorem dX12_takesIn_102 : decode cX12_takesIn 102 = .ok (.iconst 1, 1) := dk_4 (dk_at dksX12_takesIn_4 8 rfl rfl)
theorem dX12_takesIn_103 : decode cX12_takesIn 103 = .ok (.iadd, 1) := dk_96 (dk_at dksX12_takesIn_4 9 rfl rfl)
theorem dX12_takesIn_104 : decode cX12_takesIn 104 = .ok (.putfield 246, 3) := dk_181 0 246 (dk_at dksX12_takesIn_4 10 rfl rfl)
theorem dX12_takesIn_107 : decode cX12_takesIn 107 = .ok (.aload_n 0, 1) := dk_42 (dk_at dksX12_takesIn_4 13 rfl rfl)
theorem dX12_takesIn_108 : decode cX12_takesIn 108 = .ok (.dup, 1) := dk_89 (dk_at dksX12_takesIn_4 14 rfl rfl)
theorem dX12_takesIn_109 : decode cX12_takesIn 109 = .ok (.getfield 249, 3) := dk_180 0 249 (dk_at dksX12_takesIn_4 15 rfl rfl)
theorem dX12_takesIn_112 : decode cX12_takesIn 112 = .ok (.aload_n 0, 1) := dk_42 (dk_at dksX12_takesIn_4 18 rfl rfl)
theorem dX12_takesIn_113 : decode cX12_takesIn 113 = .ok (.getfield 243, 3) := dk_180 0 243 (dk_at dksX12_takesIn_4 19 rfl rfl)
theorem dX12_takesIn_116 : decode cX12_takesIn 116 = .ok (.iconst 1, 1) := dk_4 (dk_at dksX12_takesIn_4 22 rfl rfl)
theorem dX12_takesIn_117 : decode cX12_takesIn 117 = .ok (.isub, 1) := dk_100 (dk_at dksX12_takesIn_4 23 rfl rfl)
theorem dX12_takesIn_118 : decode cX12_takesIn 118 = .ok (.iload 5, 2) := dk_21 5 (dk_at dksX12_takesIn_5 0 rfl rfl)
theorem dX12_takesIn_120 : decode cX12_takesIn 120 = .ok (.isub, 1) := dk_100 (dk_at dksX12_takesIn_5 2 rfl rfl)
theorem dX12_takesIn_121 : decode cX12_takesIn 121 = .ok (.i2l, 1) := dk_133 (dk_at dksX12_takesIn_5 3 rfl rfl)
theorem dX12_takesIn_122 : decode cX12_takesIn 122 = .ok (.ladd, 1) := dk_97 (dk_at dksX12_takesIn_5 4 rfl rfl)
theorem dX12_takesIn_123 : decode cX12_takesIn 123 = .ok (.putfield 249, 3) := dk_181 0 249 (dk_at dksX12_takesIn_5 5 rfl rfl)
theorem dX12_takesIn_126 : decode cX12_takesIn 126 = .ok (.return_, 1) := dk_177 (dk_at dksX12_takesIn_5 8 rfl rfl)
abbrev cX12_processes : ByteArray := prog_27_method_33_code
def yX12_processes : MethodName := ⟨RX12, "processes", "(III[Z[I[I)V"⟩
def dkwX12_processes_15 : List UInt8 := [182, 1, 38, 25, 4, 21, 7, 3, 84, 177, 25, 4, 21, 7, 4, 84, 177]
abbrev dktX12_processes_15 : List UInt8 := dkwX12_processes_15 ++ []
def dkwX12_processes_14 : List UInt8 := [160, 0, 34, 25, 6, 21, 7, 46, 42, 180, 0, 16, 27, 46, 160, 0, 20, 42, 28, 25, 5, 21, 7, 46]
abbrev dktX12_processes_14 : List UInt8 := dkwX12_processes_14 ++ dktX12_processes_15
def dkwX12_processes_13 : List UInt8 := [153, 0, 13, 25, 6, 21, 7, 46, 4, 96, 167, 0, 4, 4, 79, 42, 180, 0, 13, 27, 46, 7]
abbrev dktX12_processes_13 : List UInt8 := dkwX12_processes_13 ++ dktX12_processes_14
def dkwX12_processes_12 : List UInt8 := [21, 8, 153, 0, 13, 25, 5, 21, 7, 46, 29, 96, 167, 0, 4, 29, 79, 25, 6, 21, 7, 21, 8]
abbrev dktX12_processes_12 : List UInt8 := dkwX12_processes_12 ++ dktX12_processes_13
def dkwX12_processes_11 : List UInt8 := [28, 29, 182, 1, 38, 25, 5, 21, 7, 29, 79, 25, 6, 21, 7, 3, 79, 167, 0, 86, 25, 5, 21, 7]
abbrev dktX12_processes_11 : List UInt8 := dkwX12_processes_11 ++ dktX12_processes_12
def dkwX12_processes_10 : List UInt8 := [25, 6, 21, 7, 3, 79, 167, 0, 121, 21, 8, 153, 0, 12, 29, 25, 5, 21, 7, 46, 164, 0, 15, 42]
abbrev dktX12_processes_10 : List UInt8 := dkwX12_processes_10 ++ dktX12_processes_11
def dkwX12_processes_9 : List UInt8 := [153, 0, 12, 25, 5, 21, 7, 46, 29, 159, 0, 9, 42, 28, 29, 182, 1, 38, 25, 5, 21, 7, 29, 79]
abbrev dktX12_processes_9 : List UInt8 := dkwX12_processes_9 ++ dktX12_processes_10
def dkwX12_processes_8 : List UInt8 := [27, 46, 162, 0, 18, 42, 28, 29, 21, 9, 96, 182, 1, 38, 132, 9, 1, 167, 255, 233, 177, 21, 8]
abbrev dktX12_processes_8 : List UInt8 := dkwX12_processes_8 ++ dktX12_processes_9
def dkwX12_processes_7 : List UInt8 := [42, 180, 0, 19, 27, 46, 96, 184, 1, 42, 29, 182, 1, 38, 177, 3, 54, 9, 21, 9, 42, 180, 0, 16]
abbrev dktX12_processes_7 : List UInt8 := dkwX12_processes_7 ++ dktX12_processes_8
def dkwX12_processes_6 : List UInt8 := [180, 0, 19, 27, 46, 164, 0, 9, 42, 28, 29, 182, 1, 38, 177, 42, 28, 42, 180, 0, 16, 27, 46, 104]
abbrev dktX12_processes_6 : List UInt8 := dkwX12_processes_6 ++ dktX12_processes_7
def dkwX12_processes_5 : List UInt8 := [180, 0, 16, 27, 46, 4, 160, 0, 16, 29, 42, 180, 0, 19, 27, 46, 160, 0, 22, 167, 0, 13, 29, 42]
abbrev dktX12_processes_5 : List UInt8 := dkwX12_processes_5 ++ dktX12_processes_6
def dkwX12_processes_4 : List UInt8 := [180, 0, 16, 27, 46, 154, 0, 16, 29, 42, 180, 0, 19, 27, 46, 162, 0, 45, 167, 0, 36, 42]
abbrev dktX12_processes_4 : List UInt8 := dkwX12_processes_4 ++ dktX12_processes_5
def dkwX12_processes_3 : List UInt8 := [42, 28, 29, 42, 180, 0, 16, 27, 46, 104, 42, 180, 0, 19, 27, 46, 96, 182, 1, 38, 177, 42]
abbrev dktX12_processes_3 : List UInt8 := dkwX12_processes_3 ++ dktX12_processes_4
def dkwX12_processes_2 : List UInt8 := [170, 0, 0, 0, 0, 249, 0, 0, 0, 0, 0, 0, 0, 6, 0, 0, 0, 42, 0, 0, 0, 63, 0, 0, 0, 125, 0, 0, 0, 149, 0, 0, 0, 249, 0, 0, 0, 179, 0, 0, 0, 214]
abbrev dktX12_processes_2 : List UInt8 := dkwX12_processes_2 ++ dktX12_processes_3
def dkwX12_processes_1 : List UInt8 := [27, 46]
abbrev dktX12_processes_1 : List UInt8 := dkwX12_processes_1 ++ dktX12_processes_2
def dkwX12_processes_0 : List UInt8 := [42, 3, 181, 1, 35, 16, 16, 27, 104, 28, 96, 54, 7, 25, 4, 21, 7, 51, 54, 8, 42, 180, 0, 13]
abbrev dktX12_processes_0 : List UInt8 := dkwX12_processes_0 ++ dktX12_processes_1
theorem dksX12_processes_0 : cX12_processes.data.toList.drop 0 = dktX12_processes_0 := by decide +kernel
theorem dksX12_processes_1 : cX12_processes.data.toList.drop 24 = dktX12_processes_1 := dk_seg dksX12_processes_0 24 rfl rfl
theorem dksX12_processes_2 : cX12_processes.data.toList.drop 26 = dktX12_processes_2 := dk_seg dksX12_processes_1 2 rfl rfl
theorem dksX12_processes_3 : cX12_processes.data.toList.drop 68 = dktX12_processes_3 := dk_seg dksX12_processes_2 42 rfl rfl
theorem dksX12_processes_4 : cX12_processes.data.toList.drop 90 = dktX12_processes_4 := dk_seg dksX12_processes_3 22 rfl rfl
theorem dksX12_processes_5 : cX12_processes.data.toList.drop 112 = dktX12_processes_5 := dk_seg dksX12_processes_4 22 rfl rfl
theorem dksX12_processes_6 : cX12_processes.data.toList.drop 136 = dktX12_processes_6 := dk_seg dksX12_processes_5 24 rfl rfl
theorem dksX12_processes_7 : cX12_processes.data.toList.drop 160 = dktX12_processes_7 := dk_seg dksX12_processes_6 24 rfl rfl
theorem dksX12_processes_8 : cX12_processes.data.toList.drop 184 = dktX12_processes_8 := dk_seg dksX12_processes_7 24 rfl rfl
theorem dksX12_processes_9 : cX12_processes.data.toList.drop 207 = dktX12_processes_9 := dk_seg dksX12_processes_8 23 rfl rfl
theorem dksX12_processes_10 : cX12_processes.data.toList.drop 231 = dktX12_processes_10 := dk_seg dksX12_processes_9 24 rfl rfl
theorem dksX12_processes_11 : cX12_processes.data.toList.drop 255 = dktX12_processes_11 := dk_seg dksX12_processes_10 24 rfl rfl
theorem dksX12_processes_12 : cX12_processes.data.toList.drop 279 = dktX12_processes_12 := dk_seg dksX12_processes_11 24 rfl rfl
theorem dksX12_processes_13 : cX12_processes.data.toList.drop 302 = dktX12_processes_13 := dk_seg dksX12_processes_12 23 rfl rfl
theorem dksX12_processes_14 : cX12_processes.data.toList.drop 324 = dktX12_processes_14 := dk_seg dksX12_processes_13 22 rfl rfl
theorem dksX12_processes_15 : cX12_processes.data.toList.drop 348 = dktX12_processes_15 := dk_seg dksX12_processes_14 24 rfl rfl
theorem dX12_processes_0 : decode cX12_processes 0 = .ok (.aload_n 0, 1) := dk_42 (dk_at dksX12_processes_0 0 rfl rfl)
theorem dX12_processes_1 : decode cX12_processes 1 = .ok (.iconst 0, 1) := dk_3 (dk_at dksX12_processes_0 1 rfl rfl)
theorem dX12_processes_2 : decode cX12_processes 2 = .ok (.putfield 291, 3) := dk_181 1 35 (dk_at dksX12_processes_0 2 rfl rfl)
theorem dX12_processes_5 : decode cX12_processes 5 = .ok (.bipush 16, 2) := dk_16 16 (dk_at dksX12_processes_0 5 rfl rfl)
theorem dX12_processes_7 : decode cX12_processes 7 = .ok (.iload_n 1, 1) := dk_27 (dk_at dksX12_processes_0 7 rfl rfl)
theorem dX12_processes_8 : decode cX12_processes 8 = .ok (.imul, 1) := dk_104 (dk_at dksX12_processes_0 8 rfl rfl)
theorem dX12_processes_9 : decode cX12_processes 9 = .ok (.iload_n 2, 1) := dk_28 (dk_at dksX12_processes_0 9 rfl rfl)
theorem dX12_processes_10 : decode cX12_processes 10 = .ok (.iadd, 1) := dk_96 (dk_at dksX12_processes_0 10 rfl rfl)
theorem dX12_processes_11 : decode cX12_processes 11 = .ok (.istore 7, 2) := dk_54 7 (dk_at dksX12_processes_0 11 rfl rfl)
theorem dX12_processes_13 : decode cX12_processes 13 = .ok (.aload 4, 2) := dk_25 4 (dk_at dksX12_processes_0 13 rfl rfl)
theorem dX12_processes_15 : decode cX12_processes 15 = .ok (.iload 7, 2) := dk_21 7 (dk_at dksX12_processes_0 15 rfl rfl)
theorem dX12_processes_17 : decode cX12_processes 17 = .ok (.baload, 1) := dk_51 (dk_at dksX12_processes_0 17 rfl rfl)
theorem dX12_processes_18 : decode cX12_processes 18 = .ok (.istore 8, 2) := dk_54 8 (dk_at dksX12_processes_0 18 rfl rfl)
theorem dX12_processes_20 : decode cX12_processes 20 = .ok (.aload_n 0, 1) := dk_42 (dk_at dksX12_processes_0 20 rfl rfl)
theorem dX12_processes_21 : decode cX12_processes 21 = .ok (.getfield 13, 3) := dk_180 0 13 (dk_at dksX12_processes_0 21 rfl rfl)
theorem dX12_processes_24 : decode cX12_processes 24 = .ok (.iload_n 1, 1) := dk_27 (dk_at dksX12_processes_1 0 rfl rfl)
theorem dX12_processes_25 : decode cX12_processes 25 = .ok (.iaload, 1) := dk_46 (dk_at dksX12_processes_1 1 rfl rfl)
theorem dX12_processes_26 : decode cX12_processes 26 = .ok (.tableswitch 249 0 6 #[42, 63, 125, 149, 249, 179, 214], 42) := by decide +kernel
theorem dX12_processes_68 : decode cX12_processes 68 = .ok (.aload_n 0, 1) := dk_42 (dk_at dksX12_processes_3 0 rfl rfl)
theorem dX12_processes_69 : decode cX12_processes 69 = .ok (.iload_n 2, 1) := dk_28 (dk_at dksX12_processes_3 1 rfl rfl)
theorem dX12_processes_70 : decode cX12_processes 70 = .ok (.iload_n 3, 1) := dk_29 (dk_at dksX12_processes_3 2 rfl rfl)
theorem dX12_processes_71 : decode cX12_processes 71 = .ok (.aload_n 0, 1) := dk_42 (dk_at dksX12_processes_3 3 rfl rfl)
theorem dX12_processes_72 : decode cX12_processes 72 = .ok (.getfield 16, 3) := dk_180 0 16 (dk_at dksX12_processes_3 4 rfl rfl)
theorem dX12_processes_75 : decode cX12_processes 75 = .ok (.iload_n 1, 1) := dk_27 (dk_at dksX12_processes_3 7 rfl rfl)
theorem dX12_processes_76 : decode cX12_processes 76 = .ok (.iaload, 1) := dk_46 (dk_at dksX12_processes_3 8 rfl rfl)
theorem dX12_processes_77 : decode cX12_processes 77 = .ok (.imul, 1) := dk_104 (dk_at dksX12_processes_3 9 rfl rfl)
theorem dX12_processes_78 : decode cX12_processes 78 = .ok (.aload_n 0, 1) := dk_42 (dk_at dksX12_processes_3 10 rfl rfl)
theorem dX12_processes_79 : decode cX12_processes 79 = .ok (.getfield 19, 3) := dk_180 0 19 (dk_at dksX12_processes_3 11 rfl rfl)
theorem dX12_processes_82 : decode cX12_processes 82 = .ok (.iload_n 1, 1) := dk_27 (dk_at dksX12_processes_3 14 rfl rfl)
theorem dX12_processes_83 : decode cX12_processes 83 = .ok (.iaload, 1) := dk_46 (dk_at dksX12_processes_3 15 rfl rfl)
theorem dX12_processes_84 : decode cX12_processes 84 = .ok (.iadd, 1) := dk_96 (dk_at dksX12_processes_3 16 rfl rfl)
theorem dX12_processes_85 : decode cX12_processes 85 = .ok (.invokevirtual 294, 3) := dk_182 1 38 (dk_at dksX12_processes_3 17 rfl rfl)
theorem dX12_processes_88 : decode cX12_processes 88 = .ok (.return_, 1) := dk_177 (dk_at dksX12_processes_3 20 rfl rfl)
theorem dX12_processes_89 : decode cX12_processes 89 = .ok (.aload_n 0, 1) := dk_42 (dk_at dksX12_processes_3 21 rfl rfl)
theorem dX12_processes_90 : decode cX12_processes 90 = .ok (.getfield 16, 3) := dk_180 0 16 (dk_at dksX12_processes_4 0 rfl rfl)
theorem dX12_processes_93 : decode cX12_processes 93 = .ok (.iload_n 1, 1) := dk_27 (dk_at dksX12_processes_4 3 rfl rfl)
theorem dX12_processes_94 : decode cX12_processes 94 = .ok (.iaload, 1) := dk_46 (dk_at dksX12_processes_4 4 rfl rfl)
theorem dX12_processes_95 : decode cX12_processes 95 = .ok (.ifCond .ne 16, 3) := dk_154 0 16 (dk_at dksX12_processes_4 5 rfl rfl)
theorem dX12_processes_98 : decode cX12_processes 98 = .ok (.iload_n 3, 1) := dk_29 (dk_at dksX12_processes_4 8 rfl rfl)
theorem dX12_processes_99 : decode cX12_processes 99 = .ok (.aload_n 0, 1) := dk_42 (dk_at dksX12_processes_4 9 rfl rfl)
theorem dX12_processes_100 : decode cX12_processes 100 = .ok (.getfield 19, 3) := dk_180 0 19 (dk_at dksX12_processes_4 10 rfl rfl)
theorem dX12_processes_103 : decode cX12_processes 103 = .ok (.iload_n 1, 1) := dk_27 (dk_at dksX12_processes_4 13 rfl rfl)
theorem dX12_processes_104 : decode cX12_processes 104 = .ok (.iaload, 1) := dk_46 (dk_at dksX12_processes_4 14 rfl rfl)
theorem dX12_processes_105 : decode cX12_processes 105 = .ok (.if_icmp .ge 45, 3) := dk_162 0 45 (dk_at dksX12_processes_4 15 rfl rfl)
theorem dX12_processes_108 : decode cX12_processes 108 = .ok (.goto 36, 3) := dk_167 0 36 (dk_at dksX12_processes_4 18 rfl rfl)
theorem dX12_processes_111 : decode cX12_processes 111 = .ok (.aload_n 0, 1) := dk_42 (dk_at dksX12_processes_4 21 rfl rfl)
theorem dX12_processes_112 : decode cX12_processes 112 = .ok (.getfield 16, 3) := dk_180 0 16 (dk_at dksX12_processes_5 0 rfl rfl)
theorem dX12_processes_115 : decode cX12_processes 115 = .ok (.iload_n 1, 1) := dk_27 (dk_at dksX12_processes_5 3 rfl rfl)
theorem dX12_processes_116 : decode cX12_processes 116 = .ok (.iaload, 1) := dk_46 (dk_at dksX12_processes_5 4 rfl rfl)
theorem dX12_processes_117 : decode cX12_processes 117 = .ok (.iconst 1, 1) := dk_4 (dk_at dksX12_processes_5 5 rfl rfl)
theorem dX12_processes_118 : decode cX12_processes 118 = .ok (.if_icmp .ne 16, 3) := dk_160 0 16 (dk_at dksX12_processes_5 6 rfl rfl)
theorem dX12_processes_121 : decode cX12_processes 121 = .ok (.iload_n 3, 1) := dk_29 (dk_at dksX12_processes_5 9 rfl rfl)
theorem dX12_processes_122 : decode cX12_processes 122 = .ok (.aload_n 0, 1) := dk_42 (dk_at dksX12_processes_5 10 rfl rfl)
theorem dX12_processes_123 : decode cX12_processes 123 = .ok (.getfield 19, 3) := dk_180 0 19 (dk_at dksX12_processes_5 11 rfl rfl)
theorem dX12_processes_126 : decode cX12_processes 126 = .ok (.iload_n 1, 1) := dk_27 (dk_at dksX12_processes_5 14 rfl rfl)
theorem dX12_processes_127 : decode cX12_processes 127 = .ok (.iaload, 1) := dk_46 (dk_at dksX12_processes_5 15 rfl rfl)
theorem dX12_processes_128 : decode cX12_processes 128 = .ok (.if_icmp .ne 22, 3) := dk_160 0 22 (dk_at dksX12_processes_5 16 rfl rfl)
theorem dX12_processes_131 : decode cX12_processes 131 = .ok (.goto 13, 3) := dk_167 0 13 (dk_at dksX12_processes_5 19 rfl rfl)
theorem dX12_processes_134 : decode cX12_processes 134 = .ok (.iload_n 3, 1) := dk_29 (dk_at dksX12_processes_5 22 rfl rfl)
theorem dX12_processes_135 : decode cX12_processes 135 = .ok (.aload_n 0, 1) := dk_42 (dk_at dksX12_processes_5 23 rfl rfl)
theorem dX12_processes_136 : decode cX12_processes 136 = .ok (.getfield 19, 3) := dk_180 0 19 (dk_at dksX12_processes_6 0 rfl rfl)
theorem dX12_processes_139 : decode cX12_processes 139 = .ok (.iload_n 1, 1) := dk_27 (dk_at dksX12_processes_6 3 rfl rfl)
theorem dX12_processes_140 : decode cX12_processes 140 = .ok (.iaload, 1) := dk_46 (dk_at dksX12_processes_6 4 rfl rfl)
theorem dX12_processes_141 : decode cX12_processes 141 = .ok (.if_icmp .le 9, 3) := dk_164 0 9 (dk_at dksX12_processes_6 5 rfl rfl)
theorem dX12_processes_144 : decode cX12_processes 144 = .ok (.aload_n 0, 1) := dk_42 (dk_at dksX12_processes_6 8 rfl rfl)
theorem dX12_processes_145 : decode cX12_processes 145 = .ok (.iload_n 2, 1) := dk_28 (dk_at dksX12_processes_6 9 rfl rfl)
theorem dX12_processes_146 : decode cX12_processes 146 = .ok (.iload_n 3, 1) := dk_29 (dk_at dksX12_processes_6 10 rfl rfl)
theorem dX12_processes_147 : decode cX12_processes 147 = .ok (.invokevirtual 294, 3) := dk_182 1 38 (dk_at dksX12_processes_6 11 rfl rfl)
theorem dX12_processes_150 : decode cX12_processes 150 = .ok (.return_, 1) := dk_177 (dk_at dksX12_processes_6 14 rfl rfl)
theorem dX12_processes_151 : decode cX12_processes 151 = .ok (.aload_n 0, 1) := dk_42 (dk_at dksX12_processes_6 15 rfl rfl)
theorem dX12_processes_152 : decode cX12_processes 152 = .ok (.iload_n 2, 1) := dk_28 (dk_at dksX12_processes_6 16 rfl rfl)
theorem dX12_processes_153 : decode cX12_processes 153 = .ok (.aload_n 0, 1) := dk_42 (dk_at dksX12_processes_6 17 rfl rfl)
theorem dX12_processes_154 : decode cX12_processes 154 = .ok (.getfield 16, 3) := dk_180 0 16 (dk_at dksX12_processes_6 18 rfl rfl)
theorem dX12_processes_157 : decode cX12_processes 157 = .ok (.iload_n 1, 1) := dk_27 (dk_at dksX12_processes_6 21 rfl rfl)
theorem dX12_processes_158 : decode cX12_processes 158 = .ok (.iaload, 1) := dk_46 (dk_at dksX12_processes_6 22 rfl rfl)
theorem dX12_processes_159 : decode cX12_processes 159 = .ok (.imul, 1) := dk_104 (dk_at dksX12_processes_6 23 rfl rfl)
theorem dX12_processes_160 : decode cX12_processes 160 = .ok (.aload_n 0, 1) := dk_42 (dk_at dksX12_processes_7 0 rfl rfl)
theorem dX12_processes_161 : decode cX12_processes 161 = .ok (.getfield 19, 3) := dk_180 0 19 (dk_at dksX12_processes_7 1 rfl rfl)
theorem dX12_processes_164 : decode cX12_processes 164 = .ok (.iload_n 1, 1) := dk_27 (dk_at dksX12_processes_7 4 rfl rfl)
theorem dX12_processes_165 : decode cX12_processes 165 = .ok (.iaload, 1) := dk_46 (dk_at dksX12_processes_7 5 rfl rfl)
theorem dX12_processes_166 : decode cX12_processes 166 = .ok (.iadd, 1) := dk_96 (dk_at dksX12_processes_7 6 rfl rfl)
theorem dX12_processes_167 : decode cX12_processes 167 = .ok (.invokestatic 298, 3) := dk_184 1 42 (dk_at dksX12_processes_7 7 rfl rfl)
theorem dX12_processes_170 : decode cX12_processes 170 = .ok (.iload_n 3, 1) := dk_29 (dk_at dksX12_processes_7 10 rfl rfl)
theorem dX12_processes_171 : decode cX12_processes 171 = .ok (.invokevirtual 294, 3) := dk_182 1 38 (dk_at dksX12_processes_7 11 rfl rfl)
theorem dX12_processes_174 : decode cX12_processes 174 = .ok (.return_, 1) := dk_177 (dk_at dksX12_processes_7 14 rfl rfl)
theorem dX12_processes_175 : decode cX12_processes 175 = .ok (.iconst 0, 1) := dk_3 (dk_at dksX12_processes_7 15 rfl rfl)
theorem dX12_processes_176 : decode cX12_processes 176 = .ok (.istore 9, 2) := dk_54 9 (dk_at dksX12_processes_7 16 rfl rfl)
theorem dX12_processes_178 : decode cX12_processes 178 = .ok (.iload 9, 2) := dk_21 9 (dk_at dksX12_processes_7 18 rfl rfl)
theorem dX12_processes_180 : decode cX12_processes 180 = .ok (.aload_n 0, 1) := dk_42 (dk_at dksX12_processes_7 20 rfl rfl)
theorem dX12_processes_181 : decode cX12_processes 181 = .ok (.getfield 16, 3) := dk_180 0 16 (dk_at dksX12_processes_7 21 rfl rfl)
theorem dX12_processes_184 : decode cX12_processes 184 = .ok (.iload_n 1, 1) := dk_27 (dk_at dksX12_processes_8 0 rfl rfl)
theorem dX12_processes_185 : decode cX12_processes 185 = .ok (.iaload, 1) := dk_46 (dk_at dksX12_processes_8 1 rfl rfl)
theorem dX12_processes_186 : decode cX12_processes 186 = .ok (.if_icmp .ge 18, 3) := dk_162 0 18 (dk_at dksX12_processes_8 2 rfl rfl)
theorem dX12_processes_189 : decode cX12_processes 189 = .ok (.aload_n 0, 1) := dk_42 (dk_at dksX12_processes_8 5 rfl rfl)
theorem dX12_processes_190 : decode cX12_processes 190 = .ok (.iload_n 2, 1) := dk_28 (dk_at dksX12_processes_8 6 rfl rfl)
theorem dX12_processes_191 : decode cX12_processes 191 = .ok (.iload_n 3, 1) := dk_29 (dk_at dksX12_processes_8 7 rfl rfl)
theorem dX12_processes_192 : decode cX12_processes 192 = .ok (.iload 9, 2) := dk_21 9 (dk_at dksX12_processes_8 8 rfl rfl)
theorem dX12_processes_194 : decode cX12_processes 194 = .ok (.iadd, 1) := dk_96 (dk_at dksX12_processes_8 10 rfl rfl)
theorem dX12_processes_195 : decode cX12_processes 195 = .ok (.invokevirtual 294, 3) := dk_182 1 38 (dk_at dksX12_processes_8 11 rfl rfl)
theorem dX12_processes_198 : decode cX12_processes 198 = .ok (.iinc 9 1, 3) := dk_132 9 1 (dk_at dksX12_processes_8 14 rfl rfl)
theorem dX12_processes_201 : decode cX12_processes 201 = .ok (.goto (-23), 3) := dk_167 255 233 (dk_at dksX12_processes_8 17 rfl rfl)
theorem dX12_processes_204 : decode cX12_processes 204 = .ok (.return_, 1) := dk_177 (dk_at dksX12_processes_8 20 rfl rfl)
theorem dX12_processes_205 : decode cX12_processes 205 = .ok (.iload 8, 2) := dk_21 8 (dk_at dksX12_processes_8 21 rfl rfl)
theorem dX12_processes_207 : decode cX12_processes 207 = .ok (.ifCond .eq 12, 3) := dk_153 0 12 (dk_at dksX12_processes_9 0 rfl rfl)
theorem dX12_processes_210 : decode cX12_processes 210 = .ok (.aload 5, 2) := dk_25 5 (dk_at dksX12_processes_9 3 rfl rfl)
theorem dX12_processes_212 : decode cX12_processes 212 = .ok (.iload 7, 2) := dk_21 7 (dk_at dksX12_processes_9 5 rfl rfl)
theorem dX12_processes_214 : decode cX12_processes 214 = .ok (.iaload, 1) := dk_46 (dk_at dksX12_processes_9 7 rfl rfl)
theorem dX12_processes_215 : decode cX12_processes 215 = .ok (.iload_n 3, 1) := dk_29 (dk_at dksX12_processes_9 8 rfl rfl)
theorem dX12_processes_216 : decode cX12_processes 216 = .ok (.if_icmp .eq 9, 3) := dk_159 0 9 (dk_at dksX12_processes_9 9 rfl rfl)
theorem dX12_processes_219 : decode cX12_processes 219 = .ok (.aload_n 0, 1) := dk_42 (dk_at dksX12_processes_9 12 rfl rfl)
theorem dX12_processes_220 : decode cX12_processes 220 = .ok (.iload_n 2, 1) := dk_28 (dk_at dksX12_processes_9 13 rfl rfl)
theorem dX12_processes_221 : decode cX12_processes 221 = .ok (.iload_n 3, 1) := dk_29 (dk_at dksX12_processes_9 14 rfl rfl)
theorem dX12_processes_222 : decode cX12_processes 222 = .ok (.invokevirtual 294, 3) := dk_182 1 38 (dk_at dksX12_processes_9 15 rfl rfl)
theorem dX12_processes_225 : decode cX12_processes 225 = .ok (.aload 5, 2) := dk_25 5 (dk_at dksX12_processes_9 18 rfl rfl)
theorem dX12_processes_227 : decode cX12_processes 227 = .ok (.iload 7, 2) := dk_21 7 (dk_at dksX12_processes_9 20 rfl rfl)
theorem dX12_processes_229 : decode cX12_processes 229 = .ok (.iload_n 3, 1) := dk_29 (dk_at dksX12_processes_9 22 rfl rfl)
theorem dX12_processes_230 : decode cX12_processes 230 = .ok (.iastore, 1) := dk_79 (dk_at dksX12_processes_9 23 rfl rfl)
theorem dX12_processes_231 : decode cX12_processes 231 = .ok (.aload 6, 2) := dk_25 6 (dk_at dksX12_processes_10 0 rfl rfl)
theorem dX12_processes_233 : decode cX12_processes 233 = .ok (.iload 7, 2) := dk_21 7 (dk_at dksX12_processes_10 2 rfl rfl)
theorem dX12_processes_235 : decode cX12_processes 235 = .ok (.iconst 0, 1) := dk_3 (dk_at dksX12_processes_10 4 rfl rfl)
theorem dX12_processes_236 : decode cX12_processes 236 = .ok (.iastore, 1) := dk_79 (dk_at dksX12_processes_10 5 rfl rfl)
theorem dX12_processes_237 : decode cX12_processes 237 = .ok (.goto 121, 3) := dk_167 0 121 (dk_at dksX12_processes_10 6 rfl rfl)
theorem dX12_processes_240 : decode cX12_processes 240 = .ok (.iload 8, 2) := dk_21 8 (dk_at dksX12_processes_10 9 rfl rfl)
theorem dX12_processes_242 : decode cX12_processes 242 = .ok (.ifCond .eq 12, 3) := dk_153 0 12 (dk_at dksX12_processes_10 11 rfl rfl)
theorem dX12_processes_245 : decode cX12_processes 245 = .ok (.iload_n 3, 1) := dk_29 (dk_at dksX12_processes_10 14 rfl rfl)
theorem dX12_processes_246 : decode cX12_processes 246 = .ok (.aload 5, 2) := dk_25 5 (dk_at dksX12_processes_10 15 rfl rfl)
theorem dX12_processes_248 : decode cX12_processes 248 = .ok (.iload 7, 2) := dk_21 7 (dk_at dksX12_processes_10 17 rfl rfl)
theorem dX12_processes_250 : decode cX12_processes 250 = .ok (.iaload, 1) := dk_46 (dk_at dksX12_processes_10 19 rfl rfl)
theorem dX12_processes_251 : decode cX12_processes 251 = .ok (.if_icmp .le 15, 3) := dk_164 0 15 (dk_at dksX12_processes_10 20 rfl rfl)
theorem dX12_processes_254 : decode cX12_processes 254 = .ok (.aload_n 0, 1) := dk_42 (dk_at dksX12_processes_10 23 rfl rfl)
theorem dX12_processes_255 : decode cX12_processes 255 = .ok (.iload_n 2, 1) := dk_28 (dk_at dksX12_processes_11 0 rfl rfl)
theorem dX12_processes_256 : decode cX12_processes 256 = .ok (.iload_n 3, 1) := dk_29 (dk_at dksX12_processes_11 1 rfl rfl)
theorem dX12_processes_257 : decode cX12_processes 257 = .ok (.invokevirtual 294, 3) := dk_182 1 38 (dk_at dksX12_processes_11 2 rfl rfl)
theorem dX12_processes_260 : decode cX12_processes 260 = .ok (.aload 5, 2) := dk_25 5 (dk_at dksX12_processes_11 5 rfl rfl)
theorem dX12_processes_262 : decode cX12_processes 262 = .ok (.iload 7, 2) := dk_21 7 (dk_at dksX12_processes_11 7 rfl rfl)
theorem dX12_processes_264 : decode cX12_processes 264 = .ok (.iload_n 3, 1) := dk_29 (dk_at dksX12_processes_11 9 rfl rfl)
theorem dX12_processes_265 : decode cX12_processes 265 = .ok (.iastore, 1) := dk_79 (dk_at dksX12_processes_11 10 rfl rfl)
theorem dX12_processes_266 : decode cX12_processes 266 = .ok (.aload 6, 2) := dk_25 6 (dk_at dksX12_processes_11 11 rfl rfl)
theorem dX12_processes_268 : decode cX12_processes 268 = .ok (.iload 7, 2) := dk_21 7 (dk_at dksX12_processes_11 13 rfl rfl)
theorem dX12_processes_270 : decode cX12_processes 270 = .ok (.iconst 0, 1) := dk_3 (dk_at dksX12_processes_11 15 rfl rfl)
theorem dX12_processes_271 : decode cX12_processes 271 = .ok (.iastore, 1) := dk_79 (dk_at dksX12_processes_11 16 rfl rfl)
theorem dX12_processes_272 : decode cX12_processes 272 = .ok (.goto 86, 3) := dk_167 0 86 (dk_at dksX12_processes_11 17 rfl rfl)
theorem dX12_processes_275 : decode cX12_processes 275 = .ok (.aload 5, 2) := dk_25 5 (dk_at dksX12_processes_11 20 rfl rfl)
theorem dX12_processes_277 : decode cX12_processes 277 = .ok (.iload 7, 2) := dk_21 7 (dk_at dksX12_processes_11 22 rfl rfl)
theorem dX12_processes_279 : decode cX12_processes 279 = .ok (.iload 8, 2) := dk_21 8 (dk_at dksX12_processes_12 0 rfl rfl)
theorem dX12_processes_281 : decode cX12_processes 281 = .ok (.ifCond .eq 13, 3) := dk_153 0 13 (dk_at dksX12_processes_12 2 rfl rfl)
theorem dX12_processes_284 : decode cX12_processes 284 = .ok (.aload 5, 2) := dk_25 5 (dk_at dksX12_processes_12 5 rfl rfl)
theorem dX12_processes_286 : decode cX12_processes 286 = .ok (.iload 7, 2) := dk_21 7 (dk_at dksX12_processes_12 7 rfl rfl)
theorem dX12_processes_288 : decode cX12_processes 288 = .ok (.iaload, 1) := dk_46 (dk_at dksX12_processes_12 9 rfl rfl)
theorem dX12_processes_289 : decode cX12_processes 289 = .ok (.iload_n 3, 1) := dk_29 (dk_at dksX12_processes_12 10 rfl rfl)
theorem dX12_processes_290 : decode cX12_processes 290 = .ok (.iadd, 1) := dk_96 (dk_at dksX12_processes_12 11 rfl rfl)
theorem dX12_processes_291 : decode cX12_processes 291 = .ok (.goto 4, 3) := dk_167 0 4 (dk_at dksX12_processes_12 12 rfl rfl)
theorem dX12_processes_294 : decode cX12_processes 294 = .ok (.iload_n 3, 1) := dk_29 (dk_at dksX12_processes_12 15 rfl rfl)
theorem dX12_processes_295 : decode cX12_processes 295 = .ok (.iastore, 1) := dk_79 (dk_at dksX12_processes_12 16 rfl rfl)
theorem dX12_processes_296 : decode cX12_processes 296 = .ok (.aload 6, 2) := dk_25 6 (dk_at dksX12_processes_12 17 rfl rfl)
theorem dX12_processes_298 : decode cX12_processes 298 = .ok (.iload 7, 2) := dk_21 7 (dk_at dksX12_processes_12 19 rfl rfl)
theorem dX12_processes_300 : decode cX12_processes 300 = .ok (.iload 8, 2) := dk_21 8 (dk_at dksX12_processes_12 21 rfl rfl)
theorem dX12_processes_302 : decode cX12_processes 302 = .ok (.ifCond .eq 13, 3) := dk_153 0 13 (dk_at dksX12_processes_13 0 rfl rfl)
theorem dX12_processes_305 : decode cX12_processes 305 = .ok (.aload 6, 2) := dk_25 6 (dk_at dksX12_processes_13 3 rfl rfl)
theorem dX12_processes_307 : decode cX12_processes 307 = .ok (.iload 7, 2) := dk_21 7 (dk_at dksX12_processes_13 5 rfl rfl)
theorem dX12_processes_309 : decode cX12_processes 309 = .ok (.iaload, 1) := dk_46 (dk_at dksX12_processes_13 7 rfl rfl)
theorem dX12_processes_310 : decode cX12_processes 310 = .ok (.iconst 1, 1) := dk_4 (dk_at dksX12_processes_13 8 rfl rfl)
theorem dX12_processes_311 : decode cX12_processes 311 = .ok (.iadd, 1) := dk_96 (dk_at dksX12_processes_13 9 rfl rfl)
theorem dX12_processes_312 : decode cX12_processes 312 = .ok (.goto 4, 3) := dk_167 0 4 (dk_at dksX12_processes_13 10 rfl rfl)
theorem dX12_processes_315 : decode cX12_processes 315 = .ok (.iconst 1, 1) := dk_4 (dk_at dksX12_processes_13 13 rfl rfl)
theorem dX12_processes_316 : decode cX12_processes 316 = .ok (.iastore, 1) := dk_79 (dk_at dksX12_processes_13 14 rfl rfl)
theorem dX12_processes_317 : decode cX12_processes 317 = .ok (.aload_n 0, 1) := dk_42 (dk_at dksX12_processes_13 15 rfl rfl)
theorem dX12_processes_318 : decode cX12_processes 318 = .ok (.getfield 13, 3) := dk_180 0 13 (dk_at dksX12_processes_13 16 rfl rfl)
theorem dX12_processes_321 : decode cX12_processes 321 = .ok (.iload_n 1, 1) := dk_27 (dk_at dksX12_processes_13 19 rfl rfl)
theorem dX12_processes_322 : decode cX12_processes 322 = .ok (.iaload, 1) := dk_46 (dk_at dksX12_processes_13 20 rfl rfl)
theorem dX12_processes_323 : decode cX12_processes 323 = .ok (.iconst 4, 1) := dk_7 (dk_at dksX12_processes_13 21 rfl rfl)
theorem dX12_processes_324 : decode cX12_processes 324 = .ok (.if_icmp .ne 34, 3) := dk_160 0 34 (dk_at dksX12_processes_14 0 rfl rfl)
theorem dX12_processes_327 : decode cX12_processes 327 = .ok (.aload 6, 2) := dk_25 6 (dk_at dksX12_processes_14 3 rfl rfl)
theorem dX12_processes_329 : decode cX12_processes 329 = .ok (.iload 7, 2) := dk_21 7 (dk_at dksX12_processes_14 5 rfl rfl)
theorem dX12_processes_331 : decode cX12_processes 331 = .ok (.iaload, 1) := dk_46 (dk_at dksX12_processes_14 7 rfl rfl)
theorem dX12_processes_332 : decode cX12_processes 332 = .ok (.aload_n 0, 1) := dk_42 (dk_at dksX12_processes_14 8 rfl rfl)
theorem dX12_processes_333 : decode cX12_processes 333 = .ok (.getfield 16, 3) := dk_180 0 16 (dk_at dksX12_processes_14 9 rfl rfl)
theorem dX12_processes_336 : decode cX12_processes 336 = .ok (.iload_n 1, 1) := dk_27 (dk_at dksX12_processes_14 12 rfl rfl)
theorem dX12_processes_337 : decode cX12_processes 337 = .ok (.iaload, 1) := dk_46 (dk_at dksX12_processes_14 13 rfl rfl)
theorem dX12_processes_338 : decode cX12_processes 338 = .ok (.if_icmp .ne 20, 3) := dk_160 0 20 (dk_at dksX12_processes_14 14 rfl rfl)
theorem dX12_processes_341 : decode cX12_processes 341 = .ok (.aload_n 0, 1) := dk_42 (dk_at dksX12_processes_14 17 rfl rfl)
theorem dX12_processes_342 : decode cX12_processes 342 = .ok (.iload_n 2, 1) := dk_28 (dk_at dksX12_processes_14 18 rfl rfl)
theorem dX12_processes_343 : decode cX12_processes 343 = .ok (.aload 5, 2) := dk_25 5 (dk_at dksX12_processes_14 19 rfl rfl)
theorem dX12_processes_345 : decode cX12_processes 345 = .ok (.iload 7, 2) := dk_21 7 (dk_at dksX12_processes_14 21 rfl rfl)
theorem dX12_processes_347 : decode cX12_processes 347 = .ok (.iaload, 1) := dk_46 (dk_at dksX12_processes_14 23 rfl rfl)
theorem dX12_processes_348 : decode cX12_processes 348 = .ok (.invokevirtual 294, 3) := dk_182 1 38 (dk_at dksX12_processes_15 0 rfl rfl)
theorem dX12_processes_351 : decode cX12_processes 351 = .ok (.aload 4, 2) := dk_25 4 (dk_at dksX12_processes_15 3 rfl rfl)
theorem dX12_processes_353 : decode cX12_processes 353 = .ok (.iload 7, 2) := dk_21 7 (dk_at dksX12_processes_15 5 rfl rfl)
theorem dX12_processes_355 : decode cX12_processes 355 = .ok (.iconst 0, 1) := dk_3 (dk_at dksX12_processes_15 7 rfl rfl)
theorem dX12_processes_356 : decode cX12_processes 356 = .ok (.bastore, 1) := dk_84 (dk_at dksX12_processes_15 8 rfl rfl)
theorem dX12_processes_357 : decode cX12_processes 357 = .ok (.return_, 1) := dk_177 (dk_at dksX12_processes_15 9 rfl rfl)
theorem dX12_processes_358 : decode cX12_processes 358 = .ok (.aload 4, 2) := dk_25 4 (dk_at dksX12_processes_15 10 rfl rfl)
theorem dX12_processes_360 : decode cX12_processes 360 = .ok (.iload 7, 2) := dk_21 7 (dk_at dksX12_processes_15 12 rfl rfl)
theorem dX12_processes_362 : decode cX12_processes 362 = .ok (.iconst 1, 1) := dk_4 (dk_at dksX12_processes_15 14 rfl rfl)
theorem dX12_processes_363 : decode cX12_processes 363 = .ok (.bastore, 1) := dk_84 (dk_at dksX12_processes_15 15 rfl rfl)
theorem dX12_processes_364 : decode cX12_processes 364 = .ok (.return_, 1) := dk_177 (dk_at dksX12_processes_15 16 rfl rfl)
abbrev cX12_gives : ByteArray := prog_27_method_31_code
def yX12_gives : MethodName := ⟨RX12, "gives", "(II)V"⟩
def dkwX12_gives_1 : List UInt8 := [180, 1, 35, 4, 96, 181, 1, 35, 177]
abbrev dktX12_gives_1 : List UInt8 := dkwX12_gives_1 ++ []
def dkwX12_gives_0 : List UInt8 := [42, 180, 0, 163, 42, 180, 1, 35, 27, 79, 42, 180, 0, 166, 42, 180, 1, 35, 28, 79, 42, 89]
abbrev dktX12_gives_0 : List UInt8 := dkwX12_gives_0 ++ dktX12_gives_1
theorem dksX12_gives_0 : cX12_gives.data.toList.drop 0 = dktX12_gives_0 := by decide +kernel
theorem dksX12_gives_1 : cX12_gives.data.toList.drop 22 = dktX12_gives_1 := dk_seg dksX12_gives_0 22 rfl rfl
theorem dX12_gives_0 : decode cX12_gives 0 = .ok (.aload_n 0, 1) := dk_42 (dk_at dksX12_gives_0 0 rfl rfl)
theorem dX12_gives_1 : decode cX12_gives 1 = .ok (.getfield 163, 3) := dk_180 0 163 (dk_at dksX12_gives_0 1 rfl rfl)
theorem dX12_gives_4 : decode cX12_gives 4 = .ok (.aload_n 0, 1) := dk_42 (dk_at dksX12_gives_0 4 rfl rfl)
theorem dX12_gives_5 : decode cX12_gives 5 = .ok (.getfield 291, 3) := dk_180 1 35 (dk_at dksX12_gives_0 5 rfl rfl)
theorem dX12_gives_8 : decode cX12_gives 8 = .ok (.iload_n 1, 1) := dk_27 (dk_at dksX12_gives_0 8 rfl rfl)
theorem dX12_gives_9 : decode cX12_gives 9 = .ok (.iastore, 1) := dk_79 (dk_at dksX12_gives_0 9 rfl rfl)
theorem dX12_gives_10 : decode cX12_gives 10 = .ok (.aload_n 0, 1) := dk_42 (dk_at dksX12_gives_0 10 rfl rfl)
theorem dX12_gives_11 : decode cX12_gives 11 = .ok (.getfield 166, 3) := dk_180 0 166 (dk_at dksX12_gives_0 11 rfl rfl)
theorem dX12_gives_14 : decode cX12_gives 14 = .ok (.aload_n 0, 1) := dk_42 (dk_at dksX12_gives_0 14 rfl rfl)
theorem dX12_gives_15 : decode cX12_gives 15 = .ok (.getfield 291, 3) := dk_180 1 35 (dk_at dksX12_gives_0 15 rfl rfl)
theorem dX12_gives_18 : decode cX12_gives 18 = .ok (.iload_n 2, 1) := dk_28 (dk_at dksX12_gives_0 18 rfl rfl)
theorem dX12_gives_19 : decode cX12_gives 19 = .ok (.iastore, 1) := dk_79 (dk_at dksX12_gives_0 19 rfl rfl)
theorem dX12_gives_20 : decode cX12_gives 20 = .ok (.aload_n 0, 1) := dk_42 (dk_at dksX12_gives_0 20 rfl rfl)
theorem dX12_gives_21 : decode cX12_gives 21 = .ok (.dup, 1) := dk_89 (dk_at dksX12_gives_0 21 rfl rfl)
theorem dX12_gives_22 : decode cX12_gives 22 = .ok (.getfield 291, 3) := dk_180 1 35 (dk_at dksX12_gives_1 0 rfl rfl)
theorem dX12_gives_25 : decode cX12_gives 25 = .ok (.iconst 1, 1) := dk_4 (dk_at dksX12_gives_1 3 rfl rfl)
theorem dX12_gives_26 : decode cX12_gives 26 = .ok (.iadd, 1) := dk_96 (dk_at dksX12_gives_1 4 rfl rfl)
theorem dX12_gives_27 : decode cX12_gives 27 = .ok (.putfield 291, 3) := dk_181 1 35 (dk_at dksX12_gives_1 5 rfl rfl)
theorem dX12_gives_30 : decode cX12_gives 30 = .ok (.return_, 1) := dk_177 (dk_at dksX12_gives_1 8 rfl rfl)
abbrev cX12_rest : ByteArray := prog_27_method_32_code
def yX12_rest : MethodName := ⟨RX12, "rest", "(I)I"⟩
def dkwX12_rest_0 : List UInt8 := [26, 16, 16, 112, 60, 27, 156, 0, 10, 27, 16, 16, 96, 167, 0, 4, 27, 172]
abbrev dktX12_rest_0 : List UInt8 := dkwX12_rest_0 ++ []
theorem dksX12_rest_0 : cX12_rest.data.toList.drop 0 = dktX12_rest_0 := by decide +kernel
theorem dX12_rest_0 : decode cX12_rest 0 = .ok (.iload_n 0, 1) := dk_26 (dk_at dksX12_rest_0 0 rfl rfl)
theorem dX12_rest_1 : decode cX12_rest 1 = .ok (.bipush 16, 2) := dk_16 16 (dk_at dksX12_rest_0 1 rfl rfl)
theorem dX12_rest_3 : decode cX12_rest 3 = .ok (.irem, 1) := dk_112 (dk_at dksX12_rest_0 3 rfl rfl)
theorem dX12_rest_4 : decode cX12_rest 4 = .ok (.istore_n 1, 1) := dk_60 (dk_at dksX12_rest_0 4 rfl rfl)
theorem dX12_rest_5 : decode cX12_rest 5 = .ok (.iload_n 1, 1) := dk_27 (dk_at dksX12_rest_0 5 rfl rfl)
theorem dX12_rest_6 : decode cX12_rest 6 = .ok (.ifCond .ge 10, 3) := dk_156 0 10 (dk_at dksX12_rest_0 6 rfl rfl)
theorem dX12_rest_9 : decode cX12_rest 9 = .ok (.iload_n 1, 1) := dk_27 (dk_at dksX12_rest_0 9 rfl rfl)
theorem dX12_rest_10 : decode cX12_rest 10 = .ok (.bipush 16, 2) := dk_16 16 (dk_at dksX12_rest_0 10 rfl rfl)
theorem dX12_rest_12 : decode cX12_rest 12 = .ok (.iadd, 1) := dk_96 (dk_at dksX12_rest_0 12 rfl rfl)
theorem dX12_rest_13 : decode cX12_rest 13 = .ok (.goto 4, 3) := dk_167 0 4 (dk_at dksX12_rest_0 13 rfl rfl)
theorem dX12_rest_16 : decode cX12_rest 16 = .ok (.iload_n 1, 1) := dk_27 (dk_at dksX12_rest_0 16 rfl rfl)
theorem dX12_rest_17 : decode cX12_rest 17 = .ok (.ireturn, 1) := dk_172 (dk_at dksX12_rest_0 17 rfl rfl)
abbrev cX12_isQuiet : ByteArray := prog_27_method_47_code
def yX12_isQuiet : MethodName := ⟨RX12, "isQuiet", "()I"⟩
def dkwX12_isQuiet_0 : List UInt8 := [42, 182, 1, 114, 153, 0, 7, 4, 167, 0, 4, 3, 172]
abbrev dktX12_isQuiet_0 : List UInt8 := dkwX12_isQuiet_0 ++ []
theorem dksX12_isQuiet_0 : cX12_isQuiet.data.toList.drop 0 = dktX12_isQuiet_0 := by decide +kernel
theorem dX12_isQuiet_0 : decode cX12_isQuiet 0 = .ok (.aload_n 0, 1) := dk_42 (dk_at dksX12_isQuiet_0 0 rfl rfl)
theorem dX12_isQuiet_1 : decode cX12_isQuiet 1 = .ok (.invokevirtual 370, 3) := dk_182 1 114 (dk_at dksX12_isQuiet_0 1 rfl rfl)
theorem dX12_isQuiet_4 : decode cX12_isQuiet 4 = .ok (.ifCond .eq 7, 3) := dk_153 0 7 (dk_at dksX12_isQuiet_0 4 rfl rfl)
theorem dX12_isQuiet_7 : decode cX12_isQuiet 7 = .ok (.iconst 1, 1) := dk_4 (dk_at dksX12_isQuiet_0 7 rfl rfl)
theorem dX12_isQuiet_8 : decode cX12_isQuiet 8 = .ok (.goto 4, 3) := dk_167 0 4 (dk_at dksX12_isQuiet_0 8 rfl rfl)
theorem dX12_isQuiet_11 : decode cX12_isQuiet 11 = .ok (.iconst 0, 1) := dk_3 (dk_at dksX12_isQuiet_0 11 rfl rfl)
theorem dX12_isQuiet_12 : decode cX12_isQuiet 12 = .ok (.ireturn, 1) := dk_172 (dk_at dksX12_isQuiet_0 12 rfl rfl)
abbrev cX12_checkpoint : ByteArray := prog_27_method_48_code
def yX12_checkpoint : MethodName := ⟨RX12, "checkpoint", "()I"⟩
def dkwX12_checkpoint_4 : List UInt8 := [42, 180, 0, 87, 3, 42, 180, 0, 84, 3, 46, 79, 42, 180, 0, 111, 3, 4, 84, 42, 180, 1, 12, 172]
abbrev dktX12_checkpoint_4 : List UInt8 := dkwX12_checkpoint_4 ++ []
def dkwX12_checkpoint_3 : List UInt8 := [162, 0, 16, 42, 180, 0, 87, 27, 3, 79, 132, 1, 1, 167, 255, 240, 42, 42, 180, 1, 15, 181, 1, 56]
abbrev dktX12_checkpoint_3 : List UInt8 := dkwX12_checkpoint_3 ++ dktX12_checkpoint_4
def dkwX12_checkpoint_2 : List UInt8 := [180, 0, 69, 27, 3, 79, 42, 180, 0, 78, 27, 3, 79, 132, 1, 1, 167, 255, 226, 3, 60, 27, 16, 18]
abbrev dktX12_checkpoint_2 : List UInt8 := dkwX12_checkpoint_2 ++ dktX12_checkpoint_3
def dkwX12_checkpoint_1 : List UInt8 := [181, 1, 3, 42, 3, 181, 1, 62, 3, 60, 27, 16, 96, 162, 0, 30, 42, 180, 0, 60, 27, 3, 84, 42]
abbrev dktX12_checkpoint_1 : List UInt8 := dkwX12_checkpoint_1 ++ dktX12_checkpoint_2
def dkwX12_checkpoint_0 : List UInt8 := [42, 180, 1, 12, 158, 0, 7, 19, 1, 120, 172, 42, 42, 180, 0, 253, 4, 96, 181, 1, 12, 42, 4]
abbrev dktX12_checkpoint_0 : List UInt8 := dkwX12_checkpoint_0 ++ dktX12_checkpoint_1
theorem dksX12_checkpoint_0 : cX12_checkpoint.data.toList.drop 0 = dktX12_checkpoint_0 := by decide +kernel
theorem dksX12_checkpoint_1 : cX12_checkpoint.data.toList.drop 23 = dktX12_checkpoint_1 := dk_seg dksX12_checkpoint_0 23 rfl rfl
theorem dksX12_checkpoint_2 : cX12_checkpoint.data.toList.drop 47 = dktX12_checkpoint_2 := dk_seg dksX12_checkpoint_1 24 rfl rfl
theorem dksX12_checkpoint_3 : cX12_checkpoint.data.toList.drop 71 = dktX12_checkpoint_3 := dk_seg dksX12_checkpoint_2 24 rfl rfl
theorem dksX12_checkpoint_4 : cX12_checkpoint.data.toList.drop 95 = dktX12_checkpoint_4 := dk_seg dksX12_checkpoint_3 24 rfl rfl
theorem dX12_checkpoint_0 : decode cX12_checkpoint 0 = .ok (.aload_n 0, 1) := dk_42 (dk_at dksX12_checkpoint_0 0 rfl rfl)
theorem dX12_checkpoint_1 : decode cX12_checkpoint 1 = .ok (.getfield 268, 3) := dk_180 1 12 (dk_at dksX12_checkpoint_0 1 rfl rfl)
theorem dX12_checkpoint_4 : decode cX12_checkpoint 4 = .ok (.ifCond .le 7, 3) := dk_158 0 7 (dk_at dksX12_checkpoint_0 4 rfl rfl)
theorem dX12_checkpoint_7 : decode cX12_checkpoint 7 = .ok (.ldc_w 376, 3) := dk_19 1 120 (dk_at dksX12_checkpoint_0 7 rfl rfl)
theorem dX12_checkpoint_10 : decode cX12_checkpoint 10 = .ok (.ireturn, 1) := dk_172 (dk_at dksX12_checkpoint_0 10 rfl rfl)
theorem dX12_checkpoint_11 : decode cX12_checkpoint 11 = .ok (.aload_n 0, 1) := dk_42 (dk_at dksX12_checkpoint_0 11 rfl rfl)
theorem dX12_checkpoint_12 : decode cX12_checkpoint 12 = .ok (.aload_n 0, 1) := dk_42 (dk_at dksX12_checkpoint_0 12 rfl rfl)
theorem dX12_checkpoint_13 : decode cX12_checkpoint 13 = .ok (.getfield 253, 3) := dk_180 0 253 (dk_at dksX12_checkpoint_0 13 rfl rfl)
theorem dX12_checkpoint_16 : decode cX12_checkpoint 16 = .ok (.iconst 1, 1) := dk_4 (dk_at dksX12_checkpoint_0 16 rfl rfl)
theorem dX12_checkpoint_17 : decode cX12_checkpoint 17 = .ok (.iadd, 1) := dk_96 (dk_at dksX12_checkpoint_0 17 rfl rfl)
theorem dX12_checkpoint_18 : decode cX12_checkpoint 18 = .ok (.putfield 268, 3) := dk_181 1 12 (dk_at dksX12_checkpoint_0 18 rfl rfl)
theorem dX12_checkpoint_21 : decode cX12_checkpoint 21 = .ok (.aload_n 0, 1) := dk_42 (dk_at dksX12_checkpoint_0 21 rfl rfl)
theorem dX12_checkpoint_22 : decode cX12_checkpoint 22 = .ok (.iconst 1, 1) := dk_4 (dk_at dksX12_checkpoint_0 22 rfl rfl)
theorem dX12_checkpoint_23 : decode cX12_checkpoint 23 = .ok (.putfield 259, 3) := dk_181 1 3 (dk_at dksX12_checkpoint_1 0 rfl rfl)
theorem dX12_checkpoint_26 : decode cX12_checkpoint 26 = .ok (.aload_n 0, 1) := dk_42 (dk_at dksX12_checkpoint_1 3 rfl rfl)
theorem dX12_checkpoint_27 : decode cX12_checkpoint 27 = .ok (.iconst 0, 1) := dk_3 (dk_at dksX12_checkpoint_1 4 rfl rfl)
theorem dX12_checkpoint_28 : decode cX12_checkpoint 28 = .ok (.putfield 318, 3) := dk_181 1 62 (dk_at dksX12_checkpoint_1 5 rfl rfl)
theorem dX12_checkpoint_31 : decode cX12_checkpoint 31 = .ok (.iconst 0, 1) := dk_3 (dk_at dksX12_checkpoint_1 8 rfl rfl)
theorem dX12_checkpoint_32 : decode cX12_checkpoint 32 = .ok (.istore_n 1, 1) := dk_60 (dk_at dksX12_checkpoint_1 9 rfl rfl)
theorem dX12_checkpoint_33 : decode cX12_checkpoint 33 = .ok (.iload_n 1, 1) := dk_27 (dk_at dksX12_checkpoint_1 10 rfl rfl)
theorem dX12_checkpoint_34 : decode cX12_checkpoint 34 = .ok (.bipush 96, 2) := dk_16 96 (dk_at dksX12_checkpoint_1 11 rfl rfl)
theorem dX12_checkpoint_36 : decode cX12_checkpoint 36 = .ok (.if_icmp .ge 30, 3) := dk_162 0 30 (dk_at dksX12_checkpoint_1 13 rfl rfl)
theorem dX12_checkpoint_39 : decode cX12_checkpoint 39 = .ok (.aload_n 0, 1) := dk_42 (dk_at dksX12_checkpoint_1 16 rfl rfl)
theorem dX12_checkpoint_40 : decode cX12_checkpoint 40 = .ok (.getfield 60, 3) := dk_180 0 60 (dk_at dksX12_checkpoint_1 17 rfl rfl)
theorem dX12_checkpoint_43 : decode cX12_checkpoint 43 = .ok (.iload_n 1, 1) := dk_27 (dk_at dksX12_checkpoint_1 20 rfl rfl)
theorem dX12_checkpoint_44 : decode cX12_checkpoint 44 = .ok (.iconst 0, 1) := dk_3 (dk_at dksX12_checkpoint_1 21 rfl rfl)
theorem dX12_checkpoint_45 : decode cX12_checkpoint 45 = .ok (.bastore, 1) := dk_84 (dk_at dksX12_checkpoint_1 22 rfl rfl)
theorem dX12_checkpoint_46 : decode cX12_checkpoint 46 = .ok (.aload_n 0, 1) := dk_42 (dk_at dksX12_checkpoint_1 23 rfl rfl)
theorem dX12_checkpoint_47 : decode cX12_checkpoint 47 = .ok (.getfield 69, 3) := dk_180 0 69 (dk_at dksX12_checkpoint_2 0 rfl rfl)
theorem dX12_checkpoint_50 : decode cX12_checkpoint 50 = .ok (.iload_n 1, 1) := dk_27 (dk_at dksX12_checkpoint_2 3 rfl rfl)
theorem dX12_checkpoint_51 : decode cX12_checkpoint 51 = .ok (.iconst 0, 1) := dk_3 (dk_at dksX12_checkpoint_2 4 rfl rfl)
theorem dX12_checkpoint_52 : decode cX12_checkpoint 52 = .ok (.iastore, 1) := dk_79 (dk_at dksX12_checkpoint_2 5 rfl rfl)
theorem dX12_checkpoint_53 : decode cX12_checkpoint 53 = .ok (.aload_n 0, 1) := dk_42 (dk_at dksX12_checkpoint_2 6 rfl rfl)
theorem dX12_checkpoint_54 : decode cX12_checkpoint 54 = .ok (.getfield 78, 3) := dk_180 0 78 (dk_at dksX12_checkpoint_2 7 rfl rfl)
theorem dX12_checkpoint_57 : decode cX12_checkpoint 57 = .ok (.iload_n 1, 1) := dk_27 (dk_at dksX12_checkpoint_2 10 rfl rfl)
theorem dX12_checkpoint_58 : decode cX12_checkpoint 58 = .ok (.iconst 0, 1) := dk_3 (dk_at dksX12_checkpoint_2 11 rfl rfl)
theorem dX12_checkpoint_59 : decode cX12_checkpoint 59 = .ok (.iastore, 1) := dk_79 (dk_at dksX12_checkpoint_2 12 rfl rfl)
theorem dX12_checkpoint_60 : decode cX12_checkpoint 60 = .ok (.iinc 1 1, 3) := dk_132 1 1 (dk_at dksX12_checkpoint_2 13 rfl rfl)
theorem dX12_checkpoint_63 : decode cX12_checkpoint 63 = .ok (.goto (-30), 3) := dk_167 255 226 (dk_at dksX12_checkpoint_2 16 rfl rfl)
theorem dX12_checkpoint_66 : decode cX12_checkpoint 66 = .ok (.iconst 0, 1) := dk_3 (dk_at dksX12_checkpoint_2 19 rfl rfl)
theorem dX12_checkpoint_67 : decode cX12_checkpoint 67 = .ok (.istore_n 1, 1) := dk_60 (dk_at dksX12_checkpoint_2 20 rfl rfl)
theorem dX12_checkpoint_68 : decode cX12_checkpoint 68 = .ok (.iload_n 1, 1) := dk_27 (dk_at dksX12_checkpoint_2 21 rfl rfl)
theorem dX12_checkpoint_69 : decode cX12_checkpoint 69 = .ok (.bipush 18, 2) := dk_16 18 (dk_at dksX12_checkpoint_2 22 rfl rfl)
theorem dX12_checkpoint_71 : decode cX12_checkpoint 71 = .ok (.if_icmp .ge 16, 3) := dk_162 0 16 (dk_at dksX12_checkpoint_3 0 rfl rfl)
theorem dX12_checkpoint_74 : decode cX12_checkpoint 74 = .ok (.aload_n 0, 1) := dk_42 (dk_at dksX12_checkpoint_3 3 rfl rfl)
theorem dX12_checkpoint_75 : decode cX12_checkpoint 75 = .ok (.getfield 87, 3) := dk_180 0 87 (dk_at dksX12_checkpoint_3 4 rfl rfl)
theorem dX12_checkpoint_78 : decode cX12_checkpoint 78 = .ok (.iload_n 1, 1) := dk_27 (dk_at dksX12_checkpoint_3 7 rfl rfl)
theorem dX12_checkpoint_79 : decode cX12_checkpoint 79 = .ok (.iconst 0, 1) := dk_3 (dk_at dksX12_checkpoint_3 8 rfl rfl)
theorem dX12_checkpoint_80 : decode cX12_checkpoint 80 = .ok (.iastore, 1) := dk_79 (dk_at dksX12_checkpoint_3 9 rfl rfl)
theorem dX12_checkpoint_81 : decode cX12_checkpoint 81 = .ok (.iinc 1 1, 3) := dk_132 1 1 (dk_at dksX12_checkpoint_3 10 rfl rfl)
theorem dX12_checkpoint_84 : decode cX12_checkpoint 84 = .ok (.goto (-16), 3) := dk_167 255 240 (dk_at dksX12_checkpoint_3 13 rfl rfl)
theorem dX12_checkpoint_87 : decode cX12_checkpoint 87 = .ok (.aload_n 0, 1) := dk_42 (dk_at dksX12_checkpoint_3 16 rfl rfl)
theorem dX12_checkpoint_88 : decode cX12_checkpoint 88 = .ok (.aload_n 0, 1) := dk_42 (dk_at dksX12_checkpoint_3 17 rfl rfl)
theorem dX12_checkpoint_89 : decode cX12_checkpoint 89 = .ok (.getfield 271, 3) := dk_180 1 15 (dk_at dksX12_checkpoint_3 18 rfl rfl)
theorem dX12_checkpoint_92 : decode cX12_checkpoint 92 = .ok (.putfield 312, 3) := dk_181 1 56 (dk_at dksX12_checkpoint_3 21 rfl rfl)
theorem dX12_checkpoint_95 : decode cX12_checkpoint 95 = .ok (.aload_n 0, 1) := dk_42 (dk_at dksX12_checkpoint_4 0 rfl rfl)
theorem dX12_checkpoint_96 : decode cX12_checkpoint 96 = .ok (.getfield 87, 3) := dk_180 0 87 (dk_at dksX12_checkpoint_4 1 rfl rfl)
theorem dX12_checkpoint_99 : decode cX12_checkpoint 99 = .ok (.iconst 0, 1) := dk_3 (dk_at dksX12_checkpoint_4 4 rfl rfl)
theorem dX12_checkpoint_100 : decode cX12_checkpoint 100 = .ok (.aload_n 0, 1) := dk_42 (dk_at dksX12_checkpoint_4 5 rfl rfl)
theorem dX12_checkpoint_101 : decode cX12_checkpoint 101 = .ok (.getfield 84, 3) := dk_180 0 84 (dk_at dksX12_checkpoint_4 6 rfl rfl)
theorem dX12_checkpoint_104 : decode cX12_checkpoint 104 = .ok (.iconst 0, 1) := dk_3 (dk_at dksX12_checkpoint_4 9 rfl rfl)
theorem dX12_checkpoint_105 : decode cX12_checkpoint 105 = .ok (.iaload, 1) := dk_46 (dk_at dksX12_checkpoint_4 10 rfl rfl)
theorem dX12_checkpoint_106 : decode cX12_checkpoint 106 = .ok (.iastore, 1) := dk_79 (dk_at dksX12_checkpoint_4 11 rfl rfl)
theorem dX12_checkpoint_107 : decode cX12_checkpoint 107 = .ok (.aload_n 0, 1) := dk_42 (dk_at dksX12_checkpoint_4 12 rfl rfl)
theorem dX12_checkpoint_108 : decode cX12_checkpoint 108 = .ok (.getfield 111, 3) := dk_180 0 111 (dk_at dksX12_checkpoint_4 13 rfl rfl)
theorem dX12_checkpoint_111 : decode cX12_checkpoint 111 = .ok (.iconst 0, 1) := dk_3 (dk_at dksX12_checkpoint_4 16 rfl rfl)
theorem dX12_checkpoint_112 : decode cX12_checkpoint 112 = .ok (.iconst 1, 1) := dk_4 (dk_at dksX12_checkpoint_4 17 rfl rfl)
theorem dX12_checkpoint_113 : decode cX12_checkpoint 113 = .ok (.bastore, 1) := dk_84 (dk_at dksX12_checkpoint_4 18 rfl rfl)
theorem dX12_checkpoint_114 : decode cX12_checkpoint 114 = .ok (.aload_n 0, 1) := dk_42 (dk_at dksX12_checkpoint_4 19 rfl rfl)
theorem dX12_checkpoint_115 : decode cX12_checkpoint 115 = .ok (.getfield 268, 3) := dk_180 1 12 (dk_at dksX12_checkpoint_4 20 rfl rfl)
theorem dX12_checkpoint_118 : decode cX12_checkpoint 118 = .ok (.ireturn, 1) := dk_172 (dk_at dksX12_checkpoint_4 23 rfl rfl)
abbrev cX12_fail : ByteArray := prog_27_method_49_code
def yX12_fail : MethodName := ⟨RX12, "fail", "()I"⟩
def dkwX12_fail_0 : List UInt8 := [42, 89, 180, 1, 0, 4, 96, 181, 1, 0, 42, 182, 1, 9, 42, 180, 0, 253, 172]
abbrev dktX12_fail_0 : List UInt8 := dkwX12_fail_0 ++ []
theorem dksX12_fail_0 : cX12_fail.data.toList.drop 0 = dktX12_fail_0 := by decide +kernel
theorem dX12_fail_0 : decode cX12_fail 0 = .ok (.aload_n 0, 1) := dk_42 (dk_at dksX12_fail_0 0 rfl rfl)
theorem dX12_fail_1 : decode cX12_fail 1 = .ok (.dup, 1) := dk_89 (dk_at dksX12_fail_0 1 rfl rfl)
theorem dX12_fail_2 : decode cX12_fail 2 = .ok (.getfield 256, 3) := dk_180 1 0 (dk_at dksX12_fail_0 2 rfl rfl)
theorem dX12_fail_5 : decode cX12_fail 5 = .ok (.iconst 1, 1) := dk_4 (dk_at dksX12_fail_0 5 rfl rfl)
theorem dX12_fail_6 : decode cX12_fail 6 = .ok (.iadd, 1) := dk_96 (dk_at dksX12_fail_0 6 rfl rfl)
theorem dX12_fail_7 : decode cX12_fail 7 = .ok (.putfield 256, 3) := dk_181 1 0 (dk_at dksX12_fail_0 7 rfl rfl)
theorem dX12_fail_10 : decode cX12_fail 10 = .ok (.aload_n 0, 1) := dk_42 (dk_at dksX12_fail_0 10 rfl rfl)
theorem dX12_fail_11 : decode cX12_fail 11 = .ok (.invokevirtual 265, 3) := dk_182 1 9 (dk_at dksX12_fail_0 11 rfl rfl)
theorem dX12_fail_14 : decode cX12_fail 14 = .ok (.aload_n 0, 1) := dk_42 (dk_at dksX12_fail_0 14 rfl rfl)
theorem dX12_fail_15 : decode cX12_fail 15 = .ok (.getfield 253, 3) := dk_180 0 253 (dk_at dksX12_fail_0 15 rfl rfl)
theorem dX12_fail_18 : decode cX12_fail 18 = .ok (.ireturn, 1) := dk_172 (dk_at dksX12_fail_0 18 rfl rfl)
abbrev cX12_rescale : ByteArray := prog_27_method_50_code
def yX12_rescale : MethodName := ⟨RX12, "rescale", "(II)I"⟩
def dkwX12_rescale_6 : List UInt8 := [4, 167, 0, 4, 3, 96, 54, 4, 132, 5, 1, 167, 255, 193, 21, 4, 172]
abbrev dktX12_rescale_6 : List UInt8 := dkwX12_rescale_6 ++ []
def dkwX12_rescale_5 : List UInt8 := [51, 153, 0, 27, 21, 5, 16, 8, 112, 29, 104, 16, 8, 108, 42, 27, 21, 5, 182, 1, 29, 159, 0, 7]
abbrev dktX12_rescale_5 : List UInt8 := dkwX12_rescale_5 ++ dktX12_rescale_6
def dkwX12_rescale_4 : List UInt8 := [162, 0, 62, 42, 27, 182, 1, 25, 153, 0, 54, 21, 4, 42, 180, 0, 56, 16, 16, 27, 104, 21, 5, 96]
abbrev dktX12_rescale_4 : List UInt8 := dkwX12_rescale_4 ++ dktX12_rescale_5
def dkwX12_rescale_3 : List UInt8 := [167, 255, 235, 42, 180, 0, 22, 27, 28, 79, 42, 182, 1, 9, 3, 54, 4, 3, 54, 5, 21, 5, 16, 16]
abbrev dktX12_rescale_3 : List UInt8 := dkwX12_rescale_3 ++ dktX12_rescale_4
def dkwX12_rescale_2 : List UInt8 := [54, 4, 21, 4, 6, 162, 0, 21, 42, 180, 0, 90, 27, 21, 4, 184, 1, 32, 3, 79, 132, 4, 1]
abbrev dktX12_rescale_2 : List UInt8 := dkwX12_rescale_2 ++ dktX12_rescale_3
def dkwX12_rescale_1 : List UInt8 := [154, 0, 6, 18, 207, 172, 42, 89, 180, 1, 0, 4, 96, 181, 1, 0, 42, 180, 0, 22, 27, 46, 62, 3]
abbrev dktX12_rescale_1 : List UInt8 := dkwX12_rescale_1 ++ dktX12_rescale_2
def dkwX12_rescale_0 : List UInt8 := [42, 27, 182, 1, 121, 153, 0, 7, 27, 154, 0, 7, 19, 1, 53, 172, 28, 4, 6, 184, 0, 203]
abbrev dktX12_rescale_0 : List UInt8 := dkwX12_rescale_0 ++ dktX12_rescale_1
theorem dksX12_rescale_0 : cX12_rescale.data.toList.drop 0 = dktX12_rescale_0 := by decide +kernel
theorem dksX12_rescale_1 : cX12_rescale.data.toList.drop 22 = dktX12_rescale_1 := dk_seg dksX12_rescale_0 22 rfl rfl
theorem dksX12_rescale_2 : cX12_rescale.data.toList.drop 46 = dktX12_rescale_2 := dk_seg dksX12_rescale_1 24 rfl rfl
theorem dksX12_rescale_3 : cX12_rescale.data.toList.drop 69 = dktX12_rescale_3 := dk_seg dksX12_rescale_2 23 rfl rfl
theorem dksX12_rescale_4 : cX12_rescale.data.toList.drop 93 = dktX12_rescale_4 := dk_seg dksX12_rescale_3 24 rfl rfl
theorem dksX12_rescale_5 : cX12_rescale.data.toList.drop 117 = dktX12_rescale_5 := dk_seg dksX12_rescale_4 24 rfl rfl
theorem dksX12_rescale_6 : cX12_rescale.data.toList.drop 141 = dktX12_rescale_6 := dk_seg dksX12_rescale_5 24 rfl rfl
theorem dX12_rescale_0 : decode cX12_rescale 0 = .ok (.aload_n 0, 1) := dk_42 (dk_at dksX12_rescale_0 0 rfl rfl)
theorem dX12_rescale_1 : decode cX12_rescale 1 = .ok (.iload_n 1, 1) := dk_27 (dk_at dksX12_rescale_0 1 rfl rfl)
theorem dX12_rescale_2 : decode cX12_rescale 2 = .ok (.invokevirtual 377, 3) := dk_182 1 121 (dk_at dksX12_rescale_0 2 rfl rfl)
theorem dX12_rescale_5 : decode cX12_rescale 5 = .ok (.ifCond .eq 7, 3) := dk_153 0 7 (dk_at dksX12_rescale_0 5 rfl rfl)
theorem dX12_rescale_8 : decode cX12_rescale 8 = .ok (.iload_n 1, 1) := dk_27 (dk_at dksX12_rescale_0 8 rfl rfl)
theorem dX12_rescale_9 : decode cX12_rescale 9 = .ok (.ifCond .ne 7, 3) := dk_154 0 7 (dk_at dksX12_rescale_0 9 rfl rfl)
theorem dX12_rescale_12 : decode cX12_rescale 12 = .ok (.ldc_w 309, 3) := dk_19 1 53 (dk_at dksX12_rescale_0 12 rfl rfl)
theorem dX12_rescale_15 : decode cX12_rescale 15 = .ok (.ireturn, 1) := dk_172 (dk_at dksX12_rescale_0 15 rfl rfl)
theorem dX12_rescale_16 : decode cX12_rescale 16 = .ok (.iload_n 2, 1) := dk_28 (dk_at dksX12_rescale_0 16 rfl rfl)
theorem dX12_rescale_17 : decode cX12_rescale 17 = .ok (.iconst 1, 1) := dk_4 (dk_at dksX12_rescale_0 17 rfl rfl)
theorem dX12_rescale_18 : decode cX12_rescale 18 = .ok (.iconst 3, 1) := dk_6 (dk_at dksX12_rescale_0 18 rfl rfl)
theorem dX12_rescale_19 : decode cX12_rescale 19 = .ok (.invokestatic 203, 3) := dk_184 0 203 (dk_at dksX12_rescale_0 19 rfl rfl)
theorem dX12_rescale_22 : decode cX12_rescale 22 = .ok (.ifCond .ne 6, 3) := dk_154 0 6 (dk_at dksX12_rescale_1 0 rfl rfl)
theorem dX12_rescale_25 : decode cX12_rescale 25 = .ok (.ldc 207, 2) := dk_18 207 (dk_at dksX12_rescale_1 3 rfl rfl)
theorem dX12_rescale_27 : decode cX12_rescale 27 = .ok (.ireturn, 1) := dk_172 (dk_at dksX12_rescale_1 5 rfl rfl)
theorem dX12_rescale_28 : decode cX12_rescale 28 = .ok (.aload_n 0, 1) := dk_42 (dk_at dksX12_rescale_1 6 rfl rfl)
theorem dX12_rescale_29 : decode cX12_rescale 29 = .ok (.dup, 1) := dk_89 (dk_at dksX12_rescale_1 7 rfl rfl)
theorem dX12_rescale_30 : decode cX12_rescale 30 = .ok (.getfield 256, 3) := dk_180 1 0 (dk_at dksX12_rescale_1 8 rfl rfl)
theorem dX12_rescale_33 : decode cX12_rescale 33 = .ok (.iconst 1, 1) := dk_4 (dk_at dksX12_rescale_1 11 rfl rfl)
theorem dX12_rescale_34 : decode cX12_rescale 34 = .ok (.iadd, 1) := dk_96 (dk_at dksX12_rescale_1 12 rfl rfl)
theorem dX12_rescale_35 : decode cX12_rescale 35 = .ok (.putfield 256, 3) := dk_181 1 0 (dk_at dksX12_rescale_1 13 rfl rfl)
theorem dX12_rescale_38 : decode cX12_rescale 38 = .ok (.aload_n 0, 1) := dk_42 (dk_at dksX12_rescale_1 16 rfl rfl)
theorem dX12_rescale_39 : decode cX12_rescale 39 = .ok (.getfield 22, 3) := dk_180 0 22 (dk_at dksX12_rescale_1 17 rfl rfl)
theorem dX12_rescale_42 : decode cX12_rescale 42 = .ok (.iload_n 1, 1) := dk_27 (dk_at dksX12_rescale_1 20 rfl rfl)
theorem dX12_rescale_43 : decode cX12_rescale 43 = .ok (.iaload, 1) := dk_46 (dk_at dksX12_rescale_1 21 rfl rfl)
theorem dX12_rescale_44 : decode cX12_rescale 44 = .ok (.istore_n 3, 1) := dk_62 (dk_at dksX12_rescale_1 22 rfl rfl)
theorem dX12_rescale_45 : decode cX12_rescale 45 = .ok (.iconst 0, 1) := dk_3 (dk_at dksX12_rescale_1 23 rfl rfl)
theorem dX12_rescale_46 : decode cX12_rescale 46 = .ok (.istore 4, 2) := dk_54 4 (dk_at dksX12_rescale_2 0 rfl rfl)
theorem dX12_rescale_48 : decode cX12_rescale 48 = .ok (.iload 4, 2) := dk_21 4 (dk_at dksX12_rescale_2 2 rfl rfl)
theorem dX12_rescale_50 : decode cX12_rescale 50 = .ok (.iconst 3, 1) := dk_6 (dk_at dksX12_rescale_2 4 rfl rfl)
theorem dX12_rescale_51 : decode cX12_rescale 51 = .ok (.if_icmp .ge 21, 3) := dk_162 0 21 (dk_at dksX12_rescale_2 5 rfl rfl)
theorem dX12_rescale_54 : decode cX12_rescale 54 = .ok (.aload_n 0, 1) := dk_42 (dk_at dksX12_rescale_2 8 rfl rfl)
theorem dX12_rescale_55 : decode cX12_rescale 55 = .ok (.getfield 90, 3) := dk_180 0 90 (dk_at dksX12_rescale_2 9 rfl rfl)
theorem dX12_rescale_58 : decode cX12_rescale 58 = .ok (.iload_n 1, 1) := dk_27 (dk_at dksX12_rescale_2 12 rfl rfl)
theorem dX12_rescale_59 : decode cX12_rescale 59 = .ok (.iload 4, 2) := dk_21 4 (dk_at dksX12_rescale_2 13 rfl rfl)
theorem dX12_rescale_61 : decode cX12_rescale 61 = .ok (.invokestatic 288, 3) := dk_184 1 32 (dk_at dksX12_rescale_2 15 rfl rfl)
theorem dX12_rescale_64 : decode cX12_rescale 64 = .ok (.iconst 0, 1) := dk_3 (dk_at dksX12_rescale_2 18 rfl rfl)
theorem dX12_rescale_65 : decode cX12_rescale 65 = .ok (.iastore, 1) := dk_79 (dk_at dksX12_rescale_2 19 rfl rfl)
theorem dX12_rescale_66 : decode cX12_rescale 66 = .ok (.iinc 4 1, 3) := dk_132 4 1 (dk_at dksX12_rescale_2 20 rfl rfl)
theorem dX12_rescale_69 : decode cX12_rescale 69 = .ok (.goto (-21), 3) := dk_167 255 235 (dk_at dksX12_rescale_3 0 rfl rfl)
theorem dX12_rescale_72 : decode cX12_rescale 72 = .ok (.aload_n 0, 1) := dk_42 (dk_at dksX12_rescale_3 3 rfl rfl)
theorem dX12_rescale_73 : decode cX12_rescale 73 = .ok (.getfield 22, 3) := dk_180 0 22 (dk_at dksX12_rescale_3 4 rfl rfl)
theorem dX12_rescale_76 : decode cX12_rescale 76 = .ok (.iload_n 1, 1) := dk_27 (dk_at dksX12_rescale_3 7 rfl rfl)
theorem dX12_rescale_77 : decode cX12_rescale 77 = .ok (.iload_n 2, 1) := dk_28 (dk_at dksX12_rescale_3 8 rfl rfl)
theorem dX12_rescale_78 : decode cX12_rescale 78 = .ok (.iastore, 1) := dk_79 (dk_at dksX12_rescale_3 9 rfl rfl)
theorem dX12_rescale_79 : decode cX12_rescale 79 = .ok (.aload_n 0, 1) := dk_42 (dk_at dksX12_rescale_3 10 rfl rfl)
theorem dX12_rescale_80 : decode cX12_rescale 80 = .ok (.invokevirtual 265, 3) := dk_182 1 9 (dk_at dksX12_rescale_3 11 rfl rfl)
theorem dX12_rescale_83 : decode cX12_rescale 83 = .ok (.iconst 0, 1) := dk_3 (dk_at dksX12_rescale_3 14 rfl rfl)
theorem dX12_rescale_84 : decode cX12_rescale 84 = .ok (.istore 4, 2) := dk_54 4 (dk_at dksX12_rescale_3 15 rfl rfl)
theorem dX12_rescale_86 : decode cX12_rescale 86 = .ok (.iconst 0, 1) := dk_3 (dk_at dksX12_rescale_3 17 rfl rfl)
theorem dX12_rescale_87 : decode cX12_rescale 87 = .ok (.istore 5, 2) := dk_54 5 (dk_at dksX12_rescale_3 18 rfl rfl)
theorem dX12_rescale_89 : decode cX12_rescale 89 = .ok (.iload 5, 2) := dk_21 5 (dk_at dksX12_rescale_3 20 rfl rfl)
theorem dX12_rescale_91 : decode cX12_rescale 91 = .ok (.bipush 16, 2) := dk_16 16 (dk_at dksX12_rescale_3 22 rfl rfl)
theorem dX12_rescale_93 : decode cX12_rescale 93 = .ok (.if_icmp .ge 62, 3) := dk_162 0 62 (dk_at dksX12_rescale_4 0 rfl rfl)
theorem dX12_rescale_96 : decode cX12_rescale 96 = .ok (.aload_n 0, 1) := dk_42 (dk_at dksX12_rescale_4 3 rfl rfl)
theorem dX12_rescale_97 : decode cX12_rescale 97 = .ok (.iload_n 1, 1) := dk_27 (dk_at dksX12_rescale_4 4 rfl rfl)
theorem dX12_rescale_98 : decode cX12_rescale 98 = .ok (.invokevirtual 281, 3) := dk_182 1 25 (dk_at dksX12_rescale_4 5 rfl rfl)
theorem dX12_rescale_101 : decode cX12_rescale 101 = .ok (.ifCond .eq 54, 3) := dk_153 0 54 (dk_at dksX12_rescale_4 8 rfl rfl)
theorem dX12_rescale_104 : decode cX12_rescale 104 = .ok (.iload 4, 2) := dk_21 4 (dk_at dksX12_rescale_4 11 rfl rfl)
theorem dX12_rescale_106 : decode cX12_rescale 106 = .ok (.aload_n 0, 1) := dk_42 (dk_at dksX12_rescale_4 13 rfl rfl)
theorem dX12_rescale_107 : decode cX12_rescale 107 = .ok (.getfield 56, 3) := dk_180 0 56 (dk_at dksX12_rescale_4 14 rfl rfl)
theorem dX12_rescale_110 : decode cX12_rescale 110 = .ok (.bipush 16, 2) := dk_16 16 (dk_at dksX12_rescale_4 17 rfl rfl)
theorem dX12_rescale_112 : decode cX12_rescale 112 = .ok (.iload_n 1, 1) := dk_27 (dk_at dksX12_rescale_4 19 rfl rfl)
theorem dX12_rescale_113 : decode cX12_rescale 113 = .ok (.imul, 1) := dk_104 (dk_at dksX12_rescale_4 20 rfl rfl)
theorem dX12_rescale_114 : decode cX12_rescale 114 = .ok (.iload 5, 2) := dk_21 5 (dk_at dksX12_rescale_4 21 rfl rfl)
theorem dX12_rescale_116 : decode cX12_rescale 116 = .ok (.iadd, 1) := dk_96 (dk_at dksX12_rescale_4 23 rfl rfl)
theorem dX12_rescale_117 : decode cX12_rescale 117 = .ok (.baload, 1) := dk_51 (dk_at dksX12_rescale_5 0 rfl rfl)
theorem dX12_rescale_118 : decode cX12_rescale 118 = .ok (.ifCond .eq 27, 3) := dk_153 0 27 (dk_at dksX12_rescale_5 1 rfl rfl)
theorem dX12_rescale_121 : decode cX12_rescale 121 = .ok (.iload 5, 2) := dk_21 5 (dk_at dksX12_rescale_5 4 rfl rfl)
theorem dX12_rescale_123 : decode cX12_rescale 123 = .ok (.bipush 8, 2) := dk_16 8 (dk_at dksX12_rescale_5 6 rfl rfl)
theorem dX12_rescale_125 : decode cX12_rescale 125 = .ok (.irem, 1) := dk_112 (dk_at dksX12_rescale_5 8 rfl rfl)
theorem dX12_rescale_126 : decode cX12_rescale 126 = .ok (.iload_n 3, 1) := dk_29 (dk_at dksX12_rescale_5 9 rfl rfl)
theorem dX12_rescale_127 : decode cX12_rescale 127 = .ok (.imul, 1) := dk_104 (dk_at dksX12_rescale_5 10 rfl rfl)
theorem dX12_rescale_128 : decode cX12_rescale 128 = .ok (.bipush 8, 2) := dk_16 8 (dk_at dksX12_rescale_5 11 rfl rfl)
theorem dX12_rescale_130 : decode cX12_rescale 130 = .ok (.idiv, 1) := dk_108 (dk_at dksX12_rescale_5 13 rfl rfl)
theorem dX12_rescale_131 : decode cX12_rescale 131 = .ok (.aload_n 0, 1) := dk_42 (dk_at dksX12_rescale_5 14 rfl rfl)
theorem dX12_rescale_132 : decode cX12_rescale 132 = .ok (.iload_n 1, 1) := dk_27 (dk_at dksX12_rescale_5 15 rfl rfl)
theorem dX12_rescale_133 : decode cX12_rescale 133 = .ok (.iload 5, 2) := dk_21 5 (dk_at dksX12_rescale_5 16 rfl rfl)
theorem dX12_rescale_135 : decode cX12_rescale 135 = .ok (.invokevirtual 285, 3) := dk_182 1 29 (dk_at dksX12_rescale_5 18 rfl rfl)
theorem dX12_rescale_138 : decode cX12_rescale 138 = .ok (.if_icmp .eq 7, 3) := dk_159 0 7 (dk_at dksX12_rescale_5 21 rfl rfl)
theorem dX12_rescale_141 : decode cX12_rescale 141 = .ok (.iconst 1, 1) := dk_4 (dk_at dksX12_rescale_6 0 rfl rfl)
theorem dX12_rescale_142 : decode cX12_rescale 142 = .ok (.goto 4, 3) := dk_167 0 4 (dk_at dksX12_rescale_6 1 rfl rfl)
theorem dX12_rescale_145 : decode cX12_rescale 145 = .ok (.iconst 0, 1) := dk_3 (dk_at dksX12_rescale_6 4 rfl rfl)
theorem dX12_rescale_146 : decode cX12_rescale 146 = .ok (.iadd, 1) := dk_96 (dk_at dksX12_rescale_6 5 rfl rfl)
theorem dX12_rescale_147 : decode cX12_rescale 147 = .ok (.istore 4, 2) := dk_54 4 (dk_at dksX12_rescale_6 6 rfl rfl)
theorem dX12_rescale_149 : decode cX12_rescale 149 = .ok (.iinc 5 1, 3) := dk_132 5 1 (dk_at dksX12_rescale_6 8 rfl rfl)
theorem dX12_rescale_152 : decode cX12_rescale 152 = .ok (.goto (-63), 3) := dk_167 255 193 (dk_at dksX12_rescale_6 11 rfl rfl)
theorem dX12_rescale_155 : decode cX12_rescale 155 = .ok (.iload 4, 2) := dk_21 4 (dk_at dksX12_rescale_6 14 rfl rfl)
theorem dX12_rescale_157 : decode cX12_rescale 157 = .ok (.ireturn, 1) := dk_172 (dk_at dksX12_rescale_6 16 rfl rfl)
abbrev cX12_isOperator : ByteArray := prog_27_method_4_code
def yX12_isOperator : MethodName := ⟨RX12, "isOperator", "(I)Z"⟩
def dkwX12_isOperator_0 : List UInt8 := [27, 3, 42, 182, 0, 199, 184, 0, 203, 172]
abbrev dktX12_isOperator_0 : List UInt8 := dkwX12_isOperator_0 ++ []
theorem dksX12_isOperator_0 : cX12_isOperator.data.toList.drop 0 = dktX12_isOperator_0 := by decide +kernel
theorem dX12_isOperator_0 : decode cX12_isOperator 0 = .ok (.iload_n 1, 1) := dk_27 (dk_at dksX12_isOperator_0 0 rfl rfl)
theorem dX12_isOperator_1 : decode cX12_isOperator 1 = .ok (.iconst 0, 1) := dk_3 (dk_at dksX12_isOperator_0 1 rfl rfl)
theorem dX12_isOperator_2 : decode cX12_isOperator 2 = .ok (.aload_n 0, 1) := dk_42 (dk_at dksX12_isOperator_0 2 rfl rfl)
theorem dX12_isOperator_3 : decode cX12_isOperator 3 = .ok (.invokevirtual 199, 3) := dk_182 0 199 (dk_at dksX12_isOperator_0 3 rfl rfl)
theorem dX12_isOperator_6 : decode cX12_isOperator 6 = .ok (.invokestatic 203, 3) := dk_184 0 203 (dk_at dksX12_isOperator_0 6 rfl rfl)
theorem dX12_isOperator_9 : decode cX12_isOperator 9 = .ok (.ireturn, 1) := dk_172 (dk_at dksX12_isOperator_0 9 rfl rfl)
abbrev cX12_count : ByteArray := prog_27_method_51_code
def yX12_count : MethodName := ⟨RX12, "count", "(I)I"⟩
def dkwX12_count_7 : List UInt8 := [182, 0, 199, 104, 29, 96, 46, 167, 0, 4, 3, 96, 61, 132, 3, 1, 167, 255, 209, 28, 172]
abbrev dktX12_count_7 : List UInt8 := dkwX12_count_7 ++ []
def dkwX12_count_6 : List UInt8 := [42, 180, 0, 56, 16, 16, 42, 182, 0, 199, 104, 29, 96, 51, 153, 0, 20, 42, 180, 0, 75, 16, 16, 42]
abbrev dktX12_count_6 : List UInt8 := dkwX12_count_6 ++ dktX12_count_7
def dkwX12_count_5 : List UInt8 := [180, 0, 93, 29, 46, 96, 61, 132, 3, 1, 167, 255, 238, 28, 172, 3, 62, 29, 16, 16, 162, 0, 47, 28]
abbrev dktX12_count_5 : List UInt8 := dkwX12_count_5 ++ dktX12_count_6
def dkwX12_count_4 : List UInt8 := [29, 182, 1, 124, 96, 61, 132, 3, 1, 167, 255, 239, 28, 172, 3, 62, 29, 16, 18, 162, 0, 18, 28, 42]
abbrev dktX12_count_4 : List UInt8 := dkwX12_count_4 ++ dktX12_count_5
def dkwX12_count_3 : List UInt8 := [180, 0, 253, 172, 42, 180, 1, 12, 172, 42, 180, 1, 0, 172, 3, 62, 29, 16, 54, 162, 0, 17, 28, 42]
abbrev dktX12_count_3 : List UInt8 := dkwX12_count_3 ++ dktX12_count_4
def dkwX12_count_2 : List UInt8 := [42, 180, 0, 196, 5, 96, 172, 42, 180, 1, 19, 172, 42, 180, 1, 15, 172, 42, 180, 0, 243, 172, 42]
abbrev dktX12_count_2 : List UInt8 := dkwX12_count_2 ++ dktX12_count_3
def dkwX12_count_1 : List UInt8 := [170, 0, 0, 0, 0, 0, 0, 138, 0, 0, 0, 0, 0, 0, 0, 8, 0, 0, 0, 52, 0, 0, 0, 59, 0, 0, 0, 64, 0, 0, 0, 69, 0, 0, 0, 74, 0, 0, 0, 79, 0, 0, 0, 84, 0, 0, 0, 89, 0, 0, 0, 113]
abbrev dktX12_count_1 : List UInt8 := dkwX12_count_1 ++ dktX12_count_2
def dkwX12_count_0 : List UInt8 := [27, 3, 16, 9, 184, 0, 203, 154, 0, 6, 18, 207, 172, 3, 61, 27]
abbrev dktX12_count_0 : List UInt8 := dkwX12_count_0 ++ dktX12_count_1
theorem dksX12_count_0 : cX12_count.data.toList.drop 0 = dktX12_count_0 := by decide +kernel
theorem dksX12_count_1 : cX12_count.data.toList.drop 16 = dktX12_count_1 := dk_seg dksX12_count_0 16 rfl rfl
theorem dksX12_count_2 : cX12_count.data.toList.drop 68 = dktX12_count_2 := dk_seg dksX12_count_1 52 rfl rfl
theorem dksX12_count_3 : cX12_count.data.toList.drop 91 = dktX12_count_3 := dk_seg dksX12_count_2 23 rfl rfl
theorem dksX12_count_4 : cX12_count.data.toList.drop 115 = dktX12_count_4 := dk_seg dksX12_count_3 24 rfl rfl
theorem dksX12_count_5 : cX12_count.data.toList.drop 139 = dktX12_count_5 := dk_seg dksX12_count_4 24 rfl rfl
theorem dksX12_count_6 : cX12_count.data.toList.drop 163 = dktX12_count_6 := dk_seg dksX12_count_5 24 rfl rfl
theorem dksX12_count_7 : cX12_count.data.toList.drop 187 = dktX12_count_7 := dk_seg dksX12_count_6 24 rfl rfl
theorem dX12_count_0 : decode cX12_count 0 = .ok (.iload_n 1, 1) := dk_27 (dk_at dksX12_count_0 0 rfl rfl)
theorem dX12_count_1 : decode cX12_count 1 = .ok (.iconst 0, 1) := dk_3 (dk_at dksX12_count_0 1 rfl rfl)
theorem dX12_count_2 : decode cX12_count 2 = .ok (.bipush 9, 2) := dk_16 9 (dk_at dksX12_count_0 2 rfl rfl)
theorem dX12_count_4 : decode cX12_count 4 = .ok (.invokestatic 203, 3) := dk_184 0 203 (dk_at dksX12_count_0 4 rfl rfl)
theorem dX12_count_7 : decode cX12_count 7 = .ok (.ifCond .ne 6, 3) := dk_154 0 6 (dk_at dksX12_count_0 7 rfl rfl)
theorem dX12_count_10 : decode cX12_count 10 = .ok (.ldc 207, 2) := dk_18 207 (dk_at dksX12_count_0 10 rfl rfl)
theorem dX12_count_12 : decode cX12_count 12 = .ok (.ireturn, 1) := dk_172 (dk_at dksX12_count_0 12 rfl rfl)
theorem dX12_count_13 : decode cX12_count 13 = .ok (.iconst 0, 1) := dk_3 (dk_at dksX12_count_0 13 rfl rfl)
theorem dX12_count_14 : decode cX12_count 14 = .ok (.istore_n 2, 1) := dk_61 (dk_at dksX12_count_0 14 rfl rfl)
theorem dX12_count_15 : decode cX12_count 15 = .ok (.iload_n 1, 1) := dk_27 (dk_at dksX12_count_0 15 rfl rfl)
theorem dX12_count_16 : decode cX12_count 16 = .ok (.tableswitch 138 0 8 #[52, 59, 64, 69, 74, 79, 84, 89, 113], 52) := by decide +kernel
theorem dX12_count_68 : decode cX12_count 68 = .ok (.aload_n 0, 1) := dk_42 (dk_at dksX12_count_2 0 rfl rfl)
theorem dX12_count_69 : decode cX12_count 69 = .ok (.getfield 196, 3) := dk_180 0 196 (dk_at dksX12_count_2 1 rfl rfl)
theorem dX12_count_72 : decode cX12_count 72 = .ok (.iconst 2, 1) := dk_5 (dk_at dksX12_count_2 4 rfl rfl)
theorem dX12_count_73 : decode cX12_count 73 = .ok (.iadd, 1) := dk_96 (dk_at dksX12_count_2 5 rfl rfl)
theorem dX12_count_74 : decode cX12_count 74 = .ok (.ireturn, 1) := dk_172 (dk_at dksX12_count_2 6 rfl rfl)
theorem dX12_count_75 : decode cX12_count 75 = .ok (.aload_n 0, 1) := dk_42 (dk_at dksX12_count_2 7 rfl rfl)
theorem dX12_count_76 : decode cX12_count 76 = .ok (.getfield 275, 3) := dk_180 1 19 (dk_at dksX12_count_2 8 rfl rfl)
theorem dX12_count_79 : decode cX12_count 79 = .ok (.ireturn, 1) := dk_172 (dk_at dksX12_count_2 11 rfl rfl)
theorem dX12_count_80 : decode cX12_count 80 = .ok (.aload_n 0, 1) := dk_42 (dk_at dksX12_count_2 12 rfl rfl)
theorem dX12_count_81 : decode cX12_count 81 = .ok (.getfield 271, 3) := dk_180 1 15 (dk_at dksX12_count_2 13 rfl rfl)
theorem dX12_count_84 : decode cX12_count 84 = .ok (.ireturn, 1) := dk_172 (dk_at dksX12_count_2 16 rfl rfl)
theorem dX12_count_85 : decode cX12_count 85 = .ok (.aload_n 0, 1) := dk_42 (dk_at dksX12_count_2 17 rfl rfl)
theorem dX12_count_86 : decode cX12_count 86 = .ok (.getfield 243, 3) := dk_180 0 243 (dk_at dksX12_count_2 18 rfl rfl)
theorem dX12_count_89 : decode cX12_count 89 = .ok (.ireturn, 1) := dk_172 (dk_at dksX12_count_2 21 rfl rfl)
theorem dX12_count_90 : decode cX12_count 90 = .ok (.aload_n 0, 1) := dk_42 (dk_at dksX12_count_2 22 rfl rfl)
theorem dX12_count_91 : decode cX12_count 91 = .ok (.getfield 253, 3) := dk_180 0 253 (dk_at dksX12_count_3 0 rfl rfl)
theorem dX12_count_94 : decode cX12_count 94 = .ok (.ireturn, 1) := dk_172 (dk_at dksX12_count_3 3 rfl rfl)
theorem dX12_count_95 : decode cX12_count 95 = .ok (.aload_n 0, 1) := dk_42 (dk_at dksX12_count_3 4 rfl rfl)
theorem dX12_count_96 : decode cX12_count 96 = .ok (.getfield 268, 3) := dk_180 1 12 (dk_at dksX12_count_3 5 rfl rfl)
theorem dX12_count_99 : decode cX12_count 99 = .ok (.ireturn, 1) := dk_172 (dk_at dksX12_count_3 8 rfl rfl)
theorem dX12_count_100 : decode cX12_count 100 = .ok (.aload_n 0, 1) := dk_42 (dk_at dksX12_count_3 9 rfl rfl)
theorem dX12_count_101 : decode cX12_count 101 = .ok (.getfield 256, 3) := dk_180 1 0 (dk_at dksX12_count_3 10 rfl rfl)
theorem dX12_count_104 : decode cX12_count 104 = .ok (.ireturn, 1) := dk_172 (dk_at dksX12_count_3 13 rfl rfl)
theorem dX12_count_105 : decode cX12_count 105 = .ok (.iconst 0, 1) := dk_3 (dk_at dksX12_count_3 14 rfl rfl)
theorem dX12_count_106 : decode cX12_count 106 = .ok (.istore_n 3, 1) := dk_62 (dk_at dksX12_count_3 15 rfl rfl)
theorem dX12_count_107 : decode cX12_count 107 = .ok (.iload_n 3, 1) := dk_29 (dk_at dksX12_count_3 16 rfl rfl)
theorem dX12_count_108 : decode cX12_count 108 = .ok (.bipush 54, 2) := dk_16 54 (dk_at dksX12_count_3 17 rfl rfl)
theorem dX12_count_110 : decode cX12_count 110 = .ok (.if_icmp .ge 17, 3) := dk_162 0 17 (dk_at dksX12_count_3 19 rfl rfl)
theorem dX12_count_113 : decode cX12_count 113 = .ok (.iload_n 2, 1) := dk_28 (dk_at dksX12_count_3 22 rfl rfl)
theorem dX12_count_114 : decode cX12_count 114 = .ok (.aload_n 0, 1) := dk_42 (dk_at dksX12_count_3 23 rfl rfl)
theorem dX12_count_115 : decode cX12_count 115 = .ok (.iload_n 3, 1) := dk_29 (dk_at dksX12_count_4 0 rfl rfl)
theorem dX12_count_116 : decode cX12_count 116 = .ok (.invokevirtual 380, 3) := dk_182 1 124 (dk_at dksX12_count_4 1 rfl rfl)
theorem dX12_count_119 : decode cX12_count 119 = .ok (.iadd, 1) := dk_96 (dk_at dksX12_count_4 4 rfl rfl)
theorem dX12_count_120 : decode cX12_count 120 = .ok (.istore_n 2, 1) := dk_61 (dk_at dksX12_count_4 5 rfl rfl)
theorem dX12_count_121 : decode cX12_count 121 = .ok (.iinc 3 1, 3) := dk_132 3 1 (dk_at dksX12_count_4 6 rfl rfl)
theorem dX12_count_124 : decode cX12_count 124 = .ok (.goto (-17), 3) := dk_167 255 239 (dk_at dksX12_count_4 9 rfl rfl)
theorem dX12_count_127 : decode cX12_count 127 = .ok (.iload_n 2, 1) := dk_28 (dk_at dksX12_count_4 12 rfl rfl)
theorem dX12_count_128 : decode cX12_count 128 = .ok (.ireturn, 1) := dk_172 (dk_at dksX12_count_4 13 rfl rfl)
theorem dX12_count_129 : decode cX12_count 129 = .ok (.iconst 0, 1) := dk_3 (dk_at dksX12_count_4 14 rfl rfl)
theorem dX12_count_130 : decode cX12_count 130 = .ok (.istore_n 3, 1) := dk_62 (dk_at dksX12_count_4 15 rfl rfl)
theorem dX12_count_131 : decode cX12_count 131 = .ok (.iload_n 3, 1) := dk_29 (dk_at dksX12_count_4 16 rfl rfl)
theorem dX12_count_132 : decode cX12_count 132 = .ok (.bipush 18, 2) := dk_16 18 (dk_at dksX12_count_4 17 rfl rfl)
theorem dX12_count_134 : decode cX12_count 134 = .ok (.if_icmp .ge 18, 3) := dk_162 0 18 (dk_at dksX12_count_4 19 rfl rfl)
theorem dX12_count_137 : decode cX12_count 137 = .ok (.iload_n 2, 1) := dk_28 (dk_at dksX12_count_4 22 rfl rfl)
theorem dX12_count_138 : decode cX12_count 138 = .ok (.aload_n 0, 1) := dk_42 (dk_at dksX12_count_4 23 rfl rfl)
theorem dX12_count_139 : decode cX12_count 139 = .ok (.getfield 93, 3) := dk_180 0 93 (dk_at dksX12_count_5 0 rfl rfl)
theorem dX12_count_142 : decode cX12_count 142 = .ok (.iload_n 3, 1) := dk_29 (dk_at dksX12_count_5 3 rfl rfl)
theorem dX12_count_143 : decode cX12_count 143 = .ok (.iaload, 1) := dk_46 (dk_at dksX12_count_5 4 rfl rfl)
theorem dX12_count_144 : decode cX12_count 144 = .ok (.iadd, 1) := dk_96 (dk_at dksX12_count_5 5 rfl rfl)
theorem dX12_count_145 : decode cX12_count 145 = .ok (.istore_n 2, 1) := dk_61 (dk_at dksX12_count_5 6 rfl rfl)
theorem dX12_count_146 : decode cX12_count 146 = .ok (.iinc 3 1, 3) := dk_132 3 1 (dk_at dksX12_count_5 7 rfl rfl)
theorem dX12_count_149 : decode cX12_count 149 = .ok (.goto (-18), 3) := dk_167 255 238 (dk_at dksX12_count_5 10 rfl rfl)
theorem dX12_count_152 : decode cX12_count 152 = .ok (.iload_n 2, 1) := dk_28 (dk_at dksX12_count_5 13 rfl rfl)
theorem dX12_count_153 : decode cX12_count 153 = .ok (.ireturn, 1) := dk_172 (dk_at dksX12_count_5 14 rfl rfl)
theorem dX12_count_154 : decode cX12_count 154 = .ok (.iconst 0, 1) := dk_3 (dk_at dksX12_count_5 15 rfl rfl)
theorem dX12_count_155 : decode cX12_count 155 = .ok (.istore_n 3, 1) := dk_62 (dk_at dksX12_count_5 16 rfl rfl)
theorem dX12_count_156 : decode cX12_count 156 = .ok (.iload_n 3, 1) := dk_29 (dk_at dksX12_count_5 17 rfl rfl)
theorem dX12_count_157 : decode cX12_count 157 = .ok (.bipush 16, 2) := dk_16 16 (dk_at dksX12_count_5 18 rfl rfl)
theorem dX12_count_159 : decode cX12_count 159 = .ok (.if_icmp .ge 47, 3) := dk_162 0 47 (dk_at dksX12_count_5 20 rfl rfl)
theorem dX12_count_162 : decode cX12_count 162 = .ok (.iload_n 2, 1) := dk_28 (dk_at dksX12_count_5 23 rfl rfl)
theorem dX12_count_163 : decode cX12_count 163 = .ok (.aload_n 0, 1) := dk_42 (dk_at dksX12_count_6 0 rfl rfl)
theorem dX12_count_164 : decode cX12_count 164 = .ok (.getfield 56, 3) := dk_180 0 56 (dk_at dksX12_count_6 1 rfl rfl)
theorem dX12_count_167 : decode cX12_count 167 = .ok (.bipush 16, 2) := dk_16 16 (dk_at dksX12_count_6 4 rfl rfl)
theorem dX12_count_169 : decode cX12_count 169 = .ok (.aload_n 0, 1) := dk_42 (dk_at dksX12_count_6 6 rfl rfl)
theorem dX12_count_170 : decode cX12_count 170 = .ok (.invokevirtual 199, 3) := dk_182 0 199 (dk_at dksX12_count_6 7 rfl rfl)
theorem dX12_count_173 : decode cX12_count 173 = .ok (.imul, 1) := dk_104 (dk_at dksX12_count_6 10 rfl rfl)
theorem dX12_count_174 : decode cX12_count 174 = .ok (.iload_n 3, 1) := dk_29 (dk_at dksX12_count_6 11 rfl rfl)
theorem dX12_count_175 : decode cX12_count 175 = .ok (.iadd, 1) := dk_96 (dk_at dksX12_count_6 12 rfl rfl)
theorem dX12_count_176 : decode cX12_count 176 = .ok (.baload, 1) := dk_51 (dk_at dksX12_count_6 13 rfl rfl)
theorem dX12_count_177 : decode cX12_count 177 = .ok (.ifCond .eq 20, 3) := dk_153 0 20 (dk_at dksX12_count_6 14 rfl rfl)
theorem dX12_count_180 : decode cX12_count 180 = .ok (.aload_n 0, 1) := dk_42 (dk_at dksX12_count_6 17 rfl rfl)
theorem dX12_count_181 : decode cX12_count 181 = .ok (.getfield 75, 3) := dk_180 0 75 (dk_at dksX12_count_6 18 rfl rfl)
theorem dX12_count_184 : decode cX12_count 184 = .ok (.bipush 16, 2) := dk_16 16 (dk_at dksX12_count_6 21 rfl rfl)
theorem dX12_count_186 : decode cX12_count 186 = .ok (.aload_n 0, 1) := dk_42 (dk_at dksX12_count_6 23 rfl rfl)
theorem dX12_count_187 : decode cX12_count 187 = .ok (.invokevirtual 199, 3) := dk_182 0 199 (dk_at dksX12_count_7 0 rfl rfl)
theorem dX12_count_190 : decode cX12_count 190 = .ok (.imul, 1) := dk_104 (dk_at dksX12_count_7 3 rfl rfl)
theorem dX12_count_191 : decode cX12_count 191 = .ok (.iload_n 3, 1) := dk_29 (dk_at dksX12_count_7 4 rfl rfl)
theorem dX12_count_192 : decode cX12_count 192 = .ok (.iadd, 1) := dk_96 (dk_at dksX12_count_7 5 rfl rfl)
theorem dX12_count_193 : decode cX12_count 193 = .ok (.iaload, 1) := dk_46 (dk_at dksX12_count_7 6 rfl rfl)
theorem dX12_count_194 : decode cX12_count 194 = .ok (.goto 4, 3) := dk_167 0 4 (dk_at dksX12_count_7 7 rfl rfl)
theorem dX12_count_197 : decode cX12_count 197 = .ok (.iconst 0, 1) := dk_3 (dk_at dksX12_count_7 10 rfl rfl)
theorem dX12_count_198 : decode cX12_count 198 = .ok (.iadd, 1) := dk_96 (dk_at dksX12_count_7 11 rfl rfl)
theorem dX12_count_199 : decode cX12_count 199 = .ok (.istore_n 2, 1) := dk_61 (dk_at dksX12_count_7 12 rfl rfl)
theorem dX12_count_200 : decode cX12_count 200 = .ok (.iinc 3 1, 3) := dk_132 3 1 (dk_at dksX12_count_7 13 rfl rfl)
theorem dX12_count_203 : decode cX12_count 203 = .ok (.goto (-47), 3) := dk_167 255 209 (dk_at dksX12_count_7 16 rfl rfl)
theorem dX12_count_206 : decode cX12_count 206 = .ok (.iload_n 2, 1) := dk_28 (dk_at dksX12_count_7 19 rfl rfl)
theorem dX12_count_207 : decode cX12_count 207 = .ok (.ireturn, 1) := dk_172 (dk_at dksX12_count_7 20 rfl rfl)
abbrev cX12_inside : ByteArray := prog_27_method_28_code
def yX12_inside : MethodName := ⟨RX12, "inside", "(I)I"⟩
def dkwX12_inside_2 : List UInt8 := [29, 96, 46, 167, 0, 4, 3, 96, 61, 132, 3, 1, 167, 255, 213, 28, 172]
abbrev dktX12_inside_2 : List UInt8 := dkwX12_inside_2 ++ []
def dkwX12_inside_1 : List UInt8 := [162, 0, 39, 28, 42, 180, 0, 135, 7, 27, 104, 29, 96, 46, 158, 0, 16, 42, 180, 0, 135, 7, 27, 104]
abbrev dktX12_inside_1 : List UInt8 := dkwX12_inside_1 ++ dktX12_inside_2
def dkwX12_inside_0 : List UInt8 := [42, 180, 0, 114, 27, 46, 42, 180, 0, 132, 27, 46, 100, 61, 3, 62, 29, 42, 180, 0, 129, 27, 46]
abbrev dktX12_inside_0 : List UInt8 := dkwX12_inside_0 ++ dktX12_inside_1
theorem dksX12_inside_0 : cX12_inside.data.toList.drop 0 = dktX12_inside_0 := by decide +kernel
theorem dksX12_inside_1 : cX12_inside.data.toList.drop 23 = dktX12_inside_1 := dk_seg dksX12_inside_0 23 rfl rfl
theorem dksX12_inside_2 : cX12_inside.data.toList.drop 47 = dktX12_inside_2 := dk_seg dksX12_inside_1 24 rfl rfl
theorem dX12_inside_0 : decode cX12_inside 0 = .ok (.aload_n 0, 1) := dk_42 (dk_at dksX12_inside_0 0 rfl rfl)
theorem dX12_inside_1 : decode cX12_inside 1 = .ok (.getfield 114, 3) := dk_180 0 114 (dk_at dksX12_inside_0 1 rfl rfl)
theorem dX12_inside_4 : decode cX12_inside 4 = .ok (.iload_n 1, 1) := dk_27 (dk_at dksX12_inside_0 4 rfl rfl)
theorem dX12_inside_5 : decode cX12_inside 5 = .ok (.iaload, 1) := dk_46 (dk_at dksX12_inside_0 5 rfl rfl)
theorem dX12_inside_6 : decode cX12_inside 6 = .ok (.aload_n 0, 1) := dk_42 (dk_at dksX12_inside_0 6 rfl rfl)
theorem dX12_inside_7 : decode cX12_inside 7 = .ok (.getfield 132, 3) := dk_180 0 132 (dk_at dksX12_inside_0 7 rfl rfl)
theorem dX12_inside_10 : decode cX12_inside 10 = .ok (.iload_n 1, 1) := dk_27 (dk_at dksX12_inside_0 10 rfl rfl)
theorem dX12_inside_11 : decode cX12_inside 11 = .ok (.iaload, 1) := dk_46 (dk_at dksX12_inside_0 11 rfl rfl)
theorem dX12_inside_12 : decode cX12_inside 12 = .ok (.isub, 1) := dk_100 (dk_at dksX12_inside_0 12 rfl rfl)
theorem dX12_inside_13 : decode cX12_inside 13 = .ok (.istore_n 2, 1) := dk_61 (dk_at dksX12_inside_0 13 rfl rfl)
theorem dX12_inside_14 : decode cX12_inside 14 = .ok (.iconst 0, 1) := dk_3 (dk_at dksX12_inside_0 14 rfl rfl)
theorem dX12_inside_15 : decode cX12_inside 15 = .ok (.istore_n 3, 1) := dk_62 (dk_at dksX12_inside_0 15 rfl rfl)
theorem dX12_inside_16 : decode cX12_inside 16 = .ok (.iload_n 3, 1) := dk_29 (dk_at dksX12_inside_0 16 rfl rfl)
theorem dX12_inside_17 : decode cX12_inside 17 = .ok (.aload_n 0, 1) := dk_42 (dk_at dksX12_inside_0 17 rfl rfl)
theorem dX12_inside_18 : decode cX12_inside 18 = .ok (.getfield 129, 3) := dk_180 0 129 (dk_at dksX12_inside_0 18 rfl rfl)
theorem dX12_inside_21 : decode cX12_inside 21 = .ok (.iload_n 1, 1) := dk_27 (dk_at dksX12_inside_0 21 rfl rfl)
theorem dX12_inside_22 : decode cX12_inside 22 = .ok (.iaload, 1) := dk_46 (dk_at dksX12_inside_0 22 rfl rfl)
theorem dX12_inside_23 : decode cX12_inside 23 = .ok (.if_icmp .ge 39, 3) := dk_162 0 39 (dk_at dksX12_inside_1 0 rfl rfl)
theorem dX12_inside_26 : decode cX12_inside 26 = .ok (.iload_n 2, 1) := dk_28 (dk_at dksX12_inside_1 3 rfl rfl)
theorem dX12_inside_27 : decode cX12_inside 27 = .ok (.aload_n 0, 1) := dk_42 (dk_at dksX12_inside_1 4 rfl rfl)
theorem dX12_inside_28 : decode cX12_inside 28 = .ok (.getfield 135, 3) := dk_180 0 135 (dk_at dksX12_inside_1 5 rfl rfl)
theorem dX12_inside_31 : decode cX12_inside 31 = .ok (.iconst 4, 1) := dk_7 (dk_at dksX12_inside_1 8 rfl rfl)
theorem dX12_inside_32 : decode cX12_inside 32 = .ok (.iload_n 1, 1) := dk_27 (dk_at dksX12_inside_1 9 rfl rfl)
theorem dX12_inside_33 : decode cX12_inside 33 = .ok (.imul, 1) := dk_104 (dk_at dksX12_inside_1 10 rfl rfl)
theorem dX12_inside_34 : decode cX12_inside 34 = .ok (.iload_n 3, 1) := dk_29 (dk_at dksX12_inside_1 11 rfl rfl)
theorem dX12_inside_35 : decode cX12_inside 35 = .ok (.iadd, 1) := dk_96 (dk_at dksX12_inside_1 12 rfl rfl)
theorem dX12_inside_36 : decode cX12_inside 36 = .ok (.iaload, 1) := dk_46 (dk_at dksX12_inside_1 13 rfl rfl)
theorem dX12_inside_37 : decode cX12_inside 37 = .ok (.ifCond .le 16, 3) := dk_158 0 16 (dk_at dksX12_inside_1 14 rfl rfl)
theorem dX12_inside_40 : decode cX12_inside 40 = .ok (.aload_n 0, 1) := dk_42 (dk_at dksX12_inside_1 17 rfl rfl)
theorem dX12_inside_41 : decode cX12_inside 41 = .ok (.getfield 135, 3) := dk_180 0 135 (dk_at dksX12_inside_1 18 rfl rfl)
theorem dX12_inside_44 : decode cX12_inside 44 = .ok (.iconst 4, 1) := dk_7 (dk_at dksX12_inside_1 21 rfl rfl)
theorem dX12_inside_45 : decode cX12_inside 45 = .ok (.iload_n 1, 1) := dk_27 (dk_at dksX12_inside_1 22 rfl rfl)
theorem dX12_inside_46 : decode cX12_inside 46 = .ok (.imul, 1) := dk_104 (dk_at dksX12_inside_1 23 rfl rfl)
theorem dX12_inside_47 : decode cX12_inside 47 = .ok (.iload_n 3, 1) := dk_29 (dk_at dksX12_inside_2 0 rfl rfl)
theorem dX12_inside_48 : decode cX12_inside 48 = .ok (.iadd, 1) := dk_96 (dk_at dksX12_inside_2 1 rfl rfl)
theorem dX12_inside_49 : decode cX12_inside 49 = .ok (.iaload, 1) := dk_46 (dk_at dksX12_inside_2 2 rfl rfl)
theorem dX12_inside_50 : decode cX12_inside 50 = .ok (.goto 4, 3) := dk_167 0 4 (dk_at dksX12_inside_2 3 rfl rfl)
theorem dX12_inside_53 : decode cX12_inside 53 = .ok (.iconst 0, 1) := dk_3 (dk_at dksX12_inside_2 6 rfl rfl)
theorem dX12_inside_54 : decode cX12_inside 54 = .ok (.iadd, 1) := dk_96 (dk_at dksX12_inside_2 7 rfl rfl)
theorem dX12_inside_55 : decode cX12_inside 55 = .ok (.istore_n 2, 1) := dk_61 (dk_at dksX12_inside_2 8 rfl rfl)
theorem dX12_inside_56 : decode cX12_inside 56 = .ok (.iinc 3 1, 3) := dk_132 3 1 (dk_at dksX12_inside_2 9 rfl rfl)
theorem dX12_inside_59 : decode cX12_inside 59 = .ok (.goto (-43), 3) := dk_167 255 213 (dk_at dksX12_inside_2 12 rfl rfl)
theorem dX12_inside_62 : decode cX12_inside 62 = .ok (.iload_n 2, 1) := dk_28 (dk_at dksX12_inside_2 15 rfl rfl)
theorem dX12_inside_63 : decode cX12_inside 63 = .ok (.ireturn, 1) := dk_172 (dk_at dksX12_inside_2 16 rfl rfl)
abbrev cX12_operator : ByteArray := prog_27_method_52_code
def yX12_operator : MethodName := ⟨RX12, "operator", "(II)I"⟩
def dkwX12_operator_5 : List UInt8 := [27, 46, 172, 42, 180, 0, 53, 27, 46, 172]
abbrev dktX12_operator_5 : List UInt8 := dkwX12_operator_5 ++ []
def dkwX12_operator_4 : List UInt8 := [180, 0, 19, 27, 46, 172, 42, 180, 0, 44, 27, 46, 172, 42, 180, 0, 47, 27, 46, 172, 42, 180, 0, 50]
abbrev dktX12_operator_4 : List UInt8 := dkwX12_operator_4 ++ dktX12_operator_5
def dkwX12_operator_3 : List UInt8 := [42, 180, 0, 13, 27, 46, 172, 42, 180, 0, 22, 27, 46, 172, 42, 180, 0, 16, 27, 46, 172, 42]
abbrev dktX12_operator_3 : List UInt8 := dkwX12_operator_3 ++ dktX12_operator_4
def dkwX12_operator_2 : List UInt8 := [170, 0, 0, 0, 0, 91, 0, 0, 0, 0, 0, 0, 0, 6, 0, 0, 0, 42, 0, 0, 0, 49, 0, 0, 0, 56, 0, 0, 0, 63, 0, 0, 0, 70, 0, 0, 0, 77, 0, 0, 0, 84]
abbrev dktX12_operator_2 : List UInt8 := dkwX12_operator_2 ++ dktX12_operator_3
def dkwX12_operator_1 : List UInt8 := [172, 28]
abbrev dktX12_operator_1 : List UInt8 := dkwX12_operator_1 ++ dktX12_operator_2
def dkwX12_operator_0 : List UInt8 := [42, 27, 182, 1, 121, 154, 0, 7, 19, 1, 53, 172, 28, 3, 16, 7, 184, 0, 203, 154, 0, 6, 18, 207]
abbrev dktX12_operator_0 : List UInt8 := dkwX12_operator_0 ++ dktX12_operator_1
theorem dksX12_operator_0 : cX12_operator.data.toList.drop 0 = dktX12_operator_0 := by decide +kernel
theorem dksX12_operator_1 : cX12_operator.data.toList.drop 24 = dktX12_operator_1 := dk_seg dksX12_operator_0 24 rfl rfl
theorem dksX12_operator_2 : cX12_operator.data.toList.drop 26 = dktX12_operator_2 := dk_seg dksX12_operator_1 2 rfl rfl
theorem dksX12_operator_3 : cX12_operator.data.toList.drop 68 = dktX12_operator_3 := dk_seg dksX12_operator_2 42 rfl rfl
theorem dksX12_operator_4 : cX12_operator.data.toList.drop 90 = dktX12_operator_4 := dk_seg dksX12_operator_3 22 rfl rfl
theorem dksX12_operator_5 : cX12_operator.data.toList.drop 114 = dktX12_operator_5 := dk_seg dksX12_operator_4 24 rfl rfl
theorem dX12_operator_0 : decode cX12_operator 0 = .ok (.aload_n 0, 1) := dk_42 (dk_at dksX12_operator_0 0 rfl rfl)
theorem dX12_operator_1 : decode cX12_operator 1 = .ok (.iload_n 1, 1) := dk_27 (dk_at dksX12_operator_0 1 rfl rfl)
theorem dX12_operator_2 : decode cX12_operator 2 = .ok (.invokevirtual 377, 3) := dk_182 1 121 (dk_at dksX12_operator_0 2 rfl rfl)
theorem dX12_operator_5 : decode cX12_operator 5 = .ok (.ifCond .ne 7, 3) := dk_154 0 7 (dk_at dksX12_operator_0 5 rfl rfl)
theorem dX12_operator_8 : decode cX12_operator 8 = .ok (.ldc_w 309, 3) := dk_19 1 53 (dk_at dksX12_operator_0 8 rfl rfl)
theorem dX12_operator_11 : decode cX12_operator 11 = .ok (.ireturn, 1) := dk_172 (dk_at dksX12_operator_0 11 rfl rfl)
theorem dX12_operator_12 : decode cX12_operator 12 = .ok (.iload_n 2, 1) := dk_28 (dk_at dksX12_operator_0 12 rfl rfl)
theorem dX12_operator_13 : decode cX12_operator 13 = .ok (.iconst 0, 1) := dk_3 (dk_at dksX12_operator_0 13 rfl rfl)
theorem dX12_operator_14 : decode cX12_operator 14 = .ok (.bipush 7, 2) := dk_16 7 (dk_at dksX12_operator_0 14 rfl rfl)
theorem dX12_operator_16 : decode cX12_operator 16 = .ok (.invokestatic 203, 3) := dk_184 0 203 (dk_at dksX12_operator_0 16 rfl rfl)
theorem dX12_operator_19 : decode cX12_operator 19 = .ok (.ifCond .ne 6, 3) := dk_154 0 6 (dk_at dksX12_operator_0 19 rfl rfl)
theorem dX12_operator_22 : decode cX12_operator 22 = .ok (.ldc 207, 2) := dk_18 207 (dk_at dksX12_operator_0 22 rfl rfl)
theorem dX12_operator_24 : decode cX12_operator 24 = .ok (.ireturn, 1) := dk_172 (dk_at dksX12_operator_1 0 rfl rfl)
theorem dX12_operator_25 : decode cX12_operator 25 = .ok (.iload_n 2, 1) := dk_28 (dk_at dksX12_operator_1 1 rfl rfl)
theorem dX12_operator_26 : decode cX12_operator 26 = .ok (.tableswitch 91 0 6 #[42, 49, 56, 63, 70, 77, 84], 42) := by decide +kernel
theorem dX12_operator_68 : decode cX12_operator 68 = .ok (.aload_n 0, 1) := dk_42 (dk_at dksX12_operator_3 0 rfl rfl)
theorem dX12_operator_69 : decode cX12_operator 69 = .ok (.getfield 13, 3) := dk_180 0 13 (dk_at dksX12_operator_3 1 rfl rfl)
theorem dX12_operator_72 : decode cX12_operator 72 = .ok (.iload_n 1, 1) := dk_27 (dk_at dksX12_operator_3 4 rfl rfl)
theorem dX12_operator_73 : decode cX12_operator 73 = .ok (.iaload, 1) := dk_46 (dk_at dksX12_operator_3 5 rfl rfl)
theorem dX12_operator_74 : decode cX12_operator 74 = .ok (.ireturn, 1) := dk_172 (dk_at dksX12_operator_3 6 rfl rfl)
theorem dX12_operator_75 : decode cX12_operator 75 = .ok (.aload_n 0, 1) := dk_42 (dk_at dksX12_operator_3 7 rfl rfl)
theorem dX12_operator_76 : decode cX12_operator 76 = .ok (.getfield 22, 3) := dk_180 0 22 (dk_at dksX12_operator_3 8 rfl rfl)
theorem dX12_operator_79 : decode cX12_operator 79 = .ok (.iload_n 1, 1) := dk_27 (dk_at dksX12_operator_3 11 rfl rfl)
theorem dX12_operator_80 : decode cX12_operator 80 = .ok (.iaload, 1) := dk_46 (dk_at dksX12_operator_3 12 rfl rfl)
theorem dX12_operator_81 : decode cX12_operator 81 = .ok (.ireturn, 1) := dk_172 (dk_at dksX12_operator_3 13 rfl rfl)
theorem dX12_operator_82 : decode cX12_operator 82 = .ok (.aload_n 0, 1) := dk_42 (dk_at dksX12_operator_3 14 rfl rfl)
theorem dX12_operator_83 : decode cX12_operator 83 = .ok (.getfield 16, 3) := dk_180 0 16 (dk_at dksX12_operator_3 15 rfl rfl)
theorem dX12_operator_86 : decode cX12_operator 86 = .ok (.iload_n 1, 1) := dk_27 (dk_at dksX12_operator_3 18 rfl rfl)
theorem dX12_operator_87 : decode cX12_operator 87 = .ok (.iaload, 1) := dk_46 (dk_at dksX12_operator_3 19 rfl rfl)
theorem dX12_operator_88 : decode cX12_operator 88 = .ok (.ireturn, 1) := dk_172 (dk_at dksX12_operator_3 20 rfl rfl)
theorem dX12_operator_89 : decode cX12_operator 89 = .ok (.aload_n 0, 1) := dk_42 (dk_at dksX12_operator_3 21 rfl rfl)
theorem dX12_operator_90 : decode cX12_operator 90 = .ok (.getfield 19, 3) := dk_180 0 19 (dk_at dksX12_operator_4 0 rfl rfl)
theorem dX12_operator_93 : decode cX12_operator 93 = .ok (.iload_n 1, 1) := dk_27 (dk_at dksX12_operator_4 3 rfl rfl)
theorem dX12_operator_94 : decode cX12_operator 94 = .ok (.iaload, 1) := dk_46 (dk_at dksX12_operator_4 4 rfl rfl)
theorem dX12_operator_95 : decode cX12_operator 95 = .ok (.ireturn, 1) := dk_172 (dk_at dksX12_operator_4 5 rfl rfl)
theorem dX12_operator_96 : decode cX12_operator 96 = .ok (.aload_n 0, 1) := dk_42 (dk_at dksX12_operator_4 6 rfl rfl)
theorem dX12_operator_97 : decode cX12_operator 97 = .ok (.getfield 44, 3) := dk_180 0 44 (dk_at dksX12_operator_4 7 rfl rfl)
theorem dX12_operator_100 : decode cX12_operator 100 = .ok (.iload_n 1, 1) := dk_27 (dk_at dksX12_operator_4 10 rfl rfl)
theorem dX12_operator_101 : decode cX12_operator 101 = .ok (.iaload, 1) := dk_46 (dk_at dksX12_operator_4 11 rfl rfl)
theorem dX12_operator_102 : decode cX12_operator 102 = .ok (.ireturn, 1) := dk_172 (dk_at dksX12_operator_4 12 rfl rfl)
theorem dX12_operator_103 : decode cX12_operator 103 = .ok (.aload_n 0, 1) := dk_42 (dk_at dksX12_operator_4 13 rfl rfl)
theorem dX12_operator_104 : decode cX12_operator 104 = .ok (.getfield 47, 3) := dk_180 0 47 (dk_at dksX12_operator_4 14 rfl rfl)
theorem dX12_operator_107 : decode cX12_operator 107 = .ok (.iload_n 1, 1) := dk_27 (dk_at dksX12_operator_4 17 rfl rfl)
theorem dX12_operator_108 : decode cX12_operator 108 = .ok (.iaload, 1) := dk_46 (dk_at dksX12_operator_4 18 rfl rfl)
theorem dX12_operator_109 : decode cX12_operator 109 = .ok (.ireturn, 1) := dk_172 (dk_at dksX12_operator_4 19 rfl rfl)
theorem dX12_operator_110 : decode cX12_operator 110 = .ok (.aload_n 0, 1) := dk_42 (dk_at dksX12_operator_4 20 rfl rfl)
theorem dX12_operator_111 : decode cX12_operator 111 = .ok (.getfield 50, 3) := dk_180 0 50 (dk_at dksX12_operator_4 21 rfl rfl)
theorem dX12_operator_114 : decode cX12_operator 114 = .ok (.iload_n 1, 1) := dk_27 (dk_at dksX12_operator_5 0 rfl rfl)
theorem dX12_operator_115 : decode cX12_operator 115 = .ok (.iaload, 1) := dk_46 (dk_at dksX12_operator_5 1 rfl rfl)
theorem dX12_operator_116 : decode cX12_operator 116 = .ok (.ireturn, 1) := dk_172 (dk_at dksX12_operator_5 2 rfl rfl)
theorem dX12_operator_117 : decode cX12_operator 117 = .ok (.aload_n 0, 1) := dk_42 (dk_at dksX12_operator_5 3 rfl rfl)
theorem dX12_operator_118 : decode cX12_operator 118 = .ok (.getfield 53, 3) := dk_180 0 53 (dk_at dksX12_operator_5 4 rfl rfl)
theorem dX12_operator_121 : decode cX12_operator 121 = .ok (.iload_n 1, 1) := dk_27 (dk_at dksX12_operator_5 7 rfl rfl)
theorem dX12_operator_122 : decode cX12_operator 122 = .ok (.iaload, 1) := dk_46 (dk_at dksX12_operator_5 8 rfl rfl)
theorem dX12_operator_123 : decode cX12_operator 123 = .ok (.ireturn, 1) := dk_172 (dk_at dksX12_operator_5 9 rfl rfl)
abbrev cX12_instance : ByteArray := prog_27_method_54_code
def yX12_instance : MethodName := ⟨RX12, "instance", "(III)I"⟩
def dkwX12_instance_5 : List UInt8 := [42, 27, 28, 182, 1, 127, 172]
abbrev dktX12_instance_5 : List UInt8 := dkwX12_instance_5 ++ []
def dkwX12_instance_4 : List UInt8 := [42, 180, 0, 105, 21, 4, 46, 172, 42, 180, 0, 108, 21, 4, 46, 172, 42, 180, 0, 84, 21, 4, 46, 172]
abbrev dktX12_instance_4 : List UInt8 := dkwX12_instance_4 ++ dktX12_instance_5
def dkwX12_instance_3 : List UInt8 := [42, 180, 0, 93, 21, 4, 46, 172, 42, 180, 0, 111, 21, 4, 51, 153, 0, 7, 4, 167, 0, 4, 3, 172]
abbrev dktX12_instance_3 : List UInt8 := dkwX12_instance_3 ++ dktX12_instance_4
def dkwX12_instance_2 : List UInt8 := [170, 0, 0, 0, 0, 0, 0, 84, 0, 0, 0, 0, 0, 0, 0, 4, 0, 0, 0, 36, 0, 0, 0, 44, 0, 0, 0, 60, 0, 0, 0, 68, 0, 0, 0, 76]
abbrev dktX12_instance_2 : List UInt8 := dkwX12_instance_2 ++ dktX12_instance_3
def dkwX12_instance_1 : List UInt8 := [19, 1, 53, 172, 29, 3, 8, 184, 0, 203, 154, 0, 6, 18, 207, 172, 27, 28, 184, 1, 32, 54, 4, 29]
abbrev dktX12_instance_1 : List UInt8 := dkwX12_instance_1 ++ dktX12_instance_2
def dkwX12_instance_0 : List UInt8 := [42, 27, 182, 1, 121, 153, 0, 19, 28, 3, 42, 180, 0, 22, 27, 46, 4, 100, 184, 0, 203, 154, 0, 7]
abbrev dktX12_instance_0 : List UInt8 := dkwX12_instance_0 ++ dktX12_instance_1
theorem dksX12_instance_0 : cX12_instance.data.toList.drop 0 = dktX12_instance_0 := by decide +kernel
theorem dksX12_instance_1 : cX12_instance.data.toList.drop 24 = dktX12_instance_1 := dk_seg dksX12_instance_0 24 rfl rfl
theorem dksX12_instance_2 : cX12_instance.data.toList.drop 48 = dktX12_instance_2 := dk_seg dksX12_instance_1 24 rfl rfl
theorem dksX12_instance_3 : cX12_instance.data.toList.drop 84 = dktX12_instance_3 := dk_seg dksX12_instance_2 36 rfl rfl
theorem dksX12_instance_4 : cX12_instance.data.toList.drop 108 = dktX12_instance_4 := dk_seg dksX12_instance_3 24 rfl rfl
theorem dksX12_instance_5 : cX12_instance.data.toList.drop 132 = dktX12_instance_5 := dk_seg dksX12_instance_4 24 rfl rfl
theorem dX12_instance_0 : decode cX12_instance 0 = .ok (.aload_n 0, 1) := dk_42 (dk_at dksX12_instance_0 0 rfl rfl)
theorem dX12_instance_1 : decode cX12_instance 1 = .ok (.iload_n 1, 1) := dk_27 (dk_at dksX12_instance_0 1 rfl rfl)
theorem dX12_instance_2 : decode cX12_instance 2 = .ok (.invokevirtual 377, 3) := dk_182 1 121 (dk_at dksX12_instance_0 2 rfl rfl)
theorem dX12_instance_5 : decode cX12_instance 5 = .ok (.ifCond .eq 19, 3) := dk_153 0 19 (dk_at dksX12_instance_0 5 rfl rfl)
theorem dX12_instance_8 : decode cX12_instance 8 = .ok (.iload_n 2, 1) := dk_28 (dk_at dksX12_instance_0 8 rfl rfl)
theorem dX12_instance_9 : decode cX12_instance 9 = .ok (.iconst 0, 1) := dk_3 (dk_at dksX12_instance_0 9 rfl rfl)
theorem dX12_instance_10 : decode cX12_instance 10 = .ok (.aload_n 0, 1) := dk_42 (dk_at dksX12_instance_0 10 rfl rfl)
theorem dX12_instance_11 : decode cX12_instance 11 = .ok (.getfield 22, 3) := dk_180 0 22 (dk_at dksX12_instance_0 11 rfl rfl)
theorem dX12_instance_14 : decode cX12_instance 14 = .ok (.iload_n 1, 1) := dk_27 (dk_at dksX12_instance_0 14 rfl rfl)
theorem dX12_instance_15 : decode cX12_instance 15 = .ok (.iaload, 1) := dk_46 (dk_at dksX12_instance_0 15 rfl rfl)
theorem dX12_instance_16 : decode cX12_instance 16 = .ok (.iconst 1, 1) := dk_4 (dk_at dksX12_instance_0 16 rfl rfl)
theorem dX12_instance_17 : decode cX12_instance 17 = .ok (.isub, 1) := dk_100 (dk_at dksX12_instance_0 17 rfl rfl)
theorem dX12_instance_18 : decode cX12_instance 18 = .ok (.invokestatic 203, 3) := dk_184 0 203 (dk_at dksX12_instance_0 18 rfl rfl)
theorem dX12_instance_21 : decode cX12_instance 21 = .ok (.ifCond .ne 7, 3) := dk_154 0 7 (dk_at dksX12_instance_0 21 rfl rfl)
theorem dX12_instance_24 : decode cX12_instance 24 = .ok (.ldc_w 309, 3) := dk_19 1 53 (dk_at dksX12_instance_1 0 rfl rfl)
theorem dX12_instance_27 : decode cX12_instance 27 = .ok (.ireturn, 1) := dk_172 (dk_at dksX12_instance_1 3 rfl rfl)
theorem dX12_instance_28 : decode cX12_instance 28 = .ok (.iload_n 3, 1) := dk_29 (dk_at dksX12_instance_1 4 rfl rfl)
theorem dX12_instance_29 : decode cX12_instance 29 = .ok (.iconst 0, 1) := dk_3 (dk_at dksX12_instance_1 5 rfl rfl)
theorem dX12_instance_30 : decode cX12_instance 30 = .ok (.iconst 5, 1) := dk_8 (dk_at dksX12_instance_1 6 rfl rfl)
theorem dX12_instance_31 : decode cX12_instance 31 = .ok (.invokestatic 203, 3) := dk_184 0 203 (dk_at dksX12_instance_1 7 rfl rfl)
theorem dX12_instance_34 : decode cX12_instance 34 = .ok (.ifCond .ne 6, 3) := dk_154 0 6 (dk_at dksX12_instance_1 10 rfl rfl)
theorem dX12_instance_37 : decode cX12_instance 37 = .ok (.ldc 207, 2) := dk_18 207 (dk_at dksX12_instance_1 13 rfl rfl)
theorem dX12_instance_39 : decode cX12_instance 39 = .ok (.ireturn, 1) := dk_172 (dk_at dksX12_instance_1 15 rfl rfl)
theorem dX12_instance_40 : decode cX12_instance 40 = .ok (.iload_n 1, 1) := dk_27 (dk_at dksX12_instance_1 16 rfl rfl)
theorem dX12_instance_41 : decode cX12_instance 41 = .ok (.iload_n 2, 1) := dk_28 (dk_at dksX12_instance_1 17 rfl rfl)
theorem dX12_instance_42 : decode cX12_instance 42 = .ok (.invokestatic 288, 3) := dk_184 1 32 (dk_at dksX12_instance_1 18 rfl rfl)
theorem dX12_instance_45 : decode cX12_instance 45 = .ok (.istore 4, 2) := dk_54 4 (dk_at dksX12_instance_1 21 rfl rfl)
theorem dX12_instance_47 : decode cX12_instance 47 = .ok (.iload_n 3, 1) := dk_29 (dk_at dksX12_instance_1 23 rfl rfl)
theorem dX12_instance_48 : decode cX12_instance 48 = .ok (.tableswitch 84 0 4 #[36, 44, 60, 68, 76], 36) := by decide +kernel
theorem dX12_instance_84 : decode cX12_instance 84 = .ok (.aload_n 0, 1) := dk_42 (dk_at dksX12_instance_3 0 rfl rfl)
theorem dX12_instance_85 : decode cX12_instance 85 = .ok (.getfield 93, 3) := dk_180 0 93 (dk_at dksX12_instance_3 1 rfl rfl)
theorem dX12_instance_88 : decode cX12_instance 88 = .ok (.iload 4, 2) := dk_21 4 (dk_at dksX12_instance_3 4 rfl rfl)
theorem dX12_instance_90 : decode cX12_instance 90 = .ok (.iaload, 1) := dk_46 (dk_at dksX12_instance_3 6 rfl rfl)
theorem dX12_instance_91 : decode cX12_instance 91 = .ok (.ireturn, 1) := dk_172 (dk_at dksX12_instance_3 7 rfl rfl)
theorem dX12_instance_92 : decode cX12_instance 92 = .ok (.aload_n 0, 1) := dk_42 (dk_at dksX12_instance_3 8 rfl rfl)
theorem dX12_instance_93 : decode cX12_instance 93 = .ok (.getfield 111, 3) := dk_180 0 111 (dk_at dksX12_instance_3 9 rfl rfl)
theorem dX12_instance_96 : decode cX12_instance 96 = .ok (.iload 4, 2) := dk_21 4 (dk_at dksX12_instance_3 12 rfl rfl)
theorem dX12_instance_98 : decode cX12_instance 98 = .ok (.baload, 1) := dk_51 (dk_at dksX12_instance_3 14 rfl rfl)
theorem dX12_instance_99 : decode cX12_instance 99 = .ok (.ifCond .eq 7, 3) := dk_153 0 7 (dk_at dksX12_instance_3 15 rfl rfl)
theorem dX12_instance_102 : decode cX12_instance 102 = .ok (.iconst 1, 1) := dk_4 (dk_at dksX12_instance_3 18 rfl rfl)
theorem dX12_instance_103 : decode cX12_instance 103 = .ok (.goto 4, 3) := dk_167 0 4 (dk_at dksX12_instance_3 19 rfl rfl)
theorem dX12_instance_106 : decode cX12_instance 106 = .ok (.iconst 0, 1) := dk_3 (dk_at dksX12_instance_3 22 rfl rfl)
theorem dX12_instance_107 : decode cX12_instance 107 = .ok (.ireturn, 1) := dk_172 (dk_at dksX12_instance_3 23 rfl rfl)
theorem dX12_instance_108 : decode cX12_instance 108 = .ok (.aload_n 0, 1) := dk_42 (dk_at dksX12_instance_4 0 rfl rfl)
theorem dX12_instance_109 : decode cX12_instance 109 = .ok (.getfield 105, 3) := dk_180 0 105 (dk_at dksX12_instance_4 1 rfl rfl)
theorem dX12_instance_112 : decode cX12_instance 112 = .ok (.iload 4, 2) := dk_21 4 (dk_at dksX12_instance_4 4 rfl rfl)
theorem dX12_instance_114 : decode cX12_instance 114 = .ok (.iaload, 1) := dk_46 (dk_at dksX12_instance_4 6 rfl rfl)
theorem dX12_instance_115 : decode cX12_instance 115 = .ok (.ireturn, 1) := dk_172 (dk_at dksX12_instance_4 7 rfl rfl)
theorem dX12_instance_116 : decode cX12_instance 116 = .ok (.aload_n 0, 1) := dk_42 (dk_at dksX12_instance_4 8 rfl rfl)
theorem dX12_instance_117 : decode cX12_instance 117 = .ok (.getfield 108, 3) := dk_180 0 108 (dk_at dksX12_instance_4 9 rfl rfl)
theorem dX12_instance_120 : decode cX12_instance 120 = .ok (.iload 4, 2) := dk_21 4 (dk_at dksX12_instance_4 12 rfl rfl)
theorem dX12_instance_122 : decode cX12_instance 122 = .ok (.iaload, 1) := dk_46 (dk_at dksX12_instance_4 14 rfl rfl)
theorem dX12_instance_123 : decode cX12_instance 123 = .ok (.ireturn, 1) := dk_172 (dk_at dksX12_instance_4 15 rfl rfl)
theorem dX12_instance_124 : decode cX12_instance 124 = .ok (.aload_n 0, 1) := dk_42 (dk_at dksX12_instance_4 16 rfl rfl)
theorem dX12_instance_125 : decode cX12_instance 125 = .ok (.getfield 84, 3) := dk_180 0 84 (dk_at dksX12_instance_4 17 rfl rfl)
theorem dX12_instance_128 : decode cX12_instance 128 = .ok (.iload 4, 2) := dk_21 4 (dk_at dksX12_instance_4 20 rfl rfl)
theorem dX12_instance_130 : decode cX12_instance 130 = .ok (.iaload, 1) := dk_46 (dk_at dksX12_instance_4 22 rfl rfl)
theorem dX12_instance_131 : decode cX12_instance 131 = .ok (.ireturn, 1) := dk_172 (dk_at dksX12_instance_4 23 rfl rfl)
theorem dX12_instance_132 : decode cX12_instance 132 = .ok (.aload_n 0, 1) := dk_42 (dk_at dksX12_instance_5 0 rfl rfl)
theorem dX12_instance_133 : decode cX12_instance 133 = .ok (.iload_n 1, 1) := dk_27 (dk_at dksX12_instance_5 1 rfl rfl)
theorem dX12_instance_134 : decode cX12_instance 134 = .ok (.iload_n 2, 1) := dk_28 (dk_at dksX12_instance_5 2 rfl rfl)
theorem dX12_instance_135 : decode cX12_instance 135 = .ok (.invokevirtual 383, 3) := dk_182 1 127 (dk_at dksX12_instance_5 3 rfl rfl)
theorem dX12_instance_138 : decode cX12_instance 138 = .ok (.ireturn, 1) := dk_172 (dk_at dksX12_instance_5 6 rfl rfl)
abbrev cX12_keysOf : ByteArray := prog_27_method_53_code
def yX12_keysOf : MethodName := ⟨RX12, "keysOf", "(II)I"⟩
def dkwX12_keysOf_2 : List UInt8 := [160, 0, 7, 4, 167, 0, 4, 3, 96, 62, 132, 4, 1, 167, 255, 204, 29, 172]
abbrev dktX12_keysOf_2 : List UInt8 := dkwX12_keysOf_2 ++ []
def dkwX12_keysOf_1 : List UInt8 := [180, 0, 56, 16, 16, 27, 104, 21, 4, 96, 51, 153, 0, 18, 42, 27, 21, 4, 182, 1, 29, 28]
abbrev dktX12_keysOf_1 : List UInt8 := dkwX12_keysOf_1 ++ dktX12_keysOf_2
def dkwX12_keysOf_0 : List UInt8 := [3, 62, 3, 54, 4, 21, 4, 16, 16, 162, 0, 51, 42, 27, 182, 1, 25, 153, 0, 43, 29, 42]
abbrev dktX12_keysOf_0 : List UInt8 := dkwX12_keysOf_0 ++ dktX12_keysOf_1
theorem dksX12_keysOf_0 : cX12_keysOf.data.toList.drop 0 = dktX12_keysOf_0 := by decide +kernel
theorem dksX12_keysOf_1 : cX12_keysOf.data.toList.drop 22 = dktX12_keysOf_1 := dk_seg dksX12_keysOf_0 22 rfl rfl
theorem dksX12_keysOf_2 : cX12_keysOf.data.toList.drop 44 = dktX12_keysOf_2 := dk_seg dksX12_keysOf_1 22 rfl rfl
theorem dX12_keysOf_0 : decode cX12_keysOf 0 = .ok (.iconst 0, 1) := dk_3 (dk_at dksX12_keysOf_0 0 rfl rfl)
theorem dX12_keysOf_1 : decode cX12_keysOf 1 = .ok (.istore_n 3, 1) := dk_62 (dk_at dksX12_keysOf_0 1 rfl rfl)
theorem dX12_keysOf_2 : decode cX12_keysOf 2 = .ok (.iconst 0, 1) := dk_3 (dk_at dksX12_keysOf_0 2 rfl rfl)
theorem dX12_keysOf_3 : decode cX12_keysOf 3 = .ok (.istore 4, 2) := dk_54 4 (dk_at dksX12_keysOf_0 3 rfl rfl)
theorem dX12_keysOf_5 : decode cX12_keysOf 5 = .ok (.iload 4, 2) := dk_21 4 (dk_at dksX12_keysOf_0 5 rfl rfl)
theorem dX12_keysOf_7 : decode cX12_keysOf 7 = .ok (.bipush 16, 2) := dk_16 16 (dk_at dksX12_keysOf_0 7 rfl rfl)
theorem dX12_keysOf_9 : decode cX12_keysOf 9 = .ok (.if_icmp .ge 51, 3) := dk_162 0 51 (dk_at dksX12_keysOf_0 9 rfl rfl)
theorem dX12_keysOf_12 : decode cX12_keysOf 12 = .ok (.aload_n 0, 1) := dk_42 (dk_at dksX12_keysOf_0 12 rfl rfl)
theorem dX12_keysOf_13 : decode cX12_keysOf 13 = .ok (.iload_n 1, 1) := dk_27 (dk_at dksX12_keysOf_0 13 rfl rfl)
theorem dX12_keysOf_14 : decode cX12_keysOf 14 = .ok (.invokevirtual 281, 3) := dk_182 1 25 (dk_at dksX12_keysOf_0 14 rfl rfl)
theorem dX12_keysOf_17 : decode cX12_keysOf 17 = .ok (.ifCond .eq 43, 3) := dk_153 0 43 (dk_at dksX12_keysOf_0 17 rfl rfl)
theorem dX12_keysOf_20 : decode cX12_keysOf 20 = .ok (.iload_n 3, 1) := dk_29 (dk_at dksX12_keysOf_0 20 rfl rfl)
theorem dX12_keysOf_21 : decode cX12_keysOf 21 = .ok (.aload_n 0, 1) := dk_42 (dk_at dksX12_keysOf_0 21 rfl rfl)
theorem dX12_keysOf_22 : decode cX12_keysOf 22 = .ok (.getfield 56, 3) := dk_180 0 56 (dk_at dksX12_keysOf_1 0 rfl rfl)
theorem dX12_keysOf_25 : decode cX12_keysOf 25 = .ok (.bipush 16, 2) := dk_16 16 (dk_at dksX12_keysOf_1 3 rfl rfl)
theorem dX12_keysOf_27 : decode cX12_keysOf 27 = .ok (.iload_n 1, 1) := dk_27 (dk_at dksX12_keysOf_1 5 rfl rfl)
theorem dX12_keysOf_28 : decode cX12_keysOf 28 = .ok (.imul, 1) := dk_104 (dk_at dksX12_keysOf_1 6 rfl rfl)
theorem dX12_keysOf_29 : decode cX12_keysOf 29 = .ok (.iload 4, 2) := dk_21 4 (dk_at dksX12_keysOf_1 7 rfl rfl)
theorem dX12_keysOf_31 : decode cX12_keysOf 31 = .ok (.iadd, 1) := dk_96 (dk_at dksX12_keysOf_1 9 rfl rfl)
theorem dX12_keysOf_32 : decode cX12_keysOf 32 = .ok (.baload, 1) := dk_51 (dk_at dksX12_keysOf_1 10 rfl rfl)
theorem dX12_keysOf_33 : decode cX12_keysOf 33 = .ok (.ifCond .eq 18, 3) := dk_153 0 18 (dk_at dksX12_keysOf_1 11 rfl rfl)
theorem dX12_keysOf_36 : decode cX12_keysOf 36 = .ok (.aload_n 0, 1) := dk_42 (dk_at dksX12_keysOf_1 14 rfl rfl)
theorem dX12_keysOf_37 : decode cX12_keysOf 37 = .ok (.iload_n 1, 1) := dk_27 (dk_at dksX12_keysOf_1 15 rfl rfl)
theorem dX12_keysOf_38 : decode cX12_keysOf 38 = .ok (.iload 4, 2) := dk_21 4 (dk_at dksX12_keysOf_1 16 rfl rfl)
theorem dX12_keysOf_40 : decode cX12_keysOf 40 = .ok (.invokevirtual 285, 3) := dk_182 1 29 (dk_at dksX12_keysOf_1 18 rfl rfl)
theorem dX12_keysOf_43 : decode cX12_keysOf 43 = .ok (.iload_n 2, 1) := dk_28 (dk_at dksX12_keysOf_1 21 rfl rfl)
theorem dX12_keysOf_44 : decode cX12_keysOf 44 = .ok (.if_icmp .ne 7, 3) := dk_160 0 7 (dk_at dksX12_keysOf_2 0 rfl rfl)
theorem dX12_keysOf_47 : decode cX12_keysOf 47 = .ok (.iconst 1, 1) := dk_4 (dk_at dksX12_keysOf_2 3 rfl rfl)
theorem dX12_keysOf_48 : decode cX12_keysOf 48 = .ok (.goto 4, 3) := dk_167 0 4 (dk_at dksX12_keysOf_2 4 rfl rfl)
theorem dX12_keysOf_51 : decode cX12_keysOf 51 = .ok (.iconst 0, 1) := dk_3 (dk_at dksX12_keysOf_2 7 rfl rfl)
theorem dX12_keysOf_52 : decode cX12_keysOf 52 = .ok (.iadd, 1) := dk_96 (dk_at dksX12_keysOf_2 8 rfl rfl)
theorem dX12_keysOf_53 : decode cX12_keysOf 53 = .ok (.istore_n 3, 1) := dk_62 (dk_at dksX12_keysOf_2 9 rfl rfl)
theorem dX12_keysOf_54 : decode cX12_keysOf 54 = .ok (.iinc 4 1, 3) := dk_132 4 1 (dk_at dksX12_keysOf_2 10 rfl rfl)
theorem dX12_keysOf_57 : decode cX12_keysOf 57 = .ok (.goto (-52), 3) := dk_167 255 204 (dk_at dksX12_keysOf_2 13 rfl rfl)
theorem dX12_keysOf_60 : decode cX12_keysOf 60 = .ok (.iload_n 3, 1) := dk_29 (dk_at dksX12_keysOf_2 16 rfl rfl)
theorem dX12_keysOf_61 : decode cX12_keysOf 61 = .ok (.ireturn, 1) := dk_172 (dk_at dksX12_keysOf_2 17 rfl rfl)
abbrev cX12_channel : ByteArray := prog_27_method_55_code
def yX12_channel : MethodName := ⟨RX12, "channel", "(IIII)I"⟩
def dkwX12_channel_6 : List UInt8 := [21, 5, 46, 100, 172]
abbrev dktX12_channel_6 : List UInt8 := dkwX12_channel_6 ++ []
def dkwX12_channel_5 : List UInt8 := [21, 4, 6, 160, 0, 13, 42, 180, 0, 117, 21, 5, 46, 167, 0, 15, 42, 180, 0, 32, 42, 180, 0, 129]
abbrev dktX12_channel_5 : List UInt8 := dkwX12_channel_5 ++ dktX12_channel_6
def dkwX12_channel_4 : List UInt8 := [180, 0, 114, 21, 5, 46, 167, 0, 46, 21, 4, 5, 160, 0, 12, 42, 21, 5, 182, 1, 124, 167, 0, 31]
abbrev dktX12_channel_4 : List UInt8 := dkwX12_channel_4 ++ dktX12_channel_5
def dkwX12_channel_3 : List UInt8 := [54, 5, 21, 4, 154, 0, 13, 42, 180, 0, 129, 21, 5, 46, 167, 0, 62, 21, 4, 4, 160, 0, 13, 42]
abbrev dktX12_channel_3 : List UInt8 := dkwX12_channel_3 ++ dktX12_channel_4
def dkwX12_channel_2 : List UInt8 := [19, 1, 53, 172, 21, 4, 3, 7, 184, 0, 203, 154, 0, 6, 18, 207, 172, 27, 28, 29, 184, 1, 68]
abbrev dktX12_channel_2 : List UInt8 := dkwX12_channel_2 ++ dktX12_channel_3
def dkwX12_channel_1 : List UInt8 := [184, 0, 203, 153, 0, 21, 29, 3, 42, 180, 0, 22, 27, 4, 96, 46, 4, 100, 184, 0, 203, 154, 0, 7]
abbrev dktX12_channel_1 : List UInt8 := dkwX12_channel_1 ++ dktX12_channel_2
def dkwX12_channel_0 : List UInt8 := [27, 3, 42, 180, 0, 196, 184, 0, 203, 153, 0, 37, 28, 3, 42, 180, 0, 22, 27, 46, 4, 100]
abbrev dktX12_channel_0 : List UInt8 := dkwX12_channel_0 ++ dktX12_channel_1
theorem dksX12_channel_0 : cX12_channel.data.toList.drop 0 = dktX12_channel_0 := by decide +kernel
theorem dksX12_channel_1 : cX12_channel.data.toList.drop 22 = dktX12_channel_1 := dk_seg dksX12_channel_0 22 rfl rfl
theorem dksX12_channel_2 : cX12_channel.data.toList.drop 46 = dktX12_channel_2 := dk_seg dksX12_channel_1 24 rfl rfl
theorem dksX12_channel_3 : cX12_channel.data.toList.drop 69 = dktX12_channel_3 := dk_seg dksX12_channel_2 23 rfl rfl
theorem dksX12_channel_4 : cX12_channel.data.toList.drop 93 = dktX12_channel_4 := dk_seg dksX12_channel_3 24 rfl rfl
theorem dksX12_channel_5 : cX12_channel.data.toList.drop 117 = dktX12_channel_5 := dk_seg dksX12_channel_4 24 rfl rfl
theorem dksX12_channel_6 : cX12_channel.data.toList.drop 141 = dktX12_channel_6 := dk_seg dksX12_channel_5 24 rfl rfl
theorem dX12_channel_0 : decode cX12_channel 0 = .ok (.iload_n 1, 1) := dk_27 (dk_at dksX12_channel_0 0 rfl rfl)
theorem dX12_channel_1 : decode cX12_channel 1 = .ok (.iconst 0, 1) := dk_3 (dk_at dksX12_channel_0 1 rfl rfl)
theorem dX12_channel_2 : decode cX12_channel 2 = .ok (.aload_n 0, 1) := dk_42 (dk_at dksX12_channel_0 2 rfl rfl)
theorem dX12_channel_3 : decode cX12_channel 3 = .ok (.getfield 196, 3) := dk_180 0 196 (dk_at dksX12_channel_0 3 rfl rfl)
theorem dX12_channel_6 : decode cX12_channel 6 = .ok (.invokestatic 203, 3) := dk_184 0 203 (dk_at dksX12_channel_0 6 rfl rfl)
theorem dX12_channel_9 : decode cX12_channel 9 = .ok (.ifCond .eq 37, 3) := dk_153 0 37 (dk_at dksX12_channel_0 9 rfl rfl)
theorem dX12_channel_12 : decode cX12_channel 12 = .ok (.iload_n 2, 1) := dk_28 (dk_at dksX12_channel_0 12 rfl rfl)
theorem dX12_channel_13 : decode cX12_channel 13 = .ok (.iconst 0, 1) := dk_3 (dk_at dksX12_channel_0 13 rfl rfl)
theorem dX12_channel_14 : decode cX12_channel 14 = .ok (.aload_n 0, 1) := dk_42 (dk_at dksX12_channel_0 14 rfl rfl)
theorem dX12_channel_15 : decode cX12_channel 15 = .ok (.getfield 22, 3) := dk_180 0 22 (dk_at dksX12_channel_0 15 rfl rfl)
theorem dX12_channel_18 : decode cX12_channel 18 = .ok (.iload_n 1, 1) := dk_27 (dk_at dksX12_channel_0 18 rfl rfl)
theorem dX12_channel_19 : decode cX12_channel 19 = .ok (.iaload, 1) := dk_46 (dk_at dksX12_channel_0 19 rfl rfl)
theorem dX12_channel_20 : decode cX12_channel 20 = .ok (.iconst 1, 1) := dk_4 (dk_at dksX12_channel_0 20 rfl rfl)
theorem dX12_channel_21 : decode cX12_channel 21 = .ok (.isub, 1) := dk_100 (dk_at dksX12_channel_0 21 rfl rfl)
theorem dX12_channel_22 : decode cX12_channel 22 = .ok (.invokestatic 203, 3) := dk_184 0 203 (dk_at dksX12_channel_1 0 rfl rfl)
theorem dX12_channel_25 : decode cX12_channel 25 = .ok (.ifCond .eq 21, 3) := dk_153 0 21 (dk_at dksX12_channel_1 3 rfl rfl)
theorem dX12_channel_28 : decode cX12_channel 28 = .ok (.iload_n 3, 1) := dk_29 (dk_at dksX12_channel_1 6 rfl rfl)
theorem dX12_channel_29 : decode cX12_channel 29 = .ok (.iconst 0, 1) := dk_3 (dk_at dksX12_channel_1 7 rfl rfl)
theorem dX12_channel_30 : decode cX12_channel 30 = .ok (.aload_n 0, 1) := dk_42 (dk_at dksX12_channel_1 8 rfl rfl)
theorem dX12_channel_31 : decode cX12_channel 31 = .ok (.getfield 22, 3) := dk_180 0 22 (dk_at dksX12_channel_1 9 rfl rfl)
theorem dX12_channel_34 : decode cX12_channel 34 = .ok (.iload_n 1, 1) := dk_27 (dk_at dksX12_channel_1 12 rfl rfl)
theorem dX12_channel_35 : decode cX12_channel 35 = .ok (.iconst 1, 1) := dk_4 (dk_at dksX12_channel_1 13 rfl rfl)
theorem dX12_channel_36 : decode cX12_channel 36 = .ok (.iadd, 1) := dk_96 (dk_at dksX12_channel_1 14 rfl rfl)
theorem dX12_channel_37 : decode cX12_channel 37 = .ok (.iaload, 1) := dk_46 (dk_at dksX12_channel_1 15 rfl rfl)
theorem dX12_channel_38 : decode cX12_channel 38 = .ok (.iconst 1, 1) := dk_4 (dk_at dksX12_channel_1 16 rfl rfl)
theorem dX12_channel_39 : decode cX12_channel 39 = .ok (.isub, 1) := dk_100 (dk_at dksX12_channel_1 17 rfl rfl)
theorem dX12_channel_40 : decode cX12_channel 40 = .ok (.invokestatic 203, 3) := dk_184 0 203 (dk_at dksX12_channel_1 18 rfl rfl)
theorem dX12_channel_43 : decode cX12_channel 43 = .ok (.ifCond .ne 7, 3) := dk_154 0 7 (dk_at dksX12_channel_1 21 rfl rfl)
theorem dX12_channel_46 : decode cX12_channel 46 = .ok (.ldc_w 309, 3) := dk_19 1 53 (dk_at dksX12_channel_2 0 rfl rfl)
theorem dX12_channel_49 : decode cX12_channel 49 = .ok (.ireturn, 1) := dk_172 (dk_at dksX12_channel_2 3 rfl rfl)
theorem dX12_channel_50 : decode cX12_channel 50 = .ok (.iload 4, 2) := dk_21 4 (dk_at dksX12_channel_2 4 rfl rfl)
theorem dX12_channel_52 : decode cX12_channel 52 = .ok (.iconst 0, 1) := dk_3 (dk_at dksX12_channel_2 6 rfl rfl)
theorem dX12_channel_53 : decode cX12_channel 53 = .ok (.iconst 4, 1) := dk_7 (dk_at dksX12_channel_2 7 rfl rfl)
theorem dX12_channel_54 : decode cX12_channel 54 = .ok (.invokestatic 203, 3) := dk_184 0 203 (dk_at dksX12_channel_2 8 rfl rfl)
theorem dX12_channel_57 : decode cX12_channel 57 = .ok (.ifCond .ne 6, 3) := dk_154 0 6 (dk_at dksX12_channel_2 11 rfl rfl)
theorem dX12_channel_60 : decode cX12_channel 60 = .ok (.ldc 207, 2) := dk_18 207 (dk_at dksX12_channel_2 14 rfl rfl)
theorem dX12_channel_62 : decode cX12_channel 62 = .ok (.ireturn, 1) := dk_172 (dk_at dksX12_channel_2 16 rfl rfl)
theorem dX12_channel_63 : decode cX12_channel 63 = .ok (.iload_n 1, 1) := dk_27 (dk_at dksX12_channel_2 17 rfl rfl)
theorem dX12_channel_64 : decode cX12_channel 64 = .ok (.iload_n 2, 1) := dk_28 (dk_at dksX12_channel_2 18 rfl rfl)
theorem dX12_channel_65 : decode cX12_channel 65 = .ok (.iload_n 3, 1) := dk_29 (dk_at dksX12_channel_2 19 rfl rfl)
theorem dX12_channel_66 : decode cX12_channel 66 = .ok (.invokestatic 324, 3) := dk_184 1 68 (dk_at dksX12_channel_2 20 rfl rfl)
theorem dX12_channel_69 : decode cX12_channel 69 = .ok (.istore 5, 2) := dk_54 5 (dk_at dksX12_channel_3 0 rfl rfl)
theorem dX12_channel_71 : decode cX12_channel 71 = .ok (.iload 4, 2) := dk_21 4 (dk_at dksX12_channel_3 2 rfl rfl)
theorem dX12_channel_73 : decode cX12_channel 73 = .ok (.ifCond .ne 13, 3) := dk_154 0 13 (dk_at dksX12_channel_3 4 rfl rfl)
theorem dX12_channel_76 : decode cX12_channel 76 = .ok (.aload_n 0, 1) := dk_42 (dk_at dksX12_channel_3 7 rfl rfl)
theorem dX12_channel_77 : decode cX12_channel 77 = .ok (.getfield 129, 3) := dk_180 0 129 (dk_at dksX12_channel_3 8 rfl rfl)
theorem dX12_channel_80 : decode cX12_channel 80 = .ok (.iload 5, 2) := dk_21 5 (dk_at dksX12_channel_3 11 rfl rfl)
theorem dX12_channel_82 : decode cX12_channel 82 = .ok (.iaload, 1) := dk_46 (dk_at dksX12_channel_3 13 rfl rfl)
theorem dX12_channel_83 : decode cX12_channel 83 = .ok (.goto 62, 3) := dk_167 0 62 (dk_at dksX12_channel_3 14 rfl rfl)
theorem dX12_channel_86 : decode cX12_channel 86 = .ok (.iload 4, 2) := dk_21 4 (dk_at dksX12_channel_3 17 rfl rfl)
theorem dX12_channel_88 : decode cX12_channel 88 = .ok (.iconst 1, 1) := dk_4 (dk_at dksX12_channel_3 19 rfl rfl)
theorem dX12_channel_89 : decode cX12_channel 89 = .ok (.if_icmp .ne 13, 3) := dk_160 0 13 (dk_at dksX12_channel_3 20 rfl rfl)
theorem dX12_channel_92 : decode cX12_channel 92 = .ok (.aload_n 0, 1) := dk_42 (dk_at dksX12_channel_3 23 rfl rfl)
theorem dX12_channel_93 : decode cX12_channel 93 = .ok (.getfield 114, 3) := dk_180 0 114 (dk_at dksX12_channel_4 0 rfl rfl)
theorem dX12_channel_96 : decode cX12_channel 96 = .ok (.iload 5, 2) := dk_21 5 (dk_at dksX12_channel_4 3 rfl rfl)
theorem dX12_channel_98 : decode cX12_channel 98 = .ok (.iaload, 1) := dk_46 (dk_at dksX12_channel_4 5 rfl rfl)
theorem dX12_channel_99 : decode cX12_channel 99 = .ok (.goto 46, 3) := dk_167 0 46 (dk_at dksX12_channel_4 6 rfl rfl)
theorem dX12_channel_102 : decode cX12_channel 102 = .ok (.iload 4, 2) := dk_21 4 (dk_at dksX12_channel_4 9 rfl rfl)
theorem dX12_channel_104 : decode cX12_channel 104 = .ok (.iconst 2, 1) := dk_5 (dk_at dksX12_channel_4 11 rfl rfl)
theorem dX12_channel_105 : decode cX12_channel 105 = .ok (.if_icmp .ne 12, 3) := dk_160 0 12 (dk_at dksX12_channel_4 12 rfl rfl)
theorem dX12_channel_108 : decode cX12_channel 108 = .ok (.aload_n 0, 1) := dk_42 (dk_at dksX12_channel_4 15 rfl rfl)
theorem dX12_channel_109 : decode cX12_channel 109 = .ok (.iload 5, 2) := dk_21 5 (dk_at dksX12_channel_4 16 rfl rfl)
theorem dX12_channel_111 : decode cX12_channel 111 = .ok (.invokevirtual 380, 3) := dk_182 1 124 (dk_at dksX12_channel_4 18 rfl rfl)
theorem dX12_channel_114 : decode cX12_channel 114 = .ok (.goto 31, 3) := dk_167 0 31 (dk_at dksX12_channel_4 21 rfl rfl)
theorem dX12_channel_117 : decode cX12_channel 117 = .ok (.iload 4, 2) := dk_21 4 (dk_at dksX12_channel_5 0 rfl rfl)
theorem dX12_channel_119 : decode cX12_channel 119 = .ok (.iconst 3, 1) := dk_6 (dk_at dksX12_channel_5 2 rfl rfl)
theorem dX12_channel_120 : decode cX12_channel 120 = .ok (.if_icmp .ne 13, 3) := dk_160 0 13 (dk_at dksX12_channel_5 3 rfl rfl)
theorem dX12_channel_123 : decode cX12_channel 123 = .ok (.aload_n 0, 1) := dk_42 (dk_at dksX12_channel_5 6 rfl rfl)
theorem dX12_channel_124 : decode cX12_channel 124 = .ok (.getfield 117, 3) := dk_180 0 117 (dk_at dksX12_channel_5 7 rfl rfl)
theorem dX12_channel_127 : decode cX12_channel 127 = .ok (.iload 5, 2) := dk_21 5 (dk_at dksX12_channel_5 10 rfl rfl)
theorem dX12_channel_129 : decode cX12_channel 129 = .ok (.iaload, 1) := dk_46 (dk_at dksX12_channel_5 12 rfl rfl)
theorem dX12_channel_130 : decode cX12_channel 130 = .ok (.goto 15, 3) := dk_167 0 15 (dk_at dksX12_channel_5 13 rfl rfl)
theorem dX12_channel_133 : decode cX12_channel 133 = .ok (.aload_n 0, 1) := dk_42 (dk_at dksX12_channel_5 16 rfl rfl)
theorem dX12_channel_134 : decode cX12_channel 134 = .ok (.getfield 32, 3) := dk_180 0 32 (dk_at dksX12_channel_5 17 rfl rfl)
theorem dX12_channel_137 : decode cX12_channel 137 = .ok (.aload_n 0, 1) := dk_42 (dk_at dksX12_channel_5 20 rfl rfl)
theorem dX12_channel_138 : decode cX12_channel 138 = .ok (.getfield 129, 3) := dk_180 0 129 (dk_at dksX12_channel_5 21 rfl rfl)
theorem dX12_channel_141 : decode cX12_channel 141 = .ok (.iload 5, 2) := dk_21 5 (dk_at dksX12_channel_6 0 rfl rfl)
theorem dX12_channel_143 : decode cX12_channel 143 = .ok (.iaload, 1) := dk_46 (dk_at dksX12_channel_6 2 rfl rfl)
theorem dX12_channel_144 : decode cX12_channel 144 = .ok (.isub, 1) := dk_100 (dk_at dksX12_channel_6 3 rfl rfl)
theorem dX12_channel_145 : decode cX12_channel 145 = .ok (.ireturn, 1) := dk_172 (dk_at dksX12_channel_6 4 rfl rfl)
abbrev cX12_state : ByteArray := prog_27_method_57_code
def yX12_state : MethodName := ⟨RX12, "state", "(III)I"⟩
def dkwX12_state_0 : List UInt8 := [42, 27, 28, 29, 42, 180, 0, 56, 42, 180, 0, 66, 42, 180, 0, 75, 182, 1, 130, 172]
abbrev dktX12_state_0 : List UInt8 := dkwX12_state_0 ++ []
theorem dksX12_state_0 : cX12_state.data.toList.drop 0 = dktX12_state_0 := by decide +kernel
theorem dX12_state_0 : decode cX12_state 0 = .ok (.aload_n 0, 1) := dk_42 (dk_at dksX12_state_0 0 rfl rfl)
theorem dX12_state_1 : decode cX12_state 1 = .ok (.iload_n 1, 1) := dk_27 (dk_at dksX12_state_0 1 rfl rfl)
theorem dX12_state_2 : decode cX12_state 2 = .ok (.iload_n 2, 1) := dk_28 (dk_at dksX12_state_0 2 rfl rfl)
theorem dX12_state_3 : decode cX12_state 3 = .ok (.iload_n 3, 1) := dk_29 (dk_at dksX12_state_0 3 rfl rfl)
theorem dX12_state_4 : decode cX12_state 4 = .ok (.aload_n 0, 1) := dk_42 (dk_at dksX12_state_0 4 rfl rfl)
theorem dX12_state_5 : decode cX12_state 5 = .ok (.getfield 56, 3) := dk_180 0 56 (dk_at dksX12_state_0 5 rfl rfl)
theorem dX12_state_8 : decode cX12_state 8 = .ok (.aload_n 0, 1) := dk_42 (dk_at dksX12_state_0 8 rfl rfl)
theorem dX12_state_9 : decode cX12_state 9 = .ok (.getfield 66, 3) := dk_180 0 66 (dk_at dksX12_state_0 9 rfl rfl)
theorem dX12_state_12 : decode cX12_state 12 = .ok (.aload_n 0, 1) := dk_42 (dk_at dksX12_state_0 12 rfl rfl)
theorem dX12_state_13 : decode cX12_state 13 = .ok (.getfield 75, 3) := dk_180 0 75 (dk_at dksX12_state_0 13 rfl rfl)
theorem dX12_state_16 : decode cX12_state 16 = .ok (.invokevirtual 386, 3) := dk_182 1 130 (dk_at dksX12_state_0 16 rfl rfl)
theorem dX12_state_19 : decode cX12_state 19 = .ok (.ireturn, 1) := dk_172 (dk_at dksX12_state_0 19 rfl rfl)
abbrev cX12_told : ByteArray := prog_27_method_56_code
def yX12_told : MethodName := ⟨RX12, "told", "(III[Z[I[I)I"⟩
def dkwX12_told_3 : List UInt8 := [167, 0, 12, 25, 6, 16, 16, 27, 104, 28, 96, 46, 172]
abbrev dktX12_told_3 : List UInt8 := dkwX12_told_3 ++ []
def dkwX12_told_2 : List UInt8 := [184, 0, 203, 154, 0, 8, 18, 207, 167, 0, 28, 29, 154, 0, 15, 25, 5, 16, 16, 27, 104, 28, 96, 46]
abbrev dktX12_told_2 : List UInt8 := dkwX12_told_2 ++ dktX12_told_3
def dkwX12_told_1 : List UInt8 := [153, 0, 15, 25, 4, 16, 16, 27, 104, 28, 96, 51, 154, 0, 7, 19, 1, 53, 172, 29, 3, 4]
abbrev dktX12_told_1 : List UInt8 := dkwX12_told_1 ++ dktX12_told_2
def dkwX12_told_0 : List UInt8 := [42, 27, 182, 1, 121, 153, 0, 33, 28, 3, 16, 15, 184, 0, 203, 153, 0, 23, 42, 27, 182, 1, 25]
abbrev dktX12_told_0 : List UInt8 := dkwX12_told_0 ++ dktX12_told_1
theorem dksX12_told_0 : cX12_told.data.toList.drop 0 = dktX12_told_0 := by decide +kernel
theorem dksX12_told_1 : cX12_told.data.toList.drop 23 = dktX12_told_1 := dk_seg dksX12_told_0 23 rfl rfl
theorem dksX12_told_2 : cX12_told.data.toList.drop 45 = dktX12_told_2 := dk_seg dksX12_told_1 22 rfl rfl
theorem dksX12_told_3 : cX12_told.data.toList.drop 69 = dktX12_told_3 := dk_seg dksX12_told_2 24 rfl rfl
theorem dX12_told_0 : decode cX12_told 0 = .ok (.aload_n 0, 1) := dk_42 (dk_at dksX12_told_0 0 rfl rfl)
theorem dX12_told_1 : decode cX12_told 1 = .ok (.iload_n 1, 1) := dk_27 (dk_at dksX12_told_0 1 rfl rfl)
theorem dX12_told_2 : decode cX12_told 2 = .ok (.invokevirtual 377, 3) := dk_182 1 121 (dk_at dksX12_told_0 2 rfl rfl)
theorem dX12_told_5 : decode cX12_told 5 = .ok (.ifCond .eq 33, 3) := dk_153 0 33 (dk_at dksX12_told_0 5 rfl rfl)
theorem dX12_told_8 : decode cX12_told 8 = .ok (.iload_n 2, 1) := dk_28 (dk_at dksX12_told_0 8 rfl rfl)
theorem dX12_told_9 : decode cX12_told 9 = .ok (.iconst 0, 1) := dk_3 (dk_at dksX12_told_0 9 rfl rfl)
theorem dX12_told_10 : decode cX12_told 10 = .ok (.bipush 15, 2) := dk_16 15 (dk_at dksX12_told_0 10 rfl rfl)
theorem dX12_told_12 : decode cX12_told 12 = .ok (.invokestatic 203, 3) := dk_184 0 203 (dk_at dksX12_told_0 12 rfl rfl)
theorem dX12_told_15 : decode cX12_told 15 = .ok (.ifCond .eq 23, 3) := dk_153 0 23 (dk_at dksX12_told_0 15 rfl rfl)
theorem dX12_told_18 : decode cX12_told 18 = .ok (.aload_n 0, 1) := dk_42 (dk_at dksX12_told_0 18 rfl rfl)
theorem dX12_told_19 : decode cX12_told 19 = .ok (.iload_n 1, 1) := dk_27 (dk_at dksX12_told_0 19 rfl rfl)
theorem dX12_told_20 : decode cX12_told 20 = .ok (.invokevirtual 281, 3) := dk_182 1 25 (dk_at dksX12_told_0 20 rfl rfl)
theorem dX12_told_23 : decode cX12_told 23 = .ok (.ifCond .eq 15, 3) := dk_153 0 15 (dk_at dksX12_told_1 0 rfl rfl)
theorem dX12_told_26 : decode cX12_told 26 = .ok (.aload 4, 2) := dk_25 4 (dk_at dksX12_told_1 3 rfl rfl)
theorem dX12_told_28 : decode cX12_told 28 = .ok (.bipush 16, 2) := dk_16 16 (dk_at dksX12_told_1 5 rfl rfl)
theorem dX12_told_30 : decode cX12_told 30 = .ok (.iload_n 1, 1) := dk_27 (dk_at dksX12_told_1 7 rfl rfl)
theorem dX12_told_31 : decode cX12_told 31 = .ok (.imul, 1) := dk_104 (dk_at dksX12_told_1 8 rfl rfl)
theorem dX12_told_32 : decode cX12_told 32 = .ok (.iload_n 2, 1) := dk_28 (dk_at dksX12_told_1 9 rfl rfl)
theorem dX12_told_33 : decode cX12_told 33 = .ok (.iadd, 1) := dk_96 (dk_at dksX12_told_1 10 rfl rfl)
theorem dX12_told_34 : decode cX12_told 34 = .ok (.baload, 1) := dk_51 (dk_at dksX12_told_1 11 rfl rfl)
theorem dX12_told_35 : decode cX12_told 35 = .ok (.ifCond .ne 7, 3) := dk_154 0 7 (dk_at dksX12_told_1 12 rfl rfl)
theorem dX12_told_38 : decode cX12_told 38 = .ok (.ldc_w 309, 3) := dk_19 1 53 (dk_at dksX12_told_1 15 rfl rfl)
theorem dX12_told_41 : decode cX12_told 41 = .ok (.ireturn, 1) := dk_172 (dk_at dksX12_told_1 18 rfl rfl)
theorem dX12_told_42 : decode cX12_told 42 = .ok (.iload_n 3, 1) := dk_29 (dk_at dksX12_told_1 19 rfl rfl)
theorem dX12_told_43 : decode cX12_told 43 = .ok (.iconst 0, 1) := dk_3 (dk_at dksX12_told_1 20 rfl rfl)
theorem dX12_told_44 : decode cX12_told 44 = .ok (.iconst 1, 1) := dk_4 (dk_at dksX12_told_1 21 rfl rfl)
theorem dX12_told_45 : decode cX12_told 45 = .ok (.invokestatic 203, 3) := dk_184 0 203 (dk_at dksX12_told_2 0 rfl rfl)
theorem dX12_told_48 : decode cX12_told 48 = .ok (.ifCond .ne 8, 3) := dk_154 0 8 (dk_at dksX12_told_2 3 rfl rfl)
theorem dX12_told_51 : decode cX12_told 51 = .ok (.ldc 207, 2) := dk_18 207 (dk_at dksX12_told_2 6 rfl rfl)
theorem dX12_told_53 : decode cX12_told 53 = .ok (.goto 28, 3) := dk_167 0 28 (dk_at dksX12_told_2 8 rfl rfl)
theorem dX12_told_56 : decode cX12_told 56 = .ok (.iload_n 3, 1) := dk_29 (dk_at dksX12_told_2 11 rfl rfl)
theorem dX12_told_57 : decode cX12_told 57 = .ok (.ifCond .ne 15, 3) := dk_154 0 15 (dk_at dksX12_told_2 12 rfl rfl)
theorem dX12_told_60 : decode cX12_told 60 = .ok (.aload 5, 2) := dk_25 5 (dk_at dksX12_told_2 15 rfl rfl)
theorem dX12_told_62 : decode cX12_told 62 = .ok (.bipush 16, 2) := dk_16 16 (dk_at dksX12_told_2 17 rfl rfl)
theorem dX12_told_64 : decode cX12_told 64 = .ok (.iload_n 1, 1) := dk_27 (dk_at dksX12_told_2 19 rfl rfl)
theorem dX12_told_65 : decode cX12_told 65 = .ok (.imul, 1) := dk_104 (dk_at dksX12_told_2 20 rfl rfl)
theorem dX12_told_66 : decode cX12_told 66 = .ok (.iload_n 2, 1) := dk_28 (dk_at dksX12_told_2 21 rfl rfl)
theorem dX12_told_67 : decode cX12_told 67 = .ok (.iadd, 1) := dk_96 (dk_at dksX12_told_2 22 rfl rfl)
theorem dX12_told_68 : decode cX12_told 68 = .ok (.iaload, 1) := dk_46 (dk_at dksX12_told_2 23 rfl rfl)
theorem dX12_told_69 : decode cX12_told 69 = .ok (.goto 12, 3) := dk_167 0 12 (dk_at dksX12_told_3 0 rfl rfl)
theorem dX12_told_72 : decode cX12_told 72 = .ok (.aload 6, 2) := dk_25 6 (dk_at dksX12_told_3 3 rfl rfl)
theorem dX12_told_74 : decode cX12_told 74 = .ok (.bipush 16, 2) := dk_16 16 (dk_at dksX12_told_3 5 rfl rfl)
theorem dX12_told_76 : decode cX12_told 76 = .ok (.iload_n 1, 1) := dk_27 (dk_at dksX12_told_3 7 rfl rfl)
theorem dX12_told_77 : decode cX12_told 77 = .ok (.imul, 1) := dk_104 (dk_at dksX12_told_3 8 rfl rfl)
theorem dX12_told_78 : decode cX12_told 78 = .ok (.iload_n 2, 1) := dk_28 (dk_at dksX12_told_3 9 rfl rfl)
theorem dX12_told_79 : decode cX12_told 79 = .ok (.iadd, 1) := dk_96 (dk_at dksX12_told_3 10 rfl rfl)
theorem dX12_told_80 : decode cX12_told 80 = .ok (.iaload, 1) := dk_46 (dk_at dksX12_told_3 11 rfl rfl)
theorem dX12_told_81 : decode cX12_told 81 = .ok (.ireturn, 1) := dk_172 (dk_at dksX12_told_3 12 rfl rfl)
abbrev cX12_savedState : ByteArray := prog_27_method_58_code
def yX12_savedState : MethodName := ⟨RX12, "savedState", "(III)I"⟩
def dkwX12_savedState_0 : List UInt8 := [42, 27, 28, 29, 42, 180, 0, 63, 42, 180, 0, 72, 42, 180, 0, 81, 182, 1, 130, 172]
abbrev dktX12_savedState_0 : List UInt8 := dkwX12_savedState_0 ++ []
theorem dksX12_savedState_0 : cX12_savedState.data.toList.drop 0 = dktX12_savedState_0 := by decide +kernel
theorem dX12_savedState_0 : decode cX12_savedState 0 = .ok (.aload_n 0, 1) := dk_42 (dk_at dksX12_savedState_0 0 rfl rfl)
theorem dX12_savedState_1 : decode cX12_savedState 1 = .ok (.iload_n 1, 1) := dk_27 (dk_at dksX12_savedState_0 1 rfl rfl)
theorem dX12_savedState_2 : decode cX12_savedState 2 = .ok (.iload_n 2, 1) := dk_28 (dk_at dksX12_savedState_0 2 rfl rfl)
theorem dX12_savedState_3 : decode cX12_savedState 3 = .ok (.iload_n 3, 1) := dk_29 (dk_at dksX12_savedState_0 3 rfl rfl)
theorem dX12_savedState_4 : decode cX12_savedState 4 = .ok (.aload_n 0, 1) := dk_42 (dk_at dksX12_savedState_0 4 rfl rfl)
theorem dX12_savedState_5 : decode cX12_savedState 5 = .ok (.getfield 63, 3) := dk_180 0 63 (dk_at dksX12_savedState_0 5 rfl rfl)
theorem dX12_savedState_8 : decode cX12_savedState 8 = .ok (.aload_n 0, 1) := dk_42 (dk_at dksX12_savedState_0 8 rfl rfl)
theorem dX12_savedState_9 : decode cX12_savedState 9 = .ok (.getfield 72, 3) := dk_180 0 72 (dk_at dksX12_savedState_0 9 rfl rfl)
theorem dX12_savedState_12 : decode cX12_savedState 12 = .ok (.aload_n 0, 1) := dk_42 (dk_at dksX12_savedState_0 12 rfl rfl)
theorem dX12_savedState_13 : decode cX12_savedState 13 = .ok (.getfield 81, 3) := dk_180 0 81 (dk_at dksX12_savedState_0 13 rfl rfl)
theorem dX12_savedState_16 : decode cX12_savedState 16 = .ok (.invokevirtual 386, 3) := dk_182 1 130 (dk_at dksX12_savedState_0 16 rfl rfl)
theorem dX12_savedState_19 : decode cX12_savedState 19 = .ok (.ireturn, 1) := dk_172 (dk_at dksX12_savedState_0 19 rfl rfl)
abbrev cX12_plain : ByteArray := prog_27_method_60_code
def yX12_plain : MethodName := ⟨RX12, "plain", "(II)I"⟩
def dkwX12_plain_1 : List UInt8 := [182, 1, 130, 172]
abbrev dktX12_plain_1 : List UInt8 := dkwX12_plain_1 ++ []
def dkwX12_plain_0 : List UInt8 := [42, 182, 1, 134, 42, 42, 182, 0, 199, 27, 28, 42, 180, 0, 169, 42, 180, 0, 172, 42, 180, 0, 175]
abbrev dktX12_plain_0 : List UInt8 := dkwX12_plain_0 ++ dktX12_plain_1
theorem dksX12_plain_0 : cX12_plain.data.toList.drop 0 = dktX12_plain_0 := by decide +kernel
theorem dksX12_plain_1 : cX12_plain.data.toList.drop 23 = dktX12_plain_1 := dk_seg dksX12_plain_0 23 rfl rfl
theorem dX12_plain_0 : decode cX12_plain 0 = .ok (.aload_n 0, 1) := dk_42 (dk_at dksX12_plain_0 0 rfl rfl)
theorem dX12_plain_1 : decode cX12_plain 1 = .ok (.invokevirtual 390, 3) := dk_182 1 134 (dk_at dksX12_plain_0 1 rfl rfl)
theorem dX12_plain_4 : decode cX12_plain 4 = .ok (.aload_n 0, 1) := dk_42 (dk_at dksX12_plain_0 4 rfl rfl)
theorem dX12_plain_5 : decode cX12_plain 5 = .ok (.aload_n 0, 1) := dk_42 (dk_at dksX12_plain_0 5 rfl rfl)
theorem dX12_plain_6 : decode cX12_plain 6 = .ok (.invokevirtual 199, 3) := dk_182 0 199 (dk_at dksX12_plain_0 6 rfl rfl)
theorem dX12_plain_9 : decode cX12_plain 9 = .ok (.iload_n 1, 1) := dk_27 (dk_at dksX12_plain_0 9 rfl rfl)
theorem dX12_plain_10 : decode cX12_plain 10 = .ok (.iload_n 2, 1) := dk_28 (dk_at dksX12_plain_0 10 rfl rfl)
theorem dX12_plain_11 : decode cX12_plain 11 = .ok (.aload_n 0, 1) := dk_42 (dk_at dksX12_plain_0 11 rfl rfl)
theorem dX12_plain_12 : decode cX12_plain 12 = .ok (.getfield 169, 3) := dk_180 0 169 (dk_at dksX12_plain_0 12 rfl rfl)
theorem dX12_plain_15 : decode cX12_plain 15 = .ok (.aload_n 0, 1) := dk_42 (dk_at dksX12_plain_0 15 rfl rfl)
theorem dX12_plain_16 : decode cX12_plain 16 = .ok (.getfield 172, 3) := dk_180 0 172 (dk_at dksX12_plain_0 16 rfl rfl)
theorem dX12_plain_19 : decode cX12_plain 19 = .ok (.aload_n 0, 1) := dk_42 (dk_at dksX12_plain_0 19 rfl rfl)
theorem dX12_plain_20 : decode cX12_plain 20 = .ok (.getfield 175, 3) := dk_180 0 175 (dk_at dksX12_plain_0 20 rfl rfl)
theorem dX12_plain_23 : decode cX12_plain 23 = .ok (.invokevirtual 386, 3) := dk_182 1 130 (dk_at dksX12_plain_1 0 rfl rfl)
theorem dX12_plain_26 : decode cX12_plain 26 = .ok (.ireturn, 1) := dk_172 (dk_at dksX12_plain_1 3 rfl rfl)
abbrev cX12_plainly : ByteArray := prog_27_method_59_code
def yX12_plainly : MethodName := ⟨RX12, "plainly", "()V"⟩
def dkwX12_plainly_7 : List UInt8 := [167, 255, 210, 167, 255, 156, 132, 1, 1, 167, 255, 109, 177]
abbrev dktX12_plainly_7 : List UInt8 := dkwX12_plainly_7 ++ []
def dkwX12_plainly_6 : List UInt8 := [21, 4, 46, 79, 42, 180, 0, 184, 28, 42, 180, 0, 166, 21, 4, 46, 79, 132, 2, 1, 132, 4, 255]
abbrev dktX12_plainly_6 : List UInt8 := dkwX12_plainly_6 ++ dktX12_plainly_7
def dkwX12_plainly_5 : List UInt8 := [21, 4, 155, 0, 47, 42, 180, 0, 178, 28, 29, 4, 96, 79, 42, 180, 0, 181, 28, 42, 180, 0, 163]
abbrev dktX12_plainly_5 : List UInt8 := dkwX12_plainly_5 ++ dktX12_plainly_6
def dkwX12_plainly_4 : List UInt8 := [42, 180, 0, 169, 42, 180, 0, 172, 42, 180, 0, 175, 182, 1, 45, 42, 180, 1, 35, 4, 100, 54, 4]
abbrev dktX12_plainly_4 : List UInt8 := dkwX12_plainly_4 ++ dktX12_plainly_5
def dkwX12_plainly_3 : List UInt8 := [132, 2, 255, 42, 180, 0, 178, 28, 46, 62, 42, 29, 42, 180, 0, 181, 28, 46, 42, 180, 0, 184, 28, 46]
abbrev dktX12_plainly_3 : List UInt8 := dkwX12_plainly_3 ++ dktX12_plainly_4
def dkwX12_plainly_2 : List UInt8 := [180, 0, 38, 27, 46, 79, 42, 180, 0, 184, 3, 42, 180, 0, 41, 27, 46, 79, 28, 158, 0, 102]
abbrev dktX12_plainly_2 : List UInt8 := dkwX12_plainly_2 ++ dktX12_plainly_3
def dkwX12_plainly_1 : List UInt8 := [42, 180, 1, 15, 162, 0, 145, 4, 61, 42, 180, 0, 178, 3, 4, 79, 42, 180, 0, 181, 3, 42]
abbrev dktX12_plainly_1 : List UInt8 := dkwX12_plainly_1 ++ dktX12_plainly_2
def dkwX12_plainly_0 : List UInt8 := [3, 60, 27, 16, 96, 162, 0, 16, 42, 180, 0, 169, 27, 3, 84, 132, 1, 1, 167, 255, 240, 3, 60, 27]
abbrev dktX12_plainly_0 : List UInt8 := dkwX12_plainly_0 ++ dktX12_plainly_1
theorem dksX12_plainly_0 : cX12_plainly.data.toList.drop 0 = dktX12_plainly_0 := by decide +kernel
theorem dksX12_plainly_1 : cX12_plainly.data.toList.drop 24 = dktX12_plainly_1 := dk_seg dksX12_plainly_0 24 rfl rfl
theorem dksX12_plainly_2 : cX12_plainly.data.toList.drop 46 = dktX12_plainly_2 := dk_seg dksX12_plainly_1 22 rfl rfl
theorem dksX12_plainly_3 : cX12_plainly.data.toList.drop 68 = dktX12_plainly_3 := dk_seg dksX12_plainly_2 22 rfl rfl
theorem dksX12_plainly_4 : cX12_plainly.data.toList.drop 92 = dktX12_plainly_4 := dk_seg dksX12_plainly_3 24 rfl rfl
theorem dksX12_plainly_5 : cX12_plainly.data.toList.drop 115 = dktX12_plainly_5 := dk_seg dksX12_plainly_4 23 rfl rfl
theorem dksX12_plainly_6 : cX12_plainly.data.toList.drop 138 = dktX12_plainly_6 := dk_seg dksX12_plainly_5 23 rfl rfl
theorem dksX12_plainly_7 : cX12_plainly.data.toList.drop 161 = dktX12_plainly_7 := dk_seg dksX12_plainly_6 23 rfl rfl
theorem dX12_plainly_0 : decode cX12_plainly 0 = .ok (.iconst 0, 1) := dk_3 (dk_at dksX12_plainly_0 0 rfl rfl)
theorem dX12_plainly_1 : decode cX12_plainly 1 = .ok (.istore_n 1, 1) := dk_60 (dk_at dksX12_plainly_0 1 rfl rfl)
theorem dX12_plainly_2 : decode cX12_plainly 2 = .ok (.iload_n 1, 1) := dk_27 (dk_at dksX12_plainly_0 2 rfl rfl)
theorem dX12_plainly_3 : decode cX12_plainly 3 = .ok (.bipush 96, 2) := dk_16 96 (dk_at dksX12_plainly_0 3 rfl rfl)
theorem dX12_plainly_5 : decode cX12_plainly 5 = .ok (.if_icmp .ge 16, 3) := dk_162 0 16 (dk_at dksX12_plainly_0 5 rfl rfl)
theorem dX12_plainly_8 : decode cX12_plainly 8 = .ok (.aload_n 0, 1) := dk_42 (dk_at dksX12_plainly_0 8 rfl rfl)
theorem dX12_plainly_9 : decode cX12_plainly 9 = .ok (.getfield 169, 3) := dk_180 0 169 (dk_at dksX12_plainly_0 9 rfl rfl)
theorem dX12_plainly_12 : decode cX12_plainly 12 = .ok (.iload_n 1, 1) := dk_27 (dk_at dksX12_plainly_0 12 rfl rfl)
theorem dX12_plainly_13 : decode cX12_plainly 13 = .ok (.iconst 0, 1) := dk_3 (dk_at dksX12_plainly_0 13 rfl rfl)
theorem dX12_plainly_14 : decode cX12_plainly 14 = .ok (.bastore, 1) := dk_84 (dk_at dksX12_plainly_0 14 rfl rfl)
theorem dX12_plainly_15 : decode cX12_plainly 15 = .ok (.iinc 1 1, 3) := dk_132 1 1 (dk_at dksX12_plainly_0 15 rfl rfl)
theorem dX12_plainly_18 : decode cX12_plainly 18 = .ok (.goto (-16), 3) := dk_167 255 240 (dk_at dksX12_plainly_0 18 rfl rfl)
theorem dX12_plainly_21 : decode cX12_plainly 21 = .ok (.iconst 0, 1) := dk_3 (dk_at dksX12_plainly_0 21 rfl rfl)
theorem dX12_plainly_22 : decode cX12_plainly 22 = .ok (.istore_n 1, 1) := dk_60 (dk_at dksX12_plainly_0 22 rfl rfl)
theorem dX12_plainly_23 : decode cX12_plainly 23 = .ok (.iload_n 1, 1) := dk_27 (dk_at dksX12_plainly_0 23 rfl rfl)
theorem dX12_plainly_24 : decode cX12_plainly 24 = .ok (.aload_n 0, 1) := dk_42 (dk_at dksX12_plainly_1 0 rfl rfl)
theorem dX12_plainly_25 : decode cX12_plainly 25 = .ok (.getfield 271, 3) := dk_180 1 15 (dk_at dksX12_plainly_1 1 rfl rfl)
theorem dX12_plainly_28 : decode cX12_plainly 28 = .ok (.if_icmp .ge 145, 3) := dk_162 0 145 (dk_at dksX12_plainly_1 4 rfl rfl)
theorem dX12_plainly_31 : decode cX12_plainly 31 = .ok (.iconst 1, 1) := dk_4 (dk_at dksX12_plainly_1 7 rfl rfl)
theorem dX12_plainly_32 : decode cX12_plainly 32 = .ok (.istore_n 2, 1) := dk_61 (dk_at dksX12_plainly_1 8 rfl rfl)
theorem dX12_plainly_33 : decode cX12_plainly 33 = .ok (.aload_n 0, 1) := dk_42 (dk_at dksX12_plainly_1 9 rfl rfl)
theorem dX12_plainly_34 : decode cX12_plainly 34 = .ok (.getfield 178, 3) := dk_180 0 178 (dk_at dksX12_plainly_1 10 rfl rfl)
theorem dX12_plainly_37 : decode cX12_plainly 37 = .ok (.iconst 0, 1) := dk_3 (dk_at dksX12_plainly_1 13 rfl rfl)
theorem dX12_plainly_38 : decode cX12_plainly 38 = .ok (.iconst 1, 1) := dk_4 (dk_at dksX12_plainly_1 14 rfl rfl)
theorem dX12_plainly_39 : decode cX12_plainly 39 = .ok (.iastore, 1) := dk_79 (dk_at dksX12_plainly_1 15 rfl rfl)
theorem dX12_plainly_40 : decode cX12_plainly 40 = .ok (.aload_n 0, 1) := dk_42 (dk_at dksX12_plainly_1 16 rfl rfl)
theorem dX12_plainly_41 : decode cX12_plainly 41 = .ok (.getfield 181, 3) := dk_180 0 181 (dk_at dksX12_plainly_1 17 rfl rfl)
theorem dX12_plainly_44 : decode cX12_plainly 44 = .ok (.iconst 0, 1) := dk_3 (dk_at dksX12_plainly_1 20 rfl rfl)
theorem dX12_plainly_45 : decode cX12_plainly 45 = .ok (.aload_n 0, 1) := dk_42 (dk_at dksX12_plainly_1 21 rfl rfl)
theorem dX12_plainly_46 : decode cX12_plainly 46 = .ok (.getfield 38, 3) := dk_180 0 38 (dk_at dksX12_plainly_2 0 rfl rfl)
theorem dX12_plainly_49 : decode cX12_plainly 49 = .ok (.iload_n 1, 1) := dk_27 (dk_at dksX12_plainly_2 3 rfl rfl)
theorem dX12_plainly_50 : decode cX12_plainly 50 = .ok (.iaload, 1) := dk_46 (dk_at dksX12_plainly_2 4 rfl rfl)
theorem dX12_plainly_51 : decode cX12_plainly 51 = .ok (.iastore, 1) := dk_79 (dk_at dksX12_plainly_2 5 rfl rfl)
theorem dX12_plainly_52 : decode cX12_plainly 52 = .ok (.aload_n 0, 1) := dk_42 (dk_at dksX12_plainly_2 6 rfl rfl)
theorem dX12_plainly_53 : decode cX12_plainly 53 = .ok (.getfield 184, 3) := dk_180 0 184 (dk_at dksX12_plainly_2 7 rfl rfl)
theorem dX12_plainly_56 : decode cX12_plainly 56 = .ok (.iconst 0, 1) := dk_3 (dk_at dksX12_plainly_2 10 rfl rfl)
theorem dX12_plainly_57 : decode cX12_plainly 57 = .ok (.aload_n 0, 1) := dk_42 (dk_at dksX12_plainly_2 11 rfl rfl)
theorem dX12_plainly_58 : decode cX12_plainly 58 = .ok (.getfield 41, 3) := dk_180 0 41 (dk_at dksX12_plainly_2 12 rfl rfl)
theorem dX12_plainly_61 : decode cX12_plainly 61 = .ok (.iload_n 1, 1) := dk_27 (dk_at dksX12_plainly_2 15 rfl rfl)
theorem dX12_plainly_62 : decode cX12_plainly 62 = .ok (.iaload, 1) := dk_46 (dk_at dksX12_plainly_2 16 rfl rfl)
theorem dX12_plainly_63 : decode cX12_plainly 63 = .ok (.iastore, 1) := dk_79 (dk_at dksX12_plainly_2 17 rfl rfl)
theorem dX12_plainly_64 : decode cX12_plainly 64 = .ok (.iload_n 2, 1) := dk_28 (dk_at dksX12_plainly_2 18 rfl rfl)
theorem dX12_plainly_65 : decode cX12_plainly 65 = .ok (.ifCond .le 102, 3) := dk_158 0 102 (dk_at dksX12_plainly_2 19 rfl rfl)
theorem dX12_plainly_68 : decode cX12_plainly 68 = .ok (.iinc 2 (-1), 3) := dk_132 2 255 (dk_at dksX12_plainly_3 0 rfl rfl)
theorem dX12_plainly_71 : decode cX12_plainly 71 = .ok (.aload_n 0, 1) := dk_42 (dk_at dksX12_plainly_3 3 rfl rfl)
theorem dX12_plainly_72 : decode cX12_plainly 72 = .ok (.getfield 178, 3) := dk_180 0 178 (dk_at dksX12_plainly_3 4 rfl rfl)
theorem dX12_plainly_75 : decode cX12_plainly 75 = .ok (.iload_n 2, 1) := dk_28 (dk_at dksX12_plainly_3 7 rfl rfl)
theorem dX12_plainly_76 : decode cX12_plainly 76 = .ok (.iaload, 1) := dk_46 (dk_at dksX12_plainly_3 8 rfl rfl)
theorem dX12_plainly_77 : decode cX12_plainly 77 = .ok (.istore_n 3, 1) := dk_62 (dk_at dksX12_plainly_3 9 rfl rfl)
theorem dX12_plainly_78 : decode cX12_plainly 78 = .ok (.aload_n 0, 1) := dk_42 (dk_at dksX12_plainly_3 10 rfl rfl)
theorem dX12_plainly_79 : decode cX12_plainly 79 = .ok (.iload_n 3, 1) := dk_29 (dk_at dksX12_plainly_3 11 rfl rfl)
theorem dX12_plainly_80 : decode cX12_plainly 80 = .ok (.aload_n 0, 1) := dk_42 (dk_at dksX12_plainly_3 12 rfl rfl)
theorem dX12_plainly_81 : decode cX12_plainly 81 = .ok (.getfield 181, 3) := dk_180 0 181 (dk_at dksX12_plainly_3 13 rfl rfl)
theorem dX12_plainly_84 : decode cX12_plainly 84 = .ok (.iload_n 2, 1) := dk_28 (dk_at dksX12_plainly_3 16 rfl rfl)
theorem dX12_plainly_85 : decode cX12_plainly 85 = .ok (.iaload, 1) := dk_46 (dk_at dksX12_plainly_3 17 rfl rfl)
theorem dX12_plainly_86 : decode cX12_plainly 86 = .ok (.aload_n 0, 1) := dk_42 (dk_at dksX12_plainly_3 18 rfl rfl)
theorem dX12_plainly_87 : decode cX12_plainly 87 = .ok (.getfield 184, 3) := dk_180 0 184 (dk_at dksX12_plainly_3 19 rfl rfl)
theorem dX12_plainly_90 : decode cX12_plainly 90 = .ok (.iload_n 2, 1) := dk_28 (dk_at dksX12_plainly_3 22 rfl rfl)
theorem dX12_plainly_91 : decode cX12_plainly 91 = .ok (.iaload, 1) := dk_46 (dk_at dksX12_plainly_3 23 rfl rfl)
theorem dX12_plainly_92 : decode cX12_plainly 92 = .ok (.aload_n 0, 1) := dk_42 (dk_at dksX12_plainly_4 0 rfl rfl)
theorem dX12_plainly_93 : decode cX12_plainly 93 = .ok (.getfield 169, 3) := dk_180 0 169 (dk_at dksX12_plainly_4 1 rfl rfl)
theorem dX12_plainly_96 : decode cX12_plainly 96 = .ok (.aload_n 0, 1) := dk_42 (dk_at dksX12_plainly_4 4 rfl rfl)
theorem dX12_plainly_97 : decode cX12_plainly 97 = .ok (.getfield 172, 3) := dk_180 0 172 (dk_at dksX12_plainly_4 5 rfl rfl)
theorem dX12_plainly_100 : decode cX12_plainly 100 = .ok (.aload_n 0, 1) := dk_42 (dk_at dksX12_plainly_4 8 rfl rfl)
theorem dX12_plainly_101 : decode cX12_plainly 101 = .ok (.getfield 175, 3) := dk_180 0 175 (dk_at dksX12_plainly_4 9 rfl rfl)
theorem dX12_plainly_104 : decode cX12_plainly 104 = .ok (.invokevirtual 301, 3) := dk_182 1 45 (dk_at dksX12_plainly_4 12 rfl rfl)
theorem dX12_plainly_107 : decode cX12_plainly 107 = .ok (.aload_n 0, 1) := dk_42 (dk_at dksX12_plainly_4 15 rfl rfl)
theorem dX12_plainly_108 : decode cX12_plainly 108 = .ok (.getfield 291, 3) := dk_180 1 35 (dk_at dksX12_plainly_4 16 rfl rfl)
theorem dX12_plainly_111 : decode cX12_plainly 111 = .ok (.iconst 1, 1) := dk_4 (dk_at dksX12_plainly_4 19 rfl rfl)
theorem dX12_plainly_112 : decode cX12_plainly 112 = .ok (.isub, 1) := dk_100 (dk_at dksX12_plainly_4 20 rfl rfl)
theorem dX12_plainly_113 : decode cX12_plainly 113 = .ok (.istore 4, 2) := dk_54 4 (dk_at dksX12_plainly_4 21 rfl rfl)
theorem dX12_plainly_115 : decode cX12_plainly 115 = .ok (.iload 4, 2) := dk_21 4 (dk_at dksX12_plainly_5 0 rfl rfl)
theorem dX12_plainly_117 : decode cX12_plainly 117 = .ok (.ifCond .lt 47, 3) := dk_155 0 47 (dk_at dksX12_plainly_5 2 rfl rfl)
theorem dX12_plainly_120 : decode cX12_plainly 120 = .ok (.aload_n 0, 1) := dk_42 (dk_at dksX12_plainly_5 5 rfl rfl)
theorem dX12_plainly_121 : decode cX12_plainly 121 = .ok (.getfield 178, 3) := dk_180 0 178 (dk_at dksX12_plainly_5 6 rfl rfl)
theorem dX12_plainly_124 : decode cX12_plainly 124 = .ok (.iload_n 2, 1) := dk_28 (dk_at dksX12_plainly_5 9 rfl rfl)
theorem dX12_plainly_125 : decode cX12_plainly 125 = .ok (.iload_n 3, 1) := dk_29 (dk_at dksX12_plainly_5 10 rfl rfl)
theorem dX12_plainly_126 : decode cX12_plainly 126 = .ok (.iconst 1, 1) := dk_4 (dk_at dksX12_plainly_5 11 rfl rfl)
theorem dX12_plainly_127 : decode cX12_plainly 127 = .ok (.iadd, 1) := dk_96 (dk_at dksX12_plainly_5 12 rfl rfl)
theorem dX12_plainly_128 : decode cX12_plainly 128 = .ok (.iastore, 1) := dk_79 (dk_at dksX12_plainly_5 13 rfl rfl)
theorem dX12_plainly_129 : decode cX12_plainly 129 = .ok (.aload_n 0, 1) := dk_42 (dk_at dksX12_plainly_5 14 rfl rfl)
theorem dX12_plainly_130 : decode cX12_plainly 130 = .ok (.getfield 181, 3) := dk_180 0 181 (dk_at dksX12_plainly_5 15 rfl rfl)
theorem dX12_plainly_133 : decode cX12_plainly 133 = .ok (.iload_n 2, 1) := dk_28 (dk_at dksX12_plainly_5 18 rfl rfl)
theorem dX12_plainly_134 : decode cX12_plainly 134 = .ok (.aload_n 0, 1) := dk_42 (dk_at dksX12_plainly_5 19 rfl rfl)
theorem dX12_plainly_135 : decode cX12_plainly 135 = .ok (.getfield 163, 3) := dk_180 0 163 (dk_at dksX12_plainly_5 20 rfl rfl)
theorem dX12_plainly_138 : decode cX12_plainly 138 = .ok (.iload 4, 2) := dk_21 4 (dk_at dksX12_plainly_6 0 rfl rfl)
theorem dX12_plainly_140 : decode cX12_plainly 140 = .ok (.iaload, 1) := dk_46 (dk_at dksX12_plainly_6 2 rfl rfl)
theorem dX12_plainly_141 : decode cX12_plainly 141 = .ok (.iastore, 1) := dk_79 (dk_at dksX12_plainly_6 3 rfl rfl)
theorem dX12_plainly_142 : decode cX12_plainly 142 = .ok (.aload_n 0, 1) := dk_42 (dk_at dksX12_plainly_6 4 rfl rfl)
theorem dX12_plainly_143 : decode cX12_plainly 143 = .ok (.getfield 184, 3) := dk_180 0 184 (dk_at dksX12_plainly_6 5 rfl rfl)
theorem dX12_plainly_146 : decode cX12_plainly 146 = .ok (.iload_n 2, 1) := dk_28 (dk_at dksX12_plainly_6 8 rfl rfl)
theorem dX12_plainly_147 : decode cX12_plainly 147 = .ok (.aload_n 0, 1) := dk_42 (dk_at dksX12_plainly_6 9 rfl rfl)
theorem dX12_plainly_148 : decode cX12_plainly 148 = .ok (.getfield 166, 3) := dk_180 0 166 (dk_at dksX12_plainly_6 10 rfl rfl)
theorem dX12_plainly_151 : decode cX12_plainly 151 = .ok (.iload 4, 2) := dk_21 4 (dk_at dksX12_plainly_6 13 rfl rfl)
theorem dX12_plainly_153 : decode cX12_plainly 153 = .ok (.iaload, 1) := dk_46 (dk_at dksX12_plainly_6 15 rfl rfl)
theorem dX12_plainly_154 : decode cX12_plainly 154 = .ok (.iastore, 1) := dk_79 (dk_at dksX12_plainly_6 16 rfl rfl)
theorem dX12_plainly_155 : decode cX12_plainly 155 = .ok (.iinc 2 1, 3) := dk_132 2 1 (dk_at dksX12_plainly_6 17 rfl rfl)
theorem dX12_plainly_158 : decode cX12_plainly 158 = .ok (.iinc 4 (-1), 3) := dk_132 4 255 (dk_at dksX12_plainly_6 20 rfl rfl)
theorem dX12_plainly_161 : decode cX12_plainly 161 = .ok (.goto (-46), 3) := dk_167 255 210 (dk_at dksX12_plainly_7 0 rfl rfl)
theorem dX12_plainly_164 : decode cX12_plainly 164 = .ok (.goto (-100), 3) := dk_167 255 156 (dk_at dksX12_plainly_7 3 rfl rfl)
theorem dX12_plainly_167 : decode cX12_plainly 167 = .ok (.iinc 1 1, 3) := dk_132 1 1 (dk_at dksX12_plainly_7 6 rfl rfl)
theorem dX12_plainly_170 : decode cX12_plainly 170 = .ok (.goto (-147), 3) := dk_167 255 109 (dk_at dksX12_plainly_7 9 rfl rfl)
theorem dX12_plainly_173 : decode cX12_plainly 173 = .ok (.return_, 1) := dk_177 (dk_at dksX12_plainly_7 12 rfl rfl)
abbrev cX12_explain : ByteArray := prog_27_method_62_code
def yX12_explain : MethodName := ⟨RX12, "explain", "(II)I"⟩
def dkwX12_explain_5 : List UInt8 := [162, 0, 7, 4, 167, 0, 4, 2, 96, 62, 42, 180, 1, 137, 54, 4, 167, 255, 163, 42, 180, 1, 140, 172]
abbrev dktX12_explain_5 : List UInt8 := dkwX12_explain_5 ++ []
def dkwX12_explain_4 : List UInt8 := [162, 0, 16, 42, 180, 1, 140, 16, 8, 162, 0, 7, 4, 167, 0, 4, 3, 54, 5, 29, 21, 6, 6]
abbrev dktX12_explain_4 : List UInt8 := dkwX12_explain_4 ++ dktX12_explain_5
def dkwX12_explain_3 : List UInt8 := [180, 0, 190, 42, 180, 1, 140, 21, 6, 79, 42, 89, 180, 1, 140, 4, 96, 181, 1, 140, 21, 6, 7]
abbrev dktX12_explain_3 : List UInt8 := dkwX12_explain_3 ++ dktX12_explain_4
def dkwX12_explain_2 : List UInt8 := [21, 4, 182, 1, 143, 54, 6, 42, 180, 0, 187, 42, 180, 1, 140, 16, 10, 29, 104, 21, 4, 96, 79, 42]
abbrev dktX12_explain_2 : List UInt8 := dkwX12_explain_2 ++ dktX12_explain_3
def dkwX12_explain_1 : List UInt8 := [19, 1, 53, 172, 42, 3, 181, 1, 140, 27, 62, 28, 54, 4, 4, 54, 5, 21, 5, 153, 0, 94, 42, 29]
abbrev dktX12_explain_1 : List UInt8 := dkwX12_explain_1 ++ dktX12_explain_2
def dkwX12_explain_0 : List UInt8 := [42, 27, 182, 1, 121, 153, 0, 19, 28, 3, 42, 180, 0, 22, 27, 46, 4, 100, 184, 0, 203, 154, 0, 7]
abbrev dktX12_explain_0 : List UInt8 := dkwX12_explain_0 ++ dktX12_explain_1
theorem dksX12_explain_0 : cX12_explain.data.toList.drop 0 = dktX12_explain_0 := by decide +kernel
theorem dksX12_explain_1 : cX12_explain.data.toList.drop 24 = dktX12_explain_1 := dk_seg dksX12_explain_0 24 rfl rfl
theorem dksX12_explain_2 : cX12_explain.data.toList.drop 48 = dktX12_explain_2 := dk_seg dksX12_explain_1 24 rfl rfl
theorem dksX12_explain_3 : cX12_explain.data.toList.drop 72 = dktX12_explain_3 := dk_seg dksX12_explain_2 24 rfl rfl
theorem dksX12_explain_4 : cX12_explain.data.toList.drop 95 = dktX12_explain_4 := dk_seg dksX12_explain_3 23 rfl rfl
theorem dksX12_explain_5 : cX12_explain.data.toList.drop 118 = dktX12_explain_5 := dk_seg dksX12_explain_4 23 rfl rfl
theorem dX12_explain_0 : decode cX12_explain 0 = .ok (.aload_n 0, 1) := dk_42 (dk_at dksX12_explain_0 0 rfl rfl)
theorem dX12_explain_1 : decode cX12_explain 1 = .ok (.iload_n 1, 1) := dk_27 (dk_at dksX12_explain_0 1 rfl rfl)
theorem dX12_explain_2 : decode cX12_explain 2 = .ok (.invokevirtual 377, 3) := dk_182 1 121 (dk_at dksX12_explain_0 2 rfl rfl)
theorem dX12_explain_5 : decode cX12_explain 5 = .ok (.ifCond .eq 19, 3) := dk_153 0 19 (dk_at dksX12_explain_0 5 rfl rfl)
theorem dX12_explain_8 : decode cX12_explain 8 = .ok (.iload_n 2, 1) := dk_28 (dk_at dksX12_explain_0 8 rfl rfl)
theorem dX12_explain_9 : decode cX12_explain 9 = .ok (.iconst 0, 1) := dk_3 (dk_at dksX12_explain_0 9 rfl rfl)
theorem dX12_explain_10 : decode cX12_explain 10 = .ok (.aload_n 0, 1) := dk_42 (dk_at dksX12_explain_0 10 rfl rfl)
theorem dX12_explain_11 : decode cX12_explain 11 = .ok (.getfield 22, 3) := dk_180 0 22 (dk_at dksX12_explain_0 11 rfl rfl)
theorem dX12_explain_14 : decode cX12_explain 14 = .ok (.iload_n 1, 1) := dk_27 (dk_at dksX12_explain_0 14 rfl rfl)
theorem dX12_explain_15 : decode cX12_explain 15 = .ok (.iaload, 1) := dk_46 (dk_at dksX12_explain_0 15 rfl rfl)
theorem dX12_explain_16 : decode cX12_explain 16 = .ok (.iconst 1, 1) := dk_4 (dk_at dksX12_explain_0 16 rfl rfl)
theorem dX12_explain_17 : decode cX12_explain 17 = .ok (.isub, 1) := dk_100 (dk_at dksX12_explain_0 17 rfl rfl)
theorem dX12_explain_18 : decode cX12_explain 18 = .ok (.invokestatic 203, 3) := dk_184 0 203 (dk_at dksX12_explain_0 18 rfl rfl)
theorem dX12_explain_21 : decode cX12_explain 21 = .ok (.ifCond .ne 7, 3) := dk_154 0 7 (dk_at dksX12_explain_0 21 rfl rfl)
theorem dX12_explain_24 : decode cX12_explain 24 = .ok (.ldc_w 309, 3) := dk_19 1 53 (dk_at dksX12_explain_1 0 rfl rfl)
theorem dX12_explain_27 : decode cX12_explain 27 = .ok (.ireturn, 1) := dk_172 (dk_at dksX12_explain_1 3 rfl rfl)
theorem dX12_explain_28 : decode cX12_explain 28 = .ok (.aload_n 0, 1) := dk_42 (dk_at dksX12_explain_1 4 rfl rfl)
theorem dX12_explain_29 : decode cX12_explain 29 = .ok (.iconst 0, 1) := dk_3 (dk_at dksX12_explain_1 5 rfl rfl)
theorem dX12_explain_30 : decode cX12_explain 30 = .ok (.putfield 396, 3) := dk_181 1 140 (dk_at dksX12_explain_1 6 rfl rfl)
theorem dX12_explain_33 : decode cX12_explain 33 = .ok (.iload_n 1, 1) := dk_27 (dk_at dksX12_explain_1 9 rfl rfl)
theorem dX12_explain_34 : decode cX12_explain 34 = .ok (.istore_n 3, 1) := dk_62 (dk_at dksX12_explain_1 10 rfl rfl)
theorem dX12_explain_35 : decode cX12_explain 35 = .ok (.iload_n 2, 1) := dk_28 (dk_at dksX12_explain_1 11 rfl rfl)
theorem dX12_explain_36 : decode cX12_explain 36 = .ok (.istore 4, 2) := dk_54 4 (dk_at dksX12_explain_1 12 rfl rfl)
theorem dX12_explain_38 : decode cX12_explain 38 = .ok (.iconst 1, 1) := dk_4 (dk_at dksX12_explain_1 14 rfl rfl)
theorem dX12_explain_39 : decode cX12_explain 39 = .ok (.istore 5, 2) := dk_54 5 (dk_at dksX12_explain_1 15 rfl rfl)
theorem dX12_explain_41 : decode cX12_explain 41 = .ok (.iload 5, 2) := dk_21 5 (dk_at dksX12_explain_1 17 rfl rfl)
theorem dX12_explain_43 : decode cX12_explain 43 = .ok (.ifCond .eq 94, 3) := dk_153 0 94 (dk_at dksX12_explain_1 19 rfl rfl)
theorem dX12_explain_46 : decode cX12_explain 46 = .ok (.aload_n 0, 1) := dk_42 (dk_at dksX12_explain_1 22 rfl rfl)
theorem dX12_explain_47 : decode cX12_explain 47 = .ok (.iload_n 3, 1) := dk_29 (dk_at dksX12_explain_1 23 rfl rfl)
theorem dX12_explain_48 : decode cX12_explain 48 = .ok (.iload 4, 2) := dk_21 4 (dk_at dksX12_explain_2 0 rfl rfl)
theorem dX12_explain_50 : decode cX12_explain 50 = .ok (.invokevirtual 399, 3) := dk_182 1 143 (dk_at dksX12_explain_2 2 rfl rfl)
theorem dX12_explain_53 : decode cX12_explain 53 = .ok (.istore 6, 2) := dk_54 6 (dk_at dksX12_explain_2 5 rfl rfl)
theorem dX12_explain_55 : decode cX12_explain 55 = .ok (.aload_n 0, 1) := dk_42 (dk_at dksX12_explain_2 7 rfl rfl)
theorem dX12_explain_56 : decode cX12_explain 56 = .ok (.getfield 187, 3) := dk_180 0 187 (dk_at dksX12_explain_2 8 rfl rfl)
theorem dX12_explain_59 : decode cX12_explain 59 = .ok (.aload_n 0, 1) := dk_42 (dk_at dksX12_explain_2 11 rfl rfl)
theorem dX12_explain_60 : decode cX12_explain 60 = .ok (.getfield 396, 3) := dk_180 1 140 (dk_at dksX12_explain_2 12 rfl rfl)
theorem dX12_explain_63 : decode cX12_explain 63 = .ok (.bipush 10, 2) := dk_16 10 (dk_at dksX12_explain_2 15 rfl rfl)
theorem dX12_explain_65 : decode cX12_explain 65 = .ok (.iload_n 3, 1) := dk_29 (dk_at dksX12_explain_2 17 rfl rfl)
theorem dX12_explain_66 : decode cX12_explain 66 = .ok (.imul, 1) := dk_104 (dk_at dksX12_explain_2 18 rfl rfl)
theorem dX12_explain_67 : decode cX12_explain 67 = .ok (.iload 4, 2) := dk_21 4 (dk_at dksX12_explain_2 19 rfl rfl)
theorem dX12_explain_69 : decode cX12_explain 69 = .ok (.iadd, 1) := dk_96 (dk_at dksX12_explain_2 21 rfl rfl)
theorem dX12_explain_70 : decode cX12_explain 70 = .ok (.iastore, 1) := dk_79 (dk_at dksX12_explain_2 22 rfl rfl)
theorem dX12_explain_71 : decode cX12_explain 71 = .ok (.aload_n 0, 1) := dk_42 (dk_at dksX12_explain_2 23 rfl rfl)
theorem dX12_explain_72 : decode cX12_explain 72 = .ok (.getfield 190, 3) := dk_180 0 190 (dk_at dksX12_explain_3 0 rfl rfl)
theorem dX12_explain_75 : decode cX12_explain 75 = .ok (.aload_n 0, 1) := dk_42 (dk_at dksX12_explain_3 3 rfl rfl)
theorem dX12_explain_76 : decode cX12_explain 76 = .ok (.getfield 396, 3) := dk_180 1 140 (dk_at dksX12_explain_3 4 rfl rfl)
theorem dX12_explain_79 : decode cX12_explain 79 = .ok (.iload 6, 2) := dk_21 6 (dk_at dksX12_explain_3 7 rfl rfl)
theorem dX12_explain_81 : decode cX12_explain 81 = .ok (.iastore, 1) := dk_79 (dk_at dksX12_explain_3 9 rfl rfl)
theorem dX12_explain_82 : decode cX12_explain 82 = .ok (.aload_n 0, 1) := dk_42 (dk_at dksX12_explain_3 10 rfl rfl)
theorem dX12_explain_83 : decode cX12_explain 83 = .ok (.dup, 1) := dk_89 (dk_at dksX12_explain_3 11 rfl rfl)
theorem dX12_explain_84 : decode cX12_explain 84 = .ok (.getfield 396, 3) := dk_180 1 140 (dk_at dksX12_explain_3 12 rfl rfl)
theorem dX12_explain_87 : decode cX12_explain 87 = .ok (.iconst 1, 1) := dk_4 (dk_at dksX12_explain_3 15 rfl rfl)
theorem dX12_explain_88 : decode cX12_explain 88 = .ok (.iadd, 1) := dk_96 (dk_at dksX12_explain_3 16 rfl rfl)
theorem dX12_explain_89 : decode cX12_explain 89 = .ok (.putfield 396, 3) := dk_181 1 140 (dk_at dksX12_explain_3 17 rfl rfl)
theorem dX12_explain_92 : decode cX12_explain 92 = .ok (.iload 6, 2) := dk_21 6 (dk_at dksX12_explain_3 20 rfl rfl)
theorem dX12_explain_94 : decode cX12_explain 94 = .ok (.iconst 4, 1) := dk_7 (dk_at dksX12_explain_3 22 rfl rfl)
theorem dX12_explain_95 : decode cX12_explain 95 = .ok (.if_icmp .ge 16, 3) := dk_162 0 16 (dk_at dksX12_explain_4 0 rfl rfl)
theorem dX12_explain_98 : decode cX12_explain 98 = .ok (.aload_n 0, 1) := dk_42 (dk_at dksX12_explain_4 3 rfl rfl)
theorem dX12_explain_99 : decode cX12_explain 99 = .ok (.getfield 396, 3) := dk_180 1 140 (dk_at dksX12_explain_4 4 rfl rfl)
theorem dX12_explain_102 : decode cX12_explain 102 = .ok (.bipush 8, 2) := dk_16 8 (dk_at dksX12_explain_4 7 rfl rfl)
theorem dX12_explain_104 : decode cX12_explain 104 = .ok (.if_icmp .ge 7, 3) := dk_162 0 7 (dk_at dksX12_explain_4 9 rfl rfl)
theorem dX12_explain_107 : decode cX12_explain 107 = .ok (.iconst 1, 1) := dk_4 (dk_at dksX12_explain_4 12 rfl rfl)
theorem dX12_explain_108 : decode cX12_explain 108 = .ok (.goto 4, 3) := dk_167 0 4 (dk_at dksX12_explain_4 13 rfl rfl)
theorem dX12_explain_111 : decode cX12_explain 111 = .ok (.iconst 0, 1) := dk_3 (dk_at dksX12_explain_4 16 rfl rfl)
theorem dX12_explain_112 : decode cX12_explain 112 = .ok (.istore 5, 2) := dk_54 5 (dk_at dksX12_explain_4 17 rfl rfl)
theorem dX12_explain_114 : decode cX12_explain 114 = .ok (.iload_n 3, 1) := dk_29 (dk_at dksX12_explain_4 19 rfl rfl)
theorem dX12_explain_115 : decode cX12_explain 115 = .ok (.iload 6, 2) := dk_21 6 (dk_at dksX12_explain_4 20 rfl rfl)
theorem dX12_explain_117 : decode cX12_explain 117 = .ok (.iconst 3, 1) := dk_6 (dk_at dksX12_explain_4 22 rfl rfl)
theorem dX12_explain_118 : decode cX12_explain 118 = .ok (.if_icmp .ge 7, 3) := dk_162 0 7 (dk_at dksX12_explain_5 0 rfl rfl)
theorem dX12_explain_121 : decode cX12_explain 121 = .ok (.iconst 1, 1) := dk_4 (dk_at dksX12_explain_5 3 rfl rfl)
theorem dX12_explain_122 : decode cX12_explain 122 = .ok (.goto 4, 3) := dk_167 0 4 (dk_at dksX12_explain_5 4 rfl rfl)
theorem dX12_explain_125 : decode cX12_explain 125 = .ok (.iconst (-1), 1) := dk_2 (dk_at dksX12_explain_5 7 rfl rfl)
theorem dX12_explain_126 : decode cX12_explain 126 = .ok (.iadd, 1) := dk_96 (dk_at dksX12_explain_5 8 rfl rfl)
theorem dX12_explain_127 : decode cX12_explain 127 = .ok (.istore_n 3, 1) := dk_62 (dk_at dksX12_explain_5 9 rfl rfl)
theorem dX12_explain_128 : decode cX12_explain 128 = .ok (.aload_n 0, 1) := dk_42 (dk_at dksX12_explain_5 10 rfl rfl)
theorem dX12_explain_129 : decode cX12_explain 129 = .ok (.getfield 393, 3) := dk_180 1 137 (dk_at dksX12_explain_5 11 rfl rfl)
theorem dX12_explain_132 : decode cX12_explain 132 = .ok (.istore 4, 2) := dk_54 4 (dk_at dksX12_explain_5 14 rfl rfl)
theorem dX12_explain_134 : decode cX12_explain 134 = .ok (.goto (-93), 3) := dk_167 255 163 (dk_at dksX12_explain_5 16 rfl rfl)
theorem dX12_explain_137 : decode cX12_explain 137 = .ok (.aload_n 0, 1) := dk_42 (dk_at dksX12_explain_5 19 rfl rfl)
theorem dX12_explain_138 : decode cX12_explain 138 = .ok (.getfield 396, 3) := dk_180 1 140 (dk_at dksX12_explain_5 20 rfl rfl)
theorem dX12_explain_141 : decode cX12_explain 141 = .ok (.ireturn, 1) := dk_172 (dk_at dksX12_explain_5 23 rfl rfl)
abbrev cX12_reasonOf : ByteArray := prog_27_method_61_code
def yX12_reasonOf : MethodName := ⟨RX12, "reasonOf", "(II)I"⟩
def dkwX12_reasonOf_7 : List UInt8 := [181, 1, 137, 167, 255, 229, 6, 172]
abbrev dktX12_reasonOf_7 : List UInt8 := dkwX12_reasonOf_7 ++ []
def dkwX12_reasonOf_6 : List UInt8 := [42, 180, 0, 105, 29, 46, 42, 180, 1, 137, 122, 4, 126, 4, 160, 0, 16, 42, 89, 180, 1, 137, 4, 96]
abbrev dktX12_reasonOf_6 : List UInt8 := dkwX12_reasonOf_6 ++ dktX12_reasonOf_7
def dkwX12_reasonOf_5 : List UInt8 := [182, 1, 72, 155, 0, 5, 8, 172, 42, 180, 0, 105, 29, 46, 154, 0, 5, 7, 172, 42, 3, 181, 1, 137]
abbrev dktX12_reasonOf_5 : List UInt8 := dkwX12_reasonOf_5 ++ dktX12_reasonOf_6
def dkwX12_reasonOf_4 : List UInt8 := [154, 0, 20, 42, 180, 1, 15, 42, 180, 1, 19, 160, 0, 7, 7, 167, 0, 4, 8, 172, 42, 27, 28]
abbrev dktX12_reasonOf_4 : List UInt8 := dkwX12_reasonOf_4 ++ dktX12_reasonOf_5
def dkwX12_reasonOf_3 : List UInt8 := [42, 27, 28, 182, 1, 98, 155, 0, 15, 42, 42, 27, 28, 182, 1, 98, 181, 1, 137, 5, 172, 27]
abbrev dktX12_reasonOf_3 : List UInt8 := dkwX12_reasonOf_3 ++ dktX12_reasonOf_4
def dkwX12_reasonOf_2 : List UInt8 := [180, 0, 96, 6, 29, 104, 46, 182, 1, 88, 181, 1, 137, 4, 172, 42, 180, 0, 111, 29, 51, 153, 0, 24]
abbrev dktX12_reasonOf_2 : List UInt8 := dkwX12_reasonOf_2 ++ dktX12_reasonOf_3
def dkwX12_reasonOf_1 : List UInt8 := [180, 0, 96, 6, 29, 104, 46, 182, 1, 88, 184, 1, 68, 182, 1, 91, 154, 0, 23, 42, 42, 27, 28, 42]
abbrev dktX12_reasonOf_1 : List UInt8 := dkwX12_reasonOf_1 ++ dktX12_reasonOf_2
def dkwX12_reasonOf_0 : List UInt8 := [27, 28, 184, 1, 32, 62, 42, 180, 0, 93, 29, 46, 158, 0, 49, 42, 27, 28, 42, 27, 28, 42]
abbrev dktX12_reasonOf_0 : List UInt8 := dkwX12_reasonOf_0 ++ dktX12_reasonOf_1
theorem dksX12_reasonOf_0 : cX12_reasonOf.data.toList.drop 0 = dktX12_reasonOf_0 := by decide +kernel
theorem dksX12_reasonOf_1 : cX12_reasonOf.data.toList.drop 22 = dktX12_reasonOf_1 := dk_seg dksX12_reasonOf_0 22 rfl rfl
theorem dksX12_reasonOf_2 : cX12_reasonOf.data.toList.drop 46 = dktX12_reasonOf_2 := dk_seg dksX12_reasonOf_1 24 rfl rfl
theorem dksX12_reasonOf_3 : cX12_reasonOf.data.toList.drop 70 = dktX12_reasonOf_3 := dk_seg dksX12_reasonOf_2 24 rfl rfl
theorem dksX12_reasonOf_4 : cX12_reasonOf.data.toList.drop 92 = dktX12_reasonOf_4 := dk_seg dksX12_reasonOf_3 22 rfl rfl
theorem dksX12_reasonOf_5 : cX12_reasonOf.data.toList.drop 115 = dktX12_reasonOf_5 := dk_seg dksX12_reasonOf_4 23 rfl rfl
theorem dksX12_reasonOf_6 : cX12_reasonOf.data.toList.drop 139 = dktX12_reasonOf_6 := dk_seg dksX12_reasonOf_5 24 rfl rfl
theorem dksX12_reasonOf_7 : cX12_reasonOf.data.toList.drop 163 = dktX12_reasonOf_7 := dk_seg dksX12_reasonOf_6 24 rfl rfl
theorem dX12_reasonOf_0 : decode cX12_reasonOf 0 = .ok (.iload_n 1, 1) := dk_27 (dk_at dksX12_reasonOf_0 0 rfl rfl)
theorem dX12_reasonOf_1 : decode cX12_reasonOf 1 = .ok (.iload_n 2, 1) := dk_28 (dk_at dksX12_reasonOf_0 1 rfl rfl)
theorem dX12_reasonOf_2 : decode cX12_reasonOf 2 = .ok (.invokestatic 288, 3) := dk_184 1 32 (dk_at dksX12_reasonOf_0 2 rfl rfl)
theorem dX12_reasonOf_5 : decode cX12_reasonOf 5 = .ok (.istore_n 3, 1) := dk_62 (dk_at dksX12_reasonOf_0 5 rfl rfl)
theorem dX12_reasonOf_6 : decode cX12_reasonOf 6 = .ok (.aload_n 0, 1) := dk_42 (dk_at dksX12_reasonOf_0 6 rfl rfl)
theorem dX12_reasonOf_7 : decode cX12_reasonOf 7 = .ok (.getfield 93, 3) := dk_180 0 93 (dk_at dksX12_reasonOf_0 7 rfl rfl)
theorem dX12_reasonOf_10 : decode cX12_reasonOf 10 = .ok (.iload_n 3, 1) := dk_29 (dk_at dksX12_reasonOf_0 10 rfl rfl)
theorem dX12_reasonOf_11 : decode cX12_reasonOf 11 = .ok (.iaload, 1) := dk_46 (dk_at dksX12_reasonOf_0 11 rfl rfl)
theorem dX12_reasonOf_12 : decode cX12_reasonOf 12 = .ok (.ifCond .le 49, 3) := dk_158 0 49 (dk_at dksX12_reasonOf_0 12 rfl rfl)
theorem dX12_reasonOf_15 : decode cX12_reasonOf 15 = .ok (.aload_n 0, 1) := dk_42 (dk_at dksX12_reasonOf_0 15 rfl rfl)
theorem dX12_reasonOf_16 : decode cX12_reasonOf 16 = .ok (.iload_n 1, 1) := dk_27 (dk_at dksX12_reasonOf_0 16 rfl rfl)
theorem dX12_reasonOf_17 : decode cX12_reasonOf 17 = .ok (.iload_n 2, 1) := dk_28 (dk_at dksX12_reasonOf_0 17 rfl rfl)
theorem dX12_reasonOf_18 : decode cX12_reasonOf 18 = .ok (.aload_n 0, 1) := dk_42 (dk_at dksX12_reasonOf_0 18 rfl rfl)
theorem dX12_reasonOf_19 : decode cX12_reasonOf 19 = .ok (.iload_n 1, 1) := dk_27 (dk_at dksX12_reasonOf_0 19 rfl rfl)
theorem dX12_reasonOf_20 : decode cX12_reasonOf 20 = .ok (.iload_n 2, 1) := dk_28 (dk_at dksX12_reasonOf_0 20 rfl rfl)
theorem dX12_reasonOf_21 : decode cX12_reasonOf 21 = .ok (.aload_n 0, 1) := dk_42 (dk_at dksX12_reasonOf_0 21 rfl rfl)
theorem dX12_reasonOf_22 : decode cX12_reasonOf 22 = .ok (.getfield 96, 3) := dk_180 0 96 (dk_at dksX12_reasonOf_1 0 rfl rfl)
theorem dX12_reasonOf_25 : decode cX12_reasonOf 25 = .ok (.iconst 3, 1) := dk_6 (dk_at dksX12_reasonOf_1 3 rfl rfl)
theorem dX12_reasonOf_26 : decode cX12_reasonOf 26 = .ok (.iload_n 3, 1) := dk_29 (dk_at dksX12_reasonOf_1 4 rfl rfl)
theorem dX12_reasonOf_27 : decode cX12_reasonOf 27 = .ok (.imul, 1) := dk_104 (dk_at dksX12_reasonOf_1 5 rfl rfl)
theorem dX12_reasonOf_28 : decode cX12_reasonOf 28 = .ok (.iaload, 1) := dk_46 (dk_at dksX12_reasonOf_1 6 rfl rfl)
theorem dX12_reasonOf_29 : decode cX12_reasonOf 29 = .ok (.invokevirtual 344, 3) := dk_182 1 88 (dk_at dksX12_reasonOf_1 7 rfl rfl)
theorem dX12_reasonOf_32 : decode cX12_reasonOf 32 = .ok (.invokestatic 324, 3) := dk_184 1 68 (dk_at dksX12_reasonOf_1 10 rfl rfl)
theorem dX12_reasonOf_35 : decode cX12_reasonOf 35 = .ok (.invokevirtual 347, 3) := dk_182 1 91 (dk_at dksX12_reasonOf_1 13 rfl rfl)
theorem dX12_reasonOf_38 : decode cX12_reasonOf 38 = .ok (.ifCond .ne 23, 3) := dk_154 0 23 (dk_at dksX12_reasonOf_1 16 rfl rfl)
theorem dX12_reasonOf_41 : decode cX12_reasonOf 41 = .ok (.aload_n 0, 1) := dk_42 (dk_at dksX12_reasonOf_1 19 rfl rfl)
theorem dX12_reasonOf_42 : decode cX12_reasonOf 42 = .ok (.aload_n 0, 1) := dk_42 (dk_at dksX12_reasonOf_1 20 rfl rfl)
theorem dX12_reasonOf_43 : decode cX12_reasonOf 43 = .ok (.iload_n 1, 1) := dk_27 (dk_at dksX12_reasonOf_1 21 rfl rfl)
theorem dX12_reasonOf_44 : decode cX12_reasonOf 44 = .ok (.iload_n 2, 1) := dk_28 (dk_at dksX12_reasonOf_1 22 rfl rfl)
theorem dX12_reasonOf_45 : decode cX12_reasonOf 45 = .ok (.aload_n 0, 1) := dk_42 (dk_at dksX12_reasonOf_1 23 rfl rfl)
theorem dX12_reasonOf_46 : decode cX12_reasonOf 46 = .ok (.getfield 96, 3) := dk_180 0 96 (dk_at dksX12_reasonOf_2 0 rfl rfl)
theorem dX12_reasonOf_49 : decode cX12_reasonOf 49 = .ok (.iconst 3, 1) := dk_6 (dk_at dksX12_reasonOf_2 3 rfl rfl)
theorem dX12_reasonOf_50 : decode cX12_reasonOf 50 = .ok (.iload_n 3, 1) := dk_29 (dk_at dksX12_reasonOf_2 4 rfl rfl)
theorem dX12_reasonOf_51 : decode cX12_reasonOf 51 = .ok (.imul, 1) := dk_104 (dk_at dksX12_reasonOf_2 5 rfl rfl)
theorem dX12_reasonOf_52 : decode cX12_reasonOf 52 = .ok (.iaload, 1) := dk_46 (dk_at dksX12_reasonOf_2 6 rfl rfl)
theorem dX12_reasonOf_53 : decode cX12_reasonOf 53 = .ok (.invokevirtual 344, 3) := dk_182 1 88 (dk_at dksX12_reasonOf_2 7 rfl rfl)
theorem dX12_reasonOf_56 : decode cX12_reasonOf 56 = .ok (.putfield 393, 3) := dk_181 1 137 (dk_at dksX12_reasonOf_2 10 rfl rfl)
theorem dX12_reasonOf_59 : decode cX12_reasonOf 59 = .ok (.iconst 1, 1) := dk_4 (dk_at dksX12_reasonOf_2 13 rfl rfl)
theorem dX12_reasonOf_60 : decode cX12_reasonOf 60 = .ok (.ireturn, 1) := dk_172 (dk_at dksX12_reasonOf_2 14 rfl rfl)
theorem dX12_reasonOf_61 : decode cX12_reasonOf 61 = .ok (.aload_n 0, 1) := dk_42 (dk_at dksX12_reasonOf_2 15 rfl rfl)
theorem dX12_reasonOf_62 : decode cX12_reasonOf 62 = .ok (.getfield 111, 3) := dk_180 0 111 (dk_at dksX12_reasonOf_2 16 rfl rfl)
theorem dX12_reasonOf_65 : decode cX12_reasonOf 65 = .ok (.iload_n 3, 1) := dk_29 (dk_at dksX12_reasonOf_2 19 rfl rfl)
theorem dX12_reasonOf_66 : decode cX12_reasonOf 66 = .ok (.baload, 1) := dk_51 (dk_at dksX12_reasonOf_2 20 rfl rfl)
theorem dX12_reasonOf_67 : decode cX12_reasonOf 67 = .ok (.ifCond .eq 24, 3) := dk_153 0 24 (dk_at dksX12_reasonOf_2 21 rfl rfl)
theorem dX12_reasonOf_70 : decode cX12_reasonOf 70 = .ok (.aload_n 0, 1) := dk_42 (dk_at dksX12_reasonOf_3 0 rfl rfl)
theorem dX12_reasonOf_71 : decode cX12_reasonOf 71 = .ok (.iload_n 1, 1) := dk_27 (dk_at dksX12_reasonOf_3 1 rfl rfl)
theorem dX12_reasonOf_72 : decode cX12_reasonOf 72 = .ok (.iload_n 2, 1) := dk_28 (dk_at dksX12_reasonOf_3 2 rfl rfl)
theorem dX12_reasonOf_73 : decode cX12_reasonOf 73 = .ok (.invokevirtual 354, 3) := dk_182 1 98 (dk_at dksX12_reasonOf_3 3 rfl rfl)
theorem dX12_reasonOf_76 : decode cX12_reasonOf 76 = .ok (.ifCond .lt 15, 3) := dk_155 0 15 (dk_at dksX12_reasonOf_3 6 rfl rfl)
theorem dX12_reasonOf_79 : decode cX12_reasonOf 79 = .ok (.aload_n 0, 1) := dk_42 (dk_at dksX12_reasonOf_3 9 rfl rfl)
theorem dX12_reasonOf_80 : decode cX12_reasonOf 80 = .ok (.aload_n 0, 1) := dk_42 (dk_at dksX12_reasonOf_3 10 rfl rfl)
theorem dX12_reasonOf_81 : decode cX12_reasonOf 81 = .ok (.iload_n 1, 1) := dk_27 (dk_at dksX12_reasonOf_3 11 rfl rfl)
theorem dX12_reasonOf_82 : decode cX12_reasonOf 82 = .ok (.iload_n 2, 1) := dk_28 (dk_at dksX12_reasonOf_3 12 rfl rfl)
theorem dX12_reasonOf_83 : decode cX12_reasonOf 83 = .ok (.invokevirtual 354, 3) := dk_182 1 98 (dk_at dksX12_reasonOf_3 13 rfl rfl)
theorem dX12_reasonOf_86 : decode cX12_reasonOf 86 = .ok (.putfield 393, 3) := dk_181 1 137 (dk_at dksX12_reasonOf_3 16 rfl rfl)
theorem dX12_reasonOf_89 : decode cX12_reasonOf 89 = .ok (.iconst 2, 1) := dk_5 (dk_at dksX12_reasonOf_3 19 rfl rfl)
theorem dX12_reasonOf_90 : decode cX12_reasonOf 90 = .ok (.ireturn, 1) := dk_172 (dk_at dksX12_reasonOf_3 20 rfl rfl)
theorem dX12_reasonOf_91 : decode cX12_reasonOf 91 = .ok (.iload_n 1, 1) := dk_27 (dk_at dksX12_reasonOf_3 21 rfl rfl)
theorem dX12_reasonOf_92 : decode cX12_reasonOf 92 = .ok (.ifCond .ne 20, 3) := dk_154 0 20 (dk_at dksX12_reasonOf_4 0 rfl rfl)
theorem dX12_reasonOf_95 : decode cX12_reasonOf 95 = .ok (.aload_n 0, 1) := dk_42 (dk_at dksX12_reasonOf_4 3 rfl rfl)
theorem dX12_reasonOf_96 : decode cX12_reasonOf 96 = .ok (.getfield 271, 3) := dk_180 1 15 (dk_at dksX12_reasonOf_4 4 rfl rfl)
theorem dX12_reasonOf_99 : decode cX12_reasonOf 99 = .ok (.aload_n 0, 1) := dk_42 (dk_at dksX12_reasonOf_4 7 rfl rfl)
theorem dX12_reasonOf_100 : decode cX12_reasonOf 100 = .ok (.getfield 275, 3) := dk_180 1 19 (dk_at dksX12_reasonOf_4 8 rfl rfl)
theorem dX12_reasonOf_103 : decode cX12_reasonOf 103 = .ok (.if_icmp .ne 7, 3) := dk_160 0 7 (dk_at dksX12_reasonOf_4 11 rfl rfl)
theorem dX12_reasonOf_106 : decode cX12_reasonOf 106 = .ok (.iconst 4, 1) := dk_7 (dk_at dksX12_reasonOf_4 14 rfl rfl)
theorem dX12_reasonOf_107 : decode cX12_reasonOf 107 = .ok (.goto 4, 3) := dk_167 0 4 (dk_at dksX12_reasonOf_4 15 rfl rfl)
theorem dX12_reasonOf_110 : decode cX12_reasonOf 110 = .ok (.iconst 5, 1) := dk_8 (dk_at dksX12_reasonOf_4 18 rfl rfl)
theorem dX12_reasonOf_111 : decode cX12_reasonOf 111 = .ok (.ireturn, 1) := dk_172 (dk_at dksX12_reasonOf_4 19 rfl rfl)
theorem dX12_reasonOf_112 : decode cX12_reasonOf 112 = .ok (.aload_n 0, 1) := dk_42 (dk_at dksX12_reasonOf_4 20 rfl rfl)
theorem dX12_reasonOf_113 : decode cX12_reasonOf 113 = .ok (.iload_n 1, 1) := dk_27 (dk_at dksX12_reasonOf_4 21 rfl rfl)
theorem dX12_reasonOf_114 : decode cX12_reasonOf 114 = .ok (.iload_n 2, 1) := dk_28 (dk_at dksX12_reasonOf_4 22 rfl rfl)
theorem dX12_reasonOf_115 : decode cX12_reasonOf 115 = .ok (.invokevirtual 328, 3) := dk_182 1 72 (dk_at dksX12_reasonOf_5 0 rfl rfl)
theorem dX12_reasonOf_118 : decode cX12_reasonOf 118 = .ok (.ifCond .lt 5, 3) := dk_155 0 5 (dk_at dksX12_reasonOf_5 3 rfl rfl)
theorem dX12_reasonOf_121 : decode cX12_reasonOf 121 = .ok (.iconst 5, 1) := dk_8 (dk_at dksX12_reasonOf_5 6 rfl rfl)
theorem dX12_reasonOf_122 : decode cX12_reasonOf 122 = .ok (.ireturn, 1) := dk_172 (dk_at dksX12_reasonOf_5 7 rfl rfl)
theorem dX12_reasonOf_123 : decode cX12_reasonOf 123 = .ok (.aload_n 0, 1) := dk_42 (dk_at dksX12_reasonOf_5 8 rfl rfl)
theorem dX12_reasonOf_124 : decode cX12_reasonOf 124 = .ok (.getfield 105, 3) := dk_180 0 105 (dk_at dksX12_reasonOf_5 9 rfl rfl)
theorem dX12_reasonOf_127 : decode cX12_reasonOf 127 = .ok (.iload_n 3, 1) := dk_29 (dk_at dksX12_reasonOf_5 12 rfl rfl)
theorem dX12_reasonOf_128 : decode cX12_reasonOf 128 = .ok (.iaload, 1) := dk_46 (dk_at dksX12_reasonOf_5 13 rfl rfl)
theorem dX12_reasonOf_129 : decode cX12_reasonOf 129 = .ok (.ifCond .ne 5, 3) := dk_154 0 5 (dk_at dksX12_reasonOf_5 14 rfl rfl)
theorem dX12_reasonOf_132 : decode cX12_reasonOf 132 = .ok (.iconst 4, 1) := dk_7 (dk_at dksX12_reasonOf_5 17 rfl rfl)
theorem dX12_reasonOf_133 : decode cX12_reasonOf 133 = .ok (.ireturn, 1) := dk_172 (dk_at dksX12_reasonOf_5 18 rfl rfl)
theorem dX12_reasonOf_134 : decode cX12_reasonOf 134 = .ok (.aload_n 0, 1) := dk_42 (dk_at dksX12_reasonOf_5 19 rfl rfl)
theorem dX12_reasonOf_135 : decode cX12_reasonOf 135 = .ok (.iconst 0, 1) := dk_3 (dk_at dksX12_reasonOf_5 20 rfl rfl)
theorem dX12_reasonOf_136 : decode cX12_reasonOf 136 = .ok (.putfield 393, 3) := dk_181 1 137 (dk_at dksX12_reasonOf_5 21 rfl rfl)
theorem dX12_reasonOf_139 : decode cX12_reasonOf 139 = .ok (.aload_n 0, 1) := dk_42 (dk_at dksX12_reasonOf_6 0 rfl rfl)
theorem dX12_reasonOf_140 : decode cX12_reasonOf 140 = .ok (.getfield 105, 3) := dk_180 0 105 (dk_at dksX12_reasonOf_6 1 rfl rfl)
theorem dX12_reasonOf_143 : decode cX12_reasonOf 143 = .ok (.iload_n 3, 1) := dk_29 (dk_at dksX12_reasonOf_6 4 rfl rfl)
theorem dX12_reasonOf_144 : decode cX12_reasonOf 144 = .ok (.iaload, 1) := dk_46 (dk_at dksX12_reasonOf_6 5 rfl rfl)
theorem dX12_reasonOf_145 : decode cX12_reasonOf 145 = .ok (.aload_n 0, 1) := dk_42 (dk_at dksX12_reasonOf_6 6 rfl rfl)
theorem dX12_reasonOf_146 : decode cX12_reasonOf 146 = .ok (.getfield 393, 3) := dk_180 1 137 (dk_at dksX12_reasonOf_6 7 rfl rfl)
theorem dX12_reasonOf_149 : decode cX12_reasonOf 149 = .ok (.ishr, 1) := dk_122 (dk_at dksX12_reasonOf_6 10 rfl rfl)
theorem dX12_reasonOf_150 : decode cX12_reasonOf 150 = .ok (.iconst 1, 1) := dk_4 (dk_at dksX12_reasonOf_6 11 rfl rfl)
theorem dX12_reasonOf_151 : decode cX12_reasonOf 151 = .ok (.iand, 1) := dk_126 (dk_at dksX12_reasonOf_6 12 rfl rfl)
theorem dX12_reasonOf_152 : decode cX12_reasonOf 152 = .ok (.iconst 1, 1) := dk_4 (dk_at dksX12_reasonOf_6 13 rfl rfl)
theorem dX12_reasonOf_153 : decode cX12_reasonOf 153 = .ok (.if_icmp .ne 16, 3) := dk_160 0 16 (dk_at dksX12_reasonOf_6 14 rfl rfl)
theorem dX12_reasonOf_156 : decode cX12_reasonOf 156 = .ok (.aload_n 0, 1) := dk_42 (dk_at dksX12_reasonOf_6 17 rfl rfl)
theorem dX12_reasonOf_157 : decode cX12_reasonOf 157 = .ok (.dup, 1) := dk_89 (dk_at dksX12_reasonOf_6 18 rfl rfl)
theorem dX12_reasonOf_158 : decode cX12_reasonOf 158 = .ok (.getfield 393, 3) := dk_180 1 137 (dk_at dksX12_reasonOf_6 19 rfl rfl)
theorem dX12_reasonOf_161 : decode cX12_reasonOf 161 = .ok (.iconst 1, 1) := dk_4 (dk_at dksX12_reasonOf_6 22 rfl rfl)
theorem dX12_reasonOf_162 : decode cX12_reasonOf 162 = .ok (.iadd, 1) := dk_96 (dk_at dksX12_reasonOf_6 23 rfl rfl)
theorem dX12_reasonOf_163 : decode cX12_reasonOf 163 = .ok (.putfield 393, 3) := dk_181 1 137 (dk_at dksX12_reasonOf_7 0 rfl rfl)
theorem dX12_reasonOf_166 : decode cX12_reasonOf 166 = .ok (.goto (-27), 3) := dk_167 255 229 (dk_at dksX12_reasonOf_7 3 rfl rfl)
theorem dX12_reasonOf_169 : decode cX12_reasonOf 169 = .ok (.iconst 3, 1) := dk_6 (dk_at dksX12_reasonOf_7 6 rfl rfl)
theorem dX12_reasonOf_170 : decode cX12_reasonOf 170 = .ok (.ireturn, 1) := dk_172 (dk_at dksX12_reasonOf_7 7 rfl rfl)
abbrev cX12_explanation : ByteArray := prog_27_method_63_code
def yX12_explanation : MethodName := ⟨RX12, "explanation", "(II)I"⟩
def dkwX12_explanation_2 : List UInt8 := [180, 0, 190, 27, 46, 172]
abbrev dktX12_explanation_2 : List UInt8 := dkwX12_explanation_2 ++ []
def dkwX12_explanation_1 : List UInt8 := [154, 0, 8, 18, 207, 167, 0, 22, 28, 154, 0, 12, 42, 180, 0, 187, 27, 46, 167, 0, 9, 42]
abbrev dktX12_explanation_1 : List UInt8 := dkwX12_explanation_1 ++ dktX12_explanation_2
def dkwX12_explanation_0 : List UInt8 := [27, 3, 42, 180, 1, 140, 4, 100, 184, 0, 203, 154, 0, 7, 19, 1, 53, 172, 28, 3, 4, 184, 0, 203]
abbrev dktX12_explanation_0 : List UInt8 := dkwX12_explanation_0 ++ dktX12_explanation_1
theorem dksX12_explanation_0 : cX12_explanation.data.toList.drop 0 = dktX12_explanation_0 := by decide +kernel
theorem dksX12_explanation_1 : cX12_explanation.data.toList.drop 24 = dktX12_explanation_1 := dk_seg dksX12_explanation_0 24 rfl rfl
theorem dksX12_explanation_2 : cX12_explanation.data.toList.drop 46 = dktX12_explanation_2 := dk_seg dksX12_explanation_1 22 rfl rfl
theorem dX12_explanation_0 : decode cX12_explanation 0 = .ok (.iload_n 1, 1) := dk_27 (dk_at dksX12_explanation_0 0 rfl rfl)
theorem dX12_explanation_1 : decode cX12_explanation 1 = .ok (.iconst 0, 1) := dk_3 (dk_at dksX12_explanation_0 1 rfl rfl)
theorem dX12_explanation_2 : decode cX12_explanation 2 = .ok (.aload_n 0, 1) := dk_42 (dk_at dksX12_explanation_0 2 rfl rfl)
theorem dX12_explanation_3 : decode cX12_explanation 3 = .ok (.getfield 396, 3) := dk_180 1 140 (dk_at dksX12_explanation_0 3 rfl rfl)
theorem dX12_explanation_6 : decode cX12_explanation 6 = .ok (.iconst 1, 1) := dk_4 (dk_at dksX12_explanation_0 6 rfl rfl)
theorem dX12_explanation_7 : decode cX12_explanation 7 = .ok (.isub, 1) := dk_100 (dk_at dksX12_explanation_0 7 rfl rfl)
theorem dX12_explanation_8 : decode cX12_explanation 8 = .ok (.invokestatic 203, 3) := dk_184 0 203 (dk_at dksX12_explanation_0 8 rfl rfl)
theorem dX12_explanation_11 : decode cX12_explanation 11 = .ok (.ifCond .ne 7, 3) := dk_154 0 7 (dk_at dksX12_explanation_0 11 rfl rfl)
theorem dX12_explanation_14 : decode cX12_explanation 14 = .ok (.ldc_w 309, 3) := dk_19 1 53 (dk_at dksX12_explanation_0 14 rfl rfl)
theorem dX12_explanation_17 : decode cX12_explanation 17 = .ok (.ireturn, 1) := dk_172 (dk_at dksX12_explanation_0 17 rfl rfl)
theorem dX12_explanation_18 : decode cX12_explanation 18 = .ok (.iload_n 2, 1) := dk_28 (dk_at dksX12_explanation_0 18 rfl rfl)
theorem dX12_explanation_19 : decode cX12_explanation 19 = .ok (.iconst 0, 1) := dk_3 (dk_at dksX12_explanation_0 19 rfl rfl)
theorem dX12_explanation_20 : decode cX12_explanation 20 = .ok (.iconst 1, 1) := dk_4 (dk_at dksX12_explanation_0 20 rfl rfl)
theorem dX12_explanation_21 : decode cX12_explanation 21 = .ok (.invokestatic 203, 3) := dk_184 0 203 (dk_at dksX12_explanation_0 21 rfl rfl)
theorem dX12_explanation_24 : decode cX12_explanation 24 = .ok (.ifCond .ne 8, 3) := dk_154 0 8 (dk_at dksX12_explanation_1 0 rfl rfl)
theorem dX12_explanation_27 : decode cX12_explanation 27 = .ok (.ldc 207, 2) := dk_18 207 (dk_at dksX12_explanation_1 3 rfl rfl)
theorem dX12_explanation_29 : decode cX12_explanation 29 = .ok (.goto 22, 3) := dk_167 0 22 (dk_at dksX12_explanation_1 5 rfl rfl)
theorem dX12_explanation_32 : decode cX12_explanation 32 = .ok (.iload_n 2, 1) := dk_28 (dk_at dksX12_explanation_1 8 rfl rfl)
theorem dX12_explanation_33 : decode cX12_explanation 33 = .ok (.ifCond .ne 12, 3) := dk_154 0 12 (dk_at dksX12_explanation_1 9 rfl rfl)
theorem dX12_explanation_36 : decode cX12_explanation 36 = .ok (.aload_n 0, 1) := dk_42 (dk_at dksX12_explanation_1 12 rfl rfl)
theorem dX12_explanation_37 : decode cX12_explanation 37 = .ok (.getfield 187, 3) := dk_180 0 187 (dk_at dksX12_explanation_1 13 rfl rfl)
theorem dX12_explanation_40 : decode cX12_explanation 40 = .ok (.iload_n 1, 1) := dk_27 (dk_at dksX12_explanation_1 16 rfl rfl)
theorem dX12_explanation_41 : decode cX12_explanation 41 = .ok (.iaload, 1) := dk_46 (dk_at dksX12_explanation_1 17 rfl rfl)
theorem dX12_explanation_42 : decode cX12_explanation 42 = .ok (.goto 9, 3) := dk_167 0 9 (dk_at dksX12_explanation_1 18 rfl rfl)
theorem dX12_explanation_45 : decode cX12_explanation 45 = .ok (.aload_n 0, 1) := dk_42 (dk_at dksX12_explanation_1 21 rfl rfl)
theorem dX12_explanation_46 : decode cX12_explanation 46 = .ok (.getfield 190, 3) := dk_180 0 190 (dk_at dksX12_explanation_2 0 rfl rfl)
theorem dX12_explanation_49 : decode cX12_explanation 49 = .ok (.iload_n 1, 1) := dk_27 (dk_at dksX12_explanation_2 3 rfl rfl)
theorem dX12_explanation_50 : decode cX12_explanation 50 = .ok (.iaload, 1) := dk_46 (dk_at dksX12_explanation_2 4 rfl rfl)
theorem dX12_explanation_51 : decode cX12_explanation 51 = .ok (.ireturn, 1) := dk_172 (dk_at dksX12_explanation_2 5 rfl rfl)
abbrev cX12_write : ByteArray := prog_27_method_66_code
def yX12_write : MethodName := ⟨RX12, "write", "()I"⟩
def dkwX12_write_9 : List UInt8 := [42, 16, 48, 42, 180, 0, 22, 42, 182, 0, 199, 46, 96, 182, 1, 149, 42, 180, 1, 146, 172]
abbrev dktX12_write_9 : List UInt8 := dkwX12_write_9 ++ []
def dkwX12_write_8 : List UInt8 := [46, 4, 164, 0, 9, 42, 16, 36, 182, 1, 149, 42, 180, 0, 22, 42, 182, 0, 199, 46, 4, 164, 0, 19]
abbrev dktX12_write_8 : List UInt8 := dkwX12_write_8 ++ dktX12_write_9
def dkwX12_write_7 : List UInt8 := [42, 180, 0, 22, 27, 46, 96, 182, 1, 149, 132, 1, 1, 167, 255, 86, 42, 180, 0, 22, 42, 182, 0, 199]
abbrev dktX12_write_7 : List UInt8 := dkwX12_write_7 ++ dktX12_write_8
def dkwX12_write_6 : List UInt8 := [27, 46, 182, 1, 152, 42, 16, 41, 182, 1, 149, 42, 180, 0, 22, 27, 46, 4, 164, 0, 16, 42, 16, 48]
abbrev dktX12_write_6 : List UInt8 := dkwX12_write_6 ++ dktX12_write_7
def dkwX12_write_5 : List UInt8 := [182, 1, 152, 28, 6, 162, 0, 9, 42, 16, 44, 182, 1, 149, 28, 6, 162, 0, 13, 42, 42, 180, 0, 19]
abbrev dktX12_write_5 : List UInt8 := dkwX12_write_5 ++ dktX12_write_6
def dkwX12_write_4 : List UInt8 := [16, 114, 182, 1, 149, 28, 8, 162, 0, 51, 42, 16, 40, 182, 1, 149, 42, 42, 180, 0, 16, 27, 46]
abbrev dktX12_write_4 : List UInt8 := dkwX12_write_4 ++ dktX12_write_5
def dkwX12_write_3 : List UInt8 := [167, 0, 25, 28, 7, 160, 0, 8, 16, 115, 167, 0, 15, 28, 8, 160, 0, 8, 16, 100, 167, 0, 5]
abbrev dktX12_write_3 : List UInt8 := dkwX12_write_3 ++ dktX12_write_4
def dkwX12_write_2 : List UInt8 := [16, 102, 167, 0, 45, 28, 5, 160, 0, 8, 16, 107, 167, 0, 35, 28, 6, 160, 0, 8, 16, 99]
abbrev dktX12_write_2 : List UInt8 := dkwX12_write_2 ++ dktX12_write_3
def dkwX12_write_1 : List UInt8 := [164, 0, 9, 42, 16, 124, 182, 1, 149, 42, 28, 154, 0, 8, 16, 109, 167, 0, 55, 28, 4, 160, 0, 8]
abbrev dktX12_write_1 : List UInt8 := dkwX12_write_1 ++ dktX12_write_2
def dkwX12_write_0 : List UInt8 := [42, 3, 181, 1, 146, 4, 60, 27, 42, 180, 0, 196, 163, 0, 168, 42, 180, 0, 13, 27, 46, 61, 27, 4]
abbrev dktX12_write_0 : List UInt8 := dkwX12_write_0 ++ dktX12_write_1
theorem dksX12_write_0 : cX12_write.data.toList.drop 0 = dktX12_write_0 := by decide +kernel
theorem dksX12_write_1 : cX12_write.data.toList.drop 24 = dktX12_write_1 := dk_seg dksX12_write_0 24 rfl rfl
theorem dksX12_write_2 : cX12_write.data.toList.drop 48 = dktX12_write_2 := dk_seg dksX12_write_1 24 rfl rfl
theorem dksX12_write_3 : cX12_write.data.toList.drop 70 = dktX12_write_3 := dk_seg dksX12_write_2 22 rfl rfl
theorem dksX12_write_4 : cX12_write.data.toList.drop 93 = dktX12_write_4 := dk_seg dksX12_write_3 23 rfl rfl
theorem dksX12_write_5 : cX12_write.data.toList.drop 116 = dktX12_write_5 := dk_seg dksX12_write_4 23 rfl rfl
theorem dksX12_write_6 : cX12_write.data.toList.drop 140 = dktX12_write_6 := dk_seg dksX12_write_5 24 rfl rfl
theorem dksX12_write_7 : cX12_write.data.toList.drop 164 = dktX12_write_7 := dk_seg dksX12_write_6 24 rfl rfl
theorem dksX12_write_8 : cX12_write.data.toList.drop 188 = dktX12_write_8 := dk_seg dksX12_write_7 24 rfl rfl
theorem dksX12_write_9 : cX12_write.data.toList.drop 212 = dktX12_write_9 := dk_seg dksX12_write_8 24 rfl rfl
theorem dX12_write_0 : decode cX12_write 0 = .ok (.aload_n 0, 1) := dk_42 (dk_at dksX12_write_0 0 rfl rfl)
theorem dX12_write_1 : decode cX12_write 1 = .ok (.iconst 0, 1) := dk_3 (dk_at dksX12_write_0 1 rfl rfl)
theorem dX12_write_2 : decode cX12_write 2 = .ok (.putfield 402, 3) := dk_181 1 146 (dk_at dksX12_write_0 2 rfl rfl)
theorem dX12_write_5 : decode cX12_write 5 = .ok (.iconst 1, 1) := dk_4 (dk_at dksX12_write_0 5 rfl rfl)
theorem dX12_write_6 : decode cX12_write 6 = .ok (.istore_n 1, 1) := dk_60 (dk_at dksX12_write_0 6 rfl rfl)
theorem dX12_write_7 : decode cX12_write 7 = .ok (.iload_n 1, 1) := dk_27 (dk_at dksX12_write_0 7 rfl rfl)
theorem dX12_write_8 : decode cX12_write 8 = .ok (.aload_n 0, 1) := dk_42 (dk_at dksX12_write_0 8 rfl rfl)
theorem dX12_write_9 : decode cX12_write 9 = .ok (.getfield 196, 3) := dk_180 0 196 (dk_at dksX12_write_0 9 rfl rfl)
theorem dX12_write_12 : decode cX12_write 12 = .ok (.if_icmp .gt 168, 3) := dk_163 0 168 (dk_at dksX12_write_0 12 rfl rfl)
theorem dX12_write_15 : decode cX12_write 15 = .ok (.aload_n 0, 1) := dk_42 (dk_at dksX12_write_0 15 rfl rfl)
theorem dX12_write_16 : decode cX12_write 16 = .ok (.getfield 13, 3) := dk_180 0 13 (dk_at dksX12_write_0 16 rfl rfl)
theorem dX12_write_19 : decode cX12_write 19 = .ok (.iload_n 1, 1) := dk_27 (dk_at dksX12_write_0 19 rfl rfl)
theorem dX12_write_20 : decode cX12_write 20 = .ok (.iaload, 1) := dk_46 (dk_at dksX12_write_0 20 rfl rfl)
theorem dX12_write_21 : decode cX12_write 21 = .ok (.istore_n 2, 1) := dk_61 (dk_at dksX12_write_0 21 rfl rfl)
theorem dX12_write_22 : decode cX12_write 22 = .ok (.iload_n 1, 1) := dk_27 (dk_at dksX12_write_0 22 rfl rfl)
theorem dX12_write_23 : decode cX12_write 23 = .ok (.iconst 1, 1) := dk_4 (dk_at dksX12_write_0 23 rfl rfl)
theorem dX12_write_24 : decode cX12_write 24 = .ok (.if_icmp .le 9, 3) := dk_164 0 9 (dk_at dksX12_write_1 0 rfl rfl)
theorem dX12_write_27 : decode cX12_write 27 = .ok (.aload_n 0, 1) := dk_42 (dk_at dksX12_write_1 3 rfl rfl)
theorem dX12_write_28 : decode cX12_write 28 = .ok (.bipush 124, 2) := dk_16 124 (dk_at dksX12_write_1 4 rfl rfl)
theorem dX12_write_30 : decode cX12_write 30 = .ok (.invokevirtual 405, 3) := dk_182 1 149 (dk_at dksX12_write_1 6 rfl rfl)
theorem dX12_write_33 : decode cX12_write 33 = .ok (.aload_n 0, 1) := dk_42 (dk_at dksX12_write_1 9 rfl rfl)
theorem dX12_write_34 : decode cX12_write 34 = .ok (.iload_n 2, 1) := dk_28 (dk_at dksX12_write_1 10 rfl rfl)
theorem dX12_write_35 : decode cX12_write 35 = .ok (.ifCond .ne 8, 3) := dk_154 0 8 (dk_at dksX12_write_1 11 rfl rfl)
theorem dX12_write_38 : decode cX12_write 38 = .ok (.bipush 109, 2) := dk_16 109 (dk_at dksX12_write_1 14 rfl rfl)
theorem dX12_write_40 : decode cX12_write 40 = .ok (.goto 55, 3) := dk_167 0 55 (dk_at dksX12_write_1 16 rfl rfl)
theorem dX12_write_43 : decode cX12_write 43 = .ok (.iload_n 2, 1) := dk_28 (dk_at dksX12_write_1 19 rfl rfl)
theorem dX12_write_44 : decode cX12_write 44 = .ok (.iconst 1, 1) := dk_4 (dk_at dksX12_write_1 20 rfl rfl)
theorem dX12_write_45 : decode cX12_write 45 = .ok (.if_icmp .ne 8, 3) := dk_160 0 8 (dk_at dksX12_write_1 21 rfl rfl)
theorem dX12_write_48 : decode cX12_write 48 = .ok (.bipush 102, 2) := dk_16 102 (dk_at dksX12_write_2 0 rfl rfl)
theorem dX12_write_50 : decode cX12_write 50 = .ok (.goto 45, 3) := dk_167 0 45 (dk_at dksX12_write_2 2 rfl rfl)
theorem dX12_write_53 : decode cX12_write 53 = .ok (.iload_n 2, 1) := dk_28 (dk_at dksX12_write_2 5 rfl rfl)
theorem dX12_write_54 : decode cX12_write 54 = .ok (.iconst 2, 1) := dk_5 (dk_at dksX12_write_2 6 rfl rfl)
theorem dX12_write_55 : decode cX12_write 55 = .ok (.if_icmp .ne 8, 3) := dk_160 0 8 (dk_at dksX12_write_2 7 rfl rfl)
theorem dX12_write_58 : decode cX12_write 58 = .ok (.bipush 107, 2) := dk_16 107 (dk_at dksX12_write_2 10 rfl rfl)
theorem dX12_write_60 : decode cX12_write 60 = .ok (.goto 35, 3) := dk_167 0 35 (dk_at dksX12_write_2 12 rfl rfl)
theorem dX12_write_63 : decode cX12_write 63 = .ok (.iload_n 2, 1) := dk_28 (dk_at dksX12_write_2 15 rfl rfl)
theorem dX12_write_64 : decode cX12_write 64 = .ok (.iconst 3, 1) := dk_6 (dk_at dksX12_write_2 16 rfl rfl)
theorem dX12_write_65 : decode cX12_write 65 = .ok (.if_icmp .ne 8, 3) := dk_160 0 8 (dk_at dksX12_write_2 17 rfl rfl)
theorem dX12_write_68 : decode cX12_write 68 = .ok (.bipush 99, 2) := dk_16 99 (dk_at dksX12_write_2 20 rfl rfl)
theorem dX12_write_70 : decode cX12_write 70 = .ok (.goto 25, 3) := dk_167 0 25 (dk_at dksX12_write_3 0 rfl rfl)
theorem dX12_write_73 : decode cX12_write 73 = .ok (.iload_n 2, 1) := dk_28 (dk_at dksX12_write_3 3 rfl rfl)
theorem dX12_write_74 : decode cX12_write 74 = .ok (.iconst 4, 1) := dk_7 (dk_at dksX12_write_3 4 rfl rfl)
theorem dX12_write_75 : decode cX12_write 75 = .ok (.if_icmp .ne 8, 3) := dk_160 0 8 (dk_at dksX12_write_3 5 rfl rfl)
theorem dX12_write_78 : decode cX12_write 78 = .ok (.bipush 115, 2) := dk_16 115 (dk_at dksX12_write_3 8 rfl rfl)
theorem dX12_write_80 : decode cX12_write 80 = .ok (.goto 15, 3) := dk_167 0 15 (dk_at dksX12_write_3 10 rfl rfl)
theorem dX12_write_83 : decode cX12_write 83 = .ok (.iload_n 2, 1) := dk_28 (dk_at dksX12_write_3 13 rfl rfl)
theorem dX12_write_84 : decode cX12_write 84 = .ok (.iconst 5, 1) := dk_8 (dk_at dksX12_write_3 14 rfl rfl)
theorem dX12_write_85 : decode cX12_write 85 = .ok (.if_icmp .ne 8, 3) := dk_160 0 8 (dk_at dksX12_write_3 15 rfl rfl)
theorem dX12_write_88 : decode cX12_write 88 = .ok (.bipush 100, 2) := dk_16 100 (dk_at dksX12_write_3 18 rfl rfl)
theorem dX12_write_90 : decode cX12_write 90 = .ok (.goto 5, 3) := dk_167 0 5 (dk_at dksX12_write_3 20 rfl rfl)
theorem dX12_write_93 : decode cX12_write 93 = .ok (.bipush 114, 2) := dk_16 114 (dk_at dksX12_write_4 0 rfl rfl)
theorem dX12_write_95 : decode cX12_write 95 = .ok (.invokevirtual 405, 3) := dk_182 1 149 (dk_at dksX12_write_4 2 rfl rfl)
theorem dX12_write_98 : decode cX12_write 98 = .ok (.iload_n 2, 1) := dk_28 (dk_at dksX12_write_4 5 rfl rfl)
theorem dX12_write_99 : decode cX12_write 99 = .ok (.iconst 5, 1) := dk_8 (dk_at dksX12_write_4 6 rfl rfl)
theorem dX12_write_100 : decode cX12_write 100 = .ok (.if_icmp .ge 51, 3) := dk_162 0 51 (dk_at dksX12_write_4 7 rfl rfl)
theorem dX12_write_103 : decode cX12_write 103 = .ok (.aload_n 0, 1) := dk_42 (dk_at dksX12_write_4 10 rfl rfl)
theorem dX12_write_104 : decode cX12_write 104 = .ok (.bipush 40, 2) := dk_16 40 (dk_at dksX12_write_4 11 rfl rfl)
theorem dX12_write_106 : decode cX12_write 106 = .ok (.invokevirtual 405, 3) := dk_182 1 149 (dk_at dksX12_write_4 13 rfl rfl)
theorem dX12_write_109 : decode cX12_write 109 = .ok (.aload_n 0, 1) := dk_42 (dk_at dksX12_write_4 16 rfl rfl)
theorem dX12_write_110 : decode cX12_write 110 = .ok (.aload_n 0, 1) := dk_42 (dk_at dksX12_write_4 17 rfl rfl)
theorem dX12_write_111 : decode cX12_write 111 = .ok (.getfield 16, 3) := dk_180 0 16 (dk_at dksX12_write_4 18 rfl rfl)
theorem dX12_write_114 : decode cX12_write 114 = .ok (.iload_n 1, 1) := dk_27 (dk_at dksX12_write_4 21 rfl rfl)
theorem dX12_write_115 : decode cX12_write 115 = .ok (.iaload, 1) := dk_46 (dk_at dksX12_write_4 22 rfl rfl)
theorem dX12_write_116 : decode cX12_write 116 = .ok (.invokevirtual 408, 3) := dk_182 1 152 (dk_at dksX12_write_5 0 rfl rfl)
theorem dX12_write_119 : decode cX12_write 119 = .ok (.iload_n 2, 1) := dk_28 (dk_at dksX12_write_5 3 rfl rfl)
theorem dX12_write_120 : decode cX12_write 120 = .ok (.iconst 3, 1) := dk_6 (dk_at dksX12_write_5 4 rfl rfl)
theorem dX12_write_121 : decode cX12_write 121 = .ok (.if_icmp .ge 9, 3) := dk_162 0 9 (dk_at dksX12_write_5 5 rfl rfl)
theorem dX12_write_124 : decode cX12_write 124 = .ok (.aload_n 0, 1) := dk_42 (dk_at dksX12_write_5 8 rfl rfl)
theorem dX12_write_125 : decode cX12_write 125 = .ok (.bipush 44, 2) := dk_16 44 (dk_at dksX12_write_5 9 rfl rfl)
theorem dX12_write_127 : decode cX12_write 127 = .ok (.invokevirtual 405, 3) := dk_182 1 149 (dk_at dksX12_write_5 11 rfl rfl)
theorem dX12_write_130 : decode cX12_write 130 = .ok (.iload_n 2, 1) := dk_28 (dk_at dksX12_write_5 14 rfl rfl)
theorem dX12_write_131 : decode cX12_write 131 = .ok (.iconst 3, 1) := dk_6 (dk_at dksX12_write_5 15 rfl rfl)
theorem dX12_write_132 : decode cX12_write 132 = .ok (.if_icmp .ge 13, 3) := dk_162 0 13 (dk_at dksX12_write_5 16 rfl rfl)
theorem dX12_write_135 : decode cX12_write 135 = .ok (.aload_n 0, 1) := dk_42 (dk_at dksX12_write_5 19 rfl rfl)
theorem dX12_write_136 : decode cX12_write 136 = .ok (.aload_n 0, 1) := dk_42 (dk_at dksX12_write_5 20 rfl rfl)
theorem dX12_write_137 : decode cX12_write 137 = .ok (.getfield 19, 3) := dk_180 0 19 (dk_at dksX12_write_5 21 rfl rfl)
theorem dX12_write_140 : decode cX12_write 140 = .ok (.iload_n 1, 1) := dk_27 (dk_at dksX12_write_6 0 rfl rfl)
theorem dX12_write_141 : decode cX12_write 141 = .ok (.iaload, 1) := dk_46 (dk_at dksX12_write_6 1 rfl rfl)
theorem dX12_write_142 : decode cX12_write 142 = .ok (.invokevirtual 408, 3) := dk_182 1 152 (dk_at dksX12_write_6 2 rfl rfl)
theorem dX12_write_145 : decode cX12_write 145 = .ok (.aload_n 0, 1) := dk_42 (dk_at dksX12_write_6 5 rfl rfl)
theorem dX12_write_146 : decode cX12_write 146 = .ok (.bipush 41, 2) := dk_16 41 (dk_at dksX12_write_6 6 rfl rfl)
theorem dX12_write_148 : decode cX12_write 148 = .ok (.invokevirtual 405, 3) := dk_182 1 149 (dk_at dksX12_write_6 8 rfl rfl)
theorem dX12_write_151 : decode cX12_write 151 = .ok (.aload_n 0, 1) := dk_42 (dk_at dksX12_write_6 11 rfl rfl)
theorem dX12_write_152 : decode cX12_write 152 = .ok (.getfield 22, 3) := dk_180 0 22 (dk_at dksX12_write_6 12 rfl rfl)
theorem dX12_write_155 : decode cX12_write 155 = .ok (.iload_n 1, 1) := dk_27 (dk_at dksX12_write_6 15 rfl rfl)
theorem dX12_write_156 : decode cX12_write 156 = .ok (.iaload, 1) := dk_46 (dk_at dksX12_write_6 16 rfl rfl)
theorem dX12_write_157 : decode cX12_write 157 = .ok (.iconst 1, 1) := dk_4 (dk_at dksX12_write_6 17 rfl rfl)
theorem dX12_write_158 : decode cX12_write 158 = .ok (.if_icmp .le 16, 3) := dk_164 0 16 (dk_at dksX12_write_6 18 rfl rfl)
theorem dX12_write_161 : decode cX12_write 161 = .ok (.aload_n 0, 1) := dk_42 (dk_at dksX12_write_6 21 rfl rfl)
theorem dX12_write_162 : decode cX12_write 162 = .ok (.bipush 48, 2) := dk_16 48 (dk_at dksX12_write_6 22 rfl rfl)
theorem dX12_write_164 : decode cX12_write 164 = .ok (.aload_n 0, 1) := dk_42 (dk_at dksX12_write_7 0 rfl rfl)
theorem dX12_write_165 : decode cX12_write 165 = .ok (.getfield 22, 3) := dk_180 0 22 (dk_at dksX12_write_7 1 rfl rfl)
theorem dX12_write_168 : decode cX12_write 168 = .ok (.iload_n 1, 1) := dk_27 (dk_at dksX12_write_7 4 rfl rfl)
theorem dX12_write_169 : decode cX12_write 169 = .ok (.iaload, 1) := dk_46 (dk_at dksX12_write_7 5 rfl rfl)
theorem dX12_write_170 : decode cX12_write 170 = .ok (.iadd, 1) := dk_96 (dk_at dksX12_write_7 6 rfl rfl)
theorem dX12_write_171 : decode cX12_write 171 = .ok (.invokevirtual 405, 3) := dk_182 1 149 (dk_at dksX12_write_7 7 rfl rfl)
theorem dX12_write_174 : decode cX12_write 174 = .ok (.iinc 1 1, 3) := dk_132 1 1 (dk_at dksX12_write_7 10 rfl rfl)
theorem dX12_write_177 : decode cX12_write 177 = .ok (.goto (-170), 3) := dk_167 255 86 (dk_at dksX12_write_7 13 rfl rfl)
theorem dX12_write_180 : decode cX12_write 180 = .ok (.aload_n 0, 1) := dk_42 (dk_at dksX12_write_7 16 rfl rfl)
theorem dX12_write_181 : decode cX12_write 181 = .ok (.getfield 22, 3) := dk_180 0 22 (dk_at dksX12_write_7 17 rfl rfl)
theorem dX12_write_184 : decode cX12_write 184 = .ok (.aload_n 0, 1) := dk_42 (dk_at dksX12_write_7 20 rfl rfl)
theorem dX12_write_185 : decode cX12_write 185 = .ok (.invokevirtual 199, 3) := dk_182 0 199 (dk_at dksX12_write_7 21 rfl rfl)
theorem dX12_write_188 : decode cX12_write 188 = .ok (.iaload, 1) := dk_46 (dk_at dksX12_write_8 0 rfl rfl)
theorem dX12_write_189 : decode cX12_write 189 = .ok (.iconst 1, 1) := dk_4 (dk_at dksX12_write_8 1 rfl rfl)
theorem dX12_write_190 : decode cX12_write 190 = .ok (.if_icmp .le 9, 3) := dk_164 0 9 (dk_at dksX12_write_8 2 rfl rfl)
theorem dX12_write_193 : decode cX12_write 193 = .ok (.aload_n 0, 1) := dk_42 (dk_at dksX12_write_8 5 rfl rfl)
theorem dX12_write_194 : decode cX12_write 194 = .ok (.bipush 36, 2) := dk_16 36 (dk_at dksX12_write_8 6 rfl rfl)
theorem dX12_write_196 : decode cX12_write 196 = .ok (.invokevirtual 405, 3) := dk_182 1 149 (dk_at dksX12_write_8 8 rfl rfl)
theorem dX12_write_199 : decode cX12_write 199 = .ok (.aload_n 0, 1) := dk_42 (dk_at dksX12_write_8 11 rfl rfl)
theorem dX12_write_200 : decode cX12_write 200 = .ok (.getfield 22, 3) := dk_180 0 22 (dk_at dksX12_write_8 12 rfl rfl)
theorem dX12_write_203 : decode cX12_write 203 = .ok (.aload_n 0, 1) := dk_42 (dk_at dksX12_write_8 15 rfl rfl)
theorem dX12_write_204 : decode cX12_write 204 = .ok (.invokevirtual 199, 3) := dk_182 0 199 (dk_at dksX12_write_8 16 rfl rfl)
theorem dX12_write_207 : decode cX12_write 207 = .ok (.iaload, 1) := dk_46 (dk_at dksX12_write_8 19 rfl rfl)
theorem dX12_write_208 : decode cX12_write 208 = .ok (.iconst 1, 1) := dk_4 (dk_at dksX12_write_8 20 rfl rfl)
theorem dX12_write_209 : decode cX12_write 209 = .ok (.if_icmp .le 19, 3) := dk_164 0 19 (dk_at dksX12_write_8 21 rfl rfl)
theorem dX12_write_212 : decode cX12_write 212 = .ok (.aload_n 0, 1) := dk_42 (dk_at dksX12_write_9 0 rfl rfl)
theorem dX12_write_213 : decode cX12_write 213 = .ok (.bipush 48, 2) := dk_16 48 (dk_at dksX12_write_9 1 rfl rfl)
theorem dX12_write_215 : decode cX12_write 215 = .ok (.aload_n 0, 1) := dk_42 (dk_at dksX12_write_9 3 rfl rfl)
theorem dX12_write_216 : decode cX12_write 216 = .ok (.getfield 22, 3) := dk_180 0 22 (dk_at dksX12_write_9 4 rfl rfl)
theorem dX12_write_219 : decode cX12_write 219 = .ok (.aload_n 0, 1) := dk_42 (dk_at dksX12_write_9 7 rfl rfl)
theorem dX12_write_220 : decode cX12_write 220 = .ok (.invokevirtual 199, 3) := dk_182 0 199 (dk_at dksX12_write_9 8 rfl rfl)
theorem dX12_write_223 : decode cX12_write 223 = .ok (.iaload, 1) := dk_46 (dk_at dksX12_write_9 11 rfl rfl)
theorem dX12_write_224 : decode cX12_write 224 = .ok (.iadd, 1) := dk_96 (dk_at dksX12_write_9 12 rfl rfl)
theorem dX12_write_225 : decode cX12_write 225 = .ok (.invokevirtual 405, 3) := dk_182 1 149 (dk_at dksX12_write_9 13 rfl rfl)
theorem dX12_write_228 : decode cX12_write 228 = .ok (.aload_n 0, 1) := dk_42 (dk_at dksX12_write_9 16 rfl rfl)
theorem dX12_write_229 : decode cX12_write 229 = .ok (.getfield 402, 3) := dk_180 1 146 (dk_at dksX12_write_9 17 rfl rfl)
theorem dX12_write_232 : decode cX12_write 232 = .ok (.ireturn, 1) := dk_172 (dk_at dksX12_write_9 20 rfl rfl)
abbrev cX12_writes : ByteArray := prog_27_method_64_code
def yX12_writes : MethodName := ⟨RX12, "writes", "(I)V"⟩
def dkwX12_writes_0 : List UInt8 := [42, 180, 0, 193, 42, 180, 1, 146, 27, 79, 42, 89, 180, 1, 146, 4, 96, 181, 1, 146, 177]
abbrev dktX12_writes_0 : List UInt8 := dkwX12_writes_0 ++ []
theorem dksX12_writes_0 : cX12_writes.data.toList.drop 0 = dktX12_writes_0 := by decide +kernel
theorem dX12_writes_0 : decode cX12_writes 0 = .ok (.aload_n 0, 1) := dk_42 (dk_at dksX12_writes_0 0 rfl rfl)
theorem dX12_writes_1 : decode cX12_writes 1 = .ok (.getfield 193, 3) := dk_180 0 193 (dk_at dksX12_writes_0 1 rfl rfl)
theorem dX12_writes_4 : decode cX12_writes 4 = .ok (.aload_n 0, 1) := dk_42 (dk_at dksX12_writes_0 4 rfl rfl)
theorem dX12_writes_5 : decode cX12_writes 5 = .ok (.getfield 402, 3) := dk_180 1 146 (dk_at dksX12_writes_0 5 rfl rfl)
theorem dX12_writes_8 : decode cX12_writes 8 = .ok (.iload_n 1, 1) := dk_27 (dk_at dksX12_writes_0 8 rfl rfl)
theorem dX12_writes_9 : decode cX12_writes 9 = .ok (.iastore, 1) := dk_79 (dk_at dksX12_writes_0 9 rfl rfl)
theorem dX12_writes_10 : decode cX12_writes 10 = .ok (.aload_n 0, 1) := dk_42 (dk_at dksX12_writes_0 10 rfl rfl)
theorem dX12_writes_11 : decode cX12_writes 11 = .ok (.dup, 1) := dk_89 (dk_at dksX12_writes_0 11 rfl rfl)
theorem dX12_writes_12 : decode cX12_writes 12 = .ok (.getfield 402, 3) := dk_180 1 146 (dk_at dksX12_writes_0 12 rfl rfl)
theorem dX12_writes_15 : decode cX12_writes 15 = .ok (.iconst 1, 1) := dk_4 (dk_at dksX12_writes_0 15 rfl rfl)
theorem dX12_writes_16 : decode cX12_writes 16 = .ok (.iadd, 1) := dk_96 (dk_at dksX12_writes_0 16 rfl rfl)
theorem dX12_writes_17 : decode cX12_writes 17 = .ok (.putfield 402, 3) := dk_181 1 146 (dk_at dksX12_writes_0 17 rfl rfl)
theorem dX12_writes_20 : decode cX12_writes 20 = .ok (.return_, 1) := dk_177 (dk_at dksX12_writes_0 20 rfl rfl)
abbrev cX12_writesNumber : ByteArray := prog_27_method_65_code
def yX12_writesNumber : MethodName := ⟨RX12, "writesNumber", "(I)V"⟩
def dkwX12_writesNumber_2 : List UInt8 := [182, 1, 149, 177]
abbrev dktX12_writesNumber_2 : List UInt8 := dkwX12_writesNumber_2 ++ []
def dkwX12_writesNumber_1 : List UInt8 := [164, 0, 14, 42, 16, 48, 28, 16, 10, 108, 96, 182, 1, 149, 42, 16, 48, 28, 16, 10, 112, 96]
abbrev dktX12_writesNumber_1 : List UInt8 := dkwX12_writesNumber_1 ++ dktX12_writesNumber_2
def dkwX12_writesNumber_0 : List UInt8 := [27, 156, 0, 9, 42, 16, 45, 182, 1, 149, 27, 156, 0, 8, 27, 116, 167, 0, 4, 27, 61, 28, 16, 9]
abbrev dktX12_writesNumber_0 : List UInt8 := dkwX12_writesNumber_0 ++ dktX12_writesNumber_1
theorem dksX12_writesNumber_0 : cX12_writesNumber.data.toList.drop 0 = dktX12_writesNumber_0 := by decide +kernel
theorem dksX12_writesNumber_1 : cX12_writesNumber.data.toList.drop 24 = dktX12_writesNumber_1 := dk_seg dksX12_writesNumber_0 24 rfl rfl
theorem dksX12_writesNumber_2 : cX12_writesNumber.data.toList.drop 46 = dktX12_writesNumber_2 := dk_seg dksX12_writesNumber_1 22 rfl rfl
theorem dX12_writesNumber_0 : decode cX12_writesNumber 0 = .ok (.iload_n 1, 1) := dk_27 (dk_at dksX12_writesNumber_0 0 rfl rfl)
theorem dX12_writesNumber_1 : decode cX12_writesNumber 1 = .ok (.ifCond .ge 9, 3) := dk_156 0 9 (dk_at dksX12_writesNumber_0 1 rfl rfl)
theorem dX12_writesNumber_4 : decode cX12_writesNumber 4 = .ok (.aload_n 0, 1) := dk_42 (dk_at dksX12_writesNumber_0 4 rfl rfl)
theorem dX12_writesNumber_5 : decode cX12_writesNumber 5 = .ok (.bipush 45, 2) := dk_16 45 (dk_at dksX12_writesNumber_0 5 rfl rfl)
theorem dX12_writesNumber_7 : decode cX12_writesNumber 7 = .ok (.invokevirtual 405, 3) := dk_182 1 149 (dk_at dksX12_writesNumber_0 7 rfl rfl)
theorem dX12_writesNumber_10 : decode cX12_writesNumber 10 = .ok (.iload_n 1, 1) := dk_27 (dk_at dksX12_writesNumber_0 10 rfl rfl)
theorem dX12_writesNumber_11 : decode cX12_writesNumber 11 = .ok (.ifCond .ge 8, 3) := dk_156 0 8 (dk_at dksX12_writesNumber_0 11 rfl rfl)
theorem dX12_writesNumber_14 : decode cX12_writesNumber 14 = .ok (.iload_n 1, 1) := dk_27 (dk_at dksX12_writesNumber_0 14 rfl rfl)
theorem dX12_writesNumber_15 : decode cX12_writesNumber 15 = .ok (.ineg, 1) := dk_116 (dk_at dksX12_writesNumber_0 15 rfl rfl)
theorem dX12_writesNumber_16 : decode cX12_writesNumber 16 = .ok (.goto 4, 3) := dk_167 0 4 (dk_at dksX12_writesNumber_0 16 rfl rfl)
theorem dX12_writesNumber_19 : decode cX12_writesNumber 19 = .ok (.iload_n 1, 1) := dk_27 (dk_at dksX12_writesNumber_0 19 rfl rfl)
theorem dX12_writesNumber_20 : decode cX12_writesNumber 20 = .ok (.istore_n 2, 1) := dk_61 (dk_at dksX12_writesNumber_0 20 rfl rfl)
theorem dX12_writesNumber_21 : decode cX12_writesNumber 21 = .ok (.iload_n 2, 1) := dk_28 (dk_at dksX12_writesNumber_0 21 rfl rfl)
theorem dX12_writesNumber_22 : decode cX12_writesNumber 22 = .ok (.bipush 9, 2) := dk_16 9 (dk_at dksX12_writesNumber_0 22 rfl rfl)
theorem dX12_writesNumber_24 : decode cX12_writesNumber 24 = .ok (.if_icmp .le 14, 3) := dk_164 0 14 (dk_at dksX12_writesNumber_1 0 rfl rfl)
theorem dX12_writesNumber_27 : decode cX12_writesNumber 27 = .ok (.aload_n 0, 1) := dk_42 (dk_at dksX12_writesNumber_1 3 rfl rfl)
theorem dX12_writesNumber_28 : decode cX12_writesNumber 28 = .ok (.bipush 48, 2) := dk_16 48 (dk_at dksX12_writesNumber_1 4 rfl rfl)
theorem dX12_writesNumber_30 : decode cX12_writesNumber 30 = .ok (.iload_n 2, 1) := dk_28 (dk_at dksX12_writesNumber_1 6 rfl rfl)
theorem dX12_writesNumber_31 : decode cX12_writesNumber 31 = .ok (.bipush 10, 2) := dk_16 10 (dk_at dksX12_writesNumber_1 7 rfl rfl)
theorem dX12_writesNumber_33 : decode cX12_writesNumber 33 = .ok (.idiv, 1) := dk_108 (dk_at dksX12_writesNumber_1 9 rfl rfl)
theorem dX12_writesNumber_34 : decode cX12_writesNumber 34 = .ok (.iadd, 1) := dk_96 (dk_at dksX12_writesNumber_1 10 rfl rfl)
theorem dX12_writesNumber_35 : decode cX12_writesNumber 35 = .ok (.invokevirtual 405, 3) := dk_182 1 149 (dk_at dksX12_writesNumber_1 11 rfl rfl)
theorem dX12_writesNumber_38 : decode cX12_writesNumber 38 = .ok (.aload_n 0, 1) := dk_42 (dk_at dksX12_writesNumber_1 14 rfl rfl)
theorem dX12_writesNumber_39 : decode cX12_writesNumber 39 = .ok (.bipush 48, 2) := dk_16 48 (dk_at dksX12_writesNumber_1 15 rfl rfl)
theorem dX12_writesNumber_41 : decode cX12_writesNumber 41 = .ok (.iload_n 2, 1) := dk_28 (dk_at dksX12_writesNumber_1 17 rfl rfl)
theorem dX12_writesNumber_42 : decode cX12_writesNumber 42 = .ok (.bipush 10, 2) := dk_16 10 (dk_at dksX12_writesNumber_1 18 rfl rfl)
theorem dX12_writesNumber_44 : decode cX12_writesNumber 44 = .ok (.irem, 1) := dk_112 (dk_at dksX12_writesNumber_1 20 rfl rfl)
theorem dX12_writesNumber_45 : decode cX12_writesNumber 45 = .ok (.iadd, 1) := dk_96 (dk_at dksX12_writesNumber_1 21 rfl rfl)
theorem dX12_writesNumber_46 : decode cX12_writesNumber 46 = .ok (.invokevirtual 405, 3) := dk_182 1 149 (dk_at dksX12_writesNumber_2 0 rfl rfl)
theorem dX12_writesNumber_49 : decode cX12_writesNumber 49 = .ok (.return_, 1) := dk_177 (dk_at dksX12_writesNumber_2 3 rfl rfl)
abbrev cX12_written : ByteArray := prog_27_method_67_code
def yX12_written : MethodName := ⟨RX12, "written", "(I)I"⟩
def dkwX12_written_1 : List UInt8 := [19, 1, 53, 172]
abbrev dktX12_written_1 : List UInt8 := dkwX12_written_1 ++ []
def dkwX12_written_0 : List UInt8 := [27, 3, 42, 180, 1, 146, 4, 100, 184, 0, 203, 153, 0, 12, 42, 180, 0, 193, 27, 46, 167, 0, 6]
abbrev dktX12_written_0 : List UInt8 := dkwX12_written_0 ++ dktX12_written_1
theorem dksX12_written_0 : cX12_written.data.toList.drop 0 = dktX12_written_0 := by decide +kernel
theorem dksX12_written_1 : cX12_written.data.toList.drop 23 = dktX12_written_1 := dk_seg dksX12_written_0 23 rfl rfl
theorem dX12_written_0 : decode cX12_written 0 = .ok (.iload_n 1, 1) := dk_27 (dk_at dksX12_written_0 0 rfl rfl)
theorem dX12_written_1 : decode cX12_written 1 = .ok (.iconst 0, 1) := dk_3 (dk_at dksX12_written_0 1 rfl rfl)
theorem dX12_written_2 : decode cX12_written 2 = .ok (.aload_n 0, 1) := dk_42 (dk_at dksX12_written_0 2 rfl rfl)
theorem dX12_written_3 : decode cX12_written 3 = .ok (.getfield 402, 3) := dk_180 1 146 (dk_at dksX12_written_0 3 rfl rfl)
theorem dX12_written_6 : decode cX12_written 6 = .ok (.iconst 1, 1) := dk_4 (dk_at dksX12_written_0 6 rfl rfl)
theorem dX12_written_7 : decode cX12_written 7 = .ok (.isub, 1) := dk_100 (dk_at dksX12_written_0 7 rfl rfl)
theorem dX12_written_8 : decode cX12_written 8 = .ok (.invokestatic 203, 3) := dk_184 0 203 (dk_at dksX12_written_0 8 rfl rfl)
theorem dX12_written_11 : decode cX12_written 11 = .ok (.ifCond .eq 12, 3) := dk_153 0 12 (dk_at dksX12_written_0 11 rfl rfl)
theorem dX12_written_14 : decode cX12_written 14 = .ok (.aload_n 0, 1) := dk_42 (dk_at dksX12_written_0 14 rfl rfl)
theorem dX12_written_15 : decode cX12_written 15 = .ok (.getfield 193, 3) := dk_180 0 193 (dk_at dksX12_written_0 15 rfl rfl)
theorem dX12_written_18 : decode cX12_written 18 = .ok (.iload_n 1, 1) := dk_27 (dk_at dksX12_written_0 18 rfl rfl)
theorem dX12_written_19 : decode cX12_written 19 = .ok (.iaload, 1) := dk_46 (dk_at dksX12_written_0 19 rfl rfl)
theorem dX12_written_20 : decode cX12_written 20 = .ok (.goto 6, 3) := dk_167 0 6 (dk_at dksX12_written_0 20 rfl rfl)
theorem dX12_written_23 : decode cX12_written 23 = .ok (.ldc_w 309, 3) := dk_19 1 53 (dk_at dksX12_written_1 0 rfl rfl)
theorem dX12_written_26 : decode cX12_written 26 = .ok (.ireturn, 1) := dk_172 (dk_at dksX12_written_1 3 rfl rfl)
theorem q127 : (Jvm.Cond.initialized "PipelineSimulatorModel") ∈ lw_all := lw_g (lw_at lw_m1 30 rfl) rfl
theorem q446 : (Jvm.Cond.selects "PipelineSimulatorModel" ({ cls := "java/lang/Object", name := "getClass", desc := "()Ljava/lang/Class;" } : Jvm.MethodName) ({ cls := "java/lang/Object", name := "getClass", desc := "()Ljava/lang/Class;" } : Jvm.MethodName)) ∈ lw_all := lw_g (lw_at lw_m2 109 rfl) rfl
theorem q2408 : (Jvm.Cond.instantiable "PipelineSimulatorModel" (81 : Nat)) ∈ lw_all := lw_g (lw_at lw_m10 151 rfl) rfl
theorem q2410 : (Jvm.Cond.instanceMethod ({ cls := "PipelineSimulatorModel", name := "<init>", desc := "()V" } : Jvm.MethodName)) ∈ lw_all := lw_g (lw_at lw_m10 153 rfl) rfl
theorem q2411 : (Jvm.Cond.code ({ cls := "PipelineSimulatorModel", name := "<init>", desc := "()V" } : Jvm.MethodName) prog_27_method_1_code (1 : Nat) (Option.none : Option Jvm.ClassFile.FieldType)) ∈ lw_all := lw_g (lw_at lw_m10 154 rfl) rfl
theorem q2412 : (Jvm.Cond.methodLink "PipelineSimulatorModel" (3 : Nat) ({ cls := "java/lang/Object", name := "<init>", desc := "()V" } : Jvm.MethodName)) ∈ lw_all := lw_g (lw_at lw_m10 155 rfl) rfl
theorem q2413 : (Jvm.Cond.constant "PipelineSimulatorModel" (147 : Nat) (40000 : Int32)) ∈ lw_all := lw_g (lw_at lw_m10 156 rfl) rfl
theorem q2414 : (Jvm.Cond.fieldLink "PipelineSimulatorModel" (9 : Nat) "PipelineSimulatorModel" "text" "[I") ∈ lw_all := lw_g (lw_at lw_m10 157 rfl) rfl
theorem q2415 : (Jvm.Cond.fieldLink "PipelineSimulatorModel" (208 : Nat) "PipelineSimulatorModel" "textN" "I") ∈ lw_all := lw_g (lw_at lw_m10 158 rfl) rfl
theorem q2416 : (Jvm.Cond.fieldLink "PipelineSimulatorModel" (196 : Nat) "PipelineSimulatorModel" "stages" "I") ∈ lw_all := lw_g (lw_at lw_m10 159 rfl) rfl
theorem q2417 : (Jvm.Cond.fieldLink "PipelineSimulatorModel" (13 : Nat) "PipelineSimulatorModel" "kind" "[I") ∈ lw_all := lw_g (lw_at lw_m10 160 rfl) rfl
theorem q2418 : (Jvm.Cond.fieldLink "PipelineSimulatorModel" (16 : Nat) "PipelineSimulatorModel" "a" "[I") ∈ lw_all := lw_g (lw_at lw_m10 161 rfl) rfl
theorem q2419 : (Jvm.Cond.fieldLink "PipelineSimulatorModel" (19 : Nat) "PipelineSimulatorModel" "b" "[I") ∈ lw_all := lw_g (lw_at lw_m10 162 rfl) rfl
theorem q2420 : (Jvm.Cond.fieldLink "PipelineSimulatorModel" (22 : Nat) "PipelineSimulatorModel" "p" "[I") ∈ lw_all := lw_g (lw_at lw_m10 163 rfl) rfl
theorem q2421 : (Jvm.Cond.fieldLink "PipelineSimulatorModel" (25 : Nat) "PipelineSimulatorModel" "batch" "I") ∈ lw_all := lw_g (lw_at lw_m10 164 rfl) rfl
theorem q2422 : (Jvm.Cond.fieldLink "PipelineSimulatorModel" (29 : Nat) "PipelineSimulatorModel" "oldest" "I") ∈ lw_all := lw_g (lw_at lw_m10 165 rfl) rfl
theorem q2423 : (Jvm.Cond.fieldLink "PipelineSimulatorModel" (32 : Nat) "PipelineSimulatorModel" "credits" "I") ∈ lw_all := lw_g (lw_at lw_m10 166 rfl) rfl
theorem q2424 : (Jvm.Cond.fieldLink "PipelineSimulatorModel" (35 : Nat) "PipelineSimulatorModel" "rate" "I") ∈ lw_all := lw_g (lw_at lw_m10 167 rfl) rfl
theorem q2425 : (Jvm.Cond.fieldLink "PipelineSimulatorModel" (38 : Nat) "PipelineSimulatorModel" "inputKey" "[I") ∈ lw_all := lw_g (lw_at lw_m10 168 rfl) rfl
theorem q2426 : (Jvm.Cond.fieldLink "PipelineSimulatorModel" (41 : Nat) "PipelineSimulatorModel" "inputValue" "[I") ∈ lw_all := lw_g (lw_at lw_m10 169 rfl) rfl
theorem q2427 : (Jvm.Cond.fieldLink "PipelineSimulatorModel" (275 : Nat) "PipelineSimulatorModel" "inputN" "I") ∈ lw_all := lw_g (lw_at lw_m10 170 rfl) rfl
theorem q2428 : (Jvm.Cond.fieldLink "PipelineSimulatorModel" (271 : Nat) "PipelineSimulatorModel" "offset" "I") ∈ lw_all := lw_g (lw_at lw_m10 171 rfl) rfl
theorem q2429 : (Jvm.Cond.fieldLink "PipelineSimulatorModel" (243 : Nat) "PipelineSimulatorModel" "ticks" "I") ∈ lw_all := lw_g (lw_at lw_m10 172 rfl) rfl
theorem q2430 : (Jvm.Cond.fieldLink "PipelineSimulatorModel" (253 : Nat) "PipelineSimulatorModel" "complete" "I") ∈ lw_all := lw_g (lw_at lw_m10 173 rfl) rfl
theorem q2431 : (Jvm.Cond.fieldLink "PipelineSimulatorModel" (268 : Nat) "PipelineSimulatorModel" "running" "I") ∈ lw_all := lw_g (lw_at lw_m10 174 rfl) rfl
theorem q2432 : (Jvm.Cond.fieldLink "PipelineSimulatorModel" (256 : Nat) "PipelineSimulatorModel" "failures" "I") ∈ lw_all := lw_g (lw_at lw_m10 175 rfl) rfl
theorem q2433 : (Jvm.Cond.fieldLink "PipelineSimulatorModel" (259 : Nat) "PipelineSimulatorModel" "isBegun" "Z") ∈ lw_all := lw_g (lw_at lw_m10 176 rfl) rfl
theorem q2434 : (Jvm.Cond.fieldLink "PipelineSimulatorModel" (44 : Nat) "PipelineSimulatorModel" "processed" "[I") ∈ lw_all := lw_g (lw_at lw_m10 177 rfl) rfl
theorem q2435 : (Jvm.Cond.fieldLink "PipelineSimulatorModel" (47 : Nat) "PipelineSimulatorModel" "emitted" "[I") ∈ lw_all := lw_g (lw_at lw_m10 178 rfl) rfl
theorem q2436 : (Jvm.Cond.fieldLink "PipelineSimulatorModel" (50 : Nat) "PipelineSimulatorModel" "blocked" "[I") ∈ lw_all := lw_g (lw_at lw_m10 179 rfl) rfl
theorem q2437 : (Jvm.Cond.fieldLink "PipelineSimulatorModel" (53 : Nat) "PipelineSimulatorModel" "idle" "[I") ∈ lw_all := lw_g (lw_at lw_m10 180 rfl) rfl
theorem q2438 : (Jvm.Cond.fieldLink "PipelineSimulatorModel" (56 : Nat) "PipelineSimulatorModel" "has" "[Z") ∈ lw_all := lw_g (lw_at lw_m10 181 rfl) rfl
theorem q2439 : (Jvm.Cond.fieldLink "PipelineSimulatorModel" (60 : Nat) "PipelineSimulatorModel" "runHas" "[Z") ∈ lw_all := lw_g (lw_at lw_m10 182 rfl) rfl
theorem q2440 : (Jvm.Cond.fieldLink "PipelineSimulatorModel" (63 : Nat) "PipelineSimulatorModel" "savedHas" "[Z") ∈ lw_all := lw_g (lw_at lw_m10 183 rfl) rfl
theorem q2441 : (Jvm.Cond.fieldLink "PipelineSimulatorModel" (66 : Nat) "PipelineSimulatorModel" "one" "[I") ∈ lw_all := lw_g (lw_at lw_m10 184 rfl) rfl
theorem q2442 : (Jvm.Cond.fieldLink "PipelineSimulatorModel" (69 : Nat) "PipelineSimulatorModel" "runOne" "[I") ∈ lw_all := lw_g (lw_at lw_m10 185 rfl) rfl
theorem q2443 : (Jvm.Cond.fieldLink "PipelineSimulatorModel" (72 : Nat) "PipelineSimulatorModel" "savedOne" "[I") ∈ lw_all := lw_g (lw_at lw_m10 186 rfl) rfl
theorem q2444 : (Jvm.Cond.fieldLink "PipelineSimulatorModel" (75 : Nat) "PipelineSimulatorModel" "two" "[I") ∈ lw_all := lw_g (lw_at lw_m10 187 rfl) rfl
theorem q2445 : (Jvm.Cond.fieldLink "PipelineSimulatorModel" (78 : Nat) "PipelineSimulatorModel" "runTwo" "[I") ∈ lw_all := lw_g (lw_at lw_m10 188 rfl) rfl
theorem q2446 : (Jvm.Cond.fieldLink "PipelineSimulatorModel" (81 : Nat) "PipelineSimulatorModel" "savedTwo" "[I") ∈ lw_all := lw_g (lw_at lw_m10 189 rfl) rfl
theorem q2447 : (Jvm.Cond.fieldLink "PipelineSimulatorModel" (84 : Nat) "PipelineSimulatorModel" "counter" "[I") ∈ lw_all := lw_g (lw_at lw_m10 190 rfl) rfl
theorem q2448 : (Jvm.Cond.fieldLink "PipelineSimulatorModel" (87 : Nat) "PipelineSimulatorModel" "runCounter" "[I") ∈ lw_all := lw_g (lw_at lw_m10 191 rfl) rfl
theorem q2449 : (Jvm.Cond.fieldLink "PipelineSimulatorModel" (90 : Nat) "PipelineSimulatorModel" "savedCounter" "[I") ∈ lw_all := lw_g (lw_at lw_m10 192 rfl) rfl
theorem q2450 : (Jvm.Cond.fieldLink "PipelineSimulatorModel" (312 : Nat) "PipelineSimulatorModel" "runOffset" "I") ∈ lw_all := lw_g (lw_at lw_m10 193 rfl) rfl
theorem q2451 : (Jvm.Cond.fieldLink "PipelineSimulatorModel" (262 : Nat) "PipelineSimulatorModel" "savedOffset" "I") ∈ lw_all := lw_g (lw_at lw_m10 194 rfl) rfl
theorem q2452 : (Jvm.Cond.fieldLink "PipelineSimulatorModel" (318 : Nat) "PipelineSimulatorModel" "sunk" "I") ∈ lw_all := lw_g (lw_at lw_m10 195 rfl) rfl
theorem q2453 : (Jvm.Cond.fieldLink "PipelineSimulatorModel" (93 : Nat) "PipelineSimulatorModel" "listN" "[I") ∈ lw_all := lw_g (lw_at lw_m10 196 rfl) rfl
theorem q2454 : (Jvm.Cond.fieldLink "PipelineSimulatorModel" (96 : Nat) "PipelineSimulatorModel" "listKey" "[I") ∈ lw_all := lw_g (lw_at lw_m10 197 rfl) rfl
theorem q2455 : (Jvm.Cond.fieldLink "PipelineSimulatorModel" (99 : Nat) "PipelineSimulatorModel" "listValue" "[I") ∈ lw_all := lw_g (lw_at lw_m10 198 rfl) rfl
theorem q2456 : (Jvm.Cond.fieldLink "PipelineSimulatorModel" (102 : Nat) "PipelineSimulatorModel" "listBirth" "[I") ∈ lw_all := lw_g (lw_at lw_m10 199 rfl) rfl
theorem q2457 : (Jvm.Cond.fieldLink "PipelineSimulatorModel" (105 : Nat) "PipelineSimulatorModel" "stopped" "[I") ∈ lw_all := lw_g (lw_at lw_m10 200 rfl) rfl
theorem q2458 : (Jvm.Cond.fieldLink "PipelineSimulatorModel" (108 : Nat) "PipelineSimulatorModel" "pointer" "[I") ∈ lw_all := lw_g (lw_at lw_m10 201 rfl) rfl
theorem q2459 : (Jvm.Cond.fieldLink "PipelineSimulatorModel" (111 : Nat) "PipelineSimulatorModel" "holds" "[Z") ∈ lw_all := lw_g (lw_at lw_m10 202 rfl) rfl
theorem q2460 : (Jvm.Cond.fieldLink "PipelineSimulatorModel" (114 : Nat) "PipelineSimulatorModel" "openN" "[I") ∈ lw_all := lw_g (lw_at lw_m10 203 rfl) rfl
theorem q2461 : (Jvm.Cond.fieldLink "PipelineSimulatorModel" (117 : Nat) "PipelineSimulatorModel" "age" "[I") ∈ lw_all := lw_g (lw_at lw_m10 204 rfl) rfl
theorem q2462 : (Jvm.Cond.fieldLink "PipelineSimulatorModel" (120 : Nat) "PipelineSimulatorModel" "openKey" "[I") ∈ lw_all := lw_g (lw_at lw_m10 205 rfl) rfl
theorem q2463 : (Jvm.Cond.fieldLink "PipelineSimulatorModel" (123 : Nat) "PipelineSimulatorModel" "openValue" "[I") ∈ lw_all := lw_g (lw_at lw_m10 206 rfl) rfl
theorem q2464 : (Jvm.Cond.fieldLink "PipelineSimulatorModel" (126 : Nat) "PipelineSimulatorModel" "openBirth" "[I") ∈ lw_all := lw_g (lw_at lw_m10 207 rfl) rfl
theorem q2465 : (Jvm.Cond.fieldLink "PipelineSimulatorModel" (129 : Nat) "PipelineSimulatorModel" "queueN" "[I") ∈ lw_all := lw_g (lw_at lw_m10 208 rfl) rfl
theorem q2466 : (Jvm.Cond.fieldLink "PipelineSimulatorModel" (132 : Nat) "PipelineSimulatorModel" "taken" "[I") ∈ lw_all := lw_g (lw_at lw_m10 209 rfl) rfl
theorem q2467 : (Jvm.Cond.fieldLink "PipelineSimulatorModel" (135 : Nat) "PipelineSimulatorModel" "size" "[I") ∈ lw_all := lw_g (lw_at lw_m10 210 rfl) rfl
theorem q2468 : (Jvm.Cond.fieldLink "PipelineSimulatorModel" (138 : Nat) "PipelineSimulatorModel" "queueKey" "[I") ∈ lw_all := lw_g (lw_at lw_m10 211 rfl) rfl
theorem q2469 : (Jvm.Cond.fieldLink "PipelineSimulatorModel" (141 : Nat) "PipelineSimulatorModel" "queueValue" "[I") ∈ lw_all := lw_g (lw_at lw_m10 212 rfl) rfl
theorem q2470 : (Jvm.Cond.fieldLink "PipelineSimulatorModel" (144 : Nat) "PipelineSimulatorModel" "queueBirth" "[I") ∈ lw_all := lw_g (lw_at lw_m10 213 rfl) rfl
theorem q2471 : (Jvm.Cond.fieldLink "PipelineSimulatorModel" (148 : Nat) "PipelineSimulatorModel" "late" "[I") ∈ lw_all := lw_g (lw_at lw_m10 214 rfl) rfl
theorem q2472 : (Jvm.Cond.fieldLink "PipelineSimulatorModel" (246 : Nat) "PipelineSimulatorModel" "lateN" "I") ∈ lw_all := lw_g (lw_at lw_m10 215 rfl) rfl
theorem q2473 : (Jvm.Cond.fieldLink "PipelineSimulatorModel" (249 : Nat) "PipelineSimulatorModel" "lateSum" "J") ∈ lw_all := lw_g (lw_at lw_m10 216 rfl) rfl
theorem q2474 : (Jvm.Cond.fieldLink "PipelineSimulatorModel" (212 : Nat) "PipelineSimulatorModel" "at" "I") ∈ lw_all := lw_g (lw_at lw_m10 217 rfl) rfl
theorem q2475 : (Jvm.Cond.fieldLink "PipelineSimulatorModel" (215 : Nat) "PipelineSimulatorModel" "isFaulty" "Z") ∈ lw_all := lw_g (lw_at lw_m10 218 rfl) rfl
theorem q2476 : (Jvm.Cond.fieldLink "PipelineSimulatorModel" (151 : Nat) "PipelineSimulatorModel" "newKind" "[I") ∈ lw_all := lw_g (lw_at lw_m10 219 rfl) rfl
theorem q2477 : (Jvm.Cond.fieldLink "PipelineSimulatorModel" (154 : Nat) "PipelineSimulatorModel" "newA" "[I") ∈ lw_all := lw_g (lw_at lw_m10 220 rfl) rfl
theorem q2478 : (Jvm.Cond.fieldLink "PipelineSimulatorModel" (157 : Nat) "PipelineSimulatorModel" "newB" "[I") ∈ lw_all := lw_g (lw_at lw_m10 221 rfl) rfl
theorem q2479 : (Jvm.Cond.fieldLink "PipelineSimulatorModel" (160 : Nat) "PipelineSimulatorModel" "newP" "[I") ∈ lw_all := lw_g (lw_at lw_m10 222 rfl) rfl
theorem q2480 : (Jvm.Cond.fieldLink "PipelineSimulatorModel" (163 : Nat) "PipelineSimulatorModel" "outKey" "[I") ∈ lw_all := lw_g (lw_at lw_m10 223 rfl) rfl
theorem q2481 : (Jvm.Cond.fieldLink "PipelineSimulatorModel" (166 : Nat) "PipelineSimulatorModel" "outValue" "[I") ∈ lw_all := lw_g (lw_at lw_m10 224 rfl) rfl
theorem q2482 : (Jvm.Cond.fieldLink "PipelineSimulatorModel" (291 : Nat) "PipelineSimulatorModel" "outN" "I") ∈ lw_all := lw_g (lw_at lw_m10 225 rfl) rfl
theorem q2483 : (Jvm.Cond.fieldLink "PipelineSimulatorModel" (169 : Nat) "PipelineSimulatorModel" "plainHas" "[Z") ∈ lw_all := lw_g (lw_at lw_m10 226 rfl) rfl
theorem q2484 : (Jvm.Cond.fieldLink "PipelineSimulatorModel" (172 : Nat) "PipelineSimulatorModel" "plainOne" "[I") ∈ lw_all := lw_g (lw_at lw_m10 227 rfl) rfl
theorem q2485 : (Jvm.Cond.fieldLink "PipelineSimulatorModel" (175 : Nat) "PipelineSimulatorModel" "plainTwo" "[I") ∈ lw_all := lw_g (lw_at lw_m10 228 rfl) rfl
theorem q2486 : (Jvm.Cond.fieldLink "PipelineSimulatorModel" (178 : Nat) "PipelineSimulatorModel" "waitsAt" "[I") ∈ lw_all := lw_g (lw_at lw_m10 229 rfl) rfl
theorem q2487 : (Jvm.Cond.fieldLink "PipelineSimulatorModel" (181 : Nat) "PipelineSimulatorModel" "waitsKey" "[I") ∈ lw_all := lw_g (lw_at lw_m10 230 rfl) rfl
theorem q2488 : (Jvm.Cond.fieldLink "PipelineSimulatorModel" (184 : Nat) "PipelineSimulatorModel" "waitsValue" "[I") ∈ lw_all := lw_g (lw_at lw_m10 231 rfl) rfl
theorem q2489 : (Jvm.Cond.fieldLink "PipelineSimulatorModel" (187 : Nat) "PipelineSimulatorModel" "place" "[I") ∈ lw_all := lw_g (lw_at lw_m10 232 rfl) rfl
theorem q2490 : (Jvm.Cond.fieldLink "PipelineSimulatorModel" (190 : Nat) "PipelineSimulatorModel" "reason" "[I") ∈ lw_all := lw_g (lw_at lw_m10 233 rfl) rfl
theorem q2491 : (Jvm.Cond.fieldLink "PipelineSimulatorModel" (396 : Nat) "PipelineSimulatorModel" "levels" "I") ∈ lw_all := lw_g (lw_at lw_m10 234 rfl) rfl
theorem q2492 : (Jvm.Cond.fieldLink "PipelineSimulatorModel" (393 : Nat) "PipelineSimulatorModel" "next" "I") ∈ lw_all := lw_g (lw_at lw_m10 235 rfl) rfl
theorem q2493 : (Jvm.Cond.fieldLink "PipelineSimulatorModel" (193 : Nat) "PipelineSimulatorModel" "out" "[I") ∈ lw_all := lw_g (lw_at lw_m10 236 rfl) rfl
theorem q2494 : (Jvm.Cond.fieldLink "PipelineSimulatorModel" (402 : Nat) "PipelineSimulatorModel" "outLong" "I") ∈ lw_all := lw_g (lw_at lw_m10 237 rfl) rfl
theorem q2495 : (Jvm.Cond.laysFinal "PipelineSimulatorModel" "PipelineSimulatorModel" "text" "[I") ∈ lw_all := lw_g (lw_at lw_m10 238 rfl) rfl
theorem q2496 : (Jvm.Cond.soleField "PipelineSimulatorModel" "text") ∈ lw_all := lw_g (lw_at lw_m10 239 rfl) rfl
theorem q2497 : (Jvm.Cond.lays "PipelineSimulatorModel" "PipelineSimulatorModel" "textN" "I") ∈ lw_all := lw_g (lw_at lw_m11 0 rfl) rfl
theorem q2498 : (Jvm.Cond.soleField "PipelineSimulatorModel" "textN") ∈ lw_all := lw_g (lw_at lw_m11 1 rfl) rfl
theorem q2499 : (Jvm.Cond.lays "PipelineSimulatorModel" "PipelineSimulatorModel" "stages" "I") ∈ lw_all := lw_g (lw_at lw_m11 2 rfl) rfl
theorem q2500 : (Jvm.Cond.soleField "PipelineSimulatorModel" "stages") ∈ lw_all := lw_g (lw_at lw_m11 3 rfl) rfl
theorem q2501 : (Jvm.Cond.laysFinal "PipelineSimulatorModel" "PipelineSimulatorModel" "kind" "[I") ∈ lw_all := lw_g (lw_at lw_m11 4 rfl) rfl
theorem q2502 : (Jvm.Cond.soleField "PipelineSimulatorModel" "kind") ∈ lw_all := lw_g (lw_at lw_m11 5 rfl) rfl
theorem q2503 : (Jvm.Cond.laysFinal "PipelineSimulatorModel" "PipelineSimulatorModel" "a" "[I") ∈ lw_all := lw_g (lw_at lw_m11 6 rfl) rfl
theorem q2504 : (Jvm.Cond.soleField "PipelineSimulatorModel" "a") ∈ lw_all := lw_g (lw_at lw_m11 7 rfl) rfl
theorem q2505 : (Jvm.Cond.laysFinal "PipelineSimulatorModel" "PipelineSimulatorModel" "b" "[I") ∈ lw_all := lw_g (lw_at lw_m11 8 rfl) rfl
theorem q2506 : (Jvm.Cond.soleField "PipelineSimulatorModel" "b") ∈ lw_all := lw_g (lw_at lw_m11 9 rfl) rfl
theorem q2507 : (Jvm.Cond.laysFinal "PipelineSimulatorModel" "PipelineSimulatorModel" "p" "[I") ∈ lw_all := lw_g (lw_at lw_m11 10 rfl) rfl
theorem q2508 : (Jvm.Cond.soleField "PipelineSimulatorModel" "p") ∈ lw_all := lw_g (lw_at lw_m11 11 rfl) rfl
theorem q2509 : (Jvm.Cond.lays "PipelineSimulatorModel" "PipelineSimulatorModel" "batch" "I") ∈ lw_all := lw_g (lw_at lw_m11 12 rfl) rfl
theorem q2510 : (Jvm.Cond.soleField "PipelineSimulatorModel" "batch") ∈ lw_all := lw_g (lw_at lw_m11 13 rfl) rfl
theorem q2511 : (Jvm.Cond.lays "PipelineSimulatorModel" "PipelineSimulatorModel" "oldest" "I") ∈ lw_all := lw_g (lw_at lw_m11 14 rfl) rfl
theorem q2512 : (Jvm.Cond.soleField "PipelineSimulatorModel" "oldest") ∈ lw_all := lw_g (lw_at lw_m11 15 rfl) rfl
theorem q2513 : (Jvm.Cond.lays "PipelineSimulatorModel" "PipelineSimulatorModel" "credits" "I") ∈ lw_all := lw_g (lw_at lw_m11 16 rfl) rfl
theorem q2514 : (Jvm.Cond.soleField "PipelineSimulatorModel" "credits") ∈ lw_all := lw_g (lw_at lw_m11 17 rfl) rfl
theorem q2515 : (Jvm.Cond.lays "PipelineSimulatorModel" "PipelineSimulatorModel" "rate" "I") ∈ lw_all := lw_g (lw_at lw_m11 18 rfl) rfl
theorem q2516 : (Jvm.Cond.soleField "PipelineSimulatorModel" "rate") ∈ lw_all := lw_g (lw_at lw_m11 19 rfl) rfl
theorem q2517 : (Jvm.Cond.laysFinal "PipelineSimulatorModel" "PipelineSimulatorModel" "inputKey" "[I") ∈ lw_all := lw_g (lw_at lw_m11 20 rfl) rfl
theorem q2518 : (Jvm.Cond.soleField "PipelineSimulatorModel" "inputKey") ∈ lw_all := lw_g (lw_at lw_m11 21 rfl) rfl
theorem q2519 : (Jvm.Cond.laysFinal "PipelineSimulatorModel" "PipelineSimulatorModel" "inputValue" "[I") ∈ lw_all := lw_g (lw_at lw_m11 22 rfl) rfl
theorem q2520 : (Jvm.Cond.soleField "PipelineSimulatorModel" "inputValue") ∈ lw_all := lw_g (lw_at lw_m11 23 rfl) rfl
theorem q2521 : (Jvm.Cond.lays "PipelineSimulatorModel" "PipelineSimulatorModel" "inputN" "I") ∈ lw_all := lw_g (lw_at lw_m11 24 rfl) rfl
theorem q2522 : (Jvm.Cond.soleField "PipelineSimulatorModel" "inputN") ∈ lw_all := lw_g (lw_at lw_m11 25 rfl) rfl
theorem q2523 : (Jvm.Cond.lays "PipelineSimulatorModel" "PipelineSimulatorModel" "offset" "I") ∈ lw_all := lw_g (lw_at lw_m11 26 rfl) rfl
theorem q2524 : (Jvm.Cond.soleField "PipelineSimulatorModel" "offset") ∈ lw_all := lw_g (lw_at lw_m11 27 rfl) rfl
theorem q2525 : (Jvm.Cond.lays "PipelineSimulatorModel" "PipelineSimulatorModel" "ticks" "I") ∈ lw_all := lw_g (lw_at lw_m11 28 rfl) rfl
theorem q2526 : (Jvm.Cond.soleField "PipelineSimulatorModel" "ticks") ∈ lw_all := lw_g (lw_at lw_m11 29 rfl) rfl
theorem q2527 : (Jvm.Cond.lays "PipelineSimulatorModel" "PipelineSimulatorModel" "complete" "I") ∈ lw_all := lw_g (lw_at lw_m11 30 rfl) rfl
theorem q2528 : (Jvm.Cond.soleField "PipelineSimulatorModel" "complete") ∈ lw_all := lw_g (lw_at lw_m11 31 rfl) rfl
theorem q2529 : (Jvm.Cond.lays "PipelineSimulatorModel" "PipelineSimulatorModel" "running" "I") ∈ lw_all := lw_g (lw_at lw_m11 32 rfl) rfl
theorem q2530 : (Jvm.Cond.soleField "PipelineSimulatorModel" "running") ∈ lw_all := lw_g (lw_at lw_m11 33 rfl) rfl
theorem q2531 : (Jvm.Cond.lays "PipelineSimulatorModel" "PipelineSimulatorModel" "failures" "I") ∈ lw_all := lw_g (lw_at lw_m11 34 rfl) rfl
theorem q2532 : (Jvm.Cond.soleField "PipelineSimulatorModel" "failures") ∈ lw_all := lw_g (lw_at lw_m11 35 rfl) rfl
theorem q2533 : (Jvm.Cond.lays "PipelineSimulatorModel" "PipelineSimulatorModel" "isBegun" "Z") ∈ lw_all := lw_g (lw_at lw_m11 36 rfl) rfl
theorem q2534 : (Jvm.Cond.soleField "PipelineSimulatorModel" "isBegun") ∈ lw_all := lw_g (lw_at lw_m11 37 rfl) rfl
theorem q2535 : (Jvm.Cond.laysFinal "PipelineSimulatorModel" "PipelineSimulatorModel" "processed" "[I") ∈ lw_all := lw_g (lw_at lw_m11 38 rfl) rfl
theorem q2536 : (Jvm.Cond.soleField "PipelineSimulatorModel" "processed") ∈ lw_all := lw_g (lw_at lw_m11 39 rfl) rfl
theorem q2537 : (Jvm.Cond.laysFinal "PipelineSimulatorModel" "PipelineSimulatorModel" "emitted" "[I") ∈ lw_all := lw_g (lw_at lw_m11 40 rfl) rfl
theorem q2538 : (Jvm.Cond.soleField "PipelineSimulatorModel" "emitted") ∈ lw_all := lw_g (lw_at lw_m11 41 rfl) rfl
theorem q2539 : (Jvm.Cond.laysFinal "PipelineSimulatorModel" "PipelineSimulatorModel" "blocked" "[I") ∈ lw_all := lw_g (lw_at lw_m11 42 rfl) rfl
theorem q2540 : (Jvm.Cond.soleField "PipelineSimulatorModel" "blocked") ∈ lw_all := lw_g (lw_at lw_m11 43 rfl) rfl
theorem q2541 : (Jvm.Cond.laysFinal "PipelineSimulatorModel" "PipelineSimulatorModel" "idle" "[I") ∈ lw_all := lw_g (lw_at lw_m11 44 rfl) rfl
theorem q2542 : (Jvm.Cond.soleField "PipelineSimulatorModel" "idle") ∈ lw_all := lw_g (lw_at lw_m11 45 rfl) rfl
theorem q2543 : (Jvm.Cond.laysFinal "PipelineSimulatorModel" "PipelineSimulatorModel" "has" "[Z") ∈ lw_all := lw_g (lw_at lw_m11 46 rfl) rfl
theorem q2544 : (Jvm.Cond.soleField "PipelineSimulatorModel" "has") ∈ lw_all := lw_g (lw_at lw_m11 47 rfl) rfl
theorem q2545 : (Jvm.Cond.laysFinal "PipelineSimulatorModel" "PipelineSimulatorModel" "runHas" "[Z") ∈ lw_all := lw_g (lw_at lw_m11 48 rfl) rfl
theorem q2546 : (Jvm.Cond.soleField "PipelineSimulatorModel" "runHas") ∈ lw_all := lw_g (lw_at lw_m11 49 rfl) rfl
theorem q2547 : (Jvm.Cond.laysFinal "PipelineSimulatorModel" "PipelineSimulatorModel" "savedHas" "[Z") ∈ lw_all := lw_g (lw_at lw_m11 50 rfl) rfl
theorem q2548 : (Jvm.Cond.soleField "PipelineSimulatorModel" "savedHas") ∈ lw_all := lw_g (lw_at lw_m11 51 rfl) rfl
theorem q2549 : (Jvm.Cond.laysFinal "PipelineSimulatorModel" "PipelineSimulatorModel" "one" "[I") ∈ lw_all := lw_g (lw_at lw_m11 52 rfl) rfl
theorem q2550 : (Jvm.Cond.soleField "PipelineSimulatorModel" "one") ∈ lw_all := lw_g (lw_at lw_m11 53 rfl) rfl
theorem q2551 : (Jvm.Cond.laysFinal "PipelineSimulatorModel" "PipelineSimulatorModel" "runOne" "[I") ∈ lw_all := lw_g (lw_at lw_m11 54 rfl) rfl
theorem q2552 : (Jvm.Cond.soleField "PipelineSimulatorModel" "runOne") ∈ lw_all := lw_g (lw_at lw_m11 55 rfl) rfl
theorem q2553 : (Jvm.Cond.laysFinal "PipelineSimulatorModel" "PipelineSimulatorModel" "savedOne" "[I") ∈ lw_all := lw_g (lw_at lw_m11 56 rfl) rfl
theorem q2554 : (Jvm.Cond.soleField "PipelineSimulatorModel" "savedOne") ∈ lw_all := lw_g (lw_at lw_m11 57 rfl) rfl
theorem q2555 : (Jvm.Cond.laysFinal "PipelineSimulatorModel" "PipelineSimulatorModel" "two" "[I") ∈ lw_all := lw_g (lw_at lw_m11 58 rfl) rfl
theorem q2556 : (Jvm.Cond.soleField "PipelineSimulatorModel" "two") ∈ lw_all := lw_g (lw_at lw_m11 59 rfl) rfl
theorem q2557 : (Jvm.Cond.laysFinal "PipelineSimulatorModel" "PipelineSimulatorModel" "runTwo" "[I") ∈ lw_all := lw_g (lw_at lw_m11 60 rfl) rfl
theorem q2558 : (Jvm.Cond.soleField "PipelineSimulatorModel" "runTwo") ∈ lw_all := lw_g (lw_at lw_m11 61 rfl) rfl
theorem q2559 : (Jvm.Cond.laysFinal "PipelineSimulatorModel" "PipelineSimulatorModel" "savedTwo" "[I") ∈ lw_all := lw_g (lw_at lw_m11 62 rfl) rfl
theorem q2560 : (Jvm.Cond.soleField "PipelineSimulatorModel" "savedTwo") ∈ lw_all := lw_g (lw_at lw_m11 63 rfl) rfl
theorem q2561 : (Jvm.Cond.laysFinal "PipelineSimulatorModel" "PipelineSimulatorModel" "counter" "[I") ∈ lw_all := lw_g (lw_at lw_m11 64 rfl) rfl
theorem q2562 : (Jvm.Cond.soleField "PipelineSimulatorModel" "counter") ∈ lw_all := lw_g (lw_at lw_m11 65 rfl) rfl
theorem q2563 : (Jvm.Cond.laysFinal "PipelineSimulatorModel" "PipelineSimulatorModel" "runCounter" "[I") ∈ lw_all := lw_g (lw_at lw_m11 66 rfl) rfl
theorem q2564 : (Jvm.Cond.soleField "PipelineSimulatorModel" "runCounter") ∈ lw_all := lw_g (lw_at lw_m11 67 rfl) rfl
theorem q2565 : (Jvm.Cond.laysFinal "PipelineSimulatorModel" "PipelineSimulatorModel" "savedCounter" "[I") ∈ lw_all := lw_g (lw_at lw_m11 68 rfl) rfl
theorem q2566 : (Jvm.Cond.soleField "PipelineSimulatorModel" "savedCounter") ∈ lw_all := lw_g (lw_at lw_m11 69 rfl) rfl
theorem q2567 : (Jvm.Cond.lays "PipelineSimulatorModel" "PipelineSimulatorModel" "runOffset" "I") ∈ lw_all := lw_g (lw_at lw_m11 70 rfl) rfl
theorem q2568 : (Jvm.Cond.soleField "PipelineSimulatorModel" "runOffset") ∈ lw_all := lw_g (lw_at lw_m11 71 rfl) rfl
theorem q2569 : (Jvm.Cond.lays "PipelineSimulatorModel" "PipelineSimulatorModel" "savedOffset" "I") ∈ lw_all := lw_g (lw_at lw_m11 72 rfl) rfl
theorem q2570 : (Jvm.Cond.soleField "PipelineSimulatorModel" "savedOffset") ∈ lw_all := lw_g (lw_at lw_m11 73 rfl) rfl
theorem q2571 : (Jvm.Cond.lays "PipelineSimulatorModel" "PipelineSimulatorModel" "sunk" "I") ∈ lw_all := lw_g (lw_at lw_m11 74 rfl) rfl
theorem q2572 : (Jvm.Cond.soleField "PipelineSimulatorModel" "sunk") ∈ lw_all := lw_g (lw_at lw_m11 75 rfl) rfl
theorem q2573 : (Jvm.Cond.laysFinal "PipelineSimulatorModel" "PipelineSimulatorModel" "listN" "[I") ∈ lw_all := lw_g (lw_at lw_m11 76 rfl) rfl
theorem q2574 : (Jvm.Cond.soleField "PipelineSimulatorModel" "listN") ∈ lw_all := lw_g (lw_at lw_m11 77 rfl) rfl
theorem q2575 : (Jvm.Cond.laysFinal "PipelineSimulatorModel" "PipelineSimulatorModel" "listKey" "[I") ∈ lw_all := lw_g (lw_at lw_m11 78 rfl) rfl
theorem q2576 : (Jvm.Cond.soleField "PipelineSimulatorModel" "listKey") ∈ lw_all := lw_g (lw_at lw_m11 79 rfl) rfl
theorem q2577 : (Jvm.Cond.laysFinal "PipelineSimulatorModel" "PipelineSimulatorModel" "listValue" "[I") ∈ lw_all := lw_g (lw_at lw_m11 80 rfl) rfl
theorem q2578 : (Jvm.Cond.soleField "PipelineSimulatorModel" "listValue") ∈ lw_all := lw_g (lw_at lw_m11 81 rfl) rfl
theorem q2579 : (Jvm.Cond.laysFinal "PipelineSimulatorModel" "PipelineSimulatorModel" "listBirth" "[I") ∈ lw_all := lw_g (lw_at lw_m11 82 rfl) rfl
theorem q2580 : (Jvm.Cond.soleField "PipelineSimulatorModel" "listBirth") ∈ lw_all := lw_g (lw_at lw_m11 83 rfl) rfl
theorem q2581 : (Jvm.Cond.laysFinal "PipelineSimulatorModel" "PipelineSimulatorModel" "stopped" "[I") ∈ lw_all := lw_g (lw_at lw_m11 84 rfl) rfl
theorem q2582 : (Jvm.Cond.soleField "PipelineSimulatorModel" "stopped") ∈ lw_all := lw_g (lw_at lw_m11 85 rfl) rfl
theorem q2583 : (Jvm.Cond.laysFinal "PipelineSimulatorModel" "PipelineSimulatorModel" "pointer" "[I") ∈ lw_all := lw_g (lw_at lw_m11 86 rfl) rfl
theorem q2584 : (Jvm.Cond.soleField "PipelineSimulatorModel" "pointer") ∈ lw_all := lw_g (lw_at lw_m11 87 rfl) rfl
theorem q2585 : (Jvm.Cond.laysFinal "PipelineSimulatorModel" "PipelineSimulatorModel" "holds" "[Z") ∈ lw_all := lw_g (lw_at lw_m11 88 rfl) rfl
theorem q2586 : (Jvm.Cond.soleField "PipelineSimulatorModel" "holds") ∈ lw_all := lw_g (lw_at lw_m11 89 rfl) rfl
theorem q2587 : (Jvm.Cond.laysFinal "PipelineSimulatorModel" "PipelineSimulatorModel" "openN" "[I") ∈ lw_all := lw_g (lw_at lw_m11 90 rfl) rfl
theorem q2588 : (Jvm.Cond.soleField "PipelineSimulatorModel" "openN") ∈ lw_all := lw_g (lw_at lw_m11 91 rfl) rfl
theorem q2589 : (Jvm.Cond.laysFinal "PipelineSimulatorModel" "PipelineSimulatorModel" "age" "[I") ∈ lw_all := lw_g (lw_at lw_m11 92 rfl) rfl
theorem q2590 : (Jvm.Cond.soleField "PipelineSimulatorModel" "age") ∈ lw_all := lw_g (lw_at lw_m11 93 rfl) rfl
theorem q2591 : (Jvm.Cond.laysFinal "PipelineSimulatorModel" "PipelineSimulatorModel" "openKey" "[I") ∈ lw_all := lw_g (lw_at lw_m11 94 rfl) rfl
theorem q2592 : (Jvm.Cond.soleField "PipelineSimulatorModel" "openKey") ∈ lw_all := lw_g (lw_at lw_m11 95 rfl) rfl
theorem q2593 : (Jvm.Cond.laysFinal "PipelineSimulatorModel" "PipelineSimulatorModel" "openValue" "[I") ∈ lw_all := lw_g (lw_at lw_m11 96 rfl) rfl
theorem q2594 : (Jvm.Cond.soleField "PipelineSimulatorModel" "openValue") ∈ lw_all := lw_g (lw_at lw_m11 97 rfl) rfl
theorem q2595 : (Jvm.Cond.laysFinal "PipelineSimulatorModel" "PipelineSimulatorModel" "openBirth" "[I") ∈ lw_all := lw_g (lw_at lw_m11 98 rfl) rfl
theorem q2596 : (Jvm.Cond.soleField "PipelineSimulatorModel" "openBirth") ∈ lw_all := lw_g (lw_at lw_m11 99 rfl) rfl
theorem q2597 : (Jvm.Cond.laysFinal "PipelineSimulatorModel" "PipelineSimulatorModel" "queueN" "[I") ∈ lw_all := lw_g (lw_at lw_m11 100 rfl) rfl
theorem q2598 : (Jvm.Cond.soleField "PipelineSimulatorModel" "queueN") ∈ lw_all := lw_g (lw_at lw_m11 101 rfl) rfl
theorem q2599 : (Jvm.Cond.laysFinal "PipelineSimulatorModel" "PipelineSimulatorModel" "taken" "[I") ∈ lw_all := lw_g (lw_at lw_m11 102 rfl) rfl
theorem q2600 : (Jvm.Cond.soleField "PipelineSimulatorModel" "taken") ∈ lw_all := lw_g (lw_at lw_m11 103 rfl) rfl
theorem q2601 : (Jvm.Cond.laysFinal "PipelineSimulatorModel" "PipelineSimulatorModel" "size" "[I") ∈ lw_all := lw_g (lw_at lw_m11 104 rfl) rfl
theorem q2602 : (Jvm.Cond.soleField "PipelineSimulatorModel" "size") ∈ lw_all := lw_g (lw_at lw_m11 105 rfl) rfl
theorem q2603 : (Jvm.Cond.laysFinal "PipelineSimulatorModel" "PipelineSimulatorModel" "queueKey" "[I") ∈ lw_all := lw_g (lw_at lw_m11 106 rfl) rfl
theorem q2604 : (Jvm.Cond.soleField "PipelineSimulatorModel" "queueKey") ∈ lw_all := lw_g (lw_at lw_m11 107 rfl) rfl
theorem q2605 : (Jvm.Cond.laysFinal "PipelineSimulatorModel" "PipelineSimulatorModel" "queueValue" "[I") ∈ lw_all := lw_g (lw_at lw_m11 108 rfl) rfl
theorem q2606 : (Jvm.Cond.soleField "PipelineSimulatorModel" "queueValue") ∈ lw_all := lw_g (lw_at lw_m11 109 rfl) rfl
theorem q2607 : (Jvm.Cond.laysFinal "PipelineSimulatorModel" "PipelineSimulatorModel" "queueBirth" "[I") ∈ lw_all := lw_g (lw_at lw_m11 110 rfl) rfl
theorem q2608 : (Jvm.Cond.soleField "PipelineSimulatorModel" "queueBirth") ∈ lw_all := lw_g (lw_at lw_m11 111 rfl) rfl
theorem q2609 : (Jvm.Cond.laysFinal "PipelineSimulatorModel" "PipelineSimulatorModel" "late" "[I") ∈ lw_all := lw_g (lw_at lw_m11 112 rfl) rfl
theorem q2610 : (Jvm.Cond.soleField "PipelineSimulatorModel" "late") ∈ lw_all := lw_g (lw_at lw_m11 113 rfl) rfl
theorem q2611 : (Jvm.Cond.lays "PipelineSimulatorModel" "PipelineSimulatorModel" "lateN" "I") ∈ lw_all := lw_g (lw_at lw_m11 114 rfl) rfl
theorem q2612 : (Jvm.Cond.soleField "PipelineSimulatorModel" "lateN") ∈ lw_all := lw_g (lw_at lw_m11 115 rfl) rfl
theorem q2613 : (Jvm.Cond.lays "PipelineSimulatorModel" "PipelineSimulatorModel" "lateSum" "J") ∈ lw_all := lw_g (lw_at lw_m11 116 rfl) rfl
theorem q2614 : (Jvm.Cond.soleField "PipelineSimulatorModel" "lateSum") ∈ lw_all := lw_g (lw_at lw_m11 117 rfl) rfl
theorem q2615 : (Jvm.Cond.lays "PipelineSimulatorModel" "PipelineSimulatorModel" "at" "I") ∈ lw_all := lw_g (lw_at lw_m11 118 rfl) rfl
theorem q2616 : (Jvm.Cond.soleField "PipelineSimulatorModel" "at") ∈ lw_all := lw_g (lw_at lw_m11 119 rfl) rfl
theorem q2617 : (Jvm.Cond.lays "PipelineSimulatorModel" "PipelineSimulatorModel" "isFaulty" "Z") ∈ lw_all := lw_g (lw_at lw_m11 120 rfl) rfl
theorem q2618 : (Jvm.Cond.soleField "PipelineSimulatorModel" "isFaulty") ∈ lw_all := lw_g (lw_at lw_m11 121 rfl) rfl
theorem q2619 : (Jvm.Cond.laysFinal "PipelineSimulatorModel" "PipelineSimulatorModel" "newKind" "[I") ∈ lw_all := lw_g (lw_at lw_m11 122 rfl) rfl
theorem q2620 : (Jvm.Cond.soleField "PipelineSimulatorModel" "newKind") ∈ lw_all := lw_g (lw_at lw_m11 123 rfl) rfl
theorem q2621 : (Jvm.Cond.laysFinal "PipelineSimulatorModel" "PipelineSimulatorModel" "newA" "[I") ∈ lw_all := lw_g (lw_at lw_m11 124 rfl) rfl
theorem q2622 : (Jvm.Cond.soleField "PipelineSimulatorModel" "newA") ∈ lw_all := lw_g (lw_at lw_m11 125 rfl) rfl
theorem q2623 : (Jvm.Cond.laysFinal "PipelineSimulatorModel" "PipelineSimulatorModel" "newB" "[I") ∈ lw_all := lw_g (lw_at lw_m11 126 rfl) rfl
theorem q2624 : (Jvm.Cond.soleField "PipelineSimulatorModel" "newB") ∈ lw_all := lw_g (lw_at lw_m11 127 rfl) rfl
theorem q2625 : (Jvm.Cond.laysFinal "PipelineSimulatorModel" "PipelineSimulatorModel" "newP" "[I") ∈ lw_all := lw_g (lw_at lw_m11 128 rfl) rfl
theorem q2626 : (Jvm.Cond.soleField "PipelineSimulatorModel" "newP") ∈ lw_all := lw_g (lw_at lw_m11 129 rfl) rfl
theorem q2627 : (Jvm.Cond.laysFinal "PipelineSimulatorModel" "PipelineSimulatorModel" "outKey" "[I") ∈ lw_all := lw_g (lw_at lw_m11 130 rfl) rfl
theorem q2628 : (Jvm.Cond.soleField "PipelineSimulatorModel" "outKey") ∈ lw_all := lw_g (lw_at lw_m11 131 rfl) rfl
theorem q2629 : (Jvm.Cond.laysFinal "PipelineSimulatorModel" "PipelineSimulatorModel" "outValue" "[I") ∈ lw_all := lw_g (lw_at lw_m11 132 rfl) rfl
theorem q2630 : (Jvm.Cond.soleField "PipelineSimulatorModel" "outValue") ∈ lw_all := lw_g (lw_at lw_m11 133 rfl) rfl
theorem q2631 : (Jvm.Cond.lays "PipelineSimulatorModel" "PipelineSimulatorModel" "outN" "I") ∈ lw_all := lw_g (lw_at lw_m11 134 rfl) rfl
theorem q2632 : (Jvm.Cond.soleField "PipelineSimulatorModel" "outN") ∈ lw_all := lw_g (lw_at lw_m11 135 rfl) rfl
theorem q2633 : (Jvm.Cond.laysFinal "PipelineSimulatorModel" "PipelineSimulatorModel" "plainHas" "[Z") ∈ lw_all := lw_g (lw_at lw_m11 136 rfl) rfl
theorem q2634 : (Jvm.Cond.soleField "PipelineSimulatorModel" "plainHas") ∈ lw_all := lw_g (lw_at lw_m11 137 rfl) rfl
theorem q2635 : (Jvm.Cond.laysFinal "PipelineSimulatorModel" "PipelineSimulatorModel" "plainOne" "[I") ∈ lw_all := lw_g (lw_at lw_m11 138 rfl) rfl
theorem q2636 : (Jvm.Cond.soleField "PipelineSimulatorModel" "plainOne") ∈ lw_all := lw_g (lw_at lw_m11 139 rfl) rfl
theorem q2637 : (Jvm.Cond.laysFinal "PipelineSimulatorModel" "PipelineSimulatorModel" "plainTwo" "[I") ∈ lw_all := lw_g (lw_at lw_m11 140 rfl) rfl
theorem q2638 : (Jvm.Cond.soleField "PipelineSimulatorModel" "plainTwo") ∈ lw_all := lw_g (lw_at lw_m11 141 rfl) rfl
theorem q2639 : (Jvm.Cond.laysFinal "PipelineSimulatorModel" "PipelineSimulatorModel" "waitsAt" "[I") ∈ lw_all := lw_g (lw_at lw_m11 142 rfl) rfl
theorem q2640 : (Jvm.Cond.soleField "PipelineSimulatorModel" "waitsAt") ∈ lw_all := lw_g (lw_at lw_m11 143 rfl) rfl
theorem q2641 : (Jvm.Cond.laysFinal "PipelineSimulatorModel" "PipelineSimulatorModel" "waitsKey" "[I") ∈ lw_all := lw_g (lw_at lw_m11 144 rfl) rfl
theorem q2642 : (Jvm.Cond.soleField "PipelineSimulatorModel" "waitsKey") ∈ lw_all := lw_g (lw_at lw_m11 145 rfl) rfl
theorem q2643 : (Jvm.Cond.laysFinal "PipelineSimulatorModel" "PipelineSimulatorModel" "waitsValue" "[I") ∈ lw_all := lw_g (lw_at lw_m11 146 rfl) rfl
theorem q2644 : (Jvm.Cond.soleField "PipelineSimulatorModel" "waitsValue") ∈ lw_all := lw_g (lw_at lw_m11 147 rfl) rfl
theorem q2645 : (Jvm.Cond.laysFinal "PipelineSimulatorModel" "PipelineSimulatorModel" "place" "[I") ∈ lw_all := lw_g (lw_at lw_m11 148 rfl) rfl
theorem q2646 : (Jvm.Cond.soleField "PipelineSimulatorModel" "place") ∈ lw_all := lw_g (lw_at lw_m11 149 rfl) rfl
theorem q2647 : (Jvm.Cond.laysFinal "PipelineSimulatorModel" "PipelineSimulatorModel" "reason" "[I") ∈ lw_all := lw_g (lw_at lw_m11 150 rfl) rfl
theorem q2648 : (Jvm.Cond.soleField "PipelineSimulatorModel" "reason") ∈ lw_all := lw_g (lw_at lw_m11 151 rfl) rfl
theorem q2649 : (Jvm.Cond.lays "PipelineSimulatorModel" "PipelineSimulatorModel" "levels" "I") ∈ lw_all := lw_g (lw_at lw_m11 152 rfl) rfl
theorem q2650 : (Jvm.Cond.soleField "PipelineSimulatorModel" "levels") ∈ lw_all := lw_g (lw_at lw_m11 153 rfl) rfl
theorem q2651 : (Jvm.Cond.lays "PipelineSimulatorModel" "PipelineSimulatorModel" "next" "I") ∈ lw_all := lw_g (lw_at lw_m11 154 rfl) rfl
theorem q2652 : (Jvm.Cond.soleField "PipelineSimulatorModel" "next") ∈ lw_all := lw_g (lw_at lw_m11 155 rfl) rfl
theorem q2653 : (Jvm.Cond.laysFinal "PipelineSimulatorModel" "PipelineSimulatorModel" "out" "[I") ∈ lw_all := lw_g (lw_at lw_m11 156 rfl) rfl
theorem q2654 : (Jvm.Cond.soleField "PipelineSimulatorModel" "out") ∈ lw_all := lw_g (lw_at lw_m11 157 rfl) rfl
theorem q2655 : (Jvm.Cond.lays "PipelineSimulatorModel" "PipelineSimulatorModel" "outLong" "I") ∈ lw_all := lw_g (lw_at lw_m11 158 rfl) rfl
theorem q2656 : (Jvm.Cond.soleField "PipelineSimulatorModel" "outLong") ∈ lw_all := lw_g (lw_at lw_m11 159 rfl) rfl
theorem q2657 : (Jvm.Cond.superclass "PipelineSimulatorModel" "java/lang/Object") ∈ lw_all := lw_g (lw_at lw_m11 160 rfl) rfl
theorem q2660 : (Jvm.Cond.instanceMethod ({ cls := "PipelineSimulatorModel", name := "append", desc := "(II)I" } : Jvm.MethodName)) ∈ lw_all := lw_g (lw_at lw_m11 163 rfl) rfl
theorem q2661 : (Jvm.Cond.selects "PipelineSimulatorModel" ({ cls := "PipelineSimulatorModel", name := "append", desc := "(II)I" } : Jvm.MethodName) ({ cls := "PipelineSimulatorModel", name := "append", desc := "(II)I" } : Jvm.MethodName)) ∈ lw_all := lw_g (lw_at lw_m11 164 rfl) rfl
theorem q2662 : (Jvm.Cond.code ({ cls := "PipelineSimulatorModel", name := "append", desc := "(II)I" } : Jvm.MethodName) prog_27_method_7_code (4 : Nat) (Option.some Jvm.ClassFile.FieldType.int)) ∈ lw_all := lw_g (lw_at lw_m11 165 rfl) rfl
theorem q2663 : (Jvm.Cond.methodLink "PipelineSimulatorModel" (203 : Nat) ({ cls := "PipelineSimulatorModel", name := "isIn", desc := "(III)Z" } : Jvm.MethodName)) ∈ lw_all := lw_g (lw_at lw_m11 166 rfl) rfl
theorem q2664 : (Jvm.Cond.static ({ cls := "PipelineSimulatorModel", name := "isIn", desc := "(III)Z" } : Jvm.MethodName)) ∈ lw_all := lw_g (lw_at lw_m11 167 rfl) rfl
theorem q2665 : (Jvm.Cond.code ({ cls := "PipelineSimulatorModel", name := "isIn", desc := "(III)Z" } : Jvm.MethodName) prog_27_method_2_code (3 : Nat) (Option.some Jvm.ClassFile.FieldType.boolean)) ∈ lw_all := lw_g (lw_at lw_m11 168 rfl) rfl
theorem q2666 : (Jvm.Cond.constant "PipelineSimulatorModel" (207 : Nat) (-1000000002 : Int32)) ∈ lw_all := lw_g (lw_at lw_m11 169 rfl) rfl
theorem q2667 : (Jvm.Cond.constant "PipelineSimulatorModel" (211 : Nat) (-1000000003 : Int32)) ∈ lw_all := lw_g (lw_at lw_m11 170 rfl) rfl
theorem q2669 : (Jvm.Cond.instanceMethod ({ cls := "PipelineSimulatorModel", name := "readPipeline", desc := "()I" } : Jvm.MethodName)) ∈ lw_all := lw_g (lw_at lw_m11 172 rfl) rfl
theorem q2670 : (Jvm.Cond.selects "PipelineSimulatorModel" ({ cls := "PipelineSimulatorModel", name := "readPipeline", desc := "()I" } : Jvm.MethodName) ({ cls := "PipelineSimulatorModel", name := "readPipeline", desc := "()I" } : Jvm.MethodName)) ∈ lw_all := lw_g (lw_at lw_m11 173 rfl) rfl
theorem q2671 : (Jvm.Cond.code ({ cls := "PipelineSimulatorModel", name := "readPipeline", desc := "()I" } : Jvm.MethodName) prog_27_method_14_code (4 : Nat) (Option.some Jvm.ClassFile.FieldType.int)) ∈ lw_all := lw_g (lw_at lw_m11 174 rfl) rfl
theorem q2672 : (Jvm.Cond.methodLink "PipelineSimulatorModel" (219 : Nat) ({ cls := "PipelineSimulatorModel", name := "here", desc := "()I" } : Jvm.MethodName)) ∈ lw_all := lw_g (lw_at lw_m11 175 rfl) rfl
theorem q2673 : (Jvm.Cond.privateMethod ({ cls := "PipelineSimulatorModel", name := "here", desc := "()I" } : Jvm.MethodName)) ∈ lw_tbl := lw_at lw_m11 176 rfl
theorem q2674 : (Jvm.Cond.instanceMethod ({ cls := "PipelineSimulatorModel", name := "here", desc := "()I" } : Jvm.MethodName)) ∈ lw_all := lw_g (lw_at lw_m11 177 rfl) rfl
theorem q2675 : (Jvm.Cond.code ({ cls := "PipelineSimulatorModel", name := "here", desc := "()I" } : Jvm.MethodName) prog_27_method_8_code (1 : Nat) (Option.some Jvm.ClassFile.FieldType.int)) ∈ lw_all := lw_g (lw_at lw_m11 178 rfl) rfl
theorem q2676 : (Jvm.Cond.methodLink "PipelineSimulatorModel" (237 : Nat) ({ cls := "PipelineSimulatorModel", name := "stage", desc := "(I)V" } : Jvm.MethodName)) ∈ lw_all := lw_g (lw_at lw_m11 179 rfl) rfl
theorem q2677 : (Jvm.Cond.privateMethod ({ cls := "PipelineSimulatorModel", name := "stage", desc := "(I)V" } : Jvm.MethodName)) ∈ lw_tbl := lw_at lw_m11 180 rfl
theorem q2678 : (Jvm.Cond.instanceMethod ({ cls := "PipelineSimulatorModel", name := "stage", desc := "(I)V" } : Jvm.MethodName)) ∈ lw_all := lw_g (lw_at lw_m11 181 rfl) rfl
theorem q2679 : (Jvm.Cond.code ({ cls := "PipelineSimulatorModel", name := "stage", desc := "(I)V" } : Jvm.MethodName) prog_27_method_12_code (3 : Nat) (Option.none : Option Jvm.ClassFile.FieldType)) ∈ lw_all := lw_g (lw_at lw_m11 182 rfl) rfl
theorem q2680 : (Jvm.Cond.methodLink "PipelineSimulatorModel" (222 : Nat) ({ cls := "PipelineSimulatorModel", name := "letter", desc := "(I)I" } : Jvm.MethodName)) ∈ lw_all := lw_g (lw_at lw_m11 183 rfl) rfl
theorem q2681 : (Jvm.Cond.static ({ cls := "PipelineSimulatorModel", name := "letter", desc := "(I)I" } : Jvm.MethodName)) ∈ lw_all := lw_g (lw_at lw_m11 184 rfl) rfl
theorem q2682 : (Jvm.Cond.code ({ cls := "PipelineSimulatorModel", name := "letter", desc := "(I)I" } : Jvm.MethodName) prog_27_method_11_code (1 : Nat) (Option.some Jvm.ClassFile.FieldType.int)) ∈ lw_all := lw_g (lw_at lw_m11 185 rfl) rfl
theorem q2683 : (Jvm.Cond.methodLink "PipelineSimulatorModel" (226 : Nat) ({ cls := "PipelineSimulatorModel", name := "sign", desc := "(I)V" } : Jvm.MethodName)) ∈ lw_all := lw_g (lw_at lw_m11 186 rfl) rfl
theorem q2684 : (Jvm.Cond.privateMethod ({ cls := "PipelineSimulatorModel", name := "sign", desc := "(I)V" } : Jvm.MethodName)) ∈ lw_tbl := lw_at lw_m11 187 rfl
theorem q2685 : (Jvm.Cond.instanceMethod ({ cls := "PipelineSimulatorModel", name := "sign", desc := "(I)V" } : Jvm.MethodName)) ∈ lw_all := lw_g (lw_at lw_m11 188 rfl) rfl
theorem q2686 : (Jvm.Cond.code ({ cls := "PipelineSimulatorModel", name := "sign", desc := "(I)V" } : Jvm.MethodName) prog_27_method_9_code (2 : Nat) (Option.none : Option Jvm.ClassFile.FieldType)) ∈ lw_all := lw_g (lw_at lw_m11 189 rfl) rfl
theorem q2687 : (Jvm.Cond.methodLink "PipelineSimulatorModel" (230 : Nat) ({ cls := "PipelineSimulatorModel", name := "number", desc := "(II)I" } : Jvm.MethodName)) ∈ lw_all := lw_g (lw_at lw_m11 190 rfl) rfl
theorem q2688 : (Jvm.Cond.privateMethod ({ cls := "PipelineSimulatorModel", name := "number", desc := "(II)I" } : Jvm.MethodName)) ∈ lw_tbl := lw_at lw_m11 191 rfl
theorem q2689 : (Jvm.Cond.instanceMethod ({ cls := "PipelineSimulatorModel", name := "number", desc := "(II)I" } : Jvm.MethodName)) ∈ lw_all := lw_g (lw_at lw_m11 192 rfl) rfl
theorem q2690 : (Jvm.Cond.code ({ cls := "PipelineSimulatorModel", name := "number", desc := "(II)I" } : Jvm.MethodName) prog_27_method_10_code (5 : Nat) (Option.some Jvm.ClassFile.FieldType.int)) ∈ lw_all := lw_g (lw_at lw_m11 193 rfl) rfl
theorem q2691 : (Jvm.Cond.methodLink "PipelineSimulatorModel" (234 : Nat) ({ cls := "PipelineSimulatorModel", name := "instances", desc := "()I" } : Jvm.MethodName)) ∈ lw_all := lw_g (lw_at lw_m11 194 rfl) rfl
theorem q2692 : (Jvm.Cond.privateMethod ({ cls := "PipelineSimulatorModel", name := "instances", desc := "()I" } : Jvm.MethodName)) ∈ lw_tbl := lw_at lw_m11 195 rfl
theorem q2693 : (Jvm.Cond.instanceMethod ({ cls := "PipelineSimulatorModel", name := "instances", desc := "()I" } : Jvm.MethodName)) ∈ lw_all := lw_g (lw_at lw_m11 196 rfl) rfl
theorem q2694 : (Jvm.Cond.code ({ cls := "PipelineSimulatorModel", name := "instances", desc := "()I" } : Jvm.MethodName) prog_27_method_13_code (2 : Nat) (Option.some Jvm.ClassFile.FieldType.int)) ∈ lw_all := lw_g (lw_at lw_m11 197 rfl) rfl
theorem q2695 : (Jvm.Cond.methodLink "PipelineSimulatorModel" (240 : Nat) ({ cls := "PipelineSimulatorModel", name := "begins", desc := "()V" } : Jvm.MethodName)) ∈ lw_all := lw_g (lw_at lw_m11 198 rfl) rfl
theorem q2696 : (Jvm.Cond.privateMethod ({ cls := "PipelineSimulatorModel", name := "begins", desc := "()V" } : Jvm.MethodName)) ∈ lw_tbl := lw_at lw_m11 199 rfl
theorem q2697 : (Jvm.Cond.instanceMethod ({ cls := "PipelineSimulatorModel", name := "begins", desc := "()V" } : Jvm.MethodName)) ∈ lw_all := lw_g (lw_at lw_m11 200 rfl) rfl
theorem q2698 : (Jvm.Cond.code ({ cls := "PipelineSimulatorModel", name := "begins", desc := "()V" } : Jvm.MethodName) prog_27_method_15_code (2 : Nat) (Option.none : Option Jvm.ClassFile.FieldType)) ∈ lw_all := lw_g (lw_at lw_m11 201 rfl) rfl
theorem q2699 : (Jvm.Cond.methodLink "PipelineSimulatorModel" (265 : Nat) ({ cls := "PipelineSimulatorModel", name := "breaks", desc := "()V" } : Jvm.MethodName)) ∈ lw_all := lw_g (lw_at lw_m11 202 rfl) rfl
theorem q2700 : (Jvm.Cond.privateMethod ({ cls := "PipelineSimulatorModel", name := "breaks", desc := "()V" } : Jvm.MethodName)) ∈ lw_tbl := lw_at lw_m11 203 rfl
theorem q2701 : (Jvm.Cond.instanceMethod ({ cls := "PipelineSimulatorModel", name := "breaks", desc := "()V" } : Jvm.MethodName)) ∈ lw_all := lw_g (lw_at lw_m11 204 rfl) rfl
theorem q2702 : (Jvm.Cond.code ({ cls := "PipelineSimulatorModel", name := "breaks", desc := "()V" } : Jvm.MethodName) prog_27_method_16_code (2 : Nat) (Option.none : Option Jvm.ClassFile.FieldType)) ∈ lw_all := lw_g (lw_at lw_m11 205 rfl) rfl
theorem q2704 : (Jvm.Cond.instanceMethod ({ cls := "PipelineSimulatorModel", name := "configure", desc := "(IIII)I" } : Jvm.MethodName)) ∈ lw_all := lw_g (lw_at lw_m11 207 rfl) rfl
theorem q2705 : (Jvm.Cond.selects "PipelineSimulatorModel" ({ cls := "PipelineSimulatorModel", name := "configure", desc := "(IIII)I" } : Jvm.MethodName) ({ cls := "PipelineSimulatorModel", name := "configure", desc := "(IIII)I" } : Jvm.MethodName)) ∈ lw_all := lw_g (lw_at lw_m11 208 rfl) rfl
theorem q2706 : (Jvm.Cond.code ({ cls := "PipelineSimulatorModel", name := "configure", desc := "(IIII)I" } : Jvm.MethodName) prog_27_method_17_code (6 : Nat) (Option.some Jvm.ClassFile.FieldType.int)) ∈ lw_all := lw_g (lw_at lw_m11 209 rfl) rfl
theorem q2707 : (Jvm.Cond.constant "PipelineSimulatorModel" (274 : Nat) (-1000000004 : Int32)) ∈ lw_all := lw_g (lw_at lw_m11 210 rfl) rfl
theorem q2709 : (Jvm.Cond.instanceMethod ({ cls := "PipelineSimulatorModel", name := "push", desc := "(II)I" } : Jvm.MethodName)) ∈ lw_all := lw_g (lw_at lw_m11 212 rfl) rfl
theorem q2710 : (Jvm.Cond.selects "PipelineSimulatorModel" ({ cls := "PipelineSimulatorModel", name := "push", desc := "(II)I" } : Jvm.MethodName) ({ cls := "PipelineSimulatorModel", name := "push", desc := "(II)I" } : Jvm.MethodName)) ∈ lw_all := lw_g (lw_at lw_m11 213 rfl) rfl
theorem q2711 : (Jvm.Cond.code ({ cls := "PipelineSimulatorModel", name := "push", desc := "(II)I" } : Jvm.MethodName) prog_27_method_18_code (3 : Nat) (Option.some Jvm.ClassFile.FieldType.int)) ∈ lw_all := lw_g (lw_at lw_m11 214 rfl) rfl
theorem q2713 : (Jvm.Cond.instanceMethod ({ cls := "PipelineSimulatorModel", name := "clear", desc := "()I" } : Jvm.MethodName)) ∈ lw_all := lw_g (lw_at lw_m11 216 rfl) rfl
theorem q2714 : (Jvm.Cond.selects "PipelineSimulatorModel" ({ cls := "PipelineSimulatorModel", name := "clear", desc := "()I" } : Jvm.MethodName) ({ cls := "PipelineSimulatorModel", name := "clear", desc := "()I" } : Jvm.MethodName)) ∈ lw_all := lw_g (lw_at lw_m11 217 rfl) rfl
theorem q2715 : (Jvm.Cond.code ({ cls := "PipelineSimulatorModel", name := "clear", desc := "()I" } : Jvm.MethodName) prog_27_method_19_code (2 : Nat) (Option.some Jvm.ClassFile.FieldType.int)) ∈ lw_all := lw_g (lw_at lw_m11 218 rfl) rfl
theorem q2717 : (Jvm.Cond.instanceMethod ({ cls := "PipelineSimulatorModel", name := "tick", desc := "(I)I" } : Jvm.MethodName)) ∈ lw_all := lw_g (lw_at lw_m11 220 rfl) rfl
theorem q2718 : (Jvm.Cond.selects "PipelineSimulatorModel" ({ cls := "PipelineSimulatorModel", name := "tick", desc := "(I)I" } : Jvm.MethodName) ({ cls := "PipelineSimulatorModel", name := "tick", desc := "(I)I" } : Jvm.MethodName)) ∈ lw_all := lw_g (lw_at lw_m11 221 rfl) rfl
theorem q2719 : (Jvm.Cond.code ({ cls := "PipelineSimulatorModel", name := "tick", desc := "(I)I" } : Jvm.MethodName) prog_27_method_46_code (3 : Nat) (Option.some Jvm.ClassFile.FieldType.int)) ∈ lw_all := lw_g (lw_at lw_m11 222 rfl) rfl
theorem q2720 : (Jvm.Cond.methodLink "PipelineSimulatorModel" (370 : Nat) ({ cls := "PipelineSimulatorModel", name := "quiet", desc := "()Z" } : Jvm.MethodName)) ∈ lw_all := lw_g (lw_at lw_m11 223 rfl) rfl
theorem q2721 : (Jvm.Cond.privateMethod ({ cls := "PipelineSimulatorModel", name := "quiet", desc := "()Z" } : Jvm.MethodName)) ∈ lw_tbl := lw_at lw_m11 224 rfl
theorem q2722 : (Jvm.Cond.instanceMethod ({ cls := "PipelineSimulatorModel", name := "quiet", desc := "()Z" } : Jvm.MethodName)) ∈ lw_all := lw_g (lw_at lw_m11 225 rfl) rfl
theorem q2723 : (Jvm.Cond.code ({ cls := "PipelineSimulatorModel", name := "quiet", desc := "()Z" } : Jvm.MethodName) prog_27_method_44_code (2 : Nat) (Option.some Jvm.ClassFile.FieldType.boolean)) ∈ lw_all := lw_g (lw_at lw_m11 226 rfl) rfl
theorem q2724 : (Jvm.Cond.methodLink "PipelineSimulatorModel" (374 : Nat) ({ cls := "PipelineSimulatorModel", name := "ticks", desc := "()V" } : Jvm.MethodName)) ∈ lw_all := lw_g (lw_at lw_m11 227 rfl) rfl
theorem q2725 : (Jvm.Cond.privateMethod ({ cls := "PipelineSimulatorModel", name := "ticks", desc := "()V" } : Jvm.MethodName)) ∈ lw_tbl := lw_at lw_m11 228 rfl
theorem q2726 : (Jvm.Cond.instanceMethod ({ cls := "PipelineSimulatorModel", name := "ticks", desc := "()V" } : Jvm.MethodName)) ∈ lw_all := lw_g (lw_at lw_m11 229 rfl) rfl
theorem q2727 : (Jvm.Cond.code ({ cls := "PipelineSimulatorModel", name := "ticks", desc := "()V" } : Jvm.MethodName) prog_27_method_45_code (3 : Nat) (Option.none : Option Jvm.ClassFile.FieldType)) ∈ lw_all := lw_g (lw_at lw_m11 230 rfl) rfl
theorem q2728 : (Jvm.Cond.methodLink "PipelineSimulatorModel" (278 : Nat) ({ cls := "PipelineSimulatorModel", name := "closes", desc := "(I)V" } : Jvm.MethodName)) ∈ lw_all := lw_g (lw_at lw_m11 231 rfl) rfl
theorem q2729 : (Jvm.Cond.privateMethod ({ cls := "PipelineSimulatorModel", name := "closes", desc := "(I)V" } : Jvm.MethodName)) ∈ lw_tbl := lw_at lw_m11 232 rfl
theorem q2730 : (Jvm.Cond.instanceMethod ({ cls := "PipelineSimulatorModel", name := "closes", desc := "(I)V" } : Jvm.MethodName)) ∈ lw_all := lw_g (lw_at lw_m11 233 rfl) rfl
theorem q2731 : (Jvm.Cond.code ({ cls := "PipelineSimulatorModel", name := "closes", desc := "(I)V" } : Jvm.MethodName) prog_27_method_24_code (4 : Nat) (Option.none : Option Jvm.ClassFile.FieldType)) ∈ lw_all := lw_g (lw_at lw_m11 234 rfl) rfl
theorem q2732 : (Jvm.Cond.methodLink "PipelineSimulatorModel" (199 : Nat) ({ cls := "PipelineSimulatorModel", name := "sink", desc := "()I" } : Jvm.MethodName)) ∈ lw_all := lw_g (lw_at lw_m11 235 rfl) rfl
theorem q2733 : (Jvm.Cond.privateMethod ({ cls := "PipelineSimulatorModel", name := "sink", desc := "()I" } : Jvm.MethodName)) ∈ lw_tbl := lw_at lw_m11 236 rfl
theorem q2734 : (Jvm.Cond.instanceMethod ({ cls := "PipelineSimulatorModel", name := "sink", desc := "()I" } : Jvm.MethodName)) ∈ lw_all := lw_g (lw_at lw_m11 237 rfl) rfl
theorem q2735 : (Jvm.Cond.code ({ cls := "PipelineSimulatorModel", name := "sink", desc := "()I" } : Jvm.MethodName) prog_27_method_3_code (1 : Nat) (Option.some Jvm.ClassFile.FieldType.int)) ∈ lw_all := lw_g (lw_at lw_m11 238 rfl) rfl
theorem q2736 : (Jvm.Cond.methodLink "PipelineSimulatorModel" (367 : Nat) ({ cls := "PipelineSimulatorModel", name := "works", desc := "(II)V" } : Jvm.MethodName)) ∈ lw_all := lw_g (lw_at lw_m11 239 rfl) rfl
theorem q2737 : (Jvm.Cond.privateMethod ({ cls := "PipelineSimulatorModel", name := "works", desc := "(II)V" } : Jvm.MethodName)) ∈ lw_tbl := lw_at lw_m12 0 rfl
theorem q2738 : (Jvm.Cond.instanceMethod ({ cls := "PipelineSimulatorModel", name := "works", desc := "(II)V" } : Jvm.MethodName)) ∈ lw_all := lw_g (lw_at lw_m12 1 rfl) rfl
theorem q2739 : (Jvm.Cond.code ({ cls := "PipelineSimulatorModel", name := "works", desc := "(II)V" } : Jvm.MethodName) prog_27_method_43_code (5 : Nat) (Option.none : Option Jvm.ClassFile.FieldType)) ∈ lw_all := lw_g (lw_at lw_m12 2 rfl) rfl
theorem q2740 : (Jvm.Cond.methodLink "PipelineSimulatorModel" (360 : Nat) ({ cls := "PipelineSimulatorModel", name := "sends", desc := "(II)Z" } : Jvm.MethodName)) ∈ lw_all := lw_g (lw_at lw_m12 3 rfl) rfl
theorem q2741 : (Jvm.Cond.privateMethod ({ cls := "PipelineSimulatorModel", name := "sends", desc := "(II)Z" } : Jvm.MethodName)) ∈ lw_tbl := lw_at lw_m12 4 rfl
theorem q2742 : (Jvm.Cond.instanceMethod ({ cls := "PipelineSimulatorModel", name := "sends", desc := "(II)Z" } : Jvm.MethodName)) ∈ lw_all := lw_g (lw_at lw_m12 5 rfl) rfl
theorem q2743 : (Jvm.Cond.code ({ cls := "PipelineSimulatorModel", name := "sends", desc := "(II)Z" } : Jvm.MethodName) prog_27_method_42_code (7 : Nat) (Option.some Jvm.ClassFile.FieldType.boolean)) ∈ lw_all := lw_g (lw_at lw_m12 6 rfl) rfl
theorem q2744 : (Jvm.Cond.methodLink "PipelineSimulatorModel" (288 : Nat) ({ cls := "PipelineSimulatorModel", name := "spot", desc := "(II)I" } : Jvm.MethodName)) ∈ lw_all := lw_g (lw_at lw_m12 7 rfl) rfl
theorem q2745 : (Jvm.Cond.static ({ cls := "PipelineSimulatorModel", name := "spot", desc := "(II)I" } : Jvm.MethodName)) ∈ lw_all := lw_g (lw_at lw_m12 8 rfl) rfl
theorem q2746 : (Jvm.Cond.code ({ cls := "PipelineSimulatorModel", name := "spot", desc := "(II)I" } : Jvm.MethodName) prog_27_method_20_code (2 : Nat) (Option.some Jvm.ClassFile.FieldType.int)) ∈ lw_all := lw_g (lw_at lw_m12 9 rfl) rfl
theorem q2747 : (Jvm.Cond.methodLink "PipelineSimulatorModel" (344 : Nat) ({ cls := "PipelineSimulatorModel", name := "goal", desc := "(III)I" } : Jvm.MethodName)) ∈ lw_all := lw_g (lw_at lw_m12 10 rfl) rfl
theorem q2748 : (Jvm.Cond.privateMethod ({ cls := "PipelineSimulatorModel", name := "goal", desc := "(III)I" } : Jvm.MethodName)) ∈ lw_tbl := lw_at lw_m12 11 rfl
theorem q2749 : (Jvm.Cond.instanceMethod ({ cls := "PipelineSimulatorModel", name := "goal", desc := "(III)I" } : Jvm.MethodName)) ∈ lw_all := lw_g (lw_at lw_m12 12 rfl) rfl
theorem q2750 : (Jvm.Cond.code ({ cls := "PipelineSimulatorModel", name := "goal", desc := "(III)I" } : Jvm.MethodName) prog_27_method_29_code (4 : Nat) (Option.some Jvm.ClassFile.FieldType.int)) ∈ lw_all := lw_g (lw_at lw_m12 13 rfl) rfl
theorem q2751 : (Jvm.Cond.methodLink "PipelineSimulatorModel" (281 : Nat) ({ cls := "PipelineSimulatorModel", name := "isKeyed", desc := "(I)Z" } : Jvm.MethodName)) ∈ lw_all := lw_g (lw_at lw_m12 14 rfl) rfl
theorem q2752 : (Jvm.Cond.privateMethod ({ cls := "PipelineSimulatorModel", name := "isKeyed", desc := "(I)Z" } : Jvm.MethodName)) ∈ lw_tbl := lw_at lw_m12 15 rfl
theorem q2753 : (Jvm.Cond.instanceMethod ({ cls := "PipelineSimulatorModel", name := "isKeyed", desc := "(I)Z" } : Jvm.MethodName)) ∈ lw_all := lw_g (lw_at lw_m12 16 rfl) rfl
theorem q2754 : (Jvm.Cond.code ({ cls := "PipelineSimulatorModel", name := "isKeyed", desc := "(I)Z" } : Jvm.MethodName) prog_27_method_5_code (2 : Nat) (Option.some Jvm.ClassFile.FieldType.boolean)) ∈ lw_all := lw_g (lw_at lw_m12 17 rfl) rfl
theorem q2755 : (Jvm.Cond.methodLink "PipelineSimulatorModel" (285 : Nat) ({ cls := "PipelineSimulatorModel", name := "home", desc := "(II)I" } : Jvm.MethodName)) ∈ lw_all := lw_g (lw_at lw_m12 18 rfl) rfl
theorem q2756 : (Jvm.Cond.privateMethod ({ cls := "PipelineSimulatorModel", name := "home", desc := "(II)I" } : Jvm.MethodName)) ∈ lw_tbl := lw_at lw_m12 19 rfl
theorem q2757 : (Jvm.Cond.instanceMethod ({ cls := "PipelineSimulatorModel", name := "home", desc := "(II)I" } : Jvm.MethodName)) ∈ lw_all := lw_g (lw_at lw_m12 20 rfl) rfl
theorem q2758 : (Jvm.Cond.code ({ cls := "PipelineSimulatorModel", name := "home", desc := "(II)I" } : Jvm.MethodName) prog_27_method_6_code (3 : Nat) (Option.some Jvm.ClassFile.FieldType.int)) ∈ lw_all := lw_g (lw_at lw_m12 21 rfl) rfl
theorem q2759 : (Jvm.Cond.methodLink "PipelineSimulatorModel" (324 : Nat) ({ cls := "PipelineSimulatorModel", name := "line", desc := "(III)I" } : Jvm.MethodName)) ∈ lw_all := lw_g (lw_at lw_m12 22 rfl) rfl
theorem q2760 : (Jvm.Cond.static ({ cls := "PipelineSimulatorModel", name := "line", desc := "(III)I" } : Jvm.MethodName)) ∈ lw_all := lw_g (lw_at lw_m12 23 rfl) rfl
theorem q2761 : (Jvm.Cond.code ({ cls := "PipelineSimulatorModel", name := "line", desc := "(III)I" } : Jvm.MethodName) prog_27_method_21_code (3 : Nat) (Option.some Jvm.ClassFile.FieldType.int)) ∈ lw_all := lw_g (lw_at lw_m12 24 rfl) rfl
theorem q2762 : (Jvm.Cond.methodLink "PipelineSimulatorModel" (347 : Nat) ({ cls := "PipelineSimulatorModel", name := "takesRecord", desc := "(I)Z" } : Jvm.MethodName)) ∈ lw_all := lw_g (lw_at lw_m12 25 rfl) rfl
theorem q2763 : (Jvm.Cond.privateMethod ({ cls := "PipelineSimulatorModel", name := "takesRecord", desc := "(I)Z" } : Jvm.MethodName)) ∈ lw_tbl := lw_at lw_m12 26 rfl
theorem q2764 : (Jvm.Cond.instanceMethod ({ cls := "PipelineSimulatorModel", name := "takesRecord", desc := "(I)Z" } : Jvm.MethodName)) ∈ lw_all := lw_g (lw_at lw_m12 27 rfl) rfl
theorem q2765 : (Jvm.Cond.code ({ cls := "PipelineSimulatorModel", name := "takesRecord", desc := "(I)Z" } : Jvm.MethodName) prog_27_method_22_code (2 : Nat) (Option.some Jvm.ClassFile.FieldType.boolean)) ∈ lw_all := lw_g (lw_at lw_m12 28 rfl) rfl
theorem q2766 : (Jvm.Cond.methodLink "PipelineSimulatorModel" (350 : Nat) ({ cls := "PipelineSimulatorModel", name := "puts", desc := "(IIII)V" } : Jvm.MethodName)) ∈ lw_all := lw_g (lw_at lw_m12 29 rfl) rfl
theorem q2767 : (Jvm.Cond.privateMethod ({ cls := "PipelineSimulatorModel", name := "puts", desc := "(IIII)V" } : Jvm.MethodName)) ∈ lw_tbl := lw_at lw_m12 30 rfl
theorem q2768 : (Jvm.Cond.instanceMethod ({ cls := "PipelineSimulatorModel", name := "puts", desc := "(IIII)V" } : Jvm.MethodName)) ∈ lw_all := lw_g (lw_at lw_m12 31 rfl) rfl
theorem q2769 : (Jvm.Cond.code ({ cls := "PipelineSimulatorModel", name := "puts", desc := "(IIII)V" } : Jvm.MethodName) prog_27_method_25_code (5 : Nat) (Option.none : Option Jvm.ClassFile.FieldType)) ∈ lw_all := lw_g (lw_at lw_m12 32 rfl) rfl
theorem q2770 : (Jvm.Cond.methodLink "PipelineSimulatorModel" (354 : Nat) ({ cls := "PipelineSimulatorModel", name := "refusing", desc := "(II)I" } : Jvm.MethodName)) ∈ lw_all := lw_g (lw_at lw_m12 33 rfl) rfl
theorem q2771 : (Jvm.Cond.privateMethod ({ cls := "PipelineSimulatorModel", name := "refusing", desc := "(II)I" } : Jvm.MethodName)) ∈ lw_tbl := lw_at lw_m12 34 rfl
theorem q2772 : (Jvm.Cond.instanceMethod ({ cls := "PipelineSimulatorModel", name := "refusing", desc := "(II)I" } : Jvm.MethodName)) ∈ lw_all := lw_g (lw_at lw_m12 35 rfl) rfl
theorem q2773 : (Jvm.Cond.code ({ cls := "PipelineSimulatorModel", name := "refusing", desc := "(II)I" } : Jvm.MethodName) prog_27_method_41_code (4 : Nat) (Option.some Jvm.ClassFile.FieldType.int)) ∈ lw_all := lw_g (lw_at lw_m12 36 rfl) rfl
theorem q2774 : (Jvm.Cond.methodLink "PipelineSimulatorModel" (341 : Nat) ({ cls := "PipelineSimulatorModel", name := "takesBarrier", desc := "(I)Z" } : Jvm.MethodName)) ∈ lw_all := lw_g (lw_at lw_m12 37 rfl) rfl
theorem q2775 : (Jvm.Cond.privateMethod ({ cls := "PipelineSimulatorModel", name := "takesBarrier", desc := "(I)Z" } : Jvm.MethodName)) ∈ lw_tbl := lw_at lw_m12 38 rfl
theorem q2776 : (Jvm.Cond.instanceMethod ({ cls := "PipelineSimulatorModel", name := "takesBarrier", desc := "(I)Z" } : Jvm.MethodName)) ∈ lw_all := lw_g (lw_at lw_m12 39 rfl) rfl
theorem q2777 : (Jvm.Cond.code ({ cls := "PipelineSimulatorModel", name := "takesBarrier", desc := "(I)Z" } : Jvm.MethodName) prog_27_method_23_code (2 : Nat) (Option.some Jvm.ClassFile.FieldType.boolean)) ∈ lw_all := lw_g (lw_at lw_m12 40 rfl) rfl
theorem q2778 : (Jvm.Cond.methodLink "PipelineSimulatorModel" (357 : Nat) ({ cls := "PipelineSimulatorModel", name := "putsBarrier", desc := "(I)V" } : Jvm.MethodName)) ∈ lw_all := lw_g (lw_at lw_m12 41 rfl) rfl
theorem q2779 : (Jvm.Cond.privateMethod ({ cls := "PipelineSimulatorModel", name := "putsBarrier", desc := "(I)V" } : Jvm.MethodName)) ∈ lw_tbl := lw_at lw_m12 42 rfl
theorem q2780 : (Jvm.Cond.instanceMethod ({ cls := "PipelineSimulatorModel", name := "putsBarrier", desc := "(I)V" } : Jvm.MethodName)) ∈ lw_all := lw_g (lw_at lw_m12 43 rfl) rfl
theorem q2781 : (Jvm.Cond.code ({ cls := "PipelineSimulatorModel", name := "putsBarrier", desc := "(I)V" } : Jvm.MethodName) prog_27_method_26_code (2 : Nat) (Option.none : Option Jvm.ClassFile.FieldType)) ∈ lw_all := lw_g (lw_at lw_m12 44 rfl) rfl
theorem q2782 : (Jvm.Cond.methodLink "PipelineSimulatorModel" (364 : Nat) ({ cls := "PipelineSimulatorModel", name := "takes", desc := "(II)Z" } : Jvm.MethodName)) ∈ lw_all := lw_g (lw_at lw_m12 45 rfl) rfl
theorem q2783 : (Jvm.Cond.privateMethod ({ cls := "PipelineSimulatorModel", name := "takes", desc := "(II)Z" } : Jvm.MethodName)) ∈ lw_tbl := lw_at lw_m12 46 rfl
theorem q2784 : (Jvm.Cond.instanceMethod ({ cls := "PipelineSimulatorModel", name := "takes", desc := "(II)Z" } : Jvm.MethodName)) ∈ lw_all := lw_g (lw_at lw_m12 47 rfl) rfl
theorem q2785 : (Jvm.Cond.code ({ cls := "PipelineSimulatorModel", name := "takes", desc := "(II)Z" } : Jvm.MethodName) prog_27_method_40_code (8 : Nat) (Option.some Jvm.ClassFile.FieldType.boolean)) ∈ lw_all := lw_g (lw_at lw_m12 48 rfl) rfl
theorem q2786 : (Jvm.Cond.methodLink "PipelineSimulatorModel" (305 : Nat) ({ cls := "PipelineSimulatorModel", name := "emits", desc := "(IIIII)V" } : Jvm.MethodName)) ∈ lw_all := lw_g (lw_at lw_m12 49 rfl) rfl
theorem q2787 : (Jvm.Cond.privateMethod ({ cls := "PipelineSimulatorModel", name := "emits", desc := "(IIIII)V" } : Jvm.MethodName)) ∈ lw_tbl := lw_at lw_m12 50 rfl
theorem q2788 : (Jvm.Cond.instanceMethod ({ cls := "PipelineSimulatorModel", name := "emits", desc := "(IIIII)V" } : Jvm.MethodName)) ∈ lw_all := lw_g (lw_at lw_m12 51 rfl) rfl
theorem q2789 : (Jvm.Cond.code ({ cls := "PipelineSimulatorModel", name := "emits", desc := "(IIIII)V" } : Jvm.MethodName) prog_27_method_30_code (7 : Nat) (Option.none : Option Jvm.ClassFile.FieldType)) ∈ lw_all := lw_g (lw_at lw_m12 52 rfl) rfl
theorem q2790 : (Jvm.Cond.methodLink "PipelineSimulatorModel" (328 : Nat) ({ cls := "PipelineSimulatorModel", name := "ready", desc := "(II)I" } : Jvm.MethodName)) ∈ lw_all := lw_g (lw_at lw_m12 53 rfl) rfl
theorem q2791 : (Jvm.Cond.privateMethod ({ cls := "PipelineSimulatorModel", name := "ready", desc := "(II)I" } : Jvm.MethodName)) ∈ lw_tbl := lw_at lw_m12 54 rfl
theorem q2792 : (Jvm.Cond.instanceMethod ({ cls := "PipelineSimulatorModel", name := "ready", desc := "(II)I" } : Jvm.MethodName)) ∈ lw_all := lw_g (lw_at lw_m12 55 rfl) rfl
theorem q2793 : (Jvm.Cond.code ({ cls := "PipelineSimulatorModel", name := "ready", desc := "(II)I" } : Jvm.MethodName) prog_27_method_39_code (6 : Nat) (Option.some Jvm.ClassFile.FieldType.int)) ∈ lw_all := lw_g (lw_at lw_m12 56 rfl) rfl
theorem q2794 : (Jvm.Cond.methodLink "PipelineSimulatorModel" (331 : Nat) ({ cls := "PipelineSimulatorModel", name := "pops", desc := "(I)V" } : Jvm.MethodName)) ∈ lw_all := lw_g (lw_at lw_m12 57 rfl) rfl
theorem q2795 : (Jvm.Cond.privateMethod ({ cls := "PipelineSimulatorModel", name := "pops", desc := "(I)V" } : Jvm.MethodName)) ∈ lw_tbl := lw_at lw_m12 58 rfl
theorem q2796 : (Jvm.Cond.instanceMethod ({ cls := "PipelineSimulatorModel", name := "pops", desc := "(I)V" } : Jvm.MethodName)) ∈ lw_all := lw_g (lw_at lw_m12 59 rfl) rfl
theorem q2797 : (Jvm.Cond.code ({ cls := "PipelineSimulatorModel", name := "pops", desc := "(I)V" } : Jvm.MethodName) prog_27_method_27_code (4 : Nat) (Option.none : Option Jvm.ClassFile.FieldType)) ∈ lw_all := lw_g (lw_at lw_m12 60 rfl) rfl
theorem q2798 : (Jvm.Cond.methodLink "PipelineSimulatorModel" (334 : Nat) ({ cls := "PipelineSimulatorModel", name := "barrier", desc := "(III)V" } : Jvm.MethodName)) ∈ lw_all := lw_g (lw_at lw_m12 61 rfl) rfl
theorem q2799 : (Jvm.Cond.privateMethod ({ cls := "PipelineSimulatorModel", name := "barrier", desc := "(III)V" } : Jvm.MethodName)) ∈ lw_tbl := lw_at lw_m12 62 rfl
theorem q2800 : (Jvm.Cond.instanceMethod ({ cls := "PipelineSimulatorModel", name := "barrier", desc := "(III)V" } : Jvm.MethodName)) ∈ lw_all := lw_g (lw_at lw_m12 63 rfl) rfl
theorem q2801 : (Jvm.Cond.code ({ cls := "PipelineSimulatorModel", name := "barrier", desc := "(III)V" } : Jvm.MethodName) prog_27_method_38_code (5 : Nat) (Option.none : Option Jvm.ClassFile.FieldType)) ∈ lw_all := lw_g (lw_at lw_m12 64 rfl) rfl
theorem q2802 : (Jvm.Cond.methodLink "PipelineSimulatorModel" (315 : Nat) ({ cls := "PipelineSimulatorModel", name := "saves", desc := "(II)V" } : Jvm.MethodName)) ∈ lw_all := lw_g (lw_at lw_m12 65 rfl) rfl
theorem q2803 : (Jvm.Cond.privateMethod ({ cls := "PipelineSimulatorModel", name := "saves", desc := "(II)V" } : Jvm.MethodName)) ∈ lw_tbl := lw_at lw_m12 66 rfl
theorem q2804 : (Jvm.Cond.instanceMethod ({ cls := "PipelineSimulatorModel", name := "saves", desc := "(II)V" } : Jvm.MethodName)) ∈ lw_all := lw_g (lw_at lw_m12 67 rfl) rfl
theorem q2805 : (Jvm.Cond.code ({ cls := "PipelineSimulatorModel", name := "saves", desc := "(II)V" } : Jvm.MethodName) prog_27_method_36_code (5 : Nat) (Option.none : Option Jvm.ClassFile.FieldType)) ∈ lw_all := lw_g (lw_at lw_m12 68 rfl) rfl
theorem q2806 : (Jvm.Cond.methodLink "PipelineSimulatorModel" (321 : Nat) ({ cls := "PipelineSimulatorModel", name := "completes", desc := "()V" } : Jvm.MethodName)) ∈ lw_all := lw_g (lw_at lw_m12 69 rfl) rfl
theorem q2807 : (Jvm.Cond.privateMethod ({ cls := "PipelineSimulatorModel", name := "completes", desc := "()V" } : Jvm.MethodName)) ∈ lw_tbl := lw_at lw_m12 70 rfl
theorem q2808 : (Jvm.Cond.instanceMethod ({ cls := "PipelineSimulatorModel", name := "completes", desc := "()V" } : Jvm.MethodName)) ∈ lw_all := lw_g (lw_at lw_m12 71 rfl) rfl
theorem q2809 : (Jvm.Cond.code ({ cls := "PipelineSimulatorModel", name := "completes", desc := "()V" } : Jvm.MethodName) prog_27_method_37_code (2 : Nat) (Option.none : Option Jvm.ClassFile.FieldType)) ∈ lw_all := lw_g (lw_at lw_m12 72 rfl) rfl
theorem q2810 : (Jvm.Cond.methodLink "PipelineSimulatorModel" (338 : Nat) ({ cls := "PipelineSimulatorModel", name := "takesIn", desc := "(IIIII)V" } : Jvm.MethodName)) ∈ lw_all := lw_g (lw_at lw_m12 73 rfl) rfl
theorem q2811 : (Jvm.Cond.privateMethod ({ cls := "PipelineSimulatorModel", name := "takesIn", desc := "(IIIII)V" } : Jvm.MethodName)) ∈ lw_tbl := lw_at lw_m12 74 rfl
theorem q2812 : (Jvm.Cond.instanceMethod ({ cls := "PipelineSimulatorModel", name := "takesIn", desc := "(IIIII)V" } : Jvm.MethodName)) ∈ lw_all := lw_g (lw_at lw_m12 75 rfl) rfl
theorem q2813 : (Jvm.Cond.code ({ cls := "PipelineSimulatorModel", name := "takesIn", desc := "(IIIII)V" } : Jvm.MethodName) prog_27_method_34_code (7 : Nat) (Option.none : Option Jvm.ClassFile.FieldType)) ∈ lw_all := lw_g (lw_at lw_m12 76 rfl) rfl
theorem q2814 : (Jvm.Cond.methodLink "PipelineSimulatorModel" (301 : Nat) ({ cls := "PipelineSimulatorModel", name := "processes", desc := "(III[Z[I[I)V" } : Jvm.MethodName)) ∈ lw_all := lw_g (lw_at lw_m12 77 rfl) rfl
theorem q2815 : (Jvm.Cond.privateMethod ({ cls := "PipelineSimulatorModel", name := "processes", desc := "(III[Z[I[I)V" } : Jvm.MethodName)) ∈ lw_tbl := lw_at lw_m12 78 rfl
theorem q2816 : (Jvm.Cond.instanceMethod ({ cls := "PipelineSimulatorModel", name := "processes", desc := "(III[Z[I[I)V" } : Jvm.MethodName)) ∈ lw_all := lw_g (lw_at lw_m12 79 rfl) rfl
theorem q2817 : (Jvm.Cond.code ({ cls := "PipelineSimulatorModel", name := "processes", desc := "(III[Z[I[I)V" } : Jvm.MethodName) prog_27_method_33_code (10 : Nat) (Option.none : Option Jvm.ClassFile.FieldType)) ∈ lw_all := lw_g (lw_at lw_m12 80 rfl) rfl
theorem q2818 : (Jvm.Cond.methodLink "PipelineSimulatorModel" (294 : Nat) ({ cls := "PipelineSimulatorModel", name := "gives", desc := "(II)V" } : Jvm.MethodName)) ∈ lw_all := lw_g (lw_at lw_m12 81 rfl) rfl
theorem q2819 : (Jvm.Cond.privateMethod ({ cls := "PipelineSimulatorModel", name := "gives", desc := "(II)V" } : Jvm.MethodName)) ∈ lw_tbl := lw_at lw_m12 82 rfl
theorem q2820 : (Jvm.Cond.instanceMethod ({ cls := "PipelineSimulatorModel", name := "gives", desc := "(II)V" } : Jvm.MethodName)) ∈ lw_all := lw_g (lw_at lw_m12 83 rfl) rfl
theorem q2821 : (Jvm.Cond.code ({ cls := "PipelineSimulatorModel", name := "gives", desc := "(II)V" } : Jvm.MethodName) prog_27_method_31_code (3 : Nat) (Option.none : Option Jvm.ClassFile.FieldType)) ∈ lw_all := lw_g (lw_at lw_m12 84 rfl) rfl
theorem q2822 : (Jvm.Cond.methodLink "PipelineSimulatorModel" (298 : Nat) ({ cls := "PipelineSimulatorModel", name := "rest", desc := "(I)I" } : Jvm.MethodName)) ∈ lw_all := lw_g (lw_at lw_m12 85 rfl) rfl
theorem q2823 : (Jvm.Cond.static ({ cls := "PipelineSimulatorModel", name := "rest", desc := "(I)I" } : Jvm.MethodName)) ∈ lw_all := lw_g (lw_at lw_m12 86 rfl) rfl
theorem q2824 : (Jvm.Cond.code ({ cls := "PipelineSimulatorModel", name := "rest", desc := "(I)I" } : Jvm.MethodName) prog_27_method_32_code (2 : Nat) (Option.some Jvm.ClassFile.FieldType.int)) ∈ lw_all := lw_g (lw_at lw_m12 87 rfl) rfl
theorem q2826 : (Jvm.Cond.instanceMethod ({ cls := "PipelineSimulatorModel", name := "isQuiet", desc := "()I" } : Jvm.MethodName)) ∈ lw_all := lw_g (lw_at lw_m12 89 rfl) rfl
theorem q2827 : (Jvm.Cond.selects "PipelineSimulatorModel" ({ cls := "PipelineSimulatorModel", name := "isQuiet", desc := "()I" } : Jvm.MethodName) ({ cls := "PipelineSimulatorModel", name := "isQuiet", desc := "()I" } : Jvm.MethodName)) ∈ lw_all := lw_g (lw_at lw_m12 90 rfl) rfl
theorem q2828 : (Jvm.Cond.code ({ cls := "PipelineSimulatorModel", name := "isQuiet", desc := "()I" } : Jvm.MethodName) prog_27_method_47_code (1 : Nat) (Option.some Jvm.ClassFile.FieldType.int)) ∈ lw_all := lw_g (lw_at lw_m12 91 rfl) rfl
theorem q2830 : (Jvm.Cond.instanceMethod ({ cls := "PipelineSimulatorModel", name := "checkpoint", desc := "()I" } : Jvm.MethodName)) ∈ lw_all := lw_g (lw_at lw_m12 93 rfl) rfl
theorem q2831 : (Jvm.Cond.selects "PipelineSimulatorModel" ({ cls := "PipelineSimulatorModel", name := "checkpoint", desc := "()I" } : Jvm.MethodName) ({ cls := "PipelineSimulatorModel", name := "checkpoint", desc := "()I" } : Jvm.MethodName)) ∈ lw_all := lw_g (lw_at lw_m12 94 rfl) rfl
theorem q2832 : (Jvm.Cond.code ({ cls := "PipelineSimulatorModel", name := "checkpoint", desc := "()I" } : Jvm.MethodName) prog_27_method_48_code (2 : Nat) (Option.some Jvm.ClassFile.FieldType.int)) ∈ lw_all := lw_g (lw_at lw_m12 95 rfl) rfl
theorem q2833 : (Jvm.Cond.constant "PipelineSimulatorModel" (376 : Nat) (-1000000005 : Int32)) ∈ lw_all := lw_g (lw_at lw_m12 96 rfl) rfl
theorem q2835 : (Jvm.Cond.instanceMethod ({ cls := "PipelineSimulatorModel", name := "fail", desc := "()I" } : Jvm.MethodName)) ∈ lw_all := lw_g (lw_at lw_m12 98 rfl) rfl
theorem q2836 : (Jvm.Cond.selects "PipelineSimulatorModel" ({ cls := "PipelineSimulatorModel", name := "fail", desc := "()I" } : Jvm.MethodName) ({ cls := "PipelineSimulatorModel", name := "fail", desc := "()I" } : Jvm.MethodName)) ∈ lw_all := lw_g (lw_at lw_m12 99 rfl) rfl
theorem q2837 : (Jvm.Cond.code ({ cls := "PipelineSimulatorModel", name := "fail", desc := "()I" } : Jvm.MethodName) prog_27_method_49_code (1 : Nat) (Option.some Jvm.ClassFile.FieldType.int)) ∈ lw_all := lw_g (lw_at lw_m12 100 rfl) rfl
theorem q2839 : (Jvm.Cond.instanceMethod ({ cls := "PipelineSimulatorModel", name := "rescale", desc := "(II)I" } : Jvm.MethodName)) ∈ lw_all := lw_g (lw_at lw_m12 102 rfl) rfl
theorem q2840 : (Jvm.Cond.selects "PipelineSimulatorModel" ({ cls := "PipelineSimulatorModel", name := "rescale", desc := "(II)I" } : Jvm.MethodName) ({ cls := "PipelineSimulatorModel", name := "rescale", desc := "(II)I" } : Jvm.MethodName)) ∈ lw_all := lw_g (lw_at lw_m12 103 rfl) rfl
theorem q2841 : (Jvm.Cond.code ({ cls := "PipelineSimulatorModel", name := "rescale", desc := "(II)I" } : Jvm.MethodName) prog_27_method_50_code (6 : Nat) (Option.some Jvm.ClassFile.FieldType.int)) ∈ lw_all := lw_g (lw_at lw_m12 104 rfl) rfl
theorem q2842 : (Jvm.Cond.methodLink "PipelineSimulatorModel" (377 : Nat) ({ cls := "PipelineSimulatorModel", name := "isOperator", desc := "(I)Z" } : Jvm.MethodName)) ∈ lw_all := lw_g (lw_at lw_m12 105 rfl) rfl
theorem q2843 : (Jvm.Cond.privateMethod ({ cls := "PipelineSimulatorModel", name := "isOperator", desc := "(I)Z" } : Jvm.MethodName)) ∈ lw_tbl := lw_at lw_m12 106 rfl
theorem q2844 : (Jvm.Cond.instanceMethod ({ cls := "PipelineSimulatorModel", name := "isOperator", desc := "(I)Z" } : Jvm.MethodName)) ∈ lw_all := lw_g (lw_at lw_m12 107 rfl) rfl
theorem q2845 : (Jvm.Cond.code ({ cls := "PipelineSimulatorModel", name := "isOperator", desc := "(I)Z" } : Jvm.MethodName) prog_27_method_4_code (2 : Nat) (Option.some Jvm.ClassFile.FieldType.boolean)) ∈ lw_all := lw_g (lw_at lw_m12 108 rfl) rfl
theorem q2846 : (Jvm.Cond.constant "PipelineSimulatorModel" (309 : Nat) (-1000000001 : Int32)) ∈ lw_all := lw_g (lw_at lw_m12 109 rfl) rfl
theorem q2848 : (Jvm.Cond.instanceMethod ({ cls := "PipelineSimulatorModel", name := "count", desc := "(I)I" } : Jvm.MethodName)) ∈ lw_all := lw_g (lw_at lw_m12 111 rfl) rfl
theorem q2849 : (Jvm.Cond.selects "PipelineSimulatorModel" ({ cls := "PipelineSimulatorModel", name := "count", desc := "(I)I" } : Jvm.MethodName) ({ cls := "PipelineSimulatorModel", name := "count", desc := "(I)I" } : Jvm.MethodName)) ∈ lw_all := lw_g (lw_at lw_m12 112 rfl) rfl
theorem q2850 : (Jvm.Cond.code ({ cls := "PipelineSimulatorModel", name := "count", desc := "(I)I" } : Jvm.MethodName) prog_27_method_51_code (4 : Nat) (Option.some Jvm.ClassFile.FieldType.int)) ∈ lw_all := lw_g (lw_at lw_m12 113 rfl) rfl
theorem q2851 : (Jvm.Cond.methodLink "PipelineSimulatorModel" (380 : Nat) ({ cls := "PipelineSimulatorModel", name := "inside", desc := "(I)I" } : Jvm.MethodName)) ∈ lw_all := lw_g (lw_at lw_m12 114 rfl) rfl
theorem q2852 : (Jvm.Cond.privateMethod ({ cls := "PipelineSimulatorModel", name := "inside", desc := "(I)I" } : Jvm.MethodName)) ∈ lw_tbl := lw_at lw_m12 115 rfl
theorem q2853 : (Jvm.Cond.instanceMethod ({ cls := "PipelineSimulatorModel", name := "inside", desc := "(I)I" } : Jvm.MethodName)) ∈ lw_all := lw_g (lw_at lw_m12 116 rfl) rfl
theorem q2854 : (Jvm.Cond.code ({ cls := "PipelineSimulatorModel", name := "inside", desc := "(I)I" } : Jvm.MethodName) prog_27_method_28_code (4 : Nat) (Option.some Jvm.ClassFile.FieldType.int)) ∈ lw_all := lw_g (lw_at lw_m12 117 rfl) rfl
theorem q2856 : (Jvm.Cond.instanceMethod ({ cls := "PipelineSimulatorModel", name := "operator", desc := "(II)I" } : Jvm.MethodName)) ∈ lw_all := lw_g (lw_at lw_m12 119 rfl) rfl
theorem q2857 : (Jvm.Cond.selects "PipelineSimulatorModel" ({ cls := "PipelineSimulatorModel", name := "operator", desc := "(II)I" } : Jvm.MethodName) ({ cls := "PipelineSimulatorModel", name := "operator", desc := "(II)I" } : Jvm.MethodName)) ∈ lw_all := lw_g (lw_at lw_m12 120 rfl) rfl
theorem q2858 : (Jvm.Cond.code ({ cls := "PipelineSimulatorModel", name := "operator", desc := "(II)I" } : Jvm.MethodName) prog_27_method_52_code (3 : Nat) (Option.some Jvm.ClassFile.FieldType.int)) ∈ lw_all := lw_g (lw_at lw_m12 121 rfl) rfl
theorem q2860 : (Jvm.Cond.instanceMethod ({ cls := "PipelineSimulatorModel", name := "instance", desc := "(III)I" } : Jvm.MethodName)) ∈ lw_all := lw_g (lw_at lw_m12 123 rfl) rfl
theorem q2861 : (Jvm.Cond.selects "PipelineSimulatorModel" ({ cls := "PipelineSimulatorModel", name := "instance", desc := "(III)I" } : Jvm.MethodName) ({ cls := "PipelineSimulatorModel", name := "instance", desc := "(III)I" } : Jvm.MethodName)) ∈ lw_all := lw_g (lw_at lw_m12 124 rfl) rfl
theorem q2862 : (Jvm.Cond.code ({ cls := "PipelineSimulatorModel", name := "instance", desc := "(III)I" } : Jvm.MethodName) prog_27_method_54_code (5 : Nat) (Option.some Jvm.ClassFile.FieldType.int)) ∈ lw_all := lw_g (lw_at lw_m12 125 rfl) rfl
theorem q2863 : (Jvm.Cond.methodLink "PipelineSimulatorModel" (383 : Nat) ({ cls := "PipelineSimulatorModel", name := "keysOf", desc := "(II)I" } : Jvm.MethodName)) ∈ lw_all := lw_g (lw_at lw_m12 126 rfl) rfl
theorem q2864 : (Jvm.Cond.privateMethod ({ cls := "PipelineSimulatorModel", name := "keysOf", desc := "(II)I" } : Jvm.MethodName)) ∈ lw_tbl := lw_at lw_m12 127 rfl
theorem q2865 : (Jvm.Cond.instanceMethod ({ cls := "PipelineSimulatorModel", name := "keysOf", desc := "(II)I" } : Jvm.MethodName)) ∈ lw_all := lw_g (lw_at lw_m12 128 rfl) rfl
theorem q2866 : (Jvm.Cond.code ({ cls := "PipelineSimulatorModel", name := "keysOf", desc := "(II)I" } : Jvm.MethodName) prog_27_method_53_code (5 : Nat) (Option.some Jvm.ClassFile.FieldType.int)) ∈ lw_all := lw_g (lw_at lw_m12 129 rfl) rfl
theorem q2868 : (Jvm.Cond.instanceMethod ({ cls := "PipelineSimulatorModel", name := "channel", desc := "(IIII)I" } : Jvm.MethodName)) ∈ lw_all := lw_g (lw_at lw_m12 131 rfl) rfl
theorem q2869 : (Jvm.Cond.selects "PipelineSimulatorModel" ({ cls := "PipelineSimulatorModel", name := "channel", desc := "(IIII)I" } : Jvm.MethodName) ({ cls := "PipelineSimulatorModel", name := "channel", desc := "(IIII)I" } : Jvm.MethodName)) ∈ lw_all := lw_g (lw_at lw_m12 132 rfl) rfl
theorem q2870 : (Jvm.Cond.code ({ cls := "PipelineSimulatorModel", name := "channel", desc := "(IIII)I" } : Jvm.MethodName) prog_27_method_55_code (6 : Nat) (Option.some Jvm.ClassFile.FieldType.int)) ∈ lw_all := lw_g (lw_at lw_m12 133 rfl) rfl
theorem q2872 : (Jvm.Cond.instanceMethod ({ cls := "PipelineSimulatorModel", name := "state", desc := "(III)I" } : Jvm.MethodName)) ∈ lw_all := lw_g (lw_at lw_m12 135 rfl) rfl
theorem q2873 : (Jvm.Cond.selects "PipelineSimulatorModel" ({ cls := "PipelineSimulatorModel", name := "state", desc := "(III)I" } : Jvm.MethodName) ({ cls := "PipelineSimulatorModel", name := "state", desc := "(III)I" } : Jvm.MethodName)) ∈ lw_all := lw_g (lw_at lw_m12 136 rfl) rfl
theorem q2874 : (Jvm.Cond.code ({ cls := "PipelineSimulatorModel", name := "state", desc := "(III)I" } : Jvm.MethodName) prog_27_method_57_code (4 : Nat) (Option.some Jvm.ClassFile.FieldType.int)) ∈ lw_all := lw_g (lw_at lw_m12 137 rfl) rfl
theorem q2875 : (Jvm.Cond.methodLink "PipelineSimulatorModel" (386 : Nat) ({ cls := "PipelineSimulatorModel", name := "told", desc := "(III[Z[I[I)I" } : Jvm.MethodName)) ∈ lw_all := lw_g (lw_at lw_m12 138 rfl) rfl
theorem q2876 : (Jvm.Cond.privateMethod ({ cls := "PipelineSimulatorModel", name := "told", desc := "(III[Z[I[I)I" } : Jvm.MethodName)) ∈ lw_tbl := lw_at lw_m12 139 rfl
theorem q2877 : (Jvm.Cond.instanceMethod ({ cls := "PipelineSimulatorModel", name := "told", desc := "(III[Z[I[I)I" } : Jvm.MethodName)) ∈ lw_all := lw_g (lw_at lw_m12 140 rfl) rfl
theorem q2878 : (Jvm.Cond.code ({ cls := "PipelineSimulatorModel", name := "told", desc := "(III[Z[I[I)I" } : Jvm.MethodName) prog_27_method_56_code (7 : Nat) (Option.some Jvm.ClassFile.FieldType.int)) ∈ lw_all := lw_g (lw_at lw_m12 141 rfl) rfl
theorem q2880 : (Jvm.Cond.instanceMethod ({ cls := "PipelineSimulatorModel", name := "savedState", desc := "(III)I" } : Jvm.MethodName)) ∈ lw_all := lw_g (lw_at lw_m12 143 rfl) rfl
theorem q2881 : (Jvm.Cond.selects "PipelineSimulatorModel" ({ cls := "PipelineSimulatorModel", name := "savedState", desc := "(III)I" } : Jvm.MethodName) ({ cls := "PipelineSimulatorModel", name := "savedState", desc := "(III)I" } : Jvm.MethodName)) ∈ lw_all := lw_g (lw_at lw_m12 144 rfl) rfl
theorem q2882 : (Jvm.Cond.code ({ cls := "PipelineSimulatorModel", name := "savedState", desc := "(III)I" } : Jvm.MethodName) prog_27_method_58_code (4 : Nat) (Option.some Jvm.ClassFile.FieldType.int)) ∈ lw_all := lw_g (lw_at lw_m12 145 rfl) rfl
theorem q2884 : (Jvm.Cond.instanceMethod ({ cls := "PipelineSimulatorModel", name := "plain", desc := "(II)I" } : Jvm.MethodName)) ∈ lw_all := lw_g (lw_at lw_m12 147 rfl) rfl
theorem q2885 : (Jvm.Cond.selects "PipelineSimulatorModel" ({ cls := "PipelineSimulatorModel", name := "plain", desc := "(II)I" } : Jvm.MethodName) ({ cls := "PipelineSimulatorModel", name := "plain", desc := "(II)I" } : Jvm.MethodName)) ∈ lw_all := lw_g (lw_at lw_m12 148 rfl) rfl
theorem q2886 : (Jvm.Cond.code ({ cls := "PipelineSimulatorModel", name := "plain", desc := "(II)I" } : Jvm.MethodName) prog_27_method_60_code (3 : Nat) (Option.some Jvm.ClassFile.FieldType.int)) ∈ lw_all := lw_g (lw_at lw_m12 149 rfl) rfl
theorem q2887 : (Jvm.Cond.methodLink "PipelineSimulatorModel" (390 : Nat) ({ cls := "PipelineSimulatorModel", name := "plainly", desc := "()V" } : Jvm.MethodName)) ∈ lw_all := lw_g (lw_at lw_m12 150 rfl) rfl
theorem q2888 : (Jvm.Cond.privateMethod ({ cls := "PipelineSimulatorModel", name := "plainly", desc := "()V" } : Jvm.MethodName)) ∈ lw_tbl := lw_at lw_m12 151 rfl
theorem q2889 : (Jvm.Cond.instanceMethod ({ cls := "PipelineSimulatorModel", name := "plainly", desc := "()V" } : Jvm.MethodName)) ∈ lw_all := lw_g (lw_at lw_m12 152 rfl) rfl
theorem q2890 : (Jvm.Cond.code ({ cls := "PipelineSimulatorModel", name := "plainly", desc := "()V" } : Jvm.MethodName) prog_27_method_59_code (5 : Nat) (Option.none : Option Jvm.ClassFile.FieldType)) ∈ lw_all := lw_g (lw_at lw_m12 153 rfl) rfl
theorem q2892 : (Jvm.Cond.instanceMethod ({ cls := "PipelineSimulatorModel", name := "explain", desc := "(II)I" } : Jvm.MethodName)) ∈ lw_all := lw_g (lw_at lw_m12 155 rfl) rfl
theorem q2893 : (Jvm.Cond.selects "PipelineSimulatorModel" ({ cls := "PipelineSimulatorModel", name := "explain", desc := "(II)I" } : Jvm.MethodName) ({ cls := "PipelineSimulatorModel", name := "explain", desc := "(II)I" } : Jvm.MethodName)) ∈ lw_all := lw_g (lw_at lw_m12 156 rfl) rfl
theorem q2894 : (Jvm.Cond.code ({ cls := "PipelineSimulatorModel", name := "explain", desc := "(II)I" } : Jvm.MethodName) prog_27_method_62_code (7 : Nat) (Option.some Jvm.ClassFile.FieldType.int)) ∈ lw_all := lw_g (lw_at lw_m12 157 rfl) rfl
theorem q2895 : (Jvm.Cond.methodLink "PipelineSimulatorModel" (399 : Nat) ({ cls := "PipelineSimulatorModel", name := "reasonOf", desc := "(II)I" } : Jvm.MethodName)) ∈ lw_all := lw_g (lw_at lw_m12 158 rfl) rfl
theorem q2896 : (Jvm.Cond.privateMethod ({ cls := "PipelineSimulatorModel", name := "reasonOf", desc := "(II)I" } : Jvm.MethodName)) ∈ lw_tbl := lw_at lw_m12 159 rfl
theorem q2897 : (Jvm.Cond.instanceMethod ({ cls := "PipelineSimulatorModel", name := "reasonOf", desc := "(II)I" } : Jvm.MethodName)) ∈ lw_all := lw_g (lw_at lw_m12 160 rfl) rfl
theorem q2898 : (Jvm.Cond.code ({ cls := "PipelineSimulatorModel", name := "reasonOf", desc := "(II)I" } : Jvm.MethodName) prog_27_method_61_code (4 : Nat) (Option.some Jvm.ClassFile.FieldType.int)) ∈ lw_all := lw_g (lw_at lw_m12 161 rfl) rfl
theorem q2900 : (Jvm.Cond.instanceMethod ({ cls := "PipelineSimulatorModel", name := "explanation", desc := "(II)I" } : Jvm.MethodName)) ∈ lw_all := lw_g (lw_at lw_m12 163 rfl) rfl
theorem q2901 : (Jvm.Cond.selects "PipelineSimulatorModel" ({ cls := "PipelineSimulatorModel", name := "explanation", desc := "(II)I" } : Jvm.MethodName) ({ cls := "PipelineSimulatorModel", name := "explanation", desc := "(II)I" } : Jvm.MethodName)) ∈ lw_all := lw_g (lw_at lw_m12 164 rfl) rfl
theorem q2902 : (Jvm.Cond.code ({ cls := "PipelineSimulatorModel", name := "explanation", desc := "(II)I" } : Jvm.MethodName) prog_27_method_63_code (3 : Nat) (Option.some Jvm.ClassFile.FieldType.int)) ∈ lw_all := lw_g (lw_at lw_m12 165 rfl) rfl
theorem q2904 : (Jvm.Cond.instanceMethod ({ cls := "PipelineSimulatorModel", name := "write", desc := "()I" } : Jvm.MethodName)) ∈ lw_all := lw_g (lw_at lw_m12 167 rfl) rfl
theorem q2905 : (Jvm.Cond.selects "PipelineSimulatorModel" ({ cls := "PipelineSimulatorModel", name := "write", desc := "()I" } : Jvm.MethodName) ({ cls := "PipelineSimulatorModel", name := "write", desc := "()I" } : Jvm.MethodName)) ∈ lw_all := lw_g (lw_at lw_m12 168 rfl) rfl
theorem q2906 : (Jvm.Cond.code ({ cls := "PipelineSimulatorModel", name := "write", desc := "()I" } : Jvm.MethodName) prog_27_method_66_code (3 : Nat) (Option.some Jvm.ClassFile.FieldType.int)) ∈ lw_all := lw_g (lw_at lw_m12 169 rfl) rfl
theorem q2907 : (Jvm.Cond.methodLink "PipelineSimulatorModel" (405 : Nat) ({ cls := "PipelineSimulatorModel", name := "writes", desc := "(I)V" } : Jvm.MethodName)) ∈ lw_all := lw_g (lw_at lw_m12 170 rfl) rfl
theorem q2908 : (Jvm.Cond.privateMethod ({ cls := "PipelineSimulatorModel", name := "writes", desc := "(I)V" } : Jvm.MethodName)) ∈ lw_tbl := lw_at lw_m12 171 rfl
theorem q2909 : (Jvm.Cond.instanceMethod ({ cls := "PipelineSimulatorModel", name := "writes", desc := "(I)V" } : Jvm.MethodName)) ∈ lw_all := lw_g (lw_at lw_m12 172 rfl) rfl
theorem q2910 : (Jvm.Cond.code ({ cls := "PipelineSimulatorModel", name := "writes", desc := "(I)V" } : Jvm.MethodName) prog_27_method_64_code (2 : Nat) (Option.none : Option Jvm.ClassFile.FieldType)) ∈ lw_all := lw_g (lw_at lw_m12 173 rfl) rfl
theorem q2911 : (Jvm.Cond.methodLink "PipelineSimulatorModel" (408 : Nat) ({ cls := "PipelineSimulatorModel", name := "writesNumber", desc := "(I)V" } : Jvm.MethodName)) ∈ lw_all := lw_g (lw_at lw_m12 174 rfl) rfl
theorem q2912 : (Jvm.Cond.privateMethod ({ cls := "PipelineSimulatorModel", name := "writesNumber", desc := "(I)V" } : Jvm.MethodName)) ∈ lw_tbl := lw_at lw_m12 175 rfl
theorem q2913 : (Jvm.Cond.instanceMethod ({ cls := "PipelineSimulatorModel", name := "writesNumber", desc := "(I)V" } : Jvm.MethodName)) ∈ lw_all := lw_g (lw_at lw_m12 176 rfl) rfl
theorem q2914 : (Jvm.Cond.code ({ cls := "PipelineSimulatorModel", name := "writesNumber", desc := "(I)V" } : Jvm.MethodName) prog_27_method_65_code (3 : Nat) (Option.none : Option Jvm.ClassFile.FieldType)) ∈ lw_all := lw_g (lw_at lw_m12 177 rfl) rfl
theorem q2916 : (Jvm.Cond.instanceMethod ({ cls := "PipelineSimulatorModel", name := "written", desc := "(I)I" } : Jvm.MethodName)) ∈ lw_all := lw_g (lw_at lw_m12 179 rfl) rfl
theorem q2917 : (Jvm.Cond.selects "PipelineSimulatorModel" ({ cls := "PipelineSimulatorModel", name := "written", desc := "(I)I" } : Jvm.MethodName) ({ cls := "PipelineSimulatorModel", name := "written", desc := "(I)I" } : Jvm.MethodName)) ∈ lw_all := lw_g (lw_at lw_m12 180 rfl) rfl
theorem q2918 : (Jvm.Cond.code ({ cls := "PipelineSimulatorModel", name := "written", desc := "(I)I" } : Jvm.MethodName) prog_27_method_67_code (2 : Nat) (Option.some Jvm.ClassFile.FieldType.int)) ∈ lw_all := lw_g (lw_at lw_m12 181 rfl) rfl
theorem q2959 : (Jvm.Cond.castable "PipelineSimulatorModel" "java/lang/Object") ∈ lw_tbl := lw_at lw_m12 222 rfl
theorem in_X12 : ∀ w ∈ wsX120, w ∈ lw_all := lw_in wsX120 [2495, 2497, 2499, 2501, 2503, 2505, 2507, 2509, 2511, 2513, 2515, 2517, 2519, 2521, 2523, 2525, 2527, 2529, 2531, 2533, 2535, 2537, 2539, 2541, 2543, 2545, 2547, 2549, 2551, 2553, 2555, 2557, 2559, 2561, 2563, 2565, 2567, 2569, 2571, 2573, 2575, 2577, 2579, 2581, 2583, 2585, 2587, 2589, 2591, 2593, 2595, 2597, 2599, 2601, 2603, 2605, 2607, 2609, 2611, 2613, 2615, 2617, 2619, 2621, 2623, 2625, 2627, 2629, 2631, 2633, 2635, 2637, 2639, 2641, 2643, 2645, 2647, 2649, 2651, 2653, 2655] (by decide +kernel) (by decide +kernel)
