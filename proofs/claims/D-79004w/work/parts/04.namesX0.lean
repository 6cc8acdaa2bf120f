/-! PipelineSimulator -/
set_option maxRecDepth 100000
def RX0 : String := "PipelineSimulator"
def TX0 : u_T := fun k => match k with
  | 0 => ("PipelineSimulator", "spare", "Ljava/util/LinkedList;", true)
  | 1 => ("PipelineSimulator", "size", "I", false)
  | 2 => ("PipelineSimulator", "greatestAge", "I", false)
  | 3 => ("PipelineSimulator", "credits", "I", false)
  | 4 => ("PipelineSimulator", "rate", "I", false)
  | 5 => ("PipelineSimulator", "inputKeys", "[I", true)
  | 6 => ("PipelineSimulator", "inputValues", "[I", true)
  | 7 => ("PipelineSimulator", "inputSize", "I", false)
  | 8 => ("PipelineSimulator", "operators", "Ljava/util/ArrayList;", false)
  | 9 => ("PipelineSimulator", "offset", "LPipelineSimulator$Versions;", true)
  | 10 => ("PipelineSimulator", "versions", "Ljava/util/ArrayList;", true)
  | 11 => ("PipelineSimulator", "instances", "[[LPipelineSimulator$Instance;", true)
  | 12 => ("PipelineSimulator", "channels", "[[[LPipelineSimulator$Channel;", true)
  | 13 => ("PipelineSimulator", "latencies", "LPipelineSimulator$Latencies;", true)
  | 14 => ("PipelineSimulator", "ticks", "I", false)
  | 15 => ("PipelineSimulator", "completed", "I", false)
  | 16 => ("PipelineSimulator", "running", "I", false)
  | 17 => ("PipelineSimulator", "alignedSinks", "I", false)
  | 18 => ("PipelineSimulator", "failures", "I", false)
  | 19 => ("PipelineSimulator", "hasBegun", "Z", false)
  | 20 => ("PipelineSimulator", "explanation", "Ljava/util/ArrayList;", true)
  | 21 => ("PipelineSimulator", "text", "Ljava/lang/StringBuilder;", true)
  | _ => ("PipelineSimulator", "written", "Ljava/lang/StringBuilder;", true)
def tyX0 : Nat → FieldType := fun k => match k with
  | 0 => .object "java/util/LinkedList"
  | 1 => .int
  | 2 => .int
  | 3 => .int
  | 4 => .int
  | 5 => .array .int
  | 6 => .array .int
  | 7 => .int
  | 8 => .object "java/util/ArrayList"
  | 9 => .object "PipelineSimulator$Versions"
  | 10 => .object "java/util/ArrayList"
  | 11 => .array (.array (.object "PipelineSimulator$Instance"))
  | 12 => .array (.array (.array (.object "PipelineSimulator$Channel")))
  | 13 => .object "PipelineSimulator$Latencies"
  | 14 => .int
  | 15 => .int
  | 16 => .int
  | 17 => .int
  | 18 => .int
  | 19 => .boolean
  | 20 => .object "java/util/ArrayList"
  | 21 => .object "java/lang/StringBuilder"
  | _ => .object "java/lang/StringBuilder"
abbrev wsX00 : List Cond := u_ws RX0 TX0 23
set_option maxRecDepth 100000 in
theorem nmX0 : ∀ a, a < 23 → ∀ b, b < 23 → a ≠ b → (TX0 a).2.1 ≠ (TX0 b).2.1 := by decide +kernel
set_option maxRecDepth 100000 in
theorem tyX0_ok : ∀ k, k < 23 → parseFieldDescriptor (TX0 k).2.2.1 = some (tyX0 k) := by decide +kernel
abbrev cX0_init : ByteArray := prog_1_method_9_code
def yX0_init : MethodName := ⟨RX0, "<init>", "()V"⟩
def dkwX0_init_7 : List UInt8 := [181, 0, 165, 42, 187, 0, 162, 89, 183, 0, 164, 181, 0, 169, 177]
abbrev dktX0_init_7 : List UInt8 := dkwX0_init_7 ++ []
def dkwX0_init_6 : List UInt8 := [182, 0, 156, 42, 187, 0, 112, 89, 183, 0, 114, 181, 0, 159, 42, 187, 0, 162, 89, 183, 0, 164]
abbrev dktX0_init_6 : List UInt8 := dkwX0_init_6 ++ dktX0_init_7
def dkwX0_init_5 : List UInt8 := [183, 0, 151, 182, 0, 152, 87, 42, 180, 0, 115, 187, 0, 66, 89, 4, 183, 0, 68, 182, 0, 152, 87, 42]
abbrev dktX0_init_5 : List UInt8 := dkwX0_init_5 ++ dktX0_init_6
def dkwX0_init_4 : List UInt8 := [181, 0, 138, 42, 187, 0, 142, 89, 183, 0, 144, 181, 0, 145, 42, 180, 0, 115, 187, 0, 149, 89]
abbrev dktX0_init_4 : List UInt8 := dkwX0_init_4 ++ dktX0_init_5
def dkwX0_init_3 : List UInt8 := [187, 0, 112, 89, 183, 0, 114, 181, 0, 127, 42, 16, 6, 189, 0, 130, 181, 0, 132, 42, 8, 189, 0, 136]
abbrev dktX0_init_3 : List UInt8 := dkwX0_init_3 ++ dktX0_init_4
def dkwX0_init_2 : List UInt8 := [188, 10, 181, 0, 109, 42, 187, 0, 112, 89, 183, 0, 114, 181, 0, 115, 42, 184, 0, 119, 181, 0, 123, 42]
abbrev dktX0_init_2 : List UInt8 := dkwX0_init_2 ++ dktX0_init_3
def dkwX0_init_1 : List UInt8 := [181, 0, 96, 42, 5, 181, 0, 99, 42, 5, 181, 0, 102, 42, 16, 60, 188, 10, 181, 0, 105, 42, 16, 60]
abbrev dktX0_init_1 : List UInt8 := dkwX0_init_1 ++ dktX0_init_2
def dkwX0_init_0 : List UInt8 := [42, 183, 0, 88, 42, 187, 0, 74, 89, 183, 0, 91, 181, 0, 69, 42, 5, 181, 0, 92, 42, 6]
abbrev dktX0_init_0 : List UInt8 := dkwX0_init_0 ++ dktX0_init_1
theorem dksX0_init_0 : cX0_init.data.toList.drop 0 = dktX0_init_0 := by decide +kernel
theorem dksX0_init_1 : cX0_init.data.toList.drop 22 = dktX0_init_1 := dk_seg dksX0_init_0 22 rfl rfl
theorem dksX0_init_2 : cX0_init.data.toList.drop 46 = dktX0_init_2 := dk_seg dksX0_init_1 24 rfl rfl
theorem dksX0_init_3 : cX0_init.data.toList.drop 70 = dktX0_init_3 := dk_seg dksX0_init_2 24 rfl rfl
theorem dksX0_init_4 : cX0_init.data.toList.drop 94 = dktX0_init_4 := dk_seg dksX0_init_3 24 rfl rfl
theorem dksX0_init_5 : cX0_init.data.toList.drop 116 = dktX0_init_5 := dk_seg dksX0_init_4 22 rfl rfl
theorem dksX0_init_6 : cX0_init.data.toList.drop 140 = dktX0_init_6 := dk_seg dksX0_init_5 24 rfl rfl
theorem dksX0_init_7 : cX0_init.data.toList.drop 162 = dktX0_init_7 := dk_seg dksX0_init_6 22 rfl rfl
theorem dX0_init_0 : decode cX0_init 0 = .ok (.aload_n 0, 1) := dk_42 (dk_at dksX0_init_0 0 rfl rfl)
theorem dX0_init_1 : decode cX0_init 1 = .ok (.invokespecial 88, 3) := dk_183 0 88 (dk_at dksX0_init_0 1 rfl rfl)
theorem dX0_init_4 : decode cX0_init 4 = .ok (.aload_n 0, 1) := dk_42 (dk_at dksX0_init_0 4 rfl rfl)
theorem dX0_init_5 : decode cX0_init 5 = .ok (.new 74, 3) := dk_187 0 74 (dk_at dksX0_init_0 5 rfl rfl)
theorem dX0_init_8 : decode cX0_init 8 = .ok (.dup, 1) := dk_89 (dk_at dksX0_init_0 8 rfl rfl)
theorem dX0_init_9 : decode cX0_init 9 = .ok (.invokespecial 91, 3) := dk_183 0 91 (dk_at dksX0_init_0 9 rfl rfl)
theorem dX0_init_12 : decode cX0_init 12 = .ok (.putfield 69, 3) := dk_181 0 69 (dk_at dksX0_init_0 12 rfl rfl)
theorem dX0_init_15 : decode cX0_init 15 = .ok (.aload_n 0, 1) := dk_42 (dk_at dksX0_init_0 15 rfl rfl)
theorem dX0_init_16 : decode cX0_init 16 = .ok (.iconst 2, 1) := dk_5 (dk_at dksX0_init_0 16 rfl rfl)
theorem dX0_init_17 : decode cX0_init 17 = .ok (.putfield 92, 3) := dk_181 0 92 (dk_at dksX0_init_0 17 rfl rfl)
theorem dX0_init_20 : decode cX0_init 20 = .ok (.aload_n 0, 1) := dk_42 (dk_at dksX0_init_0 20 rfl rfl)
theorem dX0_init_21 : decode cX0_init 21 = .ok (.iconst 3, 1) := dk_6 (dk_at dksX0_init_0 21 rfl rfl)
theorem dX0_init_22 : decode cX0_init 22 = .ok (.putfield 96, 3) := dk_181 0 96 (dk_at dksX0_init_1 0 rfl rfl)
theorem dX0_init_25 : decode cX0_init 25 = .ok (.aload_n 0, 1) := dk_42 (dk_at dksX0_init_1 3 rfl rfl)
theorem dX0_init_26 : decode cX0_init 26 = .ok (.iconst 2, 1) := dk_5 (dk_at dksX0_init_1 4 rfl rfl)
theorem dX0_init_27 : decode cX0_init 27 = .ok (.putfield 99, 3) := dk_181 0 99 (dk_at dksX0_init_1 5 rfl rfl)
theorem dX0_init_30 : decode cX0_init 30 = .ok (.aload_n 0, 1) := dk_42 (dk_at dksX0_init_1 8 rfl rfl)
theorem dX0_init_31 : decode cX0_init 31 = .ok (.iconst 2, 1) := dk_5 (dk_at dksX0_init_1 9 rfl rfl)
theorem dX0_init_32 : decode cX0_init 32 = .ok (.putfield 102, 3) := dk_181 0 102 (dk_at dksX0_init_1 10 rfl rfl)
theorem dX0_init_35 : decode cX0_init 35 = .ok (.aload_n 0, 1) := dk_42 (dk_at dksX0_init_1 13 rfl rfl)
theorem dX0_init_36 : decode cX0_init 36 = .ok (.bipush 60, 2) := dk_16 60 (dk_at dksX0_init_1 14 rfl rfl)
theorem dX0_init_38 : decode cX0_init 38 = .ok (.newarray .int, 2) := dk_188_10 (dk_at dksX0_init_1 16 rfl rfl)
theorem dX0_init_40 : decode cX0_init 40 = .ok (.putfield 105, 3) := dk_181 0 105 (dk_at dksX0_init_1 18 rfl rfl)
theorem dX0_init_43 : decode cX0_init 43 = .ok (.aload_n 0, 1) := dk_42 (dk_at dksX0_init_1 21 rfl rfl)
theorem dX0_init_44 : decode cX0_init 44 = .ok (.bipush 60, 2) := dk_16 60 (dk_at dksX0_init_1 22 rfl rfl)
theorem dX0_init_46 : decode cX0_init 46 = .ok (.newarray .int, 2) := dk_188_10 (dk_at dksX0_init_2 0 rfl rfl)
theorem dX0_init_48 : decode cX0_init 48 = .ok (.putfield 109, 3) := dk_181 0 109 (dk_at dksX0_init_2 2 rfl rfl)
theorem dX0_init_51 : decode cX0_init 51 = .ok (.aload_n 0, 1) := dk_42 (dk_at dksX0_init_2 5 rfl rfl)
theorem dX0_init_52 : decode cX0_init 52 = .ok (.new 112, 3) := dk_187 0 112 (dk_at dksX0_init_2 6 rfl rfl)
theorem dX0_init_55 : decode cX0_init 55 = .ok (.dup, 1) := dk_89 (dk_at dksX0_init_2 9 rfl rfl)
theorem dX0_init_56 : decode cX0_init 56 = .ok (.invokespecial 114, 3) := dk_183 0 114 (dk_at dksX0_init_2 10 rfl rfl)
theorem dX0_init_59 : decode cX0_init 59 = .ok (.putfield 115, 3) := dk_181 0 115 (dk_at dksX0_init_2 13 rfl rfl)
theorem dX0_init_62 : decode cX0_init 62 = .ok (.aload_n 0, 1) := dk_42 (dk_at dksX0_init_2 16 rfl rfl)
theorem dX0_init_63 : decode cX0_init 63 = .ok (.invokestatic 119, 3) := dk_184 0 119 (dk_at dksX0_init_2 17 rfl rfl)
theorem dX0_init_66 : decode cX0_init 66 = .ok (.putfield 123, 3) := dk_181 0 123 (dk_at dksX0_init_2 20 rfl rfl)
theorem dX0_init_69 : decode cX0_init 69 = .ok (.aload_n 0, 1) := dk_42 (dk_at dksX0_init_2 23 rfl rfl)
theorem dX0_init_70 : decode cX0_init 70 = .ok (.new 112, 3) := dk_187 0 112 (dk_at dksX0_init_3 0 rfl rfl)
theorem dX0_init_73 : decode cX0_init 73 = .ok (.dup, 1) := dk_89 (dk_at dksX0_init_3 3 rfl rfl)
theorem dX0_init_74 : decode cX0_init 74 = .ok (.invokespecial 114, 3) := dk_183 0 114 (dk_at dksX0_init_3 4 rfl rfl)
theorem dX0_init_77 : decode cX0_init 77 = .ok (.putfield 127, 3) := dk_181 0 127 (dk_at dksX0_init_3 7 rfl rfl)
theorem dX0_init_80 : decode cX0_init 80 = .ok (.aload_n 0, 1) := dk_42 (dk_at dksX0_init_3 10 rfl rfl)
theorem dX0_init_81 : decode cX0_init 81 = .ok (.bipush 6, 2) := dk_16 6 (dk_at dksX0_init_3 11 rfl rfl)
theorem dX0_init_83 : decode cX0_init 83 = .ok (.anewarray 130, 3) := dk_189 0 130 (dk_at dksX0_init_3 13 rfl rfl)
theorem dX0_init_86 : decode cX0_init 86 = .ok (.putfield 132, 3) := dk_181 0 132 (dk_at dksX0_init_3 16 rfl rfl)
theorem dX0_init_89 : decode cX0_init 89 = .ok (.aload_n 0, 1) := dk_42 (dk_at dksX0_init_3 19 rfl rfl)
theorem dX0_init_90 : decode cX0_init 90 = .ok (.iconst 5, 1) := dk_8 (dk_at dksX0_init_3 20 rfl rfl)
theorem dX0_init_91 : decode cX0_init 91 = .ok (.anewarray 136, 3) := dk_189 0 136 (dk_at dksX0_init_3 21 rfl rfl)
theorem dX0_init_94 : decode cX0_init 94 = .ok (.putfield 138, 3) := dk_181 0 138 (dk_at dksX0_init_4 0 rfl rfl)
theorem dX0_init_97 : decode cX0_init 97 = .ok (.aload_n 0, 1) := dk_42 (dk_at dksX0_init_4 3 rfl rfl)
theorem dX0_init_98 : decode cX0_init 98 = .ok (.new 142, 3) := dk_187 0 142 (dk_at dksX0_init_4 4 rfl rfl)
theorem dX0_init_101 : decode cX0_init 101 = .ok (.dup, 1) := dk_89 (dk_at dksX0_init_4 7 rfl rfl)
theorem dX0_init_102 : decode cX0_init 102 = .ok (.invokespecial 144, 3) := dk_183 0 144 (dk_at dksX0_init_4 8 rfl rfl)
theorem dX0_init_105 : decode cX0_init 105 = .ok (.putfield 145, 3) := dk_181 0 145 (dk_at dksX0_init_4 11 rfl rfl)
theorem dX0_init_108 : decode cX0_init 108 = .ok (.aload_n 0, 1) := dk_42 (dk_at dksX0_init_4 14 rfl rfl)
theorem dX0_init_109 : decode cX0_init 109 = .ok (.getfield 115, 3) := dk_180 0 115 (dk_at dksX0_init_4 15 rfl rfl)
theorem dX0_init_112 : decode cX0_init 112 = .ok (.new 149, 3) := dk_187 0 149 (dk_at dksX0_init_4 18 rfl rfl)
theorem dX0_init_115 : decode cX0_init 115 = .ok (.dup, 1) := dk_89 (dk_at dksX0_init_4 21 rfl rfl)
theorem dX0_init_116 : decode cX0_init 116 = .ok (.invokespecial 151, 3) := dk_183 0 151 (dk_at dksX0_init_5 0 rfl rfl)
theorem dX0_init_119 : decode cX0_init 119 = .ok (.invokevirtual 152, 3) := dk_182 0 152 (dk_at dksX0_init_5 3 rfl rfl)
theorem dX0_init_122 : decode cX0_init 122 = .ok (.pop, 1) := dk_87 (dk_at dksX0_init_5 6 rfl rfl)
theorem dX0_init_123 : decode cX0_init 123 = .ok (.aload_n 0, 1) := dk_42 (dk_at dksX0_init_5 7 rfl rfl)
theorem dX0_init_124 : decode cX0_init 124 = .ok (.getfield 115, 3) := dk_180 0 115 (dk_at dksX0_init_5 8 rfl rfl)
theorem dX0_init_127 : decode cX0_init 127 = .ok (.new 66, 3) := dk_187 0 66 (dk_at dksX0_init_5 11 rfl rfl)
theorem dX0_init_130 : decode cX0_init 130 = .ok (.dup, 1) := dk_89 (dk_at dksX0_init_5 14 rfl rfl)
theorem dX0_init_131 : decode cX0_init 131 = .ok (.iconst 1, 1) := dk_4 (dk_at dksX0_init_5 15 rfl rfl)
theorem dX0_init_132 : decode cX0_init 132 = .ok (.invokespecial 68, 3) := dk_183 0 68 (dk_at dksX0_init_5 16 rfl rfl)
theorem dX0_init_135 : decode cX0_init 135 = .ok (.invokevirtual 152, 3) := dk_182 0 152 (dk_at dksX0_init_5 19 rfl rfl)
theorem dX0_init_138 : decode cX0_init 138 = .ok (.pop, 1) := dk_87 (dk_at dksX0_init_5 22 rfl rfl)
theorem dX0_init_139 : decode cX0_init 139 = .ok (.aload_n 0, 1) := dk_42 (dk_at dksX0_init_5 23 rfl rfl)
theorem dX0_init_140 : decode cX0_init 140 = .ok (.invokevirtual 156, 3) := dk_182 0 156 (dk_at dksX0_init_6 0 rfl rfl)
theorem dX0_init_143 : decode cX0_init 143 = .ok (.aload_n 0, 1) := dk_42 (dk_at dksX0_init_6 3 rfl rfl)
theorem dX0_init_144 : decode cX0_init 144 = .ok (.new 112, 3) := dk_187 0 112 (dk_at dksX0_init_6 4 rfl rfl)
theorem dX0_init_147 : decode cX0_init 147 = .ok (.dup, 1) := dk_89 (dk_at dksX0_init_6 7 rfl rfl)
theorem dX0_init_148 : decode cX0_init 148 = .ok (.invokespecial 114, 3) := dk_183 0 114 (dk_at dksX0_init_6 8 rfl rfl)
theorem dX0_init_151 : decode cX0_init 151 = .ok (.putfield 159, 3) := dk_181 0 159 (dk_at dksX0_init_6 11 rfl rfl)
theorem dX0_init_154 : decode cX0_init 154 = .ok (.aload_n 0, 1) := dk_42 (dk_at dksX0_init_6 14 rfl rfl)
theorem dX0_init_155 : decode cX0_init 155 = .ok (.new 162, 3) := dk_187 0 162 (dk_at dksX0_init_6 15 rfl rfl)
theorem dX0_init_158 : decode cX0_init 158 = .ok (.dup, 1) := dk_89 (dk_at dksX0_init_6 18 rfl rfl)
theorem dX0_init_159 : decode cX0_init 159 = .ok (.invokespecial 164, 3) := dk_183 0 164 (dk_at dksX0_init_6 19 rfl rfl)
theorem dX0_init_162 : decode cX0_init 162 = .ok (.putfield 165, 3) := dk_181 0 165 (dk_at dksX0_init_7 0 rfl rfl)
theorem dX0_init_165 : decode cX0_init 165 = .ok (.aload_n 0, 1) := dk_42 (dk_at dksX0_init_7 3 rfl rfl)
theorem dX0_init_166 : decode cX0_init 166 = .ok (.new 162, 3) := dk_187 0 162 (dk_at dksX0_init_7 4 rfl rfl)
theorem dX0_init_169 : decode cX0_init 169 = .ok (.dup, 1) := dk_89 (dk_at dksX0_init_7 7 rfl rfl)
theorem dX0_init_170 : decode cX0_init 170 = .ok (.invokespecial 164, 3) := dk_183 0 164 (dk_at dksX0_init_7 8 rfl rfl)
theorem dX0_init_173 : decode cX0_init 173 = .ok (.putfield 169, 3) := dk_181 0 169 (dk_at dksX0_init_7 11 rfl rfl)
theorem dX0_init_176 : decode cX0_init 176 = .ok (.return_, 1) := dk_177 (dk_at dksX0_init_7 14 rfl rfl)
abbrev cX0_counter : ByteArray := prog_1_method_6_code
def yX0_counter : MethodName := ⟨RX0, "counter", "()LPipelineSimulator$Versions;"⟩
def dkwX0_counter_1 : List UInt8 := [183, 0, 38, 183, 0, 33, 176]
abbrev dktX0_counter_1 : List UInt8 := dkwX0_counter_1 ++ []
def dkwX0_counter_0 : List UInt8 := [187, 0, 17, 89, 187, 0, 36, 89, 183, 0, 38, 187, 0, 36, 89, 183, 0, 38, 187, 0, 36, 89]
abbrev dktX0_counter_0 : List UInt8 := dkwX0_counter_0 ++ dktX0_counter_1
theorem dksX0_counter_0 : cX0_counter.data.toList.drop 0 = dktX0_counter_0 := by decide +kernel
theorem dksX0_counter_1 : cX0_counter.data.toList.drop 22 = dktX0_counter_1 := dk_seg dksX0_counter_0 22 rfl rfl
theorem dX0_counter_0 : decode cX0_counter 0 = .ok (.new 17, 3) := dk_187 0 17 (dk_at dksX0_counter_0 0 rfl rfl)
theorem dX0_counter_3 : decode cX0_counter 3 = .ok (.dup, 1) := dk_89 (dk_at dksX0_counter_0 3 rfl rfl)
theorem dX0_counter_4 : decode cX0_counter 4 = .ok (.new 36, 3) := dk_187 0 36 (dk_at dksX0_counter_0 4 rfl rfl)
theorem dX0_counter_7 : decode cX0_counter 7 = .ok (.dup, 1) := dk_89 (dk_at dksX0_counter_0 7 rfl rfl)
theorem dX0_counter_8 : decode cX0_counter 8 = .ok (.invokespecial 38, 3) := dk_183 0 38 (dk_at dksX0_counter_0 8 rfl rfl)
theorem dX0_counter_11 : decode cX0_counter 11 = .ok (.new 36, 3) := dk_187 0 36 (dk_at dksX0_counter_0 11 rfl rfl)
theorem dX0_counter_14 : decode cX0_counter 14 = .ok (.dup, 1) := dk_89 (dk_at dksX0_counter_0 14 rfl rfl)
theorem dX0_counter_15 : decode cX0_counter 15 = .ok (.invokespecial 38, 3) := dk_183 0 38 (dk_at dksX0_counter_0 15 rfl rfl)
theorem dX0_counter_18 : decode cX0_counter 18 = .ok (.new 36, 3) := dk_187 0 36 (dk_at dksX0_counter_0 18 rfl rfl)
theorem dX0_counter_21 : decode cX0_counter 21 = .ok (.dup, 1) := dk_89 (dk_at dksX0_counter_0 21 rfl rfl)
theorem dX0_counter_22 : decode cX0_counter 22 = .ok (.invokespecial 38, 3) := dk_183 0 38 (dk_at dksX0_counter_1 0 rfl rfl)
theorem dX0_counter_25 : decode cX0_counter 25 = .ok (.invokespecial 33, 3) := dk_183 0 33 (dk_at dksX0_counter_1 3 rfl rfl)
theorem dX0_counter_28 : decode cX0_counter 28 = .ok (.areturn, 1) := dk_176 (dk_at dksX0_counter_1 6 rfl rfl)
abbrev cX0_keyStates : ByteArray := prog_1_method_5_code
def yX0_keyStates : MethodName := ⟨RX0, "keyStates", "()LPipelineSimulator$Versions;"⟩
def dkwX0_keyStates_1 : List UInt8 := [183, 0, 30, 183, 0, 33, 176]
abbrev dktX0_keyStates_1 : List UInt8 := dkwX0_keyStates_1 ++ []
def dkwX0_keyStates_0 : List UInt8 := [187, 0, 17, 89, 187, 0, 28, 89, 183, 0, 30, 187, 0, 28, 89, 183, 0, 30, 187, 0, 28, 89]
abbrev dktX0_keyStates_0 : List UInt8 := dkwX0_keyStates_0 ++ dktX0_keyStates_1
theorem dksX0_keyStates_0 : cX0_keyStates.data.toList.drop 0 = dktX0_keyStates_0 := by decide +kernel
theorem dksX0_keyStates_1 : cX0_keyStates.data.toList.drop 22 = dktX0_keyStates_1 := dk_seg dksX0_keyStates_0 22 rfl rfl
theorem dX0_keyStates_0 : decode cX0_keyStates 0 = .ok (.new 17, 3) := dk_187 0 17 (dk_at dksX0_keyStates_0 0 rfl rfl)
theorem dX0_keyStates_3 : decode cX0_keyStates 3 = .ok (.dup, 1) := dk_89 (dk_at dksX0_keyStates_0 3 rfl rfl)
theorem dX0_keyStates_4 : decode cX0_keyStates 4 = .ok (.new 28, 3) := dk_187 0 28 (dk_at dksX0_keyStates_0 4 rfl rfl)
theorem dX0_keyStates_7 : decode cX0_keyStates 7 = .ok (.dup, 1) := dk_89 (dk_at dksX0_keyStates_0 7 rfl rfl)
theorem dX0_keyStates_8 : decode cX0_keyStates 8 = .ok (.invokespecial 30, 3) := dk_183 0 30 (dk_at dksX0_keyStates_0 8 rfl rfl)
theorem dX0_keyStates_11 : decode cX0_keyStates 11 = .ok (.new 28, 3) := dk_187 0 28 (dk_at dksX0_keyStates_0 11 rfl rfl)
theorem dX0_keyStates_14 : decode cX0_keyStates 14 = .ok (.dup, 1) := dk_89 (dk_at dksX0_keyStates_0 14 rfl rfl)
theorem dX0_keyStates_15 : decode cX0_keyStates 15 = .ok (.invokespecial 30, 3) := dk_183 0 30 (dk_at dksX0_keyStates_0 15 rfl rfl)
theorem dX0_keyStates_18 : decode cX0_keyStates 18 = .ok (.new 28, 3) := dk_187 0 28 (dk_at dksX0_keyStates_0 18 rfl rfl)
theorem dX0_keyStates_21 : decode cX0_keyStates 21 = .ok (.dup, 1) := dk_89 (dk_at dksX0_keyStates_0 21 rfl rfl)
theorem dX0_keyStates_22 : decode cX0_keyStates 22 = .ok (.invokespecial 30, 3) := dk_183 0 30 (dk_at dksX0_keyStates_1 0 rfl rfl)
theorem dX0_keyStates_25 : decode cX0_keyStates 25 = .ok (.invokespecial 33, 3) := dk_183 0 33 (dk_at dksX0_keyStates_1 3 rfl rfl)
theorem dX0_keyStates_28 : decode cX0_keyStates 28 = .ok (.areturn, 1) := dk_176 (dk_at dksX0_keyStates_1 6 rfl rfl)
abbrev cX0_build : ByteArray := prog_1_method_11_code
def yX0_build : MethodName := ⟨RX0, "build", "()V"⟩
def dkwX0_build_10 : List UInt8 := [42, 183, 0, 199, 83, 132, 3, 1, 167, 255, 222, 132, 2, 1, 167, 255, 183, 132, 1, 1, 167, 255, 146, 177]
abbrev dktX0_build_10 : List UInt8 := dkwX0_build_10 ++ []
def dkwX0_build_9 : List UInt8 := [180, 0, 138, 27, 50, 28, 50, 190, 162, 0, 27, 42, 180, 0, 138, 27, 50, 28, 50, 29, 187, 0, 197, 89]
abbrev dktX0_build_9 : List UInt8 := dkwX0_build_9 ++ dktX0_build_10
def dkwX0_build_8 : List UInt8 := [180, 0, 138, 27, 50, 28, 42, 180, 0, 132, 27, 4, 96, 50, 190, 189, 0, 197, 83, 3, 62, 29, 42]
abbrev dktX0_build_8 : List UInt8 := dkwX0_build_8 ++ dktX0_build_9
def dkwX0_build_7 : List UInt8 := [180, 0, 132, 27, 50, 190, 189, 0, 195, 83, 3, 61, 28, 42, 180, 0, 138, 27, 50, 190, 162, 0, 68, 42]
abbrev dktX0_build_7 : List UInt8 := dkwX0_build_7 ++ dktX0_build_8
def dkwX0_build_6 : List UInt8 := [167, 255, 141, 3, 60, 27, 4, 96, 42, 180, 0, 115, 182, 0, 174, 162, 0, 103, 42, 180, 0, 138, 27, 42]
abbrev dktX0_build_6 : List UInt8 := dkwX0_build_6 ++ dktX0_build_7
def dkwX0_build_5 : List UInt8 := [180, 0, 132, 27, 50, 28, 50, 180, 0, 193, 182, 0, 152, 87, 132, 2, 1, 167, 255, 205, 132, 1, 1]
abbrev dktX0_build_5 : List UInt8 := dkwX0_build_5 ++ dktX0_build_6
def dkwX0_build_4 : List UInt8 := [180, 0, 132, 27, 50, 28, 187, 0, 185, 89, 42, 27, 28, 183, 0, 190, 83, 42, 180, 0, 127, 42]
abbrev dktX0_build_4 : List UInt8 := dkwX0_build_4 ++ dktX0_build_5
def dkwX0_build_3 : List UInt8 := [192, 0, 181, 180, 0, 187, 182, 0, 152, 87, 3, 61, 28, 42, 180, 0, 132, 27, 50, 190, 162, 0, 46, 42]
abbrev dktX0_build_3 : List UInt8 := dkwX0_build_3 ++ dktX0_build_4
def dkwX0_build_2 : List UInt8 := [192, 0, 181, 180, 0, 183, 189, 0, 185, 83, 42, 180, 0, 127, 42, 180, 0, 115, 27, 182, 0, 177]
abbrev dktX0_build_2 : List UInt8 := dkwX0_build_2 ++ dktX0_build_3
def dkwX0_build_1 : List UInt8 := [180, 0, 115, 182, 0, 174, 162, 0, 110, 42, 180, 0, 132, 27, 42, 180, 0, 115, 27, 182, 0, 177]
abbrev dktX0_build_1 : List UInt8 := dkwX0_build_1 ++ dktX0_build_2
def dkwX0_build_0 : List UInt8 := [42, 180, 0, 127, 182, 0, 172, 42, 180, 0, 127, 42, 180, 0, 123, 182, 0, 152, 87, 3, 60, 27, 42]
abbrev dktX0_build_0 : List UInt8 := dkwX0_build_0 ++ dktX0_build_1
theorem dksX0_build_0 : cX0_build.data.toList.drop 0 = dktX0_build_0 := by decide +kernel
theorem dksX0_build_1 : cX0_build.data.toList.drop 23 = dktX0_build_1 := dk_seg dksX0_build_0 23 rfl rfl
theorem dksX0_build_2 : cX0_build.data.toList.drop 45 = dktX0_build_2 := dk_seg dksX0_build_1 22 rfl rfl
theorem dksX0_build_3 : cX0_build.data.toList.drop 67 = dktX0_build_3 := dk_seg dksX0_build_2 22 rfl rfl
theorem dksX0_build_4 : cX0_build.data.toList.drop 91 = dktX0_build_4 := dk_seg dksX0_build_3 24 rfl rfl
theorem dksX0_build_5 : cX0_build.data.toList.drop 113 = dktX0_build_5 := dk_seg dksX0_build_4 22 rfl rfl
theorem dksX0_build_6 : cX0_build.data.toList.drop 136 = dktX0_build_6 := dk_seg dksX0_build_5 23 rfl rfl
theorem dksX0_build_7 : cX0_build.data.toList.drop 160 = dktX0_build_7 := dk_seg dksX0_build_6 24 rfl rfl
theorem dksX0_build_8 : cX0_build.data.toList.drop 184 = dktX0_build_8 := dk_seg dksX0_build_7 24 rfl rfl
theorem dksX0_build_9 : cX0_build.data.toList.drop 207 = dktX0_build_9 := dk_seg dksX0_build_8 23 rfl rfl
theorem dksX0_build_10 : cX0_build.data.toList.drop 231 = dktX0_build_10 := dk_seg dksX0_build_9 24 rfl rfl
theorem dX0_build_0 : decode cX0_build 0 = .ok (.aload_n 0, 1) := dk_42 (dk_at dksX0_build_0 0 rfl rfl)
theorem dX0_build_1 : decode cX0_build 1 = .ok (.getfield 127, 3) := dk_180 0 127 (dk_at dksX0_build_0 1 rfl rfl)
theorem dX0_build_4 : decode cX0_build 4 = .ok (.invokevirtual 172, 3) := dk_182 0 172 (dk_at dksX0_build_0 4 rfl rfl)
theorem dX0_build_7 : decode cX0_build 7 = .ok (.aload_n 0, 1) := dk_42 (dk_at dksX0_build_0 7 rfl rfl)
theorem dX0_build_8 : decode cX0_build 8 = .ok (.getfield 127, 3) := dk_180 0 127 (dk_at dksX0_build_0 8 rfl rfl)
theorem dX0_build_11 : decode cX0_build 11 = .ok (.aload_n 0, 1) := dk_42 (dk_at dksX0_build_0 11 rfl rfl)
theorem dX0_build_12 : decode cX0_build 12 = .ok (.getfield 123, 3) := dk_180 0 123 (dk_at dksX0_build_0 12 rfl rfl)
theorem dX0_build_15 : decode cX0_build 15 = .ok (.invokevirtual 152, 3) := dk_182 0 152 (dk_at dksX0_build_0 15 rfl rfl)
theorem dX0_build_18 : decode cX0_build 18 = .ok (.pop, 1) := dk_87 (dk_at dksX0_build_0 18 rfl rfl)
theorem dX0_build_19 : decode cX0_build 19 = .ok (.iconst 0, 1) := dk_3 (dk_at dksX0_build_0 19 rfl rfl)
theorem dX0_build_20 : decode cX0_build 20 = .ok (.istore_n 1, 1) := dk_60 (dk_at dksX0_build_0 20 rfl rfl)
theorem dX0_build_21 : decode cX0_build 21 = .ok (.iload_n 1, 1) := dk_27 (dk_at dksX0_build_0 21 rfl rfl)
theorem dX0_build_22 : decode cX0_build 22 = .ok (.aload_n 0, 1) := dk_42 (dk_at dksX0_build_0 22 rfl rfl)
theorem dX0_build_23 : decode cX0_build 23 = .ok (.getfield 115, 3) := dk_180 0 115 (dk_at dksX0_build_1 0 rfl rfl)
theorem dX0_build_26 : decode cX0_build 26 = .ok (.invokevirtual 174, 3) := dk_182 0 174 (dk_at dksX0_build_1 3 rfl rfl)
theorem dX0_build_29 : decode cX0_build 29 = .ok (.if_icmp .ge 110, 3) := dk_162 0 110 (dk_at dksX0_build_1 6 rfl rfl)
theorem dX0_build_32 : decode cX0_build 32 = .ok (.aload_n 0, 1) := dk_42 (dk_at dksX0_build_1 9 rfl rfl)
theorem dX0_build_33 : decode cX0_build 33 = .ok (.getfield 132, 3) := dk_180 0 132 (dk_at dksX0_build_1 10 rfl rfl)
theorem dX0_build_36 : decode cX0_build 36 = .ok (.iload_n 1, 1) := dk_27 (dk_at dksX0_build_1 13 rfl rfl)
theorem dX0_build_37 : decode cX0_build 37 = .ok (.aload_n 0, 1) := dk_42 (dk_at dksX0_build_1 14 rfl rfl)
theorem dX0_build_38 : decode cX0_build 38 = .ok (.getfield 115, 3) := dk_180 0 115 (dk_at dksX0_build_1 15 rfl rfl)
theorem dX0_build_41 : decode cX0_build 41 = .ok (.iload_n 1, 1) := dk_27 (dk_at dksX0_build_1 18 rfl rfl)
theorem dX0_build_42 : decode cX0_build 42 = .ok (.invokevirtual 177, 3) := dk_182 0 177 (dk_at dksX0_build_1 19 rfl rfl)
theorem dX0_build_45 : decode cX0_build 45 = .ok (.checkcast 181, 3) := dk_192 0 181 (dk_at dksX0_build_2 0 rfl rfl)
theorem dX0_build_48 : decode cX0_build 48 = .ok (.getfield 183, 3) := dk_180 0 183 (dk_at dksX0_build_2 3 rfl rfl)
theorem dX0_build_51 : decode cX0_build 51 = .ok (.anewarray 185, 3) := dk_189 0 185 (dk_at dksX0_build_2 6 rfl rfl)
theorem dX0_build_54 : decode cX0_build 54 = .ok (.aastore, 1) := dk_83 (dk_at dksX0_build_2 9 rfl rfl)
theorem dX0_build_55 : decode cX0_build 55 = .ok (.aload_n 0, 1) := dk_42 (dk_at dksX0_build_2 10 rfl rfl)
theorem dX0_build_56 : decode cX0_build 56 = .ok (.getfield 127, 3) := dk_180 0 127 (dk_at dksX0_build_2 11 rfl rfl)
theorem dX0_build_59 : decode cX0_build 59 = .ok (.aload_n 0, 1) := dk_42 (dk_at dksX0_build_2 14 rfl rfl)
theorem dX0_build_60 : decode cX0_build 60 = .ok (.getfield 115, 3) := dk_180 0 115 (dk_at dksX0_build_2 15 rfl rfl)
theorem dX0_build_63 : decode cX0_build 63 = .ok (.iload_n 1, 1) := dk_27 (dk_at dksX0_build_2 18 rfl rfl)
theorem dX0_build_64 : decode cX0_build 64 = .ok (.invokevirtual 177, 3) := dk_182 0 177 (dk_at dksX0_build_2 19 rfl rfl)
theorem dX0_build_67 : decode cX0_build 67 = .ok (.checkcast 181, 3) := dk_192 0 181 (dk_at dksX0_build_3 0 rfl rfl)
theorem dX0_build_70 : decode cX0_build 70 = .ok (.getfield 187, 3) := dk_180 0 187 (dk_at dksX0_build_3 3 rfl rfl)
theorem dX0_build_73 : decode cX0_build 73 = .ok (.invokevirtual 152, 3) := dk_182 0 152 (dk_at dksX0_build_3 6 rfl rfl)
theorem dX0_build_76 : decode cX0_build 76 = .ok (.pop, 1) := dk_87 (dk_at dksX0_build_3 9 rfl rfl)
theorem dX0_build_77 : decode cX0_build 77 = .ok (.iconst 0, 1) := dk_3 (dk_at dksX0_build_3 10 rfl rfl)
theorem dX0_build_78 : decode cX0_build 78 = .ok (.istore_n 2, 1) := dk_61 (dk_at dksX0_build_3 11 rfl rfl)
theorem dX0_build_79 : decode cX0_build 79 = .ok (.iload_n 2, 1) := dk_28 (dk_at dksX0_build_3 12 rfl rfl)
theorem dX0_build_80 : decode cX0_build 80 = .ok (.aload_n 0, 1) := dk_42 (dk_at dksX0_build_3 13 rfl rfl)
theorem dX0_build_81 : decode cX0_build 81 = .ok (.getfield 132, 3) := dk_180 0 132 (dk_at dksX0_build_3 14 rfl rfl)
theorem dX0_build_84 : decode cX0_build 84 = .ok (.iload_n 1, 1) := dk_27 (dk_at dksX0_build_3 17 rfl rfl)
theorem dX0_build_85 : decode cX0_build 85 = .ok (.aaload, 1) := dk_50 (dk_at dksX0_build_3 18 rfl rfl)
theorem dX0_build_86 : decode cX0_build 86 = .ok (.arraylength, 1) := dk_190 (dk_at dksX0_build_3 19 rfl rfl)
theorem dX0_build_87 : decode cX0_build 87 = .ok (.if_icmp .ge 46, 3) := dk_162 0 46 (dk_at dksX0_build_3 20 rfl rfl)
theorem dX0_build_90 : decode cX0_build 90 = .ok (.aload_n 0, 1) := dk_42 (dk_at dksX0_build_3 23 rfl rfl)
theorem dX0_build_91 : decode cX0_build 91 = .ok (.getfield 132, 3) := dk_180 0 132 (dk_at dksX0_build_4 0 rfl rfl)
theorem dX0_build_94 : decode cX0_build 94 = .ok (.iload_n 1, 1) := dk_27 (dk_at dksX0_build_4 3 rfl rfl)
theorem dX0_build_95 : decode cX0_build 95 = .ok (.aaload, 1) := dk_50 (dk_at dksX0_build_4 4 rfl rfl)
theorem dX0_build_96 : decode cX0_build 96 = .ok (.iload_n 2, 1) := dk_28 (dk_at dksX0_build_4 5 rfl rfl)
theorem dX0_build_97 : decode cX0_build 97 = .ok (.new 185, 3) := dk_187 0 185 (dk_at dksX0_build_4 6 rfl rfl)
theorem dX0_build_100 : decode cX0_build 100 = .ok (.dup, 1) := dk_89 (dk_at dksX0_build_4 9 rfl rfl)
theorem dX0_build_101 : decode cX0_build 101 = .ok (.aload_n 0, 1) := dk_42 (dk_at dksX0_build_4 10 rfl rfl)
theorem dX0_build_102 : decode cX0_build 102 = .ok (.iload_n 1, 1) := dk_27 (dk_at dksX0_build_4 11 rfl rfl)
theorem dX0_build_103 : decode cX0_build 103 = .ok (.iload_n 2, 1) := dk_28 (dk_at dksX0_build_4 12 rfl rfl)
theorem dX0_build_104 : decode cX0_build 104 = .ok (.invokespecial 190, 3) := dk_183 0 190 (dk_at dksX0_build_4 13 rfl rfl)
theorem dX0_build_107 : decode cX0_build 107 = .ok (.aastore, 1) := dk_83 (dk_at dksX0_build_4 16 rfl rfl)
theorem dX0_build_108 : decode cX0_build 108 = .ok (.aload_n 0, 1) := dk_42 (dk_at dksX0_build_4 17 rfl rfl)
theorem dX0_build_109 : decode cX0_build 109 = .ok (.getfield 127, 3) := dk_180 0 127 (dk_at dksX0_build_4 18 rfl rfl)
theorem dX0_build_112 : decode cX0_build 112 = .ok (.aload_n 0, 1) := dk_42 (dk_at dksX0_build_4 21 rfl rfl)
theorem dX0_build_113 : decode cX0_build 113 = .ok (.getfield 132, 3) := dk_180 0 132 (dk_at dksX0_build_5 0 rfl rfl)
theorem dX0_build_116 : decode cX0_build 116 = .ok (.iload_n 1, 1) := dk_27 (dk_at dksX0_build_5 3 rfl rfl)
theorem dX0_build_117 : decode cX0_build 117 = .ok (.aaload, 1) := dk_50 (dk_at dksX0_build_5 4 rfl rfl)
theorem dX0_build_118 : decode cX0_build 118 = .ok (.iload_n 2, 1) := dk_28 (dk_at dksX0_build_5 5 rfl rfl)
theorem dX0_build_119 : decode cX0_build 119 = .ok (.aaload, 1) := dk_50 (dk_at dksX0_build_5 6 rfl rfl)
theorem dX0_build_120 : decode cX0_build 120 = .ok (.getfield 193, 3) := dk_180 0 193 (dk_at dksX0_build_5 7 rfl rfl)
theorem dX0_build_123 : decode cX0_build 123 = .ok (.invokevirtual 152, 3) := dk_182 0 152 (dk_at dksX0_build_5 10 rfl rfl)
theorem dX0_build_126 : decode cX0_build 126 = .ok (.pop, 1) := dk_87 (dk_at dksX0_build_5 13 rfl rfl)
theorem dX0_build_127 : decode cX0_build 127 = .ok (.iinc 2 1, 3) := dk_132 2 1 (dk_at dksX0_build_5 14 rfl rfl)
theorem dX0_build_130 : decode cX0_build 130 = .ok (.goto (-51), 3) := dk_167 255 205 (dk_at dksX0_build_5 17 rfl rfl)
theorem dX0_build_133 : decode cX0_build 133 = .ok (.iinc 1 1, 3) := dk_132 1 1 (dk_at dksX0_build_5 20 rfl rfl)
theorem dX0_build_136 : decode cX0_build 136 = .ok (.goto (-115), 3) := dk_167 255 141 (dk_at dksX0_build_6 0 rfl rfl)
theorem dX0_build_139 : decode cX0_build 139 = .ok (.iconst 0, 1) := dk_3 (dk_at dksX0_build_6 3 rfl rfl)
theorem dX0_build_140 : decode cX0_build 140 = .ok (.istore_n 1, 1) := dk_60 (dk_at dksX0_build_6 4 rfl rfl)
theorem dX0_build_141 : decode cX0_build 141 = .ok (.iload_n 1, 1) := dk_27 (dk_at dksX0_build_6 5 rfl rfl)
theorem dX0_build_142 : decode cX0_build 142 = .ok (.iconst 1, 1) := dk_4 (dk_at dksX0_build_6 6 rfl rfl)
theorem dX0_build_143 : decode cX0_build 143 = .ok (.iadd, 1) := dk_96 (dk_at dksX0_build_6 7 rfl rfl)
theorem dX0_build_144 : decode cX0_build 144 = .ok (.aload_n 0, 1) := dk_42 (dk_at dksX0_build_6 8 rfl rfl)
theorem dX0_build_145 : decode cX0_build 145 = .ok (.getfield 115, 3) := dk_180 0 115 (dk_at dksX0_build_6 9 rfl rfl)
theorem dX0_build_148 : decode cX0_build 148 = .ok (.invokevirtual 174, 3) := dk_182 0 174 (dk_at dksX0_build_6 12 rfl rfl)
theorem dX0_build_151 : decode cX0_build 151 = .ok (.if_icmp .ge 103, 3) := dk_162 0 103 (dk_at dksX0_build_6 15 rfl rfl)
theorem dX0_build_154 : decode cX0_build 154 = .ok (.aload_n 0, 1) := dk_42 (dk_at dksX0_build_6 18 rfl rfl)
theorem dX0_build_155 : decode cX0_build 155 = .ok (.getfield 138, 3) := dk_180 0 138 (dk_at dksX0_build_6 19 rfl rfl)
theorem dX0_build_158 : decode cX0_build 158 = .ok (.iload_n 1, 1) := dk_27 (dk_at dksX0_build_6 22 rfl rfl)
theorem dX0_build_159 : decode cX0_build 159 = .ok (.aload_n 0, 1) := dk_42 (dk_at dksX0_build_6 23 rfl rfl)
theorem dX0_build_160 : decode cX0_build 160 = .ok (.getfield 132, 3) := dk_180 0 132 (dk_at dksX0_build_7 0 rfl rfl)
theorem dX0_build_163 : decode cX0_build 163 = .ok (.iload_n 1, 1) := dk_27 (dk_at dksX0_build_7 3 rfl rfl)
theorem dX0_build_164 : decode cX0_build 164 = .ok (.aaload, 1) := dk_50 (dk_at dksX0_build_7 4 rfl rfl)
theorem dX0_build_165 : decode cX0_build 165 = .ok (.arraylength, 1) := dk_190 (dk_at dksX0_build_7 5 rfl rfl)
theorem dX0_build_166 : decode cX0_build 166 = .ok (.anewarray 195, 3) := dk_189 0 195 (dk_at dksX0_build_7 6 rfl rfl)
theorem dX0_build_169 : decode cX0_build 169 = .ok (.aastore, 1) := dk_83 (dk_at dksX0_build_7 9 rfl rfl)
theorem dX0_build_170 : decode cX0_build 170 = .ok (.iconst 0, 1) := dk_3 (dk_at dksX0_build_7 10 rfl rfl)
theorem dX0_build_171 : decode cX0_build 171 = .ok (.istore_n 2, 1) := dk_61 (dk_at dksX0_build_7 11 rfl rfl)
theorem dX0_build_172 : decode cX0_build 172 = .ok (.iload_n 2, 1) := dk_28 (dk_at dksX0_build_7 12 rfl rfl)
theorem dX0_build_173 : decode cX0_build 173 = .ok (.aload_n 0, 1) := dk_42 (dk_at dksX0_build_7 13 rfl rfl)
theorem dX0_build_174 : decode cX0_build 174 = .ok (.getfield 138, 3) := dk_180 0 138 (dk_at dksX0_build_7 14 rfl rfl)
theorem dX0_build_177 : decode cX0_build 177 = .ok (.iload_n 1, 1) := dk_27 (dk_at dksX0_build_7 17 rfl rfl)
theorem dX0_build_178 : decode cX0_build 178 = .ok (.aaload, 1) := dk_50 (dk_at dksX0_build_7 18 rfl rfl)
theorem dX0_build_179 : decode cX0_build 179 = .ok (.arraylength, 1) := dk_190 (dk_at dksX0_build_7 19 rfl rfl)
theorem dX0_build_180 : decode cX0_build 180 = .ok (.if_icmp .ge 68, 3) := dk_162 0 68 (dk_at dksX0_build_7 20 rfl rfl)
theorem dX0_build_183 : decode cX0_build 183 = .ok (.aload_n 0, 1) := dk_42 (dk_at dksX0_build_7 23 rfl rfl)
theorem dX0_build_184 : decode cX0_build 184 = .ok (.getfield 138, 3) := dk_180 0 138 (dk_at dksX0_build_8 0 rfl rfl)
theorem dX0_build_187 : decode cX0_build 187 = .ok (.iload_n 1, 1) := dk_27 (dk_at dksX0_build_8 3 rfl rfl)
theorem dX0_build_188 : decode cX0_build 188 = .ok (.aaload, 1) := dk_50 (dk_at dksX0_build_8 4 rfl rfl)
theorem dX0_build_189 : decode cX0_build 189 = .ok (.iload_n 2, 1) := dk_28 (dk_at dksX0_build_8 5 rfl rfl)
theorem dX0_build_190 : decode cX0_build 190 = .ok (.aload_n 0, 1) := dk_42 (dk_at dksX0_build_8 6 rfl rfl)
theorem dX0_build_191 : decode cX0_build 191 = .ok (.getfield 132, 3) := dk_180 0 132 (dk_at dksX0_build_8 7 rfl rfl)
theorem dX0_build_194 : decode cX0_build 194 = .ok (.iload_n 1, 1) := dk_27 (dk_at dksX0_build_8 10 rfl rfl)
theorem dX0_build_195 : decode cX0_build 195 = .ok (.iconst 1, 1) := dk_4 (dk_at dksX0_build_8 11 rfl rfl)
theorem dX0_build_196 : decode cX0_build 196 = .ok (.iadd, 1) := dk_96 (dk_at dksX0_build_8 12 rfl rfl)
theorem dX0_build_197 : decode cX0_build 197 = .ok (.aaload, 1) := dk_50 (dk_at dksX0_build_8 13 rfl rfl)
theorem dX0_build_198 : decode cX0_build 198 = .ok (.arraylength, 1) := dk_190 (dk_at dksX0_build_8 14 rfl rfl)
theorem dX0_build_199 : decode cX0_build 199 = .ok (.anewarray 197, 3) := dk_189 0 197 (dk_at dksX0_build_8 15 rfl rfl)
theorem dX0_build_202 : decode cX0_build 202 = .ok (.aastore, 1) := dk_83 (dk_at dksX0_build_8 18 rfl rfl)
theorem dX0_build_203 : decode cX0_build 203 = .ok (.iconst 0, 1) := dk_3 (dk_at dksX0_build_8 19 rfl rfl)
theorem dX0_build_204 : decode cX0_build 204 = .ok (.istore_n 3, 1) := dk_62 (dk_at dksX0_build_8 20 rfl rfl)
theorem dX0_build_205 : decode cX0_build 205 = .ok (.iload_n 3, 1) := dk_29 (dk_at dksX0_build_8 21 rfl rfl)
theorem dX0_build_206 : decode cX0_build 206 = .ok (.aload_n 0, 1) := dk_42 (dk_at dksX0_build_8 22 rfl rfl)
theorem dX0_build_207 : decode cX0_build 207 = .ok (.getfield 138, 3) := dk_180 0 138 (dk_at dksX0_build_9 0 rfl rfl)
theorem dX0_build_210 : decode cX0_build 210 = .ok (.iload_n 1, 1) := dk_27 (dk_at dksX0_build_9 3 rfl rfl)
theorem dX0_build_211 : decode cX0_build 211 = .ok (.aaload, 1) := dk_50 (dk_at dksX0_build_9 4 rfl rfl)
theorem dX0_build_212 : decode cX0_build 212 = .ok (.iload_n 2, 1) := dk_28 (dk_at dksX0_build_9 5 rfl rfl)
theorem dX0_build_213 : decode cX0_build 213 = .ok (.aaload, 1) := dk_50 (dk_at dksX0_build_9 6 rfl rfl)
theorem dX0_build_214 : decode cX0_build 214 = .ok (.arraylength, 1) := dk_190 (dk_at dksX0_build_9 7 rfl rfl)
theorem dX0_build_215 : decode cX0_build 215 = .ok (.if_icmp .ge 27, 3) := dk_162 0 27 (dk_at dksX0_build_9 8 rfl rfl)
theorem dX0_build_218 : decode cX0_build 218 = .ok (.aload_n 0, 1) := dk_42 (dk_at dksX0_build_9 11 rfl rfl)
theorem dX0_build_219 : decode cX0_build 219 = .ok (.getfield 138, 3) := dk_180 0 138 (dk_at dksX0_build_9 12 rfl rfl)
theorem dX0_build_222 : decode cX0_build 222 = .ok (.iload_n 1, 1) := dk_27 (dk_at dksX0_build_9 15 rfl rfl)
theorem dX0_build_223 : decode cX0_build 223 = .ok (.aaload, 1) := dk_50 (dk_at dksX0_build_9 16 rfl rfl)
theorem dX0_build_224 : decode cX0_build 224 = .ok (.iload_n 2, 1) := dk_28 (dk_at dksX0_build_9 17 rfl rfl)
theorem dX0_build_225 : decode cX0_build 225 = .ok (.aaload, 1) := dk_50 (dk_at dksX0_build_9 18 rfl rfl)
theorem dX0_build_226 : decode cX0_build 226 = .ok (.iload_n 3, 1) := dk_29 (dk_at dksX0_build_9 19 rfl rfl)
theorem dX0_build_227 : decode cX0_build 227 = .ok (.new 197, 3) := dk_187 0 197 (dk_at dksX0_build_9 20 rfl rfl)
theorem dX0_build_230 : decode cX0_build 230 = .ok (.dup, 1) := dk_89 (dk_at dksX0_build_9 23 rfl rfl)
theorem dX0_build_231 : decode cX0_build 231 = .ok (.aload_n 0, 1) := dk_42 (dk_at dksX0_build_10 0 rfl rfl)
theorem dX0_build_232 : decode cX0_build 232 = .ok (.invokespecial 199, 3) := dk_183 0 199 (dk_at dksX0_build_10 1 rfl rfl)
theorem dX0_build_235 : decode cX0_build 235 = .ok (.aastore, 1) := dk_83 (dk_at dksX0_build_10 4 rfl rfl)
theorem dX0_build_236 : decode cX0_build 236 = .ok (.iinc 3 1, 3) := dk_132 3 1 (dk_at dksX0_build_10 5 rfl rfl)
theorem dX0_build_239 : decode cX0_build 239 = .ok (.goto (-34), 3) := dk_167 255 222 (dk_at dksX0_build_10 8 rfl rfl)
theorem dX0_build_242 : decode cX0_build 242 = .ok (.iinc 2 1, 3) := dk_132 2 1 (dk_at dksX0_build_10 11 rfl rfl)
theorem dX0_build_245 : decode cX0_build 245 = .ok (.goto (-73), 3) := dk_167 255 183 (dk_at dksX0_build_10 14 rfl rfl)
theorem dX0_build_248 : decode cX0_build 248 = .ok (.iinc 1 1, 3) := dk_132 1 1 (dk_at dksX0_build_10 17 rfl rfl)
theorem dX0_build_251 : decode cX0_build 251 = .ok (.goto (-110), 3) := dk_167 255 146 (dk_at dksX0_build_10 20 rfl rfl)
theorem dX0_build_254 : decode cX0_build 254 = .ok (.return_, 1) := dk_177 (dk_at dksX0_build_10 23 rfl rfl)
abbrev cX0_batch : ByteArray := prog_1_method_8_code
def yX0_batch : MethodName := ⟨RX0, "batch", "()LPipelineSimulator$Batch;"⟩
def dkwX0_batch_1 : List UInt8 := [182, 0, 81, 192, 0, 78, 182, 0, 84, 176]
abbrev dktX0_batch_1 : List UInt8 := dkwX0_batch_1 ++ []
def dkwX0_batch_0 : List UInt8 := [42, 180, 0, 69, 182, 0, 73, 153, 0, 13, 187, 0, 78, 89, 183, 0, 80, 167, 0, 16, 42, 180, 0, 69]
abbrev dktX0_batch_0 : List UInt8 := dkwX0_batch_0 ++ dktX0_batch_1
theorem dksX0_batch_0 : cX0_batch.data.toList.drop 0 = dktX0_batch_0 := by decide +kernel
theorem dksX0_batch_1 : cX0_batch.data.toList.drop 24 = dktX0_batch_1 := dk_seg dksX0_batch_0 24 rfl rfl
theorem dX0_batch_0 : decode cX0_batch 0 = .ok (.aload_n 0, 1) := dk_42 (dk_at dksX0_batch_0 0 rfl rfl)
theorem dX0_batch_1 : decode cX0_batch 1 = .ok (.getfield 69, 3) := dk_180 0 69 (dk_at dksX0_batch_0 1 rfl rfl)
theorem dX0_batch_4 : decode cX0_batch 4 = .ok (.invokevirtual 73, 3) := dk_182 0 73 (dk_at dksX0_batch_0 4 rfl rfl)
theorem dX0_batch_7 : decode cX0_batch 7 = .ok (.ifCond .eq 13, 3) := dk_153 0 13 (dk_at dksX0_batch_0 7 rfl rfl)
theorem dX0_batch_10 : decode cX0_batch 10 = .ok (.new 78, 3) := dk_187 0 78 (dk_at dksX0_batch_0 10 rfl rfl)
theorem dX0_batch_13 : decode cX0_batch 13 = .ok (.dup, 1) := dk_89 (dk_at dksX0_batch_0 13 rfl rfl)
theorem dX0_batch_14 : decode cX0_batch 14 = .ok (.invokespecial 80, 3) := dk_183 0 80 (dk_at dksX0_batch_0 14 rfl rfl)
theorem dX0_batch_17 : decode cX0_batch 17 = .ok (.goto 16, 3) := dk_167 0 16 (dk_at dksX0_batch_0 17 rfl rfl)
theorem dX0_batch_20 : decode cX0_batch 20 = .ok (.aload_n 0, 1) := dk_42 (dk_at dksX0_batch_0 20 rfl rfl)
theorem dX0_batch_21 : decode cX0_batch 21 = .ok (.getfield 69, 3) := dk_180 0 69 (dk_at dksX0_batch_0 21 rfl rfl)
theorem dX0_batch_24 : decode cX0_batch 24 = .ok (.invokevirtual 81, 3) := dk_182 0 81 (dk_at dksX0_batch_1 0 rfl rfl)
theorem dX0_batch_27 : decode cX0_batch 27 = .ok (.checkcast 78, 3) := dk_192 0 78 (dk_at dksX0_batch_1 3 rfl rfl)
theorem dX0_batch_30 : decode cX0_batch 30 = .ok (.invokevirtual 84, 3) := dk_182 0 84 (dk_at dksX0_batch_1 6 rfl rfl)
theorem dX0_batch_33 : decode cX0_batch 33 = .ok (.areturn, 1) := dk_176 (dk_at dksX0_batch_1 9 rfl rfl)
abbrev cX0_configure : ByteArray := prog_1_method_13_code
def yX0_configure : MethodName := ⟨RX0, "configure", "(IIII)I"⟩
def dkwX0_configure_4 : List UInt8 := [181, 0, 92, 42, 28, 181, 0, 96, 42, 29, 181, 0, 99, 42, 21, 4, 181, 0, 102, 21, 5, 172]
abbrev dktX0_configure_4 : List UInt8 := dkwX0_configure_4 ++ []
def dkwX0_configure_3 : List UInt8 := [180, 0, 96, 96, 16, 10, 104, 42, 180, 0, 99, 96, 16, 10, 104, 42, 180, 0, 102, 96, 54, 5, 42, 27]
abbrev dktX0_configure_3 : List UInt8 := dkwX0_configure_3 ++ dktX0_configure_4
def dkwX0_configure_2 : List UInt8 := [154, 0, 6, 18, 239, 172, 42, 180, 0, 222, 153, 0, 6, 18, 240, 172, 42, 180, 0, 92, 16, 10, 104, 42]
abbrev dktX0_configure_2 : List UInt8 := dkwX0_configure_2 ++ dktX0_configure_3
def dkwX0_configure_1 : List UInt8 := [29, 133, 20, 0, 235, 20, 0, 227, 184, 0, 229, 153, 0, 16, 21, 4, 133, 10, 20, 0, 237, 184, 0, 229]
abbrev dktX0_configure_1 : List UInt8 := dkwX0_configure_1 ++ dktX0_configure_2
def dkwX0_configure_0 : List UInt8 := [27, 133, 10, 20, 0, 227, 184, 0, 229, 153, 0, 42, 28, 133, 10, 20, 0, 233, 184, 0, 229, 153, 0, 30]
abbrev dktX0_configure_0 : List UInt8 := dkwX0_configure_0 ++ dktX0_configure_1
theorem dksX0_configure_0 : cX0_configure.data.toList.drop 0 = dktX0_configure_0 := by decide +kernel
theorem dksX0_configure_1 : cX0_configure.data.toList.drop 24 = dktX0_configure_1 := dk_seg dksX0_configure_0 24 rfl rfl
theorem dksX0_configure_2 : cX0_configure.data.toList.drop 48 = dktX0_configure_2 := dk_seg dksX0_configure_1 24 rfl rfl
theorem dksX0_configure_3 : cX0_configure.data.toList.drop 72 = dktX0_configure_3 := dk_seg dksX0_configure_2 24 rfl rfl
theorem dksX0_configure_4 : cX0_configure.data.toList.drop 96 = dktX0_configure_4 := dk_seg dksX0_configure_3 24 rfl rfl
theorem dX0_configure_0 : decode cX0_configure 0 = .ok (.iload_n 1, 1) := dk_27 (dk_at dksX0_configure_0 0 rfl rfl)
theorem dX0_configure_1 : decode cX0_configure 1 = .ok (.i2l, 1) := dk_133 (dk_at dksX0_configure_0 1 rfl rfl)
theorem dX0_configure_2 : decode cX0_configure 2 = .ok (.lconst 1, 1) := dk_10 (dk_at dksX0_configure_0 2 rfl rfl)
theorem dX0_configure_3 : decode cX0_configure 3 = .ok (.ldc2_w 227, 3) := dk_20 0 227 (dk_at dksX0_configure_0 3 rfl rfl)
theorem dX0_configure_6 : decode cX0_configure 6 = .ok (.invokestatic 229, 3) := dk_184 0 229 (dk_at dksX0_configure_0 6 rfl rfl)
theorem dX0_configure_9 : decode cX0_configure 9 = .ok (.ifCond .eq 42, 3) := dk_153 0 42 (dk_at dksX0_configure_0 9 rfl rfl)
theorem dX0_configure_12 : decode cX0_configure 12 = .ok (.iload_n 2, 1) := dk_28 (dk_at dksX0_configure_0 12 rfl rfl)
theorem dX0_configure_13 : decode cX0_configure 13 = .ok (.i2l, 1) := dk_133 (dk_at dksX0_configure_0 13 rfl rfl)
theorem dX0_configure_14 : decode cX0_configure 14 = .ok (.lconst 1, 1) := dk_10 (dk_at dksX0_configure_0 14 rfl rfl)
theorem dX0_configure_15 : decode cX0_configure 15 = .ok (.ldc2_w 233, 3) := dk_20 0 233 (dk_at dksX0_configure_0 15 rfl rfl)
theorem dX0_configure_18 : decode cX0_configure 18 = .ok (.invokestatic 229, 3) := dk_184 0 229 (dk_at dksX0_configure_0 18 rfl rfl)
theorem dX0_configure_21 : decode cX0_configure 21 = .ok (.ifCond .eq 30, 3) := dk_153 0 30 (dk_at dksX0_configure_0 21 rfl rfl)
theorem dX0_configure_24 : decode cX0_configure 24 = .ok (.iload_n 3, 1) := dk_29 (dk_at dksX0_configure_1 0 rfl rfl)
theorem dX0_configure_25 : decode cX0_configure 25 = .ok (.i2l, 1) := dk_133 (dk_at dksX0_configure_1 1 rfl rfl)
theorem dX0_configure_26 : decode cX0_configure 26 = .ok (.ldc2_w 235, 3) := dk_20 0 235 (dk_at dksX0_configure_1 2 rfl rfl)
theorem dX0_configure_29 : decode cX0_configure 29 = .ok (.ldc2_w 227, 3) := dk_20 0 227 (dk_at dksX0_configure_1 5 rfl rfl)
theorem dX0_configure_32 : decode cX0_configure 32 = .ok (.invokestatic 229, 3) := dk_184 0 229 (dk_at dksX0_configure_1 8 rfl rfl)
theorem dX0_configure_35 : decode cX0_configure 35 = .ok (.ifCond .eq 16, 3) := dk_153 0 16 (dk_at dksX0_configure_1 11 rfl rfl)
theorem dX0_configure_38 : decode cX0_configure 38 = .ok (.iload 4, 2) := dk_21 4 (dk_at dksX0_configure_1 14 rfl rfl)
theorem dX0_configure_40 : decode cX0_configure 40 = .ok (.i2l, 1) := dk_133 (dk_at dksX0_configure_1 16 rfl rfl)
theorem dX0_configure_41 : decode cX0_configure 41 = .ok (.lconst 1, 1) := dk_10 (dk_at dksX0_configure_1 17 rfl rfl)
theorem dX0_configure_42 : decode cX0_configure 42 = .ok (.ldc2_w 237, 3) := dk_20 0 237 (dk_at dksX0_configure_1 18 rfl rfl)
theorem dX0_configure_45 : decode cX0_configure 45 = .ok (.invokestatic 229, 3) := dk_184 0 229 (dk_at dksX0_configure_1 21 rfl rfl)
theorem dX0_configure_48 : decode cX0_configure 48 = .ok (.ifCond .ne 6, 3) := dk_154 0 6 (dk_at dksX0_configure_2 0 rfl rfl)
theorem dX0_configure_51 : decode cX0_configure 51 = .ok (.ldc 239, 2) := dk_18 239 (dk_at dksX0_configure_2 3 rfl rfl)
theorem dX0_configure_53 : decode cX0_configure 53 = .ok (.ireturn, 1) := dk_172 (dk_at dksX0_configure_2 5 rfl rfl)
theorem dX0_configure_54 : decode cX0_configure 54 = .ok (.aload_n 0, 1) := dk_42 (dk_at dksX0_configure_2 6 rfl rfl)
theorem dX0_configure_55 : decode cX0_configure 55 = .ok (.getfield 222, 3) := dk_180 0 222 (dk_at dksX0_configure_2 7 rfl rfl)
theorem dX0_configure_58 : decode cX0_configure 58 = .ok (.ifCond .eq 6, 3) := dk_153 0 6 (dk_at dksX0_configure_2 10 rfl rfl)
theorem dX0_configure_61 : decode cX0_configure 61 = .ok (.ldc 240, 2) := dk_18 240 (dk_at dksX0_configure_2 13 rfl rfl)
theorem dX0_configure_63 : decode cX0_configure 63 = .ok (.ireturn, 1) := dk_172 (dk_at dksX0_configure_2 15 rfl rfl)
theorem dX0_configure_64 : decode cX0_configure 64 = .ok (.aload_n 0, 1) := dk_42 (dk_at dksX0_configure_2 16 rfl rfl)
theorem dX0_configure_65 : decode cX0_configure 65 = .ok (.getfield 92, 3) := dk_180 0 92 (dk_at dksX0_configure_2 17 rfl rfl)
theorem dX0_configure_68 : decode cX0_configure 68 = .ok (.bipush 10, 2) := dk_16 10 (dk_at dksX0_configure_2 20 rfl rfl)
theorem dX0_configure_70 : decode cX0_configure 70 = .ok (.imul, 1) := dk_104 (dk_at dksX0_configure_2 22 rfl rfl)
theorem dX0_configure_71 : decode cX0_configure 71 = .ok (.aload_n 0, 1) := dk_42 (dk_at dksX0_configure_2 23 rfl rfl)
theorem dX0_configure_72 : decode cX0_configure 72 = .ok (.getfield 96, 3) := dk_180 0 96 (dk_at dksX0_configure_3 0 rfl rfl)
theorem dX0_configure_75 : decode cX0_configure 75 = .ok (.iadd, 1) := dk_96 (dk_at dksX0_configure_3 3 rfl rfl)
theorem dX0_configure_76 : decode cX0_configure 76 = .ok (.bipush 10, 2) := dk_16 10 (dk_at dksX0_configure_3 4 rfl rfl)
theorem dX0_configure_78 : decode cX0_configure 78 = .ok (.imul, 1) := dk_104 (dk_at dksX0_configure_3 6 rfl rfl)
theorem dX0_configure_79 : decode cX0_configure 79 = .ok (.aload_n 0, 1) := dk_42 (dk_at dksX0_configure_3 7 rfl rfl)
theorem dX0_configure_80 : decode cX0_configure 80 = .ok (.getfield 99, 3) := dk_180 0 99 (dk_at dksX0_configure_3 8 rfl rfl)
theorem dX0_configure_83 : decode cX0_configure 83 = .ok (.iadd, 1) := dk_96 (dk_at dksX0_configure_3 11 rfl rfl)
theorem dX0_configure_84 : decode cX0_configure 84 = .ok (.bipush 10, 2) := dk_16 10 (dk_at dksX0_configure_3 12 rfl rfl)
theorem dX0_configure_86 : decode cX0_configure 86 = .ok (.imul, 1) := dk_104 (dk_at dksX0_configure_3 14 rfl rfl)
theorem dX0_configure_87 : decode cX0_configure 87 = .ok (.aload_n 0, 1) := dk_42 (dk_at dksX0_configure_3 15 rfl rfl)
theorem dX0_configure_88 : decode cX0_configure 88 = .ok (.getfield 102, 3) := dk_180 0 102 (dk_at dksX0_configure_3 16 rfl rfl)
theorem dX0_configure_91 : decode cX0_configure 91 = .ok (.iadd, 1) := dk_96 (dk_at dksX0_configure_3 19 rfl rfl)
theorem dX0_configure_92 : decode cX0_configure 92 = .ok (.istore 5, 2) := dk_54 5 (dk_at dksX0_configure_3 20 rfl rfl)
theorem dX0_configure_94 : decode cX0_configure 94 = .ok (.aload_n 0, 1) := dk_42 (dk_at dksX0_configure_3 22 rfl rfl)
theorem dX0_configure_95 : decode cX0_configure 95 = .ok (.iload_n 1, 1) := dk_27 (dk_at dksX0_configure_3 23 rfl rfl)
theorem dX0_configure_96 : decode cX0_configure 96 = .ok (.putfield 92, 3) := dk_181 0 92 (dk_at dksX0_configure_4 0 rfl rfl)
theorem dX0_configure_99 : decode cX0_configure 99 = .ok (.aload_n 0, 1) := dk_42 (dk_at dksX0_configure_4 3 rfl rfl)
theorem dX0_configure_100 : decode cX0_configure 100 = .ok (.iload_n 2, 1) := dk_28 (dk_at dksX0_configure_4 4 rfl rfl)
theorem dX0_configure_101 : decode cX0_configure 101 = .ok (.putfield 96, 3) := dk_181 0 96 (dk_at dksX0_configure_4 5 rfl rfl)
theorem dX0_configure_104 : decode cX0_configure 104 = .ok (.aload_n 0, 1) := dk_42 (dk_at dksX0_configure_4 8 rfl rfl)
theorem dX0_configure_105 : decode cX0_configure 105 = .ok (.iload_n 3, 1) := dk_29 (dk_at dksX0_configure_4 9 rfl rfl)
theorem dX0_configure_106 : decode cX0_configure 106 = .ok (.putfield 99, 3) := dk_181 0 99 (dk_at dksX0_configure_4 10 rfl rfl)
theorem dX0_configure_109 : decode cX0_configure 109 = .ok (.aload_n 0, 1) := dk_42 (dk_at dksX0_configure_4 13 rfl rfl)
theorem dX0_configure_110 : decode cX0_configure 110 = .ok (.iload 4, 2) := dk_21 4 (dk_at dksX0_configure_4 14 rfl rfl)
theorem dX0_configure_112 : decode cX0_configure 112 = .ok (.putfield 102, 3) := dk_181 0 102 (dk_at dksX0_configure_4 16 rfl rfl)
theorem dX0_configure_115 : decode cX0_configure 115 = .ok (.iload 5, 2) := dk_21 5 (dk_at dksX0_configure_4 19 rfl rfl)
theorem dX0_configure_117 : decode cX0_configure 117 = .ok (.ireturn, 1) := dk_172 (dk_at dksX0_configure_4 21 rfl rfl)
abbrev cX0_isBetween : ByteArray := prog_1_method_1_code
def yX0_isBetween : MethodName := ⟨RX0, "isBetween", "(JJJ)Z"⟩
def dkwX0_isBetween_0 : List UInt8 := [30, 32, 148, 155, 0, 14, 30, 22, 4, 148, 157, 0, 7, 4, 167, 0, 4, 3, 172]
abbrev dktX0_isBetween_0 : List UInt8 := dkwX0_isBetween_0 ++ []
theorem dksX0_isBetween_0 : cX0_isBetween.data.toList.drop 0 = dktX0_isBetween_0 := by decide +kernel
theorem dX0_isBetween_0 : decode cX0_isBetween 0 = .ok (.lload_n 0, 1) := dk_30 (dk_at dksX0_isBetween_0 0 rfl rfl)
theorem dX0_isBetween_1 : decode cX0_isBetween 1 = .ok (.lload_n 2, 1) := dk_32 (dk_at dksX0_isBetween_0 1 rfl rfl)
theorem dX0_isBetween_2 : decode cX0_isBetween 2 = .ok (.lcmp, 1) := dk_148 (dk_at dksX0_isBetween_0 2 rfl rfl)
theorem dX0_isBetween_3 : decode cX0_isBetween 3 = .ok (.ifCond .lt 14, 3) := dk_155 0 14 (dk_at dksX0_isBetween_0 3 rfl rfl)
theorem dX0_isBetween_6 : decode cX0_isBetween 6 = .ok (.lload_n 0, 1) := dk_30 (dk_at dksX0_isBetween_0 6 rfl rfl)
theorem dX0_isBetween_7 : decode cX0_isBetween 7 = .ok (.lload 4, 2) := dk_22 4 (dk_at dksX0_isBetween_0 7 rfl rfl)
theorem dX0_isBetween_9 : decode cX0_isBetween 9 = .ok (.lcmp, 1) := dk_148 (dk_at dksX0_isBetween_0 9 rfl rfl)
theorem dX0_isBetween_10 : decode cX0_isBetween 10 = .ok (.ifCond .gt 7, 3) := dk_157 0 7 (dk_at dksX0_isBetween_0 10 rfl rfl)
theorem dX0_isBetween_13 : decode cX0_isBetween 13 = .ok (.iconst 1, 1) := dk_4 (dk_at dksX0_isBetween_0 13 rfl rfl)
theorem dX0_isBetween_14 : decode cX0_isBetween 14 = .ok (.goto 4, 3) := dk_167 0 4 (dk_at dksX0_isBetween_0 14 rfl rfl)
theorem dX0_isBetween_17 : decode cX0_isBetween 17 = .ok (.iconst 0, 1) := dk_3 (dk_at dksX0_isBetween_0 17 rfl rfl)
theorem dX0_isBetween_18 : decode cX0_isBetween 18 = .ok (.ireturn, 1) := dk_172 (dk_at dksX0_isBetween_0 18 rfl rfl)
abbrev cX0_push : ByteArray := prog_1_method_14_code
def yX0_push : MethodName := ⟨RX0, "push", "(II)I"⟩
def dkwX0_push_3 : List UInt8 := [181, 0, 247, 42, 180, 0, 247, 172]
abbrev dktX0_push_3 : List UInt8 := dkwX0_push_3 ++ []
def dkwX0_push_2 : List UInt8 := [180, 0, 247, 27, 79, 42, 180, 0, 109, 42, 180, 0, 247, 28, 79, 42, 89, 180, 0, 247, 4, 96]
abbrev dktX0_push_2 : List UInt8 := dkwX0_push_2 ++ dktX0_push_3
def dkwX0_push_1 : List UInt8 := [154, 0, 6, 18, 239, 172, 42, 180, 0, 247, 16, 60, 160, 0, 6, 18, 250, 172, 42, 180, 0, 105, 42]
abbrev dktX0_push_1 : List UInt8 := dkwX0_push_1 ++ dktX0_push_2
def dkwX0_push_0 : List UInt8 := [27, 133, 9, 20, 0, 241, 184, 0, 229, 153, 0, 17, 28, 133, 20, 0, 243, 20, 0, 245, 184, 0, 229]
abbrev dktX0_push_0 : List UInt8 := dkwX0_push_0 ++ dktX0_push_1
theorem dksX0_push_0 : cX0_push.data.toList.drop 0 = dktX0_push_0 := by decide +kernel
theorem dksX0_push_1 : cX0_push.data.toList.drop 23 = dktX0_push_1 := dk_seg dksX0_push_0 23 rfl rfl
theorem dksX0_push_2 : cX0_push.data.toList.drop 46 = dktX0_push_2 := dk_seg dksX0_push_1 23 rfl rfl
theorem dksX0_push_3 : cX0_push.data.toList.drop 68 = dktX0_push_3 := dk_seg dksX0_push_2 22 rfl rfl
theorem dX0_push_0 : decode cX0_push 0 = .ok (.iload_n 1, 1) := dk_27 (dk_at dksX0_push_0 0 rfl rfl)
theorem dX0_push_1 : decode cX0_push 1 = .ok (.i2l, 1) := dk_133 (dk_at dksX0_push_0 1 rfl rfl)
theorem dX0_push_2 : decode cX0_push 2 = .ok (.lconst 0, 1) := dk_9 (dk_at dksX0_push_0 2 rfl rfl)
theorem dX0_push_3 : decode cX0_push 3 = .ok (.ldc2_w 241, 3) := dk_20 0 241 (dk_at dksX0_push_0 3 rfl rfl)
theorem dX0_push_6 : decode cX0_push 6 = .ok (.invokestatic 229, 3) := dk_184 0 229 (dk_at dksX0_push_0 6 rfl rfl)
theorem dX0_push_9 : decode cX0_push 9 = .ok (.ifCond .eq 17, 3) := dk_153 0 17 (dk_at dksX0_push_0 9 rfl rfl)
theorem dX0_push_12 : decode cX0_push 12 = .ok (.iload_n 2, 1) := dk_28 (dk_at dksX0_push_0 12 rfl rfl)
theorem dX0_push_13 : decode cX0_push 13 = .ok (.i2l, 1) := dk_133 (dk_at dksX0_push_0 13 rfl rfl)
theorem dX0_push_14 : decode cX0_push 14 = .ok (.ldc2_w 243, 3) := dk_20 0 243 (dk_at dksX0_push_0 14 rfl rfl)
theorem dX0_push_17 : decode cX0_push 17 = .ok (.ldc2_w 245, 3) := dk_20 0 245 (dk_at dksX0_push_0 17 rfl rfl)
theorem dX0_push_20 : decode cX0_push 20 = .ok (.invokestatic 229, 3) := dk_184 0 229 (dk_at dksX0_push_0 20 rfl rfl)
theorem dX0_push_23 : decode cX0_push 23 = .ok (.ifCond .ne 6, 3) := dk_154 0 6 (dk_at dksX0_push_1 0 rfl rfl)
theorem dX0_push_26 : decode cX0_push 26 = .ok (.ldc 239, 2) := dk_18 239 (dk_at dksX0_push_1 3 rfl rfl)
theorem dX0_push_28 : decode cX0_push 28 = .ok (.ireturn, 1) := dk_172 (dk_at dksX0_push_1 5 rfl rfl)
theorem dX0_push_29 : decode cX0_push 29 = .ok (.aload_n 0, 1) := dk_42 (dk_at dksX0_push_1 6 rfl rfl)
theorem dX0_push_30 : decode cX0_push 30 = .ok (.getfield 247, 3) := dk_180 0 247 (dk_at dksX0_push_1 7 rfl rfl)
theorem dX0_push_33 : decode cX0_push 33 = .ok (.bipush 60, 2) := dk_16 60 (dk_at dksX0_push_1 10 rfl rfl)
theorem dX0_push_35 : decode cX0_push 35 = .ok (.if_icmp .ne 6, 3) := dk_160 0 6 (dk_at dksX0_push_1 12 rfl rfl)
theorem dX0_push_38 : decode cX0_push 38 = .ok (.ldc 250, 2) := dk_18 250 (dk_at dksX0_push_1 15 rfl rfl)
theorem dX0_push_40 : decode cX0_push 40 = .ok (.ireturn, 1) := dk_172 (dk_at dksX0_push_1 17 rfl rfl)
theorem dX0_push_41 : decode cX0_push 41 = .ok (.aload_n 0, 1) := dk_42 (dk_at dksX0_push_1 18 rfl rfl)
theorem dX0_push_42 : decode cX0_push 42 = .ok (.getfield 105, 3) := dk_180 0 105 (dk_at dksX0_push_1 19 rfl rfl)
theorem dX0_push_45 : decode cX0_push 45 = .ok (.aload_n 0, 1) := dk_42 (dk_at dksX0_push_1 22 rfl rfl)
theorem dX0_push_46 : decode cX0_push 46 = .ok (.getfield 247, 3) := dk_180 0 247 (dk_at dksX0_push_2 0 rfl rfl)
theorem dX0_push_49 : decode cX0_push 49 = .ok (.iload_n 1, 1) := dk_27 (dk_at dksX0_push_2 3 rfl rfl)
theorem dX0_push_50 : decode cX0_push 50 = .ok (.iastore, 1) := dk_79 (dk_at dksX0_push_2 4 rfl rfl)
theorem dX0_push_51 : decode cX0_push 51 = .ok (.aload_n 0, 1) := dk_42 (dk_at dksX0_push_2 5 rfl rfl)
theorem dX0_push_52 : decode cX0_push 52 = .ok (.getfield 109, 3) := dk_180 0 109 (dk_at dksX0_push_2 6 rfl rfl)
theorem dX0_push_55 : decode cX0_push 55 = .ok (.aload_n 0, 1) := dk_42 (dk_at dksX0_push_2 9 rfl rfl)
theorem dX0_push_56 : decode cX0_push 56 = .ok (.getfield 247, 3) := dk_180 0 247 (dk_at dksX0_push_2 10 rfl rfl)
theorem dX0_push_59 : decode cX0_push 59 = .ok (.iload_n 2, 1) := dk_28 (dk_at dksX0_push_2 13 rfl rfl)
theorem dX0_push_60 : decode cX0_push 60 = .ok (.iastore, 1) := dk_79 (dk_at dksX0_push_2 14 rfl rfl)
theorem dX0_push_61 : decode cX0_push 61 = .ok (.aload_n 0, 1) := dk_42 (dk_at dksX0_push_2 15 rfl rfl)
theorem dX0_push_62 : decode cX0_push 62 = .ok (.dup, 1) := dk_89 (dk_at dksX0_push_2 16 rfl rfl)
theorem dX0_push_63 : decode cX0_push 63 = .ok (.getfield 247, 3) := dk_180 0 247 (dk_at dksX0_push_2 17 rfl rfl)
theorem dX0_push_66 : decode cX0_push 66 = .ok (.iconst 1, 1) := dk_4 (dk_at dksX0_push_2 20 rfl rfl)
theorem dX0_push_67 : decode cX0_push 67 = .ok (.iadd, 1) := dk_96 (dk_at dksX0_push_2 21 rfl rfl)
theorem dX0_push_68 : decode cX0_push 68 = .ok (.putfield 247, 3) := dk_181 0 247 (dk_at dksX0_push_3 0 rfl rfl)
theorem dX0_push_71 : decode cX0_push 71 = .ok (.aload_n 0, 1) := dk_42 (dk_at dksX0_push_3 3 rfl rfl)
theorem dX0_push_72 : decode cX0_push 72 = .ok (.getfield 247, 3) := dk_180 0 247 (dk_at dksX0_push_3 4 rfl rfl)
theorem dX0_push_75 : decode cX0_push 75 = .ok (.ireturn, 1) := dk_172 (dk_at dksX0_push_3 7 rfl rfl)
abbrev cX0_clear : ByteArray := prog_1_method_15_code
def yX0_clear : MethodName := ⟨RX0, "clear", "()I"⟩
def dkwX0_clear_0 : List UInt8 := [42, 180, 0, 247, 60, 42, 3, 181, 0, 247, 42, 182, 0, 251, 27, 172]
abbrev dktX0_clear_0 : List UInt8 := dkwX0_clear_0 ++ []
theorem dksX0_clear_0 : cX0_clear.data.toList.drop 0 = dktX0_clear_0 := by decide +kernel
theorem dX0_clear_0 : decode cX0_clear 0 = .ok (.aload_n 0, 1) := dk_42 (dk_at dksX0_clear_0 0 rfl rfl)
theorem dX0_clear_1 : decode cX0_clear 1 = .ok (.getfield 247, 3) := dk_180 0 247 (dk_at dksX0_clear_0 1 rfl rfl)
theorem dX0_clear_4 : decode cX0_clear 4 = .ok (.istore_n 1, 1) := dk_60 (dk_at dksX0_clear_0 4 rfl rfl)
theorem dX0_clear_5 : decode cX0_clear 5 = .ok (.aload_n 0, 1) := dk_42 (dk_at dksX0_clear_0 5 rfl rfl)
theorem dX0_clear_6 : decode cX0_clear 6 = .ok (.iconst 0, 1) := dk_3 (dk_at dksX0_clear_0 6 rfl rfl)
theorem dX0_clear_7 : decode cX0_clear 7 = .ok (.putfield 247, 3) := dk_181 0 247 (dk_at dksX0_clear_0 7 rfl rfl)
theorem dX0_clear_10 : decode cX0_clear 10 = .ok (.aload_n 0, 1) := dk_42 (dk_at dksX0_clear_0 10 rfl rfl)
theorem dX0_clear_11 : decode cX0_clear 11 = .ok (.invokevirtual 251, 3) := dk_182 0 251 (dk_at dksX0_clear_0 11 rfl rfl)
theorem dX0_clear_14 : decode cX0_clear 14 = .ok (.iload_n 1, 1) := dk_27 (dk_at dksX0_clear_0 14 rfl rfl)
theorem dX0_clear_15 : decode cX0_clear 15 = .ok (.ireturn, 1) := dk_172 (dk_at dksX0_clear_0 15 rfl rfl)
abbrev cX0_restart : ByteArray := prog_1_method_12_code
def yX0_restart : MethodName := ⟨RX0, "restart", "()V"⟩
def dkwX0_restart_4 : List UInt8 := [3, 181, 0, 219, 42, 3, 181, 0, 222, 42, 180, 0, 145, 182, 0, 226, 177]
abbrev dktX0_restart_4 : List UInt8 := dkwX0_restart_4 ++ []
def dkwX0_restart_3 : List UInt8 := [167, 255, 233, 42, 3, 181, 0, 207, 42, 3, 181, 0, 210, 42, 3, 181, 0, 213, 42, 3, 181, 0, 216, 42]
abbrev dktX0_restart_3 : List UInt8 := dkwX0_restart_3 ++ dktX0_restart_4
def dkwX0_restart_2 : List UInt8 := [43, 185, 0, 7, 1, 0, 153, 0, 20, 43, 185, 0, 13, 1, 0, 192, 0, 181, 77, 44, 182, 0, 206]
abbrev dktX0_restart_2 : List UInt8 := dkwX0_restart_2 ++ dktX0_restart_3
def dkwX0_restart_1 : List UInt8 := [185, 0, 13, 1, 0, 192, 0, 17, 77, 44, 182, 0, 203, 167, 255, 233, 42, 180, 0, 115, 182, 0, 202, 76]
abbrev dktX0_restart_1 : List UInt8 := dkwX0_restart_1 ++ dktX0_restart_2
def dkwX0_restart_0 : List UInt8 := [42, 182, 0, 156, 42, 180, 0, 127, 182, 0, 202, 76, 43, 185, 0, 7, 1, 0, 153, 0, 20, 43]
abbrev dktX0_restart_0 : List UInt8 := dkwX0_restart_0 ++ dktX0_restart_1
theorem dksX0_restart_0 : cX0_restart.data.toList.drop 0 = dktX0_restart_0 := by decide +kernel
theorem dksX0_restart_1 : cX0_restart.data.toList.drop 22 = dktX0_restart_1 := dk_seg dksX0_restart_0 22 rfl rfl
theorem dksX0_restart_2 : cX0_restart.data.toList.drop 46 = dktX0_restart_2 := dk_seg dksX0_restart_1 24 rfl rfl
theorem dksX0_restart_3 : cX0_restart.data.toList.drop 69 = dktX0_restart_3 := dk_seg dksX0_restart_2 23 rfl rfl
theorem dksX0_restart_4 : cX0_restart.data.toList.drop 93 = dktX0_restart_4 := dk_seg dksX0_restart_3 24 rfl rfl
theorem dX0_restart_0 : decode cX0_restart 0 = .ok (.aload_n 0, 1) := dk_42 (dk_at dksX0_restart_0 0 rfl rfl)
theorem dX0_restart_1 : decode cX0_restart 1 = .ok (.invokevirtual 156, 3) := dk_182 0 156 (dk_at dksX0_restart_0 1 rfl rfl)
theorem dX0_restart_4 : decode cX0_restart 4 = .ok (.aload_n 0, 1) := dk_42 (dk_at dksX0_restart_0 4 rfl rfl)
theorem dX0_restart_5 : decode cX0_restart 5 = .ok (.getfield 127, 3) := dk_180 0 127 (dk_at dksX0_restart_0 5 rfl rfl)
theorem dX0_restart_8 : decode cX0_restart 8 = .ok (.invokevirtual 202, 3) := dk_182 0 202 (dk_at dksX0_restart_0 8 rfl rfl)
theorem dX0_restart_11 : decode cX0_restart 11 = .ok (.astore_n 1, 1) := dk_76 (dk_at dksX0_restart_0 11 rfl rfl)
theorem dX0_restart_12 : decode cX0_restart 12 = .ok (.aload_n 1, 1) := dk_43 (dk_at dksX0_restart_0 12 rfl rfl)
theorem dX0_restart_13 : decode cX0_restart 13 = .ok (.invokeinterface 7 1, 5) := by decide +kernel
theorem dX0_restart_18 : decode cX0_restart 18 = .ok (.ifCond .eq 20, 3) := dk_153 0 20 (dk_at dksX0_restart_0 18 rfl rfl)
theorem dX0_restart_21 : decode cX0_restart 21 = .ok (.aload_n 1, 1) := dk_43 (dk_at dksX0_restart_0 21 rfl rfl)
theorem dX0_restart_22 : decode cX0_restart 22 = .ok (.invokeinterface 13 1, 5) := by decide +kernel
theorem dX0_restart_27 : decode cX0_restart 27 = .ok (.checkcast 17, 3) := dk_192 0 17 (dk_at dksX0_restart_1 5 rfl rfl)
theorem dX0_restart_30 : decode cX0_restart 30 = .ok (.astore_n 2, 1) := dk_77 (dk_at dksX0_restart_1 8 rfl rfl)
theorem dX0_restart_31 : decode cX0_restart 31 = .ok (.aload_n 2, 1) := dk_44 (dk_at dksX0_restart_1 9 rfl rfl)
theorem dX0_restart_32 : decode cX0_restart 32 = .ok (.invokevirtual 203, 3) := dk_182 0 203 (dk_at dksX0_restart_1 10 rfl rfl)
theorem dX0_restart_35 : decode cX0_restart 35 = .ok (.goto (-23), 3) := dk_167 255 233 (dk_at dksX0_restart_1 13 rfl rfl)
theorem dX0_restart_38 : decode cX0_restart 38 = .ok (.aload_n 0, 1) := dk_42 (dk_at dksX0_restart_1 16 rfl rfl)
theorem dX0_restart_39 : decode cX0_restart 39 = .ok (.getfield 115, 3) := dk_180 0 115 (dk_at dksX0_restart_1 17 rfl rfl)
theorem dX0_restart_42 : decode cX0_restart 42 = .ok (.invokevirtual 202, 3) := dk_182 0 202 (dk_at dksX0_restart_1 20 rfl rfl)
theorem dX0_restart_45 : decode cX0_restart 45 = .ok (.astore_n 1, 1) := dk_76 (dk_at dksX0_restart_1 23 rfl rfl)
theorem dX0_restart_46 : decode cX0_restart 46 = .ok (.aload_n 1, 1) := dk_43 (dk_at dksX0_restart_2 0 rfl rfl)
theorem dX0_restart_47 : decode cX0_restart 47 = .ok (.invokeinterface 7 1, 5) := by decide +kernel
theorem dX0_restart_52 : decode cX0_restart 52 = .ok (.ifCond .eq 20, 3) := dk_153 0 20 (dk_at dksX0_restart_2 6 rfl rfl)
theorem dX0_restart_55 : decode cX0_restart 55 = .ok (.aload_n 1, 1) := dk_43 (dk_at dksX0_restart_2 9 rfl rfl)
theorem dX0_restart_56 : decode cX0_restart 56 = .ok (.invokeinterface 13 1, 5) := by decide +kernel
theorem dX0_restart_61 : decode cX0_restart 61 = .ok (.checkcast 181, 3) := dk_192 0 181 (dk_at dksX0_restart_2 15 rfl rfl)
theorem dX0_restart_64 : decode cX0_restart 64 = .ok (.astore_n 2, 1) := dk_77 (dk_at dksX0_restart_2 18 rfl rfl)
theorem dX0_restart_65 : decode cX0_restart 65 = .ok (.aload_n 2, 1) := dk_44 (dk_at dksX0_restart_2 19 rfl rfl)
theorem dX0_restart_66 : decode cX0_restart 66 = .ok (.invokevirtual 206, 3) := dk_182 0 206 (dk_at dksX0_restart_2 20 rfl rfl)
theorem dX0_restart_69 : decode cX0_restart 69 = .ok (.goto (-23), 3) := dk_167 255 233 (dk_at dksX0_restart_3 0 rfl rfl)
theorem dX0_restart_72 : decode cX0_restart 72 = .ok (.aload_n 0, 1) := dk_42 (dk_at dksX0_restart_3 3 rfl rfl)
theorem dX0_restart_73 : decode cX0_restart 73 = .ok (.iconst 0, 1) := dk_3 (dk_at dksX0_restart_3 4 rfl rfl)
theorem dX0_restart_74 : decode cX0_restart 74 = .ok (.putfield 207, 3) := dk_181 0 207 (dk_at dksX0_restart_3 5 rfl rfl)
theorem dX0_restart_77 : decode cX0_restart 77 = .ok (.aload_n 0, 1) := dk_42 (dk_at dksX0_restart_3 8 rfl rfl)
theorem dX0_restart_78 : decode cX0_restart 78 = .ok (.iconst 0, 1) := dk_3 (dk_at dksX0_restart_3 9 rfl rfl)
theorem dX0_restart_79 : decode cX0_restart 79 = .ok (.putfield 210, 3) := dk_181 0 210 (dk_at dksX0_restart_3 10 rfl rfl)
theorem dX0_restart_82 : decode cX0_restart 82 = .ok (.aload_n 0, 1) := dk_42 (dk_at dksX0_restart_3 13 rfl rfl)
theorem dX0_restart_83 : decode cX0_restart 83 = .ok (.iconst 0, 1) := dk_3 (dk_at dksX0_restart_3 14 rfl rfl)
theorem dX0_restart_84 : decode cX0_restart 84 = .ok (.putfield 213, 3) := dk_181 0 213 (dk_at dksX0_restart_3 15 rfl rfl)
theorem dX0_restart_87 : decode cX0_restart 87 = .ok (.aload_n 0, 1) := dk_42 (dk_at dksX0_restart_3 18 rfl rfl)
theorem dX0_restart_88 : decode cX0_restart 88 = .ok (.iconst 0, 1) := dk_3 (dk_at dksX0_restart_3 19 rfl rfl)
theorem dX0_restart_89 : decode cX0_restart 89 = .ok (.putfield 216, 3) := dk_181 0 216 (dk_at dksX0_restart_3 20 rfl rfl)
theorem dX0_restart_92 : decode cX0_restart 92 = .ok (.aload_n 0, 1) := dk_42 (dk_at dksX0_restart_3 23 rfl rfl)
theorem dX0_restart_93 : decode cX0_restart 93 = .ok (.iconst 0, 1) := dk_3 (dk_at dksX0_restart_4 0 rfl rfl)
theorem dX0_restart_94 : decode cX0_restart 94 = .ok (.putfield 219, 3) := dk_181 0 219 (dk_at dksX0_restart_4 1 rfl rfl)
theorem dX0_restart_97 : decode cX0_restart 97 = .ok (.aload_n 0, 1) := dk_42 (dk_at dksX0_restart_4 4 rfl rfl)
theorem dX0_restart_98 : decode cX0_restart 98 = .ok (.iconst 0, 1) := dk_3 (dk_at dksX0_restart_4 5 rfl rfl)
theorem dX0_restart_99 : decode cX0_restart 99 = .ok (.putfield 222, 3) := dk_181 0 222 (dk_at dksX0_restart_4 6 rfl rfl)
theorem dX0_restart_102 : decode cX0_restart 102 = .ok (.aload_n 0, 1) := dk_42 (dk_at dksX0_restart_4 9 rfl rfl)
theorem dX0_restart_103 : decode cX0_restart 103 = .ok (.getfield 145, 3) := dk_180 0 145 (dk_at dksX0_restart_4 10 rfl rfl)
theorem dX0_restart_106 : decode cX0_restart 106 = .ok (.invokevirtual 226, 3) := dk_182 0 226 (dk_at dksX0_restart_4 13 rfl rfl)
theorem dX0_restart_109 : decode cX0_restart 109 = .ok (.return_, 1) := dk_177 (dk_at dksX0_restart_4 16 rfl rfl)
abbrev cX0_tick : ByteArray := prog_1_method_20_code
def yX0_tick : MethodName := ⟨RX0, "tick", "(I)I"⟩
def dkwX0_tick_1 : List UInt8 := [182, 1, 25, 154, 0, 13, 42, 182, 1, 28, 132, 2, 1, 167, 255, 237, 28, 172]
abbrev dktX0_tick_1 : List UInt8 := dkwX0_tick_1 ++ []
def dkwX0_tick_0 : List UInt8 := [27, 133, 10, 20, 1, 23, 184, 0, 229, 154, 0, 6, 18, 239, 172, 3, 61, 28, 27, 162, 0, 20, 42]
abbrev dktX0_tick_0 : List UInt8 := dkwX0_tick_0 ++ dktX0_tick_1
theorem dksX0_tick_0 : cX0_tick.data.toList.drop 0 = dktX0_tick_0 := by decide +kernel
theorem dksX0_tick_1 : cX0_tick.data.toList.drop 23 = dktX0_tick_1 := dk_seg dksX0_tick_0 23 rfl rfl
theorem dX0_tick_0 : decode cX0_tick 0 = .ok (.iload_n 1, 1) := dk_27 (dk_at dksX0_tick_0 0 rfl rfl)
theorem dX0_tick_1 : decode cX0_tick 1 = .ok (.i2l, 1) := dk_133 (dk_at dksX0_tick_0 1 rfl rfl)
theorem dX0_tick_2 : decode cX0_tick 2 = .ok (.lconst 1, 1) := dk_10 (dk_at dksX0_tick_0 2 rfl rfl)
theorem dX0_tick_3 : decode cX0_tick 3 = .ok (.ldc2_w 279, 3) := dk_20 1 23 (dk_at dksX0_tick_0 3 rfl rfl)
theorem dX0_tick_6 : decode cX0_tick 6 = .ok (.invokestatic 229, 3) := dk_184 0 229 (dk_at dksX0_tick_0 6 rfl rfl)
theorem dX0_tick_9 : decode cX0_tick 9 = .ok (.ifCond .ne 6, 3) := dk_154 0 6 (dk_at dksX0_tick_0 9 rfl rfl)
theorem dX0_tick_12 : decode cX0_tick 12 = .ok (.ldc 239, 2) := dk_18 239 (dk_at dksX0_tick_0 12 rfl rfl)
theorem dX0_tick_14 : decode cX0_tick 14 = .ok (.ireturn, 1) := dk_172 (dk_at dksX0_tick_0 14 rfl rfl)
theorem dX0_tick_15 : decode cX0_tick 15 = .ok (.iconst 0, 1) := dk_3 (dk_at dksX0_tick_0 15 rfl rfl)
theorem dX0_tick_16 : decode cX0_tick 16 = .ok (.istore_n 2, 1) := dk_61 (dk_at dksX0_tick_0 16 rfl rfl)
theorem dX0_tick_17 : decode cX0_tick 17 = .ok (.iload_n 2, 1) := dk_28 (dk_at dksX0_tick_0 17 rfl rfl)
theorem dX0_tick_18 : decode cX0_tick 18 = .ok (.iload_n 1, 1) := dk_27 (dk_at dksX0_tick_0 18 rfl rfl)
theorem dX0_tick_19 : decode cX0_tick 19 = .ok (.if_icmp .ge 20, 3) := dk_162 0 20 (dk_at dksX0_tick_0 19 rfl rfl)
theorem dX0_tick_22 : decode cX0_tick 22 = .ok (.aload_n 0, 1) := dk_42 (dk_at dksX0_tick_0 22 rfl rfl)
theorem dX0_tick_23 : decode cX0_tick 23 = .ok (.invokevirtual 281, 3) := dk_182 1 25 (dk_at dksX0_tick_1 0 rfl rfl)
theorem dX0_tick_26 : decode cX0_tick 26 = .ok (.ifCond .ne 13, 3) := dk_154 0 13 (dk_at dksX0_tick_1 3 rfl rfl)
theorem dX0_tick_29 : decode cX0_tick 29 = .ok (.aload_n 0, 1) := dk_42 (dk_at dksX0_tick_1 6 rfl rfl)
theorem dX0_tick_30 : decode cX0_tick 30 = .ok (.invokevirtual 284, 3) := dk_182 1 28 (dk_at dksX0_tick_1 7 rfl rfl)
theorem dX0_tick_33 : decode cX0_tick 33 = .ok (.iinc 2 1, 3) := dk_132 2 1 (dk_at dksX0_tick_1 10 rfl rfl)
theorem dX0_tick_36 : decode cX0_tick 36 = .ok (.goto (-19), 3) := dk_167 255 237 (dk_at dksX0_tick_1 13 rfl rfl)
theorem dX0_tick_39 : decode cX0_tick 39 = .ok (.iload_n 2, 1) := dk_28 (dk_at dksX0_tick_1 16 rfl rfl)
theorem dX0_tick_40 : decode cX0_tick 40 = .ok (.ireturn, 1) := dk_172 (dk_at dksX0_tick_1 17 rfl rfl)
abbrev cX0_isDone : ByteArray := prog_1_method_18_code
def yX0_isDone : MethodName := ⟨RX0, "isDone", "()Z"⟩
def dkwX0_isDone_1 : List UInt8 := [154, 0, 21, 42, 182, 1, 11, 154, 0, 14, 42, 182, 1, 14, 154, 0, 7, 4, 167, 0, 4, 3, 172]
abbrev dktX0_isDone_1 : List UInt8 := dkwX0_isDone_1 ++ []
def dkwX0_isDone_0 : List UInt8 := [42, 180, 0, 123, 180, 1, 4, 192, 0, 36, 180, 1, 8, 42, 180, 0, 247, 160, 0, 28, 42, 180, 0, 213]
abbrev dktX0_isDone_0 : List UInt8 := dkwX0_isDone_0 ++ dktX0_isDone_1
theorem dksX0_isDone_0 : cX0_isDone.data.toList.drop 0 = dktX0_isDone_0 := by decide +kernel
theorem dksX0_isDone_1 : cX0_isDone.data.toList.drop 24 = dktX0_isDone_1 := dk_seg dksX0_isDone_0 24 rfl rfl
theorem dX0_isDone_0 : decode cX0_isDone 0 = .ok (.aload_n 0, 1) := dk_42 (dk_at dksX0_isDone_0 0 rfl rfl)
theorem dX0_isDone_1 : decode cX0_isDone 1 = .ok (.getfield 123, 3) := dk_180 0 123 (dk_at dksX0_isDone_0 1 rfl rfl)
theorem dX0_isDone_4 : decode cX0_isDone 4 = .ok (.getfield 260, 3) := dk_180 1 4 (dk_at dksX0_isDone_0 4 rfl rfl)
theorem dX0_isDone_7 : decode cX0_isDone 7 = .ok (.checkcast 36, 3) := dk_192 0 36 (dk_at dksX0_isDone_0 7 rfl rfl)
theorem dX0_isDone_10 : decode cX0_isDone 10 = .ok (.getfield 264, 3) := dk_180 1 8 (dk_at dksX0_isDone_0 10 rfl rfl)
theorem dX0_isDone_13 : decode cX0_isDone 13 = .ok (.aload_n 0, 1) := dk_42 (dk_at dksX0_isDone_0 13 rfl rfl)
theorem dX0_isDone_14 : decode cX0_isDone 14 = .ok (.getfield 247, 3) := dk_180 0 247 (dk_at dksX0_isDone_0 14 rfl rfl)
theorem dX0_isDone_17 : decode cX0_isDone 17 = .ok (.if_icmp .ne 28, 3) := dk_160 0 28 (dk_at dksX0_isDone_0 17 rfl rfl)
theorem dX0_isDone_20 : decode cX0_isDone 20 = .ok (.aload_n 0, 1) := dk_42 (dk_at dksX0_isDone_0 20 rfl rfl)
theorem dX0_isDone_21 : decode cX0_isDone 21 = .ok (.getfield 213, 3) := dk_180 0 213 (dk_at dksX0_isDone_0 21 rfl rfl)
theorem dX0_isDone_24 : decode cX0_isDone 24 = .ok (.ifCond .ne 21, 3) := dk_154 0 21 (dk_at dksX0_isDone_1 0 rfl rfl)
theorem dX0_isDone_27 : decode cX0_isDone 27 = .ok (.aload_n 0, 1) := dk_42 (dk_at dksX0_isDone_1 3 rfl rfl)
theorem dX0_isDone_28 : decode cX0_isDone 28 = .ok (.invokevirtual 267, 3) := dk_182 1 11 (dk_at dksX0_isDone_1 4 rfl rfl)
theorem dX0_isDone_31 : decode cX0_isDone 31 = .ok (.ifCond .ne 14, 3) := dk_154 0 14 (dk_at dksX0_isDone_1 7 rfl rfl)
theorem dX0_isDone_34 : decode cX0_isDone 34 = .ok (.aload_n 0, 1) := dk_42 (dk_at dksX0_isDone_1 10 rfl rfl)
theorem dX0_isDone_35 : decode cX0_isDone 35 = .ok (.invokevirtual 270, 3) := dk_182 1 14 (dk_at dksX0_isDone_1 11 rfl rfl)
theorem dX0_isDone_38 : decode cX0_isDone 38 = .ok (.ifCond .ne 7, 3) := dk_154 0 7 (dk_at dksX0_isDone_1 14 rfl rfl)
theorem dX0_isDone_41 : decode cX0_isDone 41 = .ok (.iconst 1, 1) := dk_4 (dk_at dksX0_isDone_1 17 rfl rfl)
theorem dX0_isDone_42 : decode cX0_isDone 42 = .ok (.goto 4, 3) := dk_167 0 4 (dk_at dksX0_isDone_1 18 rfl rfl)
theorem dX0_isDone_45 : decode cX0_isDone 45 = .ok (.iconst 0, 1) := dk_3 (dk_at dksX0_isDone_1 21 rfl rfl)
theorem dX0_isDone_46 : decode cX0_isDone 46 = .ok (.ireturn, 1) := dk_172 (dk_at dksX0_isDone_1 22 rfl rfl)
abbrev cX0_recordsInChannels : ByteArray := prog_1_method_16_code
def yX0_recordsInChannels : MethodName := ⟨RX0, "recordsInChannels", "()I"⟩
def dkwX0_recordsInChannels_4 : List UInt8 := [167, 255, 167, 27, 172]
abbrev dktX0_recordsInChannels_4 : List UInt8 := dkwX0_recordsInChannels_4 ++ []
def dkwX0_recordsInChannels_3 : List UInt8 := [25, 10, 180, 0, 254, 96, 60, 132, 9, 1, 167, 255, 231, 132, 5, 1, 167, 255, 200, 132, 2, 1]
abbrev dktX0_recordsInChannels_3 : List UInt8 := dkwX0_recordsInChannels_3 ++ dktX0_recordsInChannels_4
def dkwX0_recordsInChannels_2 : List UInt8 := [25, 7, 190, 54, 8, 3, 54, 9, 21, 9, 21, 8, 162, 0, 24, 25, 7, 21, 9, 50, 58, 10, 27]
abbrev dktX0_recordsInChannels_2 : List UInt8 := dkwX0_recordsInChannels_2 ++ dktX0_recordsInChannels_3
def dkwX0_recordsInChannels_1 : List UInt8 := [45, 190, 54, 4, 3, 54, 5, 21, 5, 21, 4, 162, 0, 55, 45, 21, 5, 50, 58, 6, 25, 6, 58, 7]
abbrev dktX0_recordsInChannels_1 : List UInt8 := dkwX0_recordsInChannels_1 ++ dktX0_recordsInChannels_2
def dkwX0_recordsInChannels_0 : List UInt8 := [3, 60, 3, 61, 28, 4, 96, 42, 180, 0, 115, 182, 0, 174, 162, 0, 82, 42, 180, 0, 138, 28, 50, 78]
abbrev dktX0_recordsInChannels_0 : List UInt8 := dkwX0_recordsInChannels_0 ++ dktX0_recordsInChannels_1
theorem dksX0_recordsInChannels_0 : cX0_recordsInChannels.data.toList.drop 0 = dktX0_recordsInChannels_0 := by decide +kernel
theorem dksX0_recordsInChannels_1 : cX0_recordsInChannels.data.toList.drop 24 = dktX0_recordsInChannels_1 := dk_seg dksX0_recordsInChannels_0 24 rfl rfl
theorem dksX0_recordsInChannels_2 : cX0_recordsInChannels.data.toList.drop 48 = dktX0_recordsInChannels_2 := dk_seg dksX0_recordsInChannels_1 24 rfl rfl
theorem dksX0_recordsInChannels_3 : cX0_recordsInChannels.data.toList.drop 71 = dktX0_recordsInChannels_3 := dk_seg dksX0_recordsInChannels_2 23 rfl rfl
theorem dksX0_recordsInChannels_4 : cX0_recordsInChannels.data.toList.drop 93 = dktX0_recordsInChannels_4 := dk_seg dksX0_recordsInChannels_3 22 rfl rfl
theorem dX0_recordsInChannels_0 : decode cX0_recordsInChannels 0 = .ok (.iconst 0, 1) := dk_3 (dk_at dksX0_recordsInChannels_0 0 rfl rfl)
theorem dX0_recordsInChannels_1 : decode cX0_recordsInChannels 1 = .ok (.istore_n 1, 1) := dk_60 (dk_at dksX0_recordsInChannels_0 1 rfl rfl)
theorem dX0_recordsInChannels_2 : decode cX0_recordsInChannels 2 = .ok (.iconst 0, 1) := dk_3 (dk_at dksX0_recordsInChannels_0 2 rfl rfl)
theorem dX0_recordsInChannels_3 : decode cX0_recordsInChannels 3 = .ok (.istore_n 2, 1) := dk_61 (dk_at dksX0_recordsInChannels_0 3 rfl rfl)
theorem dX0_recordsInChannels_4 : decode cX0_recordsInChannels 4 = .ok (.iload_n 2, 1) := dk_28 (dk_at dksX0_recordsInChannels_0 4 rfl rfl)
theorem dX0_recordsInChannels_5 : decode cX0_recordsInChannels 5 = .ok (.iconst 1, 1) := dk_4 (dk_at dksX0_recordsInChannels_0 5 rfl rfl)
theorem dX0_recordsInChannels_6 : decode cX0_recordsInChannels 6 = .ok (.iadd, 1) := dk_96 (dk_at dksX0_recordsInChannels_0 6 rfl rfl)
theorem dX0_recordsInChannels_7 : decode cX0_recordsInChannels 7 = .ok (.aload_n 0, 1) := dk_42 (dk_at dksX0_recordsInChannels_0 7 rfl rfl)
theorem dX0_recordsInChannels_8 : decode cX0_recordsInChannels 8 = .ok (.getfield 115, 3) := dk_180 0 115 (dk_at dksX0_recordsInChannels_0 8 rfl rfl)
theorem dX0_recordsInChannels_11 : decode cX0_recordsInChannels 11 = .ok (.invokevirtual 174, 3) := dk_182 0 174 (dk_at dksX0_recordsInChannels_0 11 rfl rfl)
theorem dX0_recordsInChannels_14 : decode cX0_recordsInChannels 14 = .ok (.if_icmp .ge 82, 3) := dk_162 0 82 (dk_at dksX0_recordsInChannels_0 14 rfl rfl)
theorem dX0_recordsInChannels_17 : decode cX0_recordsInChannels 17 = .ok (.aload_n 0, 1) := dk_42 (dk_at dksX0_recordsInChannels_0 17 rfl rfl)
theorem dX0_recordsInChannels_18 : decode cX0_recordsInChannels 18 = .ok (.getfield 138, 3) := dk_180 0 138 (dk_at dksX0_recordsInChannels_0 18 rfl rfl)
theorem dX0_recordsInChannels_21 : decode cX0_recordsInChannels 21 = .ok (.iload_n 2, 1) := dk_28 (dk_at dksX0_recordsInChannels_0 21 rfl rfl)
theorem dX0_recordsInChannels_22 : decode cX0_recordsInChannels 22 = .ok (.aaload, 1) := dk_50 (dk_at dksX0_recordsInChannels_0 22 rfl rfl)
theorem dX0_recordsInChannels_23 : decode cX0_recordsInChannels 23 = .ok (.astore_n 3, 1) := dk_78 (dk_at dksX0_recordsInChannels_0 23 rfl rfl)
theorem dX0_recordsInChannels_24 : decode cX0_recordsInChannels 24 = .ok (.aload_n 3, 1) := dk_45 (dk_at dksX0_recordsInChannels_1 0 rfl rfl)
theorem dX0_recordsInChannels_25 : decode cX0_recordsInChannels 25 = .ok (.arraylength, 1) := dk_190 (dk_at dksX0_recordsInChannels_1 1 rfl rfl)
theorem dX0_recordsInChannels_26 : decode cX0_recordsInChannels 26 = .ok (.istore 4, 2) := dk_54 4 (dk_at dksX0_recordsInChannels_1 2 rfl rfl)
theorem dX0_recordsInChannels_28 : decode cX0_recordsInChannels 28 = .ok (.iconst 0, 1) := dk_3 (dk_at dksX0_recordsInChannels_1 4 rfl rfl)
theorem dX0_recordsInChannels_29 : decode cX0_recordsInChannels 29 = .ok (.istore 5, 2) := dk_54 5 (dk_at dksX0_recordsInChannels_1 5 rfl rfl)
theorem dX0_recordsInChannels_31 : decode cX0_recordsInChannels 31 = .ok (.iload 5, 2) := dk_21 5 (dk_at dksX0_recordsInChannels_1 7 rfl rfl)
theorem dX0_recordsInChannels_33 : decode cX0_recordsInChannels 33 = .ok (.iload 4, 2) := dk_21 4 (dk_at dksX0_recordsInChannels_1 9 rfl rfl)
theorem dX0_recordsInChannels_35 : decode cX0_recordsInChannels 35 = .ok (.if_icmp .ge 55, 3) := dk_162 0 55 (dk_at dksX0_recordsInChannels_1 11 rfl rfl)
theorem dX0_recordsInChannels_38 : decode cX0_recordsInChannels 38 = .ok (.aload_n 3, 1) := dk_45 (dk_at dksX0_recordsInChannels_1 14 rfl rfl)
theorem dX0_recordsInChannels_39 : decode cX0_recordsInChannels 39 = .ok (.iload 5, 2) := dk_21 5 (dk_at dksX0_recordsInChannels_1 15 rfl rfl)
theorem dX0_recordsInChannels_41 : decode cX0_recordsInChannels 41 = .ok (.aaload, 1) := dk_50 (dk_at dksX0_recordsInChannels_1 17 rfl rfl)
theorem dX0_recordsInChannels_42 : decode cX0_recordsInChannels 42 = .ok (.astore 6, 2) := dk_58 6 (dk_at dksX0_recordsInChannels_1 18 rfl rfl)
theorem dX0_recordsInChannels_44 : decode cX0_recordsInChannels 44 = .ok (.aload 6, 2) := dk_25 6 (dk_at dksX0_recordsInChannels_1 20 rfl rfl)
theorem dX0_recordsInChannels_46 : decode cX0_recordsInChannels 46 = .ok (.astore 7, 2) := dk_58 7 (dk_at dksX0_recordsInChannels_1 22 rfl rfl)
theorem dX0_recordsInChannels_48 : decode cX0_recordsInChannels 48 = .ok (.aload 7, 2) := dk_25 7 (dk_at dksX0_recordsInChannels_2 0 rfl rfl)
theorem dX0_recordsInChannels_50 : decode cX0_recordsInChannels 50 = .ok (.arraylength, 1) := dk_190 (dk_at dksX0_recordsInChannels_2 2 rfl rfl)
theorem dX0_recordsInChannels_51 : decode cX0_recordsInChannels 51 = .ok (.istore 8, 2) := dk_54 8 (dk_at dksX0_recordsInChannels_2 3 rfl rfl)
theorem dX0_recordsInChannels_53 : decode cX0_recordsInChannels 53 = .ok (.iconst 0, 1) := dk_3 (dk_at dksX0_recordsInChannels_2 5 rfl rfl)
theorem dX0_recordsInChannels_54 : decode cX0_recordsInChannels 54 = .ok (.istore 9, 2) := dk_54 9 (dk_at dksX0_recordsInChannels_2 6 rfl rfl)
theorem dX0_recordsInChannels_56 : decode cX0_recordsInChannels 56 = .ok (.iload 9, 2) := dk_21 9 (dk_at dksX0_recordsInChannels_2 8 rfl rfl)
theorem dX0_recordsInChannels_58 : decode cX0_recordsInChannels 58 = .ok (.iload 8, 2) := dk_21 8 (dk_at dksX0_recordsInChannels_2 10 rfl rfl)
theorem dX0_recordsInChannels_60 : decode cX0_recordsInChannels 60 = .ok (.if_icmp .ge 24, 3) := dk_162 0 24 (dk_at dksX0_recordsInChannels_2 12 rfl rfl)
theorem dX0_recordsInChannels_63 : decode cX0_recordsInChannels 63 = .ok (.aload 7, 2) := dk_25 7 (dk_at dksX0_recordsInChannels_2 15 rfl rfl)
theorem dX0_recordsInChannels_65 : decode cX0_recordsInChannels 65 = .ok (.iload 9, 2) := dk_21 9 (dk_at dksX0_recordsInChannels_2 17 rfl rfl)
theorem dX0_recordsInChannels_67 : decode cX0_recordsInChannels 67 = .ok (.aaload, 1) := dk_50 (dk_at dksX0_recordsInChannels_2 19 rfl rfl)
theorem dX0_recordsInChannels_68 : decode cX0_recordsInChannels 68 = .ok (.astore 10, 2) := dk_58 10 (dk_at dksX0_recordsInChannels_2 20 rfl rfl)
theorem dX0_recordsInChannels_70 : decode cX0_recordsInChannels 70 = .ok (.iload_n 1, 1) := dk_27 (dk_at dksX0_recordsInChannels_2 22 rfl rfl)
theorem dX0_recordsInChannels_71 : decode cX0_recordsInChannels 71 = .ok (.aload 10, 2) := dk_25 10 (dk_at dksX0_recordsInChannels_3 0 rfl rfl)
theorem dX0_recordsInChannels_73 : decode cX0_recordsInChannels 73 = .ok (.getfield 254, 3) := dk_180 0 254 (dk_at dksX0_recordsInChannels_3 2 rfl rfl)
theorem dX0_recordsInChannels_76 : decode cX0_recordsInChannels 76 = .ok (.iadd, 1) := dk_96 (dk_at dksX0_recordsInChannels_3 5 rfl rfl)
theorem dX0_recordsInChannels_77 : decode cX0_recordsInChannels 77 = .ok (.istore_n 1, 1) := dk_60 (dk_at dksX0_recordsInChannels_3 6 rfl rfl)
theorem dX0_recordsInChannels_78 : decode cX0_recordsInChannels 78 = .ok (.iinc 9 1, 3) := dk_132 9 1 (dk_at dksX0_recordsInChannels_3 7 rfl rfl)
theorem dX0_recordsInChannels_81 : decode cX0_recordsInChannels 81 = .ok (.goto (-25), 3) := dk_167 255 231 (dk_at dksX0_recordsInChannels_3 10 rfl rfl)
theorem dX0_recordsInChannels_84 : decode cX0_recordsInChannels 84 = .ok (.iinc 5 1, 3) := dk_132 5 1 (dk_at dksX0_recordsInChannels_3 13 rfl rfl)
theorem dX0_recordsInChannels_87 : decode cX0_recordsInChannels 87 = .ok (.goto (-56), 3) := dk_167 255 200 (dk_at dksX0_recordsInChannels_3 16 rfl rfl)
theorem dX0_recordsInChannels_90 : decode cX0_recordsInChannels 90 = .ok (.iinc 2 1, 3) := dk_132 2 1 (dk_at dksX0_recordsInChannels_3 19 rfl rfl)
theorem dX0_recordsInChannels_93 : decode cX0_recordsInChannels 93 = .ok (.goto (-89), 3) := dk_167 255 167 (dk_at dksX0_recordsInChannels_4 0 rfl rfl)
theorem dX0_recordsInChannels_96 : decode cX0_recordsInChannels 96 = .ok (.iload_n 1, 1) := dk_27 (dk_at dksX0_recordsInChannels_4 3 rfl rfl)
theorem dX0_recordsInChannels_97 : decode cX0_recordsInChannels 97 = .ok (.ireturn, 1) := dk_172 (dk_at dksX0_recordsInChannels_4 4 rfl rfl)
abbrev cX0_recordsInLists : ByteArray := prog_1_method_17_code
def yX0_recordsInLists : MethodName := ⟨RX0, "recordsInLists", "()I"⟩
def dkwX0_recordsInLists_2 : List UInt8 := [96, 60, 132, 5, 1, 167, 255, 232, 132, 2, 1, 167, 255, 201, 27, 172]
abbrev dktX0_recordsInLists_2 : List UInt8 := dkwX0_recordsInLists_2 ++ []
def dkwX0_recordsInLists_1 : List UInt8 := [54, 4, 3, 54, 5, 21, 5, 21, 4, 162, 0, 23, 45, 21, 5, 50, 58, 6, 27, 25, 6, 182, 1, 1]
abbrev dktX0_recordsInLists_1 : List UInt8 := dkwX0_recordsInLists_1 ++ dktX0_recordsInLists_2
def dkwX0_recordsInLists_0 : List UInt8 := [3, 60, 3, 61, 28, 42, 180, 0, 115, 182, 0, 174, 162, 0, 50, 42, 180, 0, 132, 28, 50, 78, 45, 190]
abbrev dktX0_recordsInLists_0 : List UInt8 := dkwX0_recordsInLists_0 ++ dktX0_recordsInLists_1
theorem dksX0_recordsInLists_0 : cX0_recordsInLists.data.toList.drop 0 = dktX0_recordsInLists_0 := by decide +kernel
theorem dksX0_recordsInLists_1 : cX0_recordsInLists.data.toList.drop 24 = dktX0_recordsInLists_1 := dk_seg dksX0_recordsInLists_0 24 rfl rfl
theorem dksX0_recordsInLists_2 : cX0_recordsInLists.data.toList.drop 48 = dktX0_recordsInLists_2 := dk_seg dksX0_recordsInLists_1 24 rfl rfl
theorem dX0_recordsInLists_0 : decode cX0_recordsInLists 0 = .ok (.iconst 0, 1) := dk_3 (dk_at dksX0_recordsInLists_0 0 rfl rfl)
theorem dX0_recordsInLists_1 : decode cX0_recordsInLists 1 = .ok (.istore_n 1, 1) := dk_60 (dk_at dksX0_recordsInLists_0 1 rfl rfl)
theorem dX0_recordsInLists_2 : decode cX0_recordsInLists 2 = .ok (.iconst 0, 1) := dk_3 (dk_at dksX0_recordsInLists_0 2 rfl rfl)
theorem dX0_recordsInLists_3 : decode cX0_recordsInLists 3 = .ok (.istore_n 2, 1) := dk_61 (dk_at dksX0_recordsInLists_0 3 rfl rfl)
theorem dX0_recordsInLists_4 : decode cX0_recordsInLists 4 = .ok (.iload_n 2, 1) := dk_28 (dk_at dksX0_recordsInLists_0 4 rfl rfl)
theorem dX0_recordsInLists_5 : decode cX0_recordsInLists 5 = .ok (.aload_n 0, 1) := dk_42 (dk_at dksX0_recordsInLists_0 5 rfl rfl)
theorem dX0_recordsInLists_6 : decode cX0_recordsInLists 6 = .ok (.getfield 115, 3) := dk_180 0 115 (dk_at dksX0_recordsInLists_0 6 rfl rfl)
theorem dX0_recordsInLists_9 : decode cX0_recordsInLists 9 = .ok (.invokevirtual 174, 3) := dk_182 0 174 (dk_at dksX0_recordsInLists_0 9 rfl rfl)
theorem dX0_recordsInLists_12 : decode cX0_recordsInLists 12 = .ok (.if_icmp .ge 50, 3) := dk_162 0 50 (dk_at dksX0_recordsInLists_0 12 rfl rfl)
theorem dX0_recordsInLists_15 : decode cX0_recordsInLists 15 = .ok (.aload_n 0, 1) := dk_42 (dk_at dksX0_recordsInLists_0 15 rfl rfl)
theorem dX0_recordsInLists_16 : decode cX0_recordsInLists 16 = .ok (.getfield 132, 3) := dk_180 0 132 (dk_at dksX0_recordsInLists_0 16 rfl rfl)
theorem dX0_recordsInLists_19 : decode cX0_recordsInLists 19 = .ok (.iload_n 2, 1) := dk_28 (dk_at dksX0_recordsInLists_0 19 rfl rfl)
theorem dX0_recordsInLists_20 : decode cX0_recordsInLists 20 = .ok (.aaload, 1) := dk_50 (dk_at dksX0_recordsInLists_0 20 rfl rfl)
theorem dX0_recordsInLists_21 : decode cX0_recordsInLists 21 = .ok (.astore_n 3, 1) := dk_78 (dk_at dksX0_recordsInLists_0 21 rfl rfl)
theorem dX0_recordsInLists_22 : decode cX0_recordsInLists 22 = .ok (.aload_n 3, 1) := dk_45 (dk_at dksX0_recordsInLists_0 22 rfl rfl)
theorem dX0_recordsInLists_23 : decode cX0_recordsInLists 23 = .ok (.arraylength, 1) := dk_190 (dk_at dksX0_recordsInLists_0 23 rfl rfl)
theorem dX0_recordsInLists_24 : decode cX0_recordsInLists 24 = .ok (.istore 4, 2) := dk_54 4 (dk_at dksX0_recordsInLists_1 0 rfl rfl)
theorem dX0_recordsInLists_26 : decode cX0_recordsInLists 26 = .ok (.iconst 0, 1) := dk_3 (dk_at dksX0_recordsInLists_1 2 rfl rfl)
theorem dX0_recordsInLists_27 : decode cX0_recordsInLists 27 = .ok (.istore 5, 2) := dk_54 5 (dk_at dksX0_recordsInLists_1 3 rfl rfl)
theorem dX0_recordsInLists_29 : decode cX0_recordsInLists 29 = .ok (.iload 5, 2) := dk_21 5 (dk_at dksX0_recordsInLists_1 5 rfl rfl)
theorem dX0_recordsInLists_31 : decode cX0_recordsInLists 31 = .ok (.iload 4, 2) := dk_21 4 (dk_at dksX0_recordsInLists_1 7 rfl rfl)
theorem dX0_recordsInLists_33 : decode cX0_recordsInLists 33 = .ok (.if_icmp .ge 23, 3) := dk_162 0 23 (dk_at dksX0_recordsInLists_1 9 rfl rfl)
theorem dX0_recordsInLists_36 : decode cX0_recordsInLists 36 = .ok (.aload_n 3, 1) := dk_45 (dk_at dksX0_recordsInLists_1 12 rfl rfl)
theorem dX0_recordsInLists_37 : decode cX0_recordsInLists 37 = .ok (.iload 5, 2) := dk_21 5 (dk_at dksX0_recordsInLists_1 13 rfl rfl)
theorem dX0_recordsInLists_39 : decode cX0_recordsInLists 39 = .ok (.aaload, 1) := dk_50 (dk_at dksX0_recordsInLists_1 15 rfl rfl)
theorem dX0_recordsInLists_40 : decode cX0_recordsInLists 40 = .ok (.astore 6, 2) := dk_58 6 (dk_at dksX0_recordsInLists_1 16 rfl rfl)
theorem dX0_recordsInLists_42 : decode cX0_recordsInLists 42 = .ok (.iload_n 1, 1) := dk_27 (dk_at dksX0_recordsInLists_1 18 rfl rfl)
theorem dX0_recordsInLists_43 : decode cX0_recordsInLists 43 = .ok (.aload 6, 2) := dk_25 6 (dk_at dksX0_recordsInLists_1 19 rfl rfl)
theorem dX0_recordsInLists_45 : decode cX0_recordsInLists 45 = .ok (.invokevirtual 257, 3) := dk_182 1 1 (dk_at dksX0_recordsInLists_1 21 rfl rfl)
theorem dX0_recordsInLists_48 : decode cX0_recordsInLists 48 = .ok (.iadd, 1) := dk_96 (dk_at dksX0_recordsInLists_2 0 rfl rfl)
theorem dX0_recordsInLists_49 : decode cX0_recordsInLists 49 = .ok (.istore_n 1, 1) := dk_60 (dk_at dksX0_recordsInLists_2 1 rfl rfl)
theorem dX0_recordsInLists_50 : decode cX0_recordsInLists 50 = .ok (.iinc 5 1, 3) := dk_132 5 1 (dk_at dksX0_recordsInLists_2 2 rfl rfl)
theorem dX0_recordsInLists_53 : decode cX0_recordsInLists 53 = .ok (.goto (-24), 3) := dk_167 255 232 (dk_at dksX0_recordsInLists_2 5 rfl rfl)
theorem dX0_recordsInLists_56 : decode cX0_recordsInLists 56 = .ok (.iinc 2 1, 3) := dk_132 2 1 (dk_at dksX0_recordsInLists_2 8 rfl rfl)
theorem dX0_recordsInLists_59 : decode cX0_recordsInLists 59 = .ok (.goto (-55), 3) := dk_167 255 201 (dk_at dksX0_recordsInLists_2 11 rfl rfl)
theorem dX0_recordsInLists_62 : decode cX0_recordsInLists 62 = .ok (.iload_n 1, 1) := dk_27 (dk_at dksX0_recordsInLists_2 14 rfl rfl)
theorem dX0_recordsInLists_63 : decode cX0_recordsInLists 63 = .ok (.ireturn, 1) := dk_172 (dk_at dksX0_recordsInLists_2 15 rfl rfl)
abbrev cX0_tick_2 : ByteArray := prog_1_method_19_code
def yX0_tick_2 : MethodName := ⟨RX0, "tick", "()V"⟩
def dkwX0_tick_2_6 : List UInt8 := [167, 255, 236, 132, 1, 255, 167, 255, 213, 42, 89, 180, 0, 207, 4, 96, 181, 0, 207, 177]
abbrev dktX0_tick_2_6 : List UInt8 := dkwX0_tick_2_6 ++ []
def dkwX0_tick_2_5 : List UInt8 := [54, 4, 21, 4, 29, 162, 0, 20, 44, 21, 4, 50, 58, 5, 25, 5, 182, 1, 20, 132, 4, 1]
abbrev dktX0_tick_2_5 : List UInt8 := dkwX0_tick_2_5 ++ dktX0_tick_2_6
def dkwX0_tick_2_4 : List UInt8 := [180, 0, 115, 182, 0, 174, 4, 100, 60, 27, 155, 0, 45, 42, 180, 0, 132, 27, 50, 77, 44, 190, 62, 3]
abbrev dktX0_tick_2_4 : List UInt8 := dkwX0_tick_2_4 ++ dktX0_tick_2_5
def dkwX0_tick_2_3 : List UInt8 := [25, 9, 182, 1, 17, 132, 8, 1, 167, 255, 234, 132, 4, 1, 167, 255, 204, 132, 1, 1, 167, 255, 172, 42]
abbrev dktX0_tick_2_3 : List UInt8 := dkwX0_tick_2_3 ++ dktX0_tick_2_4
def dkwX0_tick_2_2 : List UInt8 := [58, 6, 25, 6, 190, 54, 7, 3, 54, 8, 21, 8, 21, 7, 162, 0, 21, 25, 6, 21, 8, 50, 58, 9]
abbrev dktX0_tick_2_2 : List UInt8 := dkwX0_tick_2_2 ++ dktX0_tick_2_3
def dkwX0_tick_2_1 : List UInt8 := [27, 50, 77, 44, 190, 62, 3, 54, 4, 21, 4, 29, 162, 0, 52, 44, 21, 4, 50, 58, 5, 25, 5]
abbrev dktX0_tick_2_1 : List UInt8 := dkwX0_tick_2_1 ++ dktX0_tick_2_2
def dkwX0_tick_2_0 : List UInt8 := [42, 4, 181, 0, 222, 3, 60, 27, 4, 96, 42, 180, 0, 115, 182, 0, 174, 162, 0, 77, 42, 180, 0, 138]
abbrev dktX0_tick_2_0 : List UInt8 := dkwX0_tick_2_0 ++ dktX0_tick_2_1
theorem dksX0_tick_2_0 : cX0_tick_2.data.toList.drop 0 = dktX0_tick_2_0 := by decide +kernel
theorem dksX0_tick_2_1 : cX0_tick_2.data.toList.drop 24 = dktX0_tick_2_1 := dk_seg dksX0_tick_2_0 24 rfl rfl
theorem dksX0_tick_2_2 : cX0_tick_2.data.toList.drop 47 = dktX0_tick_2_2 := dk_seg dksX0_tick_2_1 23 rfl rfl
theorem dksX0_tick_2_3 : cX0_tick_2.data.toList.drop 71 = dktX0_tick_2_3 := dk_seg dksX0_tick_2_2 24 rfl rfl
theorem dksX0_tick_2_4 : cX0_tick_2.data.toList.drop 95 = dktX0_tick_2_4 := dk_seg dksX0_tick_2_3 24 rfl rfl
theorem dksX0_tick_2_5 : cX0_tick_2.data.toList.drop 119 = dktX0_tick_2_5 := dk_seg dksX0_tick_2_4 24 rfl rfl
theorem dksX0_tick_2_6 : cX0_tick_2.data.toList.drop 141 = dktX0_tick_2_6 := dk_seg dksX0_tick_2_5 22 rfl rfl
theorem dX0_tick_2_0 : decode cX0_tick_2 0 = .ok (.aload_n 0, 1) := dk_42 (dk_at dksX0_tick_2_0 0 rfl rfl)
theorem dX0_tick_2_1 : decode cX0_tick_2 1 = .ok (.iconst 1, 1) := dk_4 (dk_at dksX0_tick_2_0 1 rfl rfl)
theorem dX0_tick_2_2 : decode cX0_tick_2 2 = .ok (.putfield 222, 3) := dk_181 0 222 (dk_at dksX0_tick_2_0 2 rfl rfl)
theorem dX0_tick_2_5 : decode cX0_tick_2 5 = .ok (.iconst 0, 1) := dk_3 (dk_at dksX0_tick_2_0 5 rfl rfl)
theorem dX0_tick_2_6 : decode cX0_tick_2 6 = .ok (.istore_n 1, 1) := dk_60 (dk_at dksX0_tick_2_0 6 rfl rfl)
theorem dX0_tick_2_7 : decode cX0_tick_2 7 = .ok (.iload_n 1, 1) := dk_27 (dk_at dksX0_tick_2_0 7 rfl rfl)
theorem dX0_tick_2_8 : decode cX0_tick_2 8 = .ok (.iconst 1, 1) := dk_4 (dk_at dksX0_tick_2_0 8 rfl rfl)
theorem dX0_tick_2_9 : decode cX0_tick_2 9 = .ok (.iadd, 1) := dk_96 (dk_at dksX0_tick_2_0 9 rfl rfl)
theorem dX0_tick_2_10 : decode cX0_tick_2 10 = .ok (.aload_n 0, 1) := dk_42 (dk_at dksX0_tick_2_0 10 rfl rfl)
theorem dX0_tick_2_11 : decode cX0_tick_2 11 = .ok (.getfield 115, 3) := dk_180 0 115 (dk_at dksX0_tick_2_0 11 rfl rfl)
theorem dX0_tick_2_14 : decode cX0_tick_2 14 = .ok (.invokevirtual 174, 3) := dk_182 0 174 (dk_at dksX0_tick_2_0 14 rfl rfl)
theorem dX0_tick_2_17 : decode cX0_tick_2 17 = .ok (.if_icmp .ge 77, 3) := dk_162 0 77 (dk_at dksX0_tick_2_0 17 rfl rfl)
theorem dX0_tick_2_20 : decode cX0_tick_2 20 = .ok (.aload_n 0, 1) := dk_42 (dk_at dksX0_tick_2_0 20 rfl rfl)
theorem dX0_tick_2_21 : decode cX0_tick_2 21 = .ok (.getfield 138, 3) := dk_180 0 138 (dk_at dksX0_tick_2_0 21 rfl rfl)
theorem dX0_tick_2_24 : decode cX0_tick_2 24 = .ok (.iload_n 1, 1) := dk_27 (dk_at dksX0_tick_2_1 0 rfl rfl)
theorem dX0_tick_2_25 : decode cX0_tick_2 25 = .ok (.aaload, 1) := dk_50 (dk_at dksX0_tick_2_1 1 rfl rfl)
theorem dX0_tick_2_26 : decode cX0_tick_2 26 = .ok (.astore_n 2, 1) := dk_77 (dk_at dksX0_tick_2_1 2 rfl rfl)
theorem dX0_tick_2_27 : decode cX0_tick_2 27 = .ok (.aload_n 2, 1) := dk_44 (dk_at dksX0_tick_2_1 3 rfl rfl)
theorem dX0_tick_2_28 : decode cX0_tick_2 28 = .ok (.arraylength, 1) := dk_190 (dk_at dksX0_tick_2_1 4 rfl rfl)
theorem dX0_tick_2_29 : decode cX0_tick_2 29 = .ok (.istore_n 3, 1) := dk_62 (dk_at dksX0_tick_2_1 5 rfl rfl)
theorem dX0_tick_2_30 : decode cX0_tick_2 30 = .ok (.iconst 0, 1) := dk_3 (dk_at dksX0_tick_2_1 6 rfl rfl)
theorem dX0_tick_2_31 : decode cX0_tick_2 31 = .ok (.istore 4, 2) := dk_54 4 (dk_at dksX0_tick_2_1 7 rfl rfl)
theorem dX0_tick_2_33 : decode cX0_tick_2 33 = .ok (.iload 4, 2) := dk_21 4 (dk_at dksX0_tick_2_1 9 rfl rfl)
theorem dX0_tick_2_35 : decode cX0_tick_2 35 = .ok (.iload_n 3, 1) := dk_29 (dk_at dksX0_tick_2_1 11 rfl rfl)
theorem dX0_tick_2_36 : decode cX0_tick_2 36 = .ok (.if_icmp .ge 52, 3) := dk_162 0 52 (dk_at dksX0_tick_2_1 12 rfl rfl)
theorem dX0_tick_2_39 : decode cX0_tick_2 39 = .ok (.aload_n 2, 1) := dk_44 (dk_at dksX0_tick_2_1 15 rfl rfl)
theorem dX0_tick_2_40 : decode cX0_tick_2 40 = .ok (.iload 4, 2) := dk_21 4 (dk_at dksX0_tick_2_1 16 rfl rfl)
theorem dX0_tick_2_42 : decode cX0_tick_2 42 = .ok (.aaload, 1) := dk_50 (dk_at dksX0_tick_2_1 18 rfl rfl)
theorem dX0_tick_2_43 : decode cX0_tick_2 43 = .ok (.astore 5, 2) := dk_58 5 (dk_at dksX0_tick_2_1 19 rfl rfl)
theorem dX0_tick_2_45 : decode cX0_tick_2 45 = .ok (.aload 5, 2) := dk_25 5 (dk_at dksX0_tick_2_1 21 rfl rfl)
theorem dX0_tick_2_47 : decode cX0_tick_2 47 = .ok (.astore 6, 2) := dk_58 6 (dk_at dksX0_tick_2_2 0 rfl rfl)
theorem dX0_tick_2_49 : decode cX0_tick_2 49 = .ok (.aload 6, 2) := dk_25 6 (dk_at dksX0_tick_2_2 2 rfl rfl)
theorem dX0_tick_2_51 : decode cX0_tick_2 51 = .ok (.arraylength, 1) := dk_190 (dk_at dksX0_tick_2_2 4 rfl rfl)
theorem dX0_tick_2_52 : decode cX0_tick_2 52 = .ok (.istore 7, 2) := dk_54 7 (dk_at dksX0_tick_2_2 5 rfl rfl)
theorem dX0_tick_2_54 : decode cX0_tick_2 54 = .ok (.iconst 0, 1) := dk_3 (dk_at dksX0_tick_2_2 7 rfl rfl)
theorem dX0_tick_2_55 : decode cX0_tick_2 55 = .ok (.istore 8, 2) := dk_54 8 (dk_at dksX0_tick_2_2 8 rfl rfl)
theorem dX0_tick_2_57 : decode cX0_tick_2 57 = .ok (.iload 8, 2) := dk_21 8 (dk_at dksX0_tick_2_2 10 rfl rfl)
theorem dX0_tick_2_59 : decode cX0_tick_2 59 = .ok (.iload 7, 2) := dk_21 7 (dk_at dksX0_tick_2_2 12 rfl rfl)
theorem dX0_tick_2_61 : decode cX0_tick_2 61 = .ok (.if_icmp .ge 21, 3) := dk_162 0 21 (dk_at dksX0_tick_2_2 14 rfl rfl)
theorem dX0_tick_2_64 : decode cX0_tick_2 64 = .ok (.aload 6, 2) := dk_25 6 (dk_at dksX0_tick_2_2 17 rfl rfl)
theorem dX0_tick_2_66 : decode cX0_tick_2 66 = .ok (.iload 8, 2) := dk_21 8 (dk_at dksX0_tick_2_2 19 rfl rfl)
theorem dX0_tick_2_68 : decode cX0_tick_2 68 = .ok (.aaload, 1) := dk_50 (dk_at dksX0_tick_2_2 21 rfl rfl)
theorem dX0_tick_2_69 : decode cX0_tick_2 69 = .ok (.astore 9, 2) := dk_58 9 (dk_at dksX0_tick_2_2 22 rfl rfl)
theorem dX0_tick_2_71 : decode cX0_tick_2 71 = .ok (.aload 9, 2) := dk_25 9 (dk_at dksX0_tick_2_3 0 rfl rfl)
theorem dX0_tick_2_73 : decode cX0_tick_2 73 = .ok (.invokevirtual 273, 3) := dk_182 1 17 (dk_at dksX0_tick_2_3 2 rfl rfl)
theorem dX0_tick_2_76 : decode cX0_tick_2 76 = .ok (.iinc 8 1, 3) := dk_132 8 1 (dk_at dksX0_tick_2_3 5 rfl rfl)
theorem dX0_tick_2_79 : decode cX0_tick_2 79 = .ok (.goto (-22), 3) := dk_167 255 234 (dk_at dksX0_tick_2_3 8 rfl rfl)
theorem dX0_tick_2_82 : decode cX0_tick_2 82 = .ok (.iinc 4 1, 3) := dk_132 4 1 (dk_at dksX0_tick_2_3 11 rfl rfl)
theorem dX0_tick_2_85 : decode cX0_tick_2 85 = .ok (.goto (-52), 3) := dk_167 255 204 (dk_at dksX0_tick_2_3 14 rfl rfl)
theorem dX0_tick_2_88 : decode cX0_tick_2 88 = .ok (.iinc 1 1, 3) := dk_132 1 1 (dk_at dksX0_tick_2_3 17 rfl rfl)
theorem dX0_tick_2_91 : decode cX0_tick_2 91 = .ok (.goto (-84), 3) := dk_167 255 172 (dk_at dksX0_tick_2_3 20 rfl rfl)
theorem dX0_tick_2_94 : decode cX0_tick_2 94 = .ok (.aload_n 0, 1) := dk_42 (dk_at dksX0_tick_2_3 23 rfl rfl)
theorem dX0_tick_2_95 : decode cX0_tick_2 95 = .ok (.getfield 115, 3) := dk_180 0 115 (dk_at dksX0_tick_2_4 0 rfl rfl)
theorem dX0_tick_2_98 : decode cX0_tick_2 98 = .ok (.invokevirtual 174, 3) := dk_182 0 174 (dk_at dksX0_tick_2_4 3 rfl rfl)
theorem dX0_tick_2_101 : decode cX0_tick_2 101 = .ok (.iconst 1, 1) := dk_4 (dk_at dksX0_tick_2_4 6 rfl rfl)
theorem dX0_tick_2_102 : decode cX0_tick_2 102 = .ok (.isub, 1) := dk_100 (dk_at dksX0_tick_2_4 7 rfl rfl)
theorem dX0_tick_2_103 : decode cX0_tick_2 103 = .ok (.istore_n 1, 1) := dk_60 (dk_at dksX0_tick_2_4 8 rfl rfl)
theorem dX0_tick_2_104 : decode cX0_tick_2 104 = .ok (.iload_n 1, 1) := dk_27 (dk_at dksX0_tick_2_4 9 rfl rfl)
theorem dX0_tick_2_105 : decode cX0_tick_2 105 = .ok (.ifCond .lt 45, 3) := dk_155 0 45 (dk_at dksX0_tick_2_4 10 rfl rfl)
theorem dX0_tick_2_108 : decode cX0_tick_2 108 = .ok (.aload_n 0, 1) := dk_42 (dk_at dksX0_tick_2_4 13 rfl rfl)
theorem dX0_tick_2_109 : decode cX0_tick_2 109 = .ok (.getfield 132, 3) := dk_180 0 132 (dk_at dksX0_tick_2_4 14 rfl rfl)
theorem dX0_tick_2_112 : decode cX0_tick_2 112 = .ok (.iload_n 1, 1) := dk_27 (dk_at dksX0_tick_2_4 17 rfl rfl)
theorem dX0_tick_2_113 : decode cX0_tick_2 113 = .ok (.aaload, 1) := dk_50 (dk_at dksX0_tick_2_4 18 rfl rfl)
theorem dX0_tick_2_114 : decode cX0_tick_2 114 = .ok (.astore_n 2, 1) := dk_77 (dk_at dksX0_tick_2_4 19 rfl rfl)
theorem dX0_tick_2_115 : decode cX0_tick_2 115 = .ok (.aload_n 2, 1) := dk_44 (dk_at dksX0_tick_2_4 20 rfl rfl)
theorem dX0_tick_2_116 : decode cX0_tick_2 116 = .ok (.arraylength, 1) := dk_190 (dk_at dksX0_tick_2_4 21 rfl rfl)
theorem dX0_tick_2_117 : decode cX0_tick_2 117 = .ok (.istore_n 3, 1) := dk_62 (dk_at dksX0_tick_2_4 22 rfl rfl)
theorem dX0_tick_2_118 : decode cX0_tick_2 118 = .ok (.iconst 0, 1) := dk_3 (dk_at dksX0_tick_2_4 23 rfl rfl)
theorem dX0_tick_2_119 : decode cX0_tick_2 119 = .ok (.istore 4, 2) := dk_54 4 (dk_at dksX0_tick_2_5 0 rfl rfl)
theorem dX0_tick_2_121 : decode cX0_tick_2 121 = .ok (.iload 4, 2) := dk_21 4 (dk_at dksX0_tick_2_5 2 rfl rfl)
theorem dX0_tick_2_123 : decode cX0_tick_2 123 = .ok (.iload_n 3, 1) := dk_29 (dk_at dksX0_tick_2_5 4 rfl rfl)
theorem dX0_tick_2_124 : decode cX0_tick_2 124 = .ok (.if_icmp .ge 20, 3) := dk_162 0 20 (dk_at dksX0_tick_2_5 5 rfl rfl)
theorem dX0_tick_2_127 : decode cX0_tick_2 127 = .ok (.aload_n 2, 1) := dk_44 (dk_at dksX0_tick_2_5 8 rfl rfl)
theorem dX0_tick_2_128 : decode cX0_tick_2 128 = .ok (.iload 4, 2) := dk_21 4 (dk_at dksX0_tick_2_5 9 rfl rfl)
theorem dX0_tick_2_130 : decode cX0_tick_2 130 = .ok (.aaload, 1) := dk_50 (dk_at dksX0_tick_2_5 11 rfl rfl)
theorem dX0_tick_2_131 : decode cX0_tick_2 131 = .ok (.astore 5, 2) := dk_58 5 (dk_at dksX0_tick_2_5 12 rfl rfl)
theorem dX0_tick_2_133 : decode cX0_tick_2 133 = .ok (.aload 5, 2) := dk_25 5 (dk_at dksX0_tick_2_5 14 rfl rfl)
theorem dX0_tick_2_135 : decode cX0_tick_2 135 = .ok (.invokevirtual 276, 3) := dk_182 1 20 (dk_at dksX0_tick_2_5 16 rfl rfl)
theorem dX0_tick_2_138 : decode cX0_tick_2 138 = .ok (.iinc 4 1, 3) := dk_132 4 1 (dk_at dksX0_tick_2_5 19 rfl rfl)
theorem dX0_tick_2_141 : decode cX0_tick_2 141 = .ok (.goto (-20), 3) := dk_167 255 236 (dk_at dksX0_tick_2_6 0 rfl rfl)
theorem dX0_tick_2_144 : decode cX0_tick_2 144 = .ok (.iinc 1 (-1), 3) := dk_132 1 255 (dk_at dksX0_tick_2_6 3 rfl rfl)
theorem dX0_tick_2_147 : decode cX0_tick_2 147 = .ok (.goto (-43), 3) := dk_167 255 213 (dk_at dksX0_tick_2_6 6 rfl rfl)
theorem dX0_tick_2_150 : decode cX0_tick_2 150 = .ok (.aload_n 0, 1) := dk_42 (dk_at dksX0_tick_2_6 9 rfl rfl)
theorem dX0_tick_2_151 : decode cX0_tick_2 151 = .ok (.dup, 1) := dk_89 (dk_at dksX0_tick_2_6 10 rfl rfl)
theorem dX0_tick_2_152 : decode cX0_tick_2 152 = .ok (.getfield 207, 3) := dk_180 0 207 (dk_at dksX0_tick_2_6 11 rfl rfl)
theorem dX0_tick_2_155 : decode cX0_tick_2 155 = .ok (.iconst 1, 1) := dk_4 (dk_at dksX0_tick_2_6 14 rfl rfl)
theorem dX0_tick_2_156 : decode cX0_tick_2 156 = .ok (.iadd, 1) := dk_96 (dk_at dksX0_tick_2_6 15 rfl rfl)
theorem dX0_tick_2_157 : decode cX0_tick_2 157 = .ok (.putfield 207, 3) := dk_181 0 207 (dk_at dksX0_tick_2_6 16 rfl rfl)
theorem dX0_tick_2_160 : decode cX0_tick_2 160 = .ok (.return_, 1) := dk_177 (dk_at dksX0_tick_2_6 19 rfl rfl)
abbrev cX0_home : ByteArray := prog_1_method_4_code
def yX0_home : MethodName := ⟨RX0, "home", "(II)I"⟩
def dkwX0_home_0 : List UInt8 := [26, 16, 8, 112, 27, 104, 16, 8, 108, 172]
abbrev dktX0_home_0 : List UInt8 := dkwX0_home_0 ++ []
theorem dksX0_home_0 : cX0_home.data.toList.drop 0 = dktX0_home_0 := by decide +kernel
theorem dX0_home_0 : decode cX0_home 0 = .ok (.iload_n 0, 1) := dk_26 (dk_at dksX0_home_0 0 rfl rfl)
theorem dX0_home_1 : decode cX0_home 1 = .ok (.bipush 8, 2) := dk_16 8 (dk_at dksX0_home_0 1 rfl rfl)
theorem dX0_home_3 : decode cX0_home 3 = .ok (.irem, 1) := dk_112 (dk_at dksX0_home_0 3 rfl rfl)
theorem dX0_home_4 : decode cX0_home 4 = .ok (.iload_n 1, 1) := dk_27 (dk_at dksX0_home_0 4 rfl rfl)
theorem dX0_home_5 : decode cX0_home 5 = .ok (.imul, 1) := dk_104 (dk_at dksX0_home_0 5 rfl rfl)
theorem dX0_home_6 : decode cX0_home 6 = .ok (.bipush 8, 2) := dk_16 8 (dk_at dksX0_home_0 6 rfl rfl)
theorem dX0_home_8 : decode cX0_home 8 = .ok (.idiv, 1) := dk_108 (dk_at dksX0_home_0 8 rfl rfl)
theorem dX0_home_9 : decode cX0_home 9 = .ok (.ireturn, 1) := dk_172 (dk_at dksX0_home_0 9 rfl rfl)
abbrev cX0_channel : ByteArray := prog_1_method_10_code
def yX0_channel : MethodName := ⟨RX0, "channel", "(III)LPipelineSimulator$Channel;"⟩
def dkwX0_channel_0 : List UInt8 := [42, 180, 0, 138, 27, 50, 28, 50, 29, 50, 176]
abbrev dktX0_channel_0 : List UInt8 := dkwX0_channel_0 ++ []
theorem dksX0_channel_0 : cX0_channel.data.toList.drop 0 = dktX0_channel_0 := by decide +kernel
theorem dX0_channel_0 : decode cX0_channel 0 = .ok (.aload_n 0, 1) := dk_42 (dk_at dksX0_channel_0 0 rfl rfl)
theorem dX0_channel_1 : decode cX0_channel 1 = .ok (.getfield 138, 3) := dk_180 0 138 (dk_at dksX0_channel_0 1 rfl rfl)
theorem dX0_channel_4 : decode cX0_channel 4 = .ok (.iload_n 1, 1) := dk_27 (dk_at dksX0_channel_0 4 rfl rfl)
theorem dX0_channel_5 : decode cX0_channel 5 = .ok (.aaload, 1) := dk_50 (dk_at dksX0_channel_0 5 rfl rfl)
theorem dX0_channel_6 : decode cX0_channel 6 = .ok (.iload_n 2, 1) := dk_28 (dk_at dksX0_channel_0 6 rfl rfl)
theorem dX0_channel_7 : decode cX0_channel 7 = .ok (.aaload, 1) := dk_50 (dk_at dksX0_channel_0 7 rfl rfl)
theorem dX0_channel_8 : decode cX0_channel 8 = .ok (.iload_n 3, 1) := dk_29 (dk_at dksX0_channel_0 8 rfl rfl)
theorem dX0_channel_9 : decode cX0_channel 9 = .ok (.aaload, 1) := dk_50 (dk_at dksX0_channel_0 9 rfl rfl)
theorem dX0_channel_10 : decode cX0_channel 10 = .ok (.areturn, 1) := dk_176 (dk_at dksX0_channel_0 10 rfl rfl)
abbrev cX0_complete : ByteArray := prog_1_method_23_code
def yX0_complete : MethodName := ⟨RX0, "complete", "()V"⟩
def dkwX0_complete_0 : List UInt8 := [42, 180, 0, 127, 184, 1, 41, 42, 42, 180, 0, 213, 181, 0, 210, 42, 3, 181, 0, 213, 177]
abbrev dktX0_complete_0 : List UInt8 := dkwX0_complete_0 ++ []
theorem dksX0_complete_0 : cX0_complete.data.toList.drop 0 = dktX0_complete_0 := by decide +kernel
theorem dX0_complete_0 : decode cX0_complete 0 = .ok (.aload_n 0, 1) := dk_42 (dk_at dksX0_complete_0 0 rfl rfl)
theorem dX0_complete_1 : decode cX0_complete 1 = .ok (.getfield 127, 3) := dk_180 0 127 (dk_at dksX0_complete_0 1 rfl rfl)
theorem dX0_complete_4 : decode cX0_complete 4 = .ok (.invokestatic 297, 3) := dk_184 1 41 (dk_at dksX0_complete_0 4 rfl rfl)
theorem dX0_complete_7 : decode cX0_complete 7 = .ok (.aload_n 0, 1) := dk_42 (dk_at dksX0_complete_0 7 rfl rfl)
theorem dX0_complete_8 : decode cX0_complete 8 = .ok (.aload_n 0, 1) := dk_42 (dk_at dksX0_complete_0 8 rfl rfl)
theorem dX0_complete_9 : decode cX0_complete 9 = .ok (.getfield 213, 3) := dk_180 0 213 (dk_at dksX0_complete_0 9 rfl rfl)
theorem dX0_complete_12 : decode cX0_complete 12 = .ok (.putfield 210, 3) := dk_181 0 210 (dk_at dksX0_complete_0 12 rfl rfl)
theorem dX0_complete_15 : decode cX0_complete 15 = .ok (.aload_n 0, 1) := dk_42 (dk_at dksX0_complete_0 15 rfl rfl)
theorem dX0_complete_16 : decode cX0_complete 16 = .ok (.iconst 0, 1) := dk_3 (dk_at dksX0_complete_0 16 rfl rfl)
theorem dX0_complete_17 : decode cX0_complete 17 = .ok (.putfield 213, 3) := dk_181 0 213 (dk_at dksX0_complete_0 17 rfl rfl)
theorem dX0_complete_20 : decode cX0_complete 20 = .ok (.return_, 1) := dk_177 (dk_at dksX0_complete_0 20 rfl rfl)
abbrev cX0_finishAll : ByteArray := prog_1_method_2_code
def yX0_finishAll : MethodName := ⟨RX0, "finishAll", "(Ljava/lang/Iterable;)V"⟩
def dkwX0_finishAll_1 : List UInt8 := [192, 0, 17, 77, 44, 182, 0, 19, 167, 255, 233, 177]
abbrev dktX0_finishAll_1 : List UInt8 := dkwX0_finishAll_1 ++ []
def dkwX0_finishAll_0 : List UInt8 := [42, 185, 0, 1, 1, 0, 76, 43, 185, 0, 7, 1, 0, 153, 0, 20, 43, 185, 0, 13, 1, 0]
abbrev dktX0_finishAll_0 : List UInt8 := dkwX0_finishAll_0 ++ dktX0_finishAll_1
theorem dksX0_finishAll_0 : cX0_finishAll.data.toList.drop 0 = dktX0_finishAll_0 := by decide +kernel
theorem dksX0_finishAll_1 : cX0_finishAll.data.toList.drop 22 = dktX0_finishAll_1 := dk_seg dksX0_finishAll_0 22 rfl rfl
theorem dX0_finishAll_0 : decode cX0_finishAll 0 = .ok (.aload_n 0, 1) := dk_42 (dk_at dksX0_finishAll_0 0 rfl rfl)
theorem dX0_finishAll_1 : decode cX0_finishAll 1 = .ok (.invokeinterface 1 1, 5) := by decide +kernel
theorem dX0_finishAll_6 : decode cX0_finishAll 6 = .ok (.astore_n 1, 1) := dk_76 (dk_at dksX0_finishAll_0 6 rfl rfl)
theorem dX0_finishAll_7 : decode cX0_finishAll 7 = .ok (.aload_n 1, 1) := dk_43 (dk_at dksX0_finishAll_0 7 rfl rfl)
theorem dX0_finishAll_8 : decode cX0_finishAll 8 = .ok (.invokeinterface 7 1, 5) := by decide +kernel
theorem dX0_finishAll_13 : decode cX0_finishAll 13 = .ok (.ifCond .eq 20, 3) := dk_153 0 20 (dk_at dksX0_finishAll_0 13 rfl rfl)
theorem dX0_finishAll_16 : decode cX0_finishAll 16 = .ok (.aload_n 1, 1) := dk_43 (dk_at dksX0_finishAll_0 16 rfl rfl)
theorem dX0_finishAll_17 : decode cX0_finishAll 17 = .ok (.invokeinterface 13 1, 5) := by decide +kernel
theorem dX0_finishAll_22 : decode cX0_finishAll 22 = .ok (.checkcast 17, 3) := dk_192 0 17 (dk_at dksX0_finishAll_1 0 rfl rfl)
theorem dX0_finishAll_25 : decode cX0_finishAll 25 = .ok (.astore_n 2, 1) := dk_77 (dk_at dksX0_finishAll_1 3 rfl rfl)
theorem dX0_finishAll_26 : decode cX0_finishAll 26 = .ok (.aload_n 2, 1) := dk_44 (dk_at dksX0_finishAll_1 4 rfl rfl)
theorem dX0_finishAll_27 : decode cX0_finishAll 27 = .ok (.invokevirtual 19, 3) := dk_182 0 19 (dk_at dksX0_finishAll_1 5 rfl rfl)
theorem dX0_finishAll_30 : decode cX0_finishAll 30 = .ok (.goto (-23), 3) := dk_167 255 233 (dk_at dksX0_finishAll_1 8 rfl rfl)
theorem dX0_finishAll_33 : decode cX0_finishAll 33 = .ok (.return_, 1) := dk_177 (dk_at dksX0_finishAll_1 11 rfl rfl)
abbrev cX0_isQuiet : ByteArray := prog_1_method_21_code
def yX0_isQuiet : MethodName := ⟨RX0, "isQuiet", "()I"⟩
def dkwX0_isQuiet_0 : List UInt8 := [42, 182, 1, 25, 153, 0, 7, 4, 167, 0, 4, 3, 172]
abbrev dktX0_isQuiet_0 : List UInt8 := dkwX0_isQuiet_0 ++ []
theorem dksX0_isQuiet_0 : cX0_isQuiet.data.toList.drop 0 = dktX0_isQuiet_0 := by decide +kernel
theorem dX0_isQuiet_0 : decode cX0_isQuiet 0 = .ok (.aload_n 0, 1) := dk_42 (dk_at dksX0_isQuiet_0 0 rfl rfl)
theorem dX0_isQuiet_1 : decode cX0_isQuiet 1 = .ok (.invokevirtual 281, 3) := dk_182 1 25 (dk_at dksX0_isQuiet_0 1 rfl rfl)
theorem dX0_isQuiet_4 : decode cX0_isQuiet 4 = .ok (.ifCond .eq 7, 3) := dk_153 0 7 (dk_at dksX0_isQuiet_0 4 rfl rfl)
theorem dX0_isQuiet_7 : decode cX0_isQuiet 7 = .ok (.iconst 1, 1) := dk_4 (dk_at dksX0_isQuiet_0 7 rfl rfl)
theorem dX0_isQuiet_8 : decode cX0_isQuiet 8 = .ok (.goto 4, 3) := dk_167 0 4 (dk_at dksX0_isQuiet_0 8 rfl rfl)
theorem dX0_isQuiet_11 : decode cX0_isQuiet 11 = .ok (.iconst 0, 1) := dk_3 (dk_at dksX0_isQuiet_0 11 rfl rfl)
theorem dX0_isQuiet_12 : decode cX0_isQuiet 12 = .ok (.ireturn, 1) := dk_172 (dk_at dksX0_isQuiet_0 12 rfl rfl)
abbrev cX0_checkpoint : ByteArray := prog_1_method_22_code
def yX0_checkpoint : MethodName := ⟨RX0, "checkpoint", "()I"⟩
def dkwX0_checkpoint_4 : List UInt8 := [180, 0, 132, 3, 50, 3, 50, 4, 181, 1, 38, 42, 180, 0, 213, 172]
abbrev dktX0_checkpoint_4 : List UInt8 := dkwX0_checkpoint_4 ++ []
def dkwX0_checkpoint_3 : List UInt8 := [192, 0, 36, 42, 180, 0, 132, 3, 50, 3, 50, 180, 0, 193, 180, 1, 32, 192, 0, 36, 182, 1, 34, 42]
abbrev dktX0_checkpoint_3 : List UInt8 := dkwX0_checkpoint_3 ++ dktX0_checkpoint_4
def dkwX0_checkpoint_2 : List UInt8 := [180, 1, 32, 192, 0, 36, 182, 1, 34, 42, 180, 0, 132, 3, 50, 3, 50, 180, 0, 193, 180, 1, 4]
abbrev dktX0_checkpoint_2 : List UInt8 := dkwX0_checkpoint_2 ++ dktX0_checkpoint_3
def dkwX0_checkpoint_1 : List UInt8 := [181, 0, 213, 42, 3, 181, 0, 216, 42, 180, 0, 123, 180, 1, 4, 192, 0, 36, 42, 180, 0, 123]
abbrev dktX0_checkpoint_1 : List UInt8 := dkwX0_checkpoint_1 ++ dktX0_checkpoint_2
def dkwX0_checkpoint_0 : List UInt8 := [42, 180, 0, 213, 158, 0, 7, 19, 1, 31, 172, 42, 4, 181, 0, 222, 42, 42, 180, 0, 210, 4, 96]
abbrev dktX0_checkpoint_0 : List UInt8 := dkwX0_checkpoint_0 ++ dktX0_checkpoint_1
theorem dksX0_checkpoint_0 : cX0_checkpoint.data.toList.drop 0 = dktX0_checkpoint_0 := by decide +kernel
theorem dksX0_checkpoint_1 : cX0_checkpoint.data.toList.drop 23 = dktX0_checkpoint_1 := dk_seg dksX0_checkpoint_0 23 rfl rfl
theorem dksX0_checkpoint_2 : cX0_checkpoint.data.toList.drop 45 = dktX0_checkpoint_2 := dk_seg dksX0_checkpoint_1 22 rfl rfl
theorem dksX0_checkpoint_3 : cX0_checkpoint.data.toList.drop 68 = dktX0_checkpoint_3 := dk_seg dksX0_checkpoint_2 23 rfl rfl
theorem dksX0_checkpoint_4 : cX0_checkpoint.data.toList.drop 92 = dktX0_checkpoint_4 := dk_seg dksX0_checkpoint_3 24 rfl rfl
theorem dX0_checkpoint_0 : decode cX0_checkpoint 0 = .ok (.aload_n 0, 1) := dk_42 (dk_at dksX0_checkpoint_0 0 rfl rfl)
theorem dX0_checkpoint_1 : decode cX0_checkpoint 1 = .ok (.getfield 213, 3) := dk_180 0 213 (dk_at dksX0_checkpoint_0 1 rfl rfl)
theorem dX0_checkpoint_4 : decode cX0_checkpoint 4 = .ok (.ifCond .le 7, 3) := dk_158 0 7 (dk_at dksX0_checkpoint_0 4 rfl rfl)
theorem dX0_checkpoint_7 : decode cX0_checkpoint 7 = .ok (.ldc_w 287, 3) := dk_19 1 31 (dk_at dksX0_checkpoint_0 7 rfl rfl)
theorem dX0_checkpoint_10 : decode cX0_checkpoint 10 = .ok (.ireturn, 1) := dk_172 (dk_at dksX0_checkpoint_0 10 rfl rfl)
theorem dX0_checkpoint_11 : decode cX0_checkpoint 11 = .ok (.aload_n 0, 1) := dk_42 (dk_at dksX0_checkpoint_0 11 rfl rfl)
theorem dX0_checkpoint_12 : decode cX0_checkpoint 12 = .ok (.iconst 1, 1) := dk_4 (dk_at dksX0_checkpoint_0 12 rfl rfl)
theorem dX0_checkpoint_13 : decode cX0_checkpoint 13 = .ok (.putfield 222, 3) := dk_181 0 222 (dk_at dksX0_checkpoint_0 13 rfl rfl)
theorem dX0_checkpoint_16 : decode cX0_checkpoint 16 = .ok (.aload_n 0, 1) := dk_42 (dk_at dksX0_checkpoint_0 16 rfl rfl)
theorem dX0_checkpoint_17 : decode cX0_checkpoint 17 = .ok (.aload_n 0, 1) := dk_42 (dk_at dksX0_checkpoint_0 17 rfl rfl)
theorem dX0_checkpoint_18 : decode cX0_checkpoint 18 = .ok (.getfield 210, 3) := dk_180 0 210 (dk_at dksX0_checkpoint_0 18 rfl rfl)
theorem dX0_checkpoint_21 : decode cX0_checkpoint 21 = .ok (.iconst 1, 1) := dk_4 (dk_at dksX0_checkpoint_0 21 rfl rfl)
theorem dX0_checkpoint_22 : decode cX0_checkpoint 22 = .ok (.iadd, 1) := dk_96 (dk_at dksX0_checkpoint_0 22 rfl rfl)
theorem dX0_checkpoint_23 : decode cX0_checkpoint 23 = .ok (.putfield 213, 3) := dk_181 0 213 (dk_at dksX0_checkpoint_1 0 rfl rfl)
theorem dX0_checkpoint_26 : decode cX0_checkpoint 26 = .ok (.aload_n 0, 1) := dk_42 (dk_at dksX0_checkpoint_1 3 rfl rfl)
theorem dX0_checkpoint_27 : decode cX0_checkpoint 27 = .ok (.iconst 0, 1) := dk_3 (dk_at dksX0_checkpoint_1 4 rfl rfl)
theorem dX0_checkpoint_28 : decode cX0_checkpoint 28 = .ok (.putfield 216, 3) := dk_181 0 216 (dk_at dksX0_checkpoint_1 5 rfl rfl)
theorem dX0_checkpoint_31 : decode cX0_checkpoint 31 = .ok (.aload_n 0, 1) := dk_42 (dk_at dksX0_checkpoint_1 8 rfl rfl)
theorem dX0_checkpoint_32 : decode cX0_checkpoint 32 = .ok (.getfield 123, 3) := dk_180 0 123 (dk_at dksX0_checkpoint_1 9 rfl rfl)
theorem dX0_checkpoint_35 : decode cX0_checkpoint 35 = .ok (.getfield 260, 3) := dk_180 1 4 (dk_at dksX0_checkpoint_1 12 rfl rfl)
theorem dX0_checkpoint_38 : decode cX0_checkpoint 38 = .ok (.checkcast 36, 3) := dk_192 0 36 (dk_at dksX0_checkpoint_1 15 rfl rfl)
theorem dX0_checkpoint_41 : decode cX0_checkpoint 41 = .ok (.aload_n 0, 1) := dk_42 (dk_at dksX0_checkpoint_1 18 rfl rfl)
theorem dX0_checkpoint_42 : decode cX0_checkpoint 42 = .ok (.getfield 123, 3) := dk_180 0 123 (dk_at dksX0_checkpoint_1 19 rfl rfl)
theorem dX0_checkpoint_45 : decode cX0_checkpoint 45 = .ok (.getfield 288, 3) := dk_180 1 32 (dk_at dksX0_checkpoint_2 0 rfl rfl)
theorem dX0_checkpoint_48 : decode cX0_checkpoint 48 = .ok (.checkcast 36, 3) := dk_192 0 36 (dk_at dksX0_checkpoint_2 3 rfl rfl)
theorem dX0_checkpoint_51 : decode cX0_checkpoint 51 = .ok (.invokevirtual 290, 3) := dk_182 1 34 (dk_at dksX0_checkpoint_2 6 rfl rfl)
theorem dX0_checkpoint_54 : decode cX0_checkpoint 54 = .ok (.aload_n 0, 1) := dk_42 (dk_at dksX0_checkpoint_2 9 rfl rfl)
theorem dX0_checkpoint_55 : decode cX0_checkpoint 55 = .ok (.getfield 132, 3) := dk_180 0 132 (dk_at dksX0_checkpoint_2 10 rfl rfl)
theorem dX0_checkpoint_58 : decode cX0_checkpoint 58 = .ok (.iconst 0, 1) := dk_3 (dk_at dksX0_checkpoint_2 13 rfl rfl)
theorem dX0_checkpoint_59 : decode cX0_checkpoint 59 = .ok (.aaload, 1) := dk_50 (dk_at dksX0_checkpoint_2 14 rfl rfl)
theorem dX0_checkpoint_60 : decode cX0_checkpoint 60 = .ok (.iconst 0, 1) := dk_3 (dk_at dksX0_checkpoint_2 15 rfl rfl)
theorem dX0_checkpoint_61 : decode cX0_checkpoint 61 = .ok (.aaload, 1) := dk_50 (dk_at dksX0_checkpoint_2 16 rfl rfl)
theorem dX0_checkpoint_62 : decode cX0_checkpoint 62 = .ok (.getfield 193, 3) := dk_180 0 193 (dk_at dksX0_checkpoint_2 17 rfl rfl)
theorem dX0_checkpoint_65 : decode cX0_checkpoint 65 = .ok (.getfield 260, 3) := dk_180 1 4 (dk_at dksX0_checkpoint_2 20 rfl rfl)
theorem dX0_checkpoint_68 : decode cX0_checkpoint 68 = .ok (.checkcast 36, 3) := dk_192 0 36 (dk_at dksX0_checkpoint_3 0 rfl rfl)
theorem dX0_checkpoint_71 : decode cX0_checkpoint 71 = .ok (.aload_n 0, 1) := dk_42 (dk_at dksX0_checkpoint_3 3 rfl rfl)
theorem dX0_checkpoint_72 : decode cX0_checkpoint 72 = .ok (.getfield 132, 3) := dk_180 0 132 (dk_at dksX0_checkpoint_3 4 rfl rfl)
theorem dX0_checkpoint_75 : decode cX0_checkpoint 75 = .ok (.iconst 0, 1) := dk_3 (dk_at dksX0_checkpoint_3 7 rfl rfl)
theorem dX0_checkpoint_76 : decode cX0_checkpoint 76 = .ok (.aaload, 1) := dk_50 (dk_at dksX0_checkpoint_3 8 rfl rfl)
theorem dX0_checkpoint_77 : decode cX0_checkpoint 77 = .ok (.iconst 0, 1) := dk_3 (dk_at dksX0_checkpoint_3 9 rfl rfl)
theorem dX0_checkpoint_78 : decode cX0_checkpoint 78 = .ok (.aaload, 1) := dk_50 (dk_at dksX0_checkpoint_3 10 rfl rfl)
theorem dX0_checkpoint_79 : decode cX0_checkpoint 79 = .ok (.getfield 193, 3) := dk_180 0 193 (dk_at dksX0_checkpoint_3 11 rfl rfl)
theorem dX0_checkpoint_82 : decode cX0_checkpoint 82 = .ok (.getfield 288, 3) := dk_180 1 32 (dk_at dksX0_checkpoint_3 14 rfl rfl)
theorem dX0_checkpoint_85 : decode cX0_checkpoint 85 = .ok (.checkcast 36, 3) := dk_192 0 36 (dk_at dksX0_checkpoint_3 17 rfl rfl)
theorem dX0_checkpoint_88 : decode cX0_checkpoint 88 = .ok (.invokevirtual 290, 3) := dk_182 1 34 (dk_at dksX0_checkpoint_3 20 rfl rfl)
theorem dX0_checkpoint_91 : decode cX0_checkpoint 91 = .ok (.aload_n 0, 1) := dk_42 (dk_at dksX0_checkpoint_3 23 rfl rfl)
theorem dX0_checkpoint_92 : decode cX0_checkpoint 92 = .ok (.getfield 132, 3) := dk_180 0 132 (dk_at dksX0_checkpoint_4 0 rfl rfl)
theorem dX0_checkpoint_95 : decode cX0_checkpoint 95 = .ok (.iconst 0, 1) := dk_3 (dk_at dksX0_checkpoint_4 3 rfl rfl)
theorem dX0_checkpoint_96 : decode cX0_checkpoint 96 = .ok (.aaload, 1) := dk_50 (dk_at dksX0_checkpoint_4 4 rfl rfl)
theorem dX0_checkpoint_97 : decode cX0_checkpoint 97 = .ok (.iconst 0, 1) := dk_3 (dk_at dksX0_checkpoint_4 5 rfl rfl)
theorem dX0_checkpoint_98 : decode cX0_checkpoint 98 = .ok (.aaload, 1) := dk_50 (dk_at dksX0_checkpoint_4 6 rfl rfl)
theorem dX0_checkpoint_99 : decode cX0_checkpoint 99 = .ok (.iconst 1, 1) := dk_4 (dk_at dksX0_checkpoint_4 7 rfl rfl)
theorem dX0_checkpoint_100 : decode cX0_checkpoint 100 = .ok (.putfield 294, 3) := dk_181 1 38 (dk_at dksX0_checkpoint_4 8 rfl rfl)
theorem dX0_checkpoint_103 : decode cX0_checkpoint 103 = .ok (.aload_n 0, 1) := dk_42 (dk_at dksX0_checkpoint_4 11 rfl rfl)
theorem dX0_checkpoint_104 : decode cX0_checkpoint 104 = .ok (.getfield 213, 3) := dk_180 0 213 (dk_at dksX0_checkpoint_4 12 rfl rfl)
theorem dX0_checkpoint_107 : decode cX0_checkpoint 107 = .ok (.ireturn, 1) := dk_172 (dk_at dksX0_checkpoint_4 15 rfl rfl)
abbrev cX0_fail : ByteArray := prog_1_method_24_code
def yX0_fail : MethodName := ⟨RX0, "fail", "()I"⟩
def dkwX0_fail_7 : List UInt8 := [180, 0, 127, 184, 1, 49, 42, 180, 0, 210, 172]
abbrev dktX0_fail_7 : List UInt8 := dkwX0_fail_7 ++ []
def dkwX0_fail_6 : List UInt8 := [182, 1, 48, 132, 8, 1, 167, 255, 234, 132, 4, 1, 167, 255, 204, 132, 1, 1, 167, 255, 172, 42]
abbrev dktX0_fail_6 : List UInt8 := dkwX0_fail_6 ++ dktX0_fail_7
def dkwX0_fail_5 : List UInt8 := [25, 6, 190, 54, 7, 3, 54, 8, 21, 8, 21, 7, 162, 0, 21, 25, 6, 21, 8, 50, 58, 9, 25, 9]
abbrev dktX0_fail_5 : List UInt8 := dkwX0_fail_5 ++ dktX0_fail_6
def dkwX0_fail_4 : List UInt8 := [77, 44, 190, 62, 3, 54, 4, 21, 4, 29, 162, 0, 52, 44, 21, 4, 50, 58, 5, 25, 5, 58, 6]
abbrev dktX0_fail_4 : List UInt8 := dkwX0_fail_4 ++ dktX0_fail_5
def dkwX0_fail_3 : List UInt8 := [167, 255, 206, 3, 60, 27, 4, 96, 42, 180, 0, 115, 182, 0, 174, 162, 0, 77, 42, 180, 0, 138, 27, 50]
abbrev dktX0_fail_3 : List UInt8 := dkwX0_fail_3 ++ dktX0_fail_4
def dkwX0_fail_2 : List UInt8 := [162, 0, 20, 44, 21, 4, 50, 58, 5, 25, 5, 182, 1, 45, 132, 4, 1, 167, 255, 236, 132, 1, 1]
abbrev dktX0_fail_2 : List UInt8 := dkwX0_fail_2 ++ dktX0_fail_3
def dkwX0_fail_1 : List UInt8 := [182, 0, 174, 162, 0, 45, 42, 180, 0, 132, 27, 50, 77, 44, 190, 62, 3, 54, 4, 21, 4, 29]
abbrev dktX0_fail_1 : List UInt8 := dkwX0_fail_1 ++ dktX0_fail_2
def dkwX0_fail_0 : List UInt8 := [42, 89, 180, 0, 219, 4, 96, 181, 0, 219, 42, 3, 181, 0, 213, 3, 60, 27, 42, 180, 0, 115]
abbrev dktX0_fail_0 : List UInt8 := dkwX0_fail_0 ++ dktX0_fail_1
theorem dksX0_fail_0 : cX0_fail.data.toList.drop 0 = dktX0_fail_0 := by decide +kernel
theorem dksX0_fail_1 : cX0_fail.data.toList.drop 22 = dktX0_fail_1 := dk_seg dksX0_fail_0 22 rfl rfl
theorem dksX0_fail_2 : cX0_fail.data.toList.drop 44 = dktX0_fail_2 := dk_seg dksX0_fail_1 22 rfl rfl
theorem dksX0_fail_3 : cX0_fail.data.toList.drop 67 = dktX0_fail_3 := dk_seg dksX0_fail_2 23 rfl rfl
theorem dksX0_fail_4 : cX0_fail.data.toList.drop 91 = dktX0_fail_4 := dk_seg dksX0_fail_3 24 rfl rfl
theorem dksX0_fail_5 : cX0_fail.data.toList.drop 114 = dktX0_fail_5 := dk_seg dksX0_fail_4 23 rfl rfl
theorem dksX0_fail_6 : cX0_fail.data.toList.drop 138 = dktX0_fail_6 := dk_seg dksX0_fail_5 24 rfl rfl
theorem dksX0_fail_7 : cX0_fail.data.toList.drop 160 = dktX0_fail_7 := dk_seg dksX0_fail_6 22 rfl rfl
theorem dX0_fail_0 : decode cX0_fail 0 = .ok (.aload_n 0, 1) := dk_42 (dk_at dksX0_fail_0 0 rfl rfl)
theorem dX0_fail_1 : decode cX0_fail 1 = .ok (.dup, 1) := dk_89 (dk_at dksX0_fail_0 1 rfl rfl)
theorem dX0_fail_2 : decode cX0_fail 2 = .ok (.getfield 219, 3) := dk_180 0 219 (dk_at dksX0_fail_0 2 rfl rfl)
theorem dX0_fail_5 : decode cX0_fail 5 = .ok (.iconst 1, 1) := dk_4 (dk_at dksX0_fail_0 5 rfl rfl)
theorem dX0_fail_6 : decode cX0_fail 6 = .ok (.iadd, 1) := dk_96 (dk_at dksX0_fail_0 6 rfl rfl)
theorem dX0_fail_7 : decode cX0_fail 7 = .ok (.putfield 219, 3) := dk_181 0 219 (dk_at dksX0_fail_0 7 rfl rfl)
theorem dX0_fail_10 : decode cX0_fail 10 = .ok (.aload_n 0, 1) := dk_42 (dk_at dksX0_fail_0 10 rfl rfl)
theorem dX0_fail_11 : decode cX0_fail 11 = .ok (.iconst 0, 1) := dk_3 (dk_at dksX0_fail_0 11 rfl rfl)
theorem dX0_fail_12 : decode cX0_fail 12 = .ok (.putfield 213, 3) := dk_181 0 213 (dk_at dksX0_fail_0 12 rfl rfl)
theorem dX0_fail_15 : decode cX0_fail 15 = .ok (.iconst 0, 1) := dk_3 (dk_at dksX0_fail_0 15 rfl rfl)
theorem dX0_fail_16 : decode cX0_fail 16 = .ok (.istore_n 1, 1) := dk_60 (dk_at dksX0_fail_0 16 rfl rfl)
theorem dX0_fail_17 : decode cX0_fail 17 = .ok (.iload_n 1, 1) := dk_27 (dk_at dksX0_fail_0 17 rfl rfl)
theorem dX0_fail_18 : decode cX0_fail 18 = .ok (.aload_n 0, 1) := dk_42 (dk_at dksX0_fail_0 18 rfl rfl)
theorem dX0_fail_19 : decode cX0_fail 19 = .ok (.getfield 115, 3) := dk_180 0 115 (dk_at dksX0_fail_0 19 rfl rfl)
theorem dX0_fail_22 : decode cX0_fail 22 = .ok (.invokevirtual 174, 3) := dk_182 0 174 (dk_at dksX0_fail_1 0 rfl rfl)
theorem dX0_fail_25 : decode cX0_fail 25 = .ok (.if_icmp .ge 45, 3) := dk_162 0 45 (dk_at dksX0_fail_1 3 rfl rfl)
theorem dX0_fail_28 : decode cX0_fail 28 = .ok (.aload_n 0, 1) := dk_42 (dk_at dksX0_fail_1 6 rfl rfl)
theorem dX0_fail_29 : decode cX0_fail 29 = .ok (.getfield 132, 3) := dk_180 0 132 (dk_at dksX0_fail_1 7 rfl rfl)
theorem dX0_fail_32 : decode cX0_fail 32 = .ok (.iload_n 1, 1) := dk_27 (dk_at dksX0_fail_1 10 rfl rfl)
theorem dX0_fail_33 : decode cX0_fail 33 = .ok (.aaload, 1) := dk_50 (dk_at dksX0_fail_1 11 rfl rfl)
theorem dX0_fail_34 : decode cX0_fail 34 = .ok (.astore_n 2, 1) := dk_77 (dk_at dksX0_fail_1 12 rfl rfl)
theorem dX0_fail_35 : decode cX0_fail 35 = .ok (.aload_n 2, 1) := dk_44 (dk_at dksX0_fail_1 13 rfl rfl)
theorem dX0_fail_36 : decode cX0_fail 36 = .ok (.arraylength, 1) := dk_190 (dk_at dksX0_fail_1 14 rfl rfl)
theorem dX0_fail_37 : decode cX0_fail 37 = .ok (.istore_n 3, 1) := dk_62 (dk_at dksX0_fail_1 15 rfl rfl)
theorem dX0_fail_38 : decode cX0_fail 38 = .ok (.iconst 0, 1) := dk_3 (dk_at dksX0_fail_1 16 rfl rfl)
theorem dX0_fail_39 : decode cX0_fail 39 = .ok (.istore 4, 2) := dk_54 4 (dk_at dksX0_fail_1 17 rfl rfl)
theorem dX0_fail_41 : decode cX0_fail 41 = .ok (.iload 4, 2) := dk_21 4 (dk_at dksX0_fail_1 19 rfl rfl)
theorem dX0_fail_43 : decode cX0_fail 43 = .ok (.iload_n 3, 1) := dk_29 (dk_at dksX0_fail_1 21 rfl rfl)
theorem dX0_fail_44 : decode cX0_fail 44 = .ok (.if_icmp .ge 20, 3) := dk_162 0 20 (dk_at dksX0_fail_2 0 rfl rfl)
theorem dX0_fail_47 : decode cX0_fail 47 = .ok (.aload_n 2, 1) := dk_44 (dk_at dksX0_fail_2 3 rfl rfl)
theorem dX0_fail_48 : decode cX0_fail 48 = .ok (.iload 4, 2) := dk_21 4 (dk_at dksX0_fail_2 4 rfl rfl)
theorem dX0_fail_50 : decode cX0_fail 50 = .ok (.aaload, 1) := dk_50 (dk_at dksX0_fail_2 6 rfl rfl)
theorem dX0_fail_51 : decode cX0_fail 51 = .ok (.astore 5, 2) := dk_58 5 (dk_at dksX0_fail_2 7 rfl rfl)
theorem dX0_fail_53 : decode cX0_fail 53 = .ok (.aload 5, 2) := dk_25 5 (dk_at dksX0_fail_2 9 rfl rfl)
theorem dX0_fail_55 : decode cX0_fail 55 = .ok (.invokevirtual 301, 3) := dk_182 1 45 (dk_at dksX0_fail_2 11 rfl rfl)
theorem dX0_fail_58 : decode cX0_fail 58 = .ok (.iinc 4 1, 3) := dk_132 4 1 (dk_at dksX0_fail_2 14 rfl rfl)
theorem dX0_fail_61 : decode cX0_fail 61 = .ok (.goto (-20), 3) := dk_167 255 236 (dk_at dksX0_fail_2 17 rfl rfl)
theorem dX0_fail_64 : decode cX0_fail 64 = .ok (.iinc 1 1, 3) := dk_132 1 1 (dk_at dksX0_fail_2 20 rfl rfl)
theorem dX0_fail_67 : decode cX0_fail 67 = .ok (.goto (-50), 3) := dk_167 255 206 (dk_at dksX0_fail_3 0 rfl rfl)
theorem dX0_fail_70 : decode cX0_fail 70 = .ok (.iconst 0, 1) := dk_3 (dk_at dksX0_fail_3 3 rfl rfl)
theorem dX0_fail_71 : decode cX0_fail 71 = .ok (.istore_n 1, 1) := dk_60 (dk_at dksX0_fail_3 4 rfl rfl)
theorem dX0_fail_72 : decode cX0_fail 72 = .ok (.iload_n 1, 1) := dk_27 (dk_at dksX0_fail_3 5 rfl rfl)
theorem dX0_fail_73 : decode cX0_fail 73 = .ok (.iconst 1, 1) := dk_4 (dk_at dksX0_fail_3 6 rfl rfl)
theorem dX0_fail_74 : decode cX0_fail 74 = .ok (.iadd, 1) := dk_96 (dk_at dksX0_fail_3 7 rfl rfl)
theorem dX0_fail_75 : decode cX0_fail 75 = .ok (.aload_n 0, 1) := dk_42 (dk_at dksX0_fail_3 8 rfl rfl)
theorem dX0_fail_76 : decode cX0_fail 76 = .ok (.getfield 115, 3) := dk_180 0 115 (dk_at dksX0_fail_3 9 rfl rfl)
theorem dX0_fail_79 : decode cX0_fail 79 = .ok (.invokevirtual 174, 3) := dk_182 0 174 (dk_at dksX0_fail_3 12 rfl rfl)
theorem dX0_fail_82 : decode cX0_fail 82 = .ok (.if_icmp .ge 77, 3) := dk_162 0 77 (dk_at dksX0_fail_3 15 rfl rfl)
theorem dX0_fail_85 : decode cX0_fail 85 = .ok (.aload_n 0, 1) := dk_42 (dk_at dksX0_fail_3 18 rfl rfl)
theorem dX0_fail_86 : decode cX0_fail 86 = .ok (.getfield 138, 3) := dk_180 0 138 (dk_at dksX0_fail_3 19 rfl rfl)
theorem dX0_fail_89 : decode cX0_fail 89 = .ok (.iload_n 1, 1) := dk_27 (dk_at dksX0_fail_3 22 rfl rfl)
theorem dX0_fail_90 : decode cX0_fail 90 = .ok (.aaload, 1) := dk_50 (dk_at dksX0_fail_3 23 rfl rfl)
theorem dX0_fail_91 : decode cX0_fail 91 = .ok (.astore_n 2, 1) := dk_77 (dk_at dksX0_fail_4 0 rfl rfl)
theorem dX0_fail_92 : decode cX0_fail 92 = .ok (.aload_n 2, 1) := dk_44 (dk_at dksX0_fail_4 1 rfl rfl)
theorem dX0_fail_93 : decode cX0_fail 93 = .ok (.arraylength, 1) := dk_190 (dk_at dksX0_fail_4 2 rfl rfl)
theorem dX0_fail_94 : decode cX0_fail 94 = .ok (.istore_n 3, 1) := dk_62 (dk_at dksX0_fail_4 3 rfl rfl)
theorem dX0_fail_95 : decode cX0_fail 95 = .ok (.iconst 0, 1) := dk_3 (dk_at dksX0_fail_4 4 rfl rfl)
theorem dX0_fail_96 : decode cX0_fail 96 = .ok (.istore 4, 2) := dk_54 4 (dk_at dksX0_fail_4 5 rfl rfl)
theorem dX0_fail_98 : decode cX0_fail 98 = .ok (.iload 4, 2) := dk_21 4 (dk_at dksX0_fail_4 7 rfl rfl)
theorem dX0_fail_100 : decode cX0_fail 100 = .ok (.iload_n 3, 1) := dk_29 (dk_at dksX0_fail_4 9 rfl rfl)
theorem dX0_fail_101 : decode cX0_fail 101 = .ok (.if_icmp .ge 52, 3) := dk_162 0 52 (dk_at dksX0_fail_4 10 rfl rfl)
theorem dX0_fail_104 : decode cX0_fail 104 = .ok (.aload_n 2, 1) := dk_44 (dk_at dksX0_fail_4 13 rfl rfl)
theorem dX0_fail_105 : decode cX0_fail 105 = .ok (.iload 4, 2) := dk_21 4 (dk_at dksX0_fail_4 14 rfl rfl)
theorem dX0_fail_107 : decode cX0_fail 107 = .ok (.aaload, 1) := dk_50 (dk_at dksX0_fail_4 16 rfl rfl)
theorem dX0_fail_108 : decode cX0_fail 108 = .ok (.astore 5, 2) := dk_58 5 (dk_at dksX0_fail_4 17 rfl rfl)
theorem dX0_fail_110 : decode cX0_fail 110 = .ok (.aload 5, 2) := dk_25 5 (dk_at dksX0_fail_4 19 rfl rfl)
theorem dX0_fail_112 : decode cX0_fail 112 = .ok (.astore 6, 2) := dk_58 6 (dk_at dksX0_fail_4 21 rfl rfl)
theorem dX0_fail_114 : decode cX0_fail 114 = .ok (.aload 6, 2) := dk_25 6 (dk_at dksX0_fail_5 0 rfl rfl)
theorem dX0_fail_116 : decode cX0_fail 116 = .ok (.arraylength, 1) := dk_190 (dk_at dksX0_fail_5 2 rfl rfl)
theorem dX0_fail_117 : decode cX0_fail 117 = .ok (.istore 7, 2) := dk_54 7 (dk_at dksX0_fail_5 3 rfl rfl)
theorem dX0_fail_119 : decode cX0_fail 119 = .ok (.iconst 0, 1) := dk_3 (dk_at dksX0_fail_5 5 rfl rfl)
theorem dX0_fail_120 : decode cX0_fail 120 = .ok (.istore 8, 2) := dk_54 8 (dk_at dksX0_fail_5 6 rfl rfl)
theorem dX0_fail_122 : decode cX0_fail 122 = .ok (.iload 8, 2) := dk_21 8 (dk_at dksX0_fail_5 8 rfl rfl)
theorem dX0_fail_124 : decode cX0_fail 124 = .ok (.iload 7, 2) := dk_21 7 (dk_at dksX0_fail_5 10 rfl rfl)
theorem dX0_fail_126 : decode cX0_fail 126 = .ok (.if_icmp .ge 21, 3) := dk_162 0 21 (dk_at dksX0_fail_5 12 rfl rfl)
theorem dX0_fail_129 : decode cX0_fail 129 = .ok (.aload 6, 2) := dk_25 6 (dk_at dksX0_fail_5 15 rfl rfl)
theorem dX0_fail_131 : decode cX0_fail 131 = .ok (.iload 8, 2) := dk_21 8 (dk_at dksX0_fail_5 17 rfl rfl)
theorem dX0_fail_133 : decode cX0_fail 133 = .ok (.aaload, 1) := dk_50 (dk_at dksX0_fail_5 19 rfl rfl)
theorem dX0_fail_134 : decode cX0_fail 134 = .ok (.astore 9, 2) := dk_58 9 (dk_at dksX0_fail_5 20 rfl rfl)
theorem dX0_fail_136 : decode cX0_fail 136 = .ok (.aload 9, 2) := dk_25 9 (dk_at dksX0_fail_5 22 rfl rfl)
theorem dX0_fail_138 : decode cX0_fail 138 = .ok (.invokevirtual 304, 3) := dk_182 1 48 (dk_at dksX0_fail_6 0 rfl rfl)
theorem dX0_fail_141 : decode cX0_fail 141 = .ok (.iinc 8 1, 3) := dk_132 8 1 (dk_at dksX0_fail_6 3 rfl rfl)
theorem dX0_fail_144 : decode cX0_fail 144 = .ok (.goto (-22), 3) := dk_167 255 234 (dk_at dksX0_fail_6 6 rfl rfl)
theorem dX0_fail_147 : decode cX0_fail 147 = .ok (.iinc 4 1, 3) := dk_132 4 1 (dk_at dksX0_fail_6 9 rfl rfl)
theorem dX0_fail_150 : decode cX0_fail 150 = .ok (.goto (-52), 3) := dk_167 255 204 (dk_at dksX0_fail_6 12 rfl rfl)
theorem dX0_fail_153 : decode cX0_fail 153 = .ok (.iinc 1 1, 3) := dk_132 1 1 (dk_at dksX0_fail_6 15 rfl rfl)
theorem dX0_fail_156 : decode cX0_fail 156 = .ok (.goto (-84), 3) := dk_167 255 172 (dk_at dksX0_fail_6 18 rfl rfl)
theorem dX0_fail_159 : decode cX0_fail 159 = .ok (.aload_n 0, 1) := dk_42 (dk_at dksX0_fail_6 21 rfl rfl)
theorem dX0_fail_160 : decode cX0_fail 160 = .ok (.getfield 127, 3) := dk_180 0 127 (dk_at dksX0_fail_7 0 rfl rfl)
theorem dX0_fail_163 : decode cX0_fail 163 = .ok (.invokestatic 305, 3) := dk_184 1 49 (dk_at dksX0_fail_7 3 rfl rfl)
theorem dX0_fail_166 : decode cX0_fail 166 = .ok (.aload_n 0, 1) := dk_42 (dk_at dksX0_fail_7 6 rfl rfl)
theorem dX0_fail_167 : decode cX0_fail 167 = .ok (.getfield 210, 3) := dk_180 0 210 (dk_at dksX0_fail_7 7 rfl rfl)
theorem dX0_fail_170 : decode cX0_fail 170 = .ok (.ireturn, 1) := dk_172 (dk_at dksX0_fail_7 10 rfl rfl)
abbrev cX0_restoreAll : ByteArray := prog_1_method_3_code
def yX0_restoreAll : MethodName := ⟨RX0, "restoreAll", "(Ljava/lang/Iterable;)V"⟩
def dkwX0_restoreAll_1 : List UInt8 := [192, 0, 17, 77, 44, 182, 0, 23, 167, 255, 233, 177]
abbrev dktX0_restoreAll_1 : List UInt8 := dkwX0_restoreAll_1 ++ []
def dkwX0_restoreAll_0 : List UInt8 := [42, 185, 0, 1, 1, 0, 76, 43, 185, 0, 7, 1, 0, 153, 0, 20, 43, 185, 0, 13, 1, 0]
abbrev dktX0_restoreAll_0 : List UInt8 := dkwX0_restoreAll_0 ++ dktX0_restoreAll_1
theorem dksX0_restoreAll_0 : cX0_restoreAll.data.toList.drop 0 = dktX0_restoreAll_0 := by decide +kernel
theorem dksX0_restoreAll_1 : cX0_restoreAll.data.toList.drop 22 = dktX0_restoreAll_1 := dk_seg dksX0_restoreAll_0 22 rfl rfl
theorem dX0_restoreAll_0 : decode cX0_restoreAll 0 = .ok (.aload_n 0, 1) := dk_42 (dk_at dksX0_restoreAll_0 0 rfl rfl)
theorem dX0_restoreAll_1 : decode cX0_restoreAll 1 = .ok (.invokeinterface 1 1, 5) := by decide +kernel
theorem dX0_restoreAll_6 : decode cX0_restoreAll 6 = .ok (.astore_n 1, 1) := dk_76 (dk_at dksX0_restoreAll_0 6 rfl rfl)
theorem dX0_restoreAll_7 : decode cX0_restoreAll 7 = .ok (.aload_n 1, 1) := dk_43 (dk_at dksX0_restoreAll_0 7 rfl rfl)
theorem dX0_restoreAll_8 : decode cX0_restoreAll 8 = .ok (.invokeinterface 7 1, 5) := by decide +kernel
theorem dX0_restoreAll_13 : decode cX0_restoreAll 13 = .ok (.ifCond .eq 20, 3) := dk_153 0 20 (dk_at dksX0_restoreAll_0 13 rfl rfl)
theorem dX0_restoreAll_16 : decode cX0_restoreAll 16 = .ok (.aload_n 1, 1) := dk_43 (dk_at dksX0_restoreAll_0 16 rfl rfl)
theorem dX0_restoreAll_17 : decode cX0_restoreAll 17 = .ok (.invokeinterface 13 1, 5) := by decide +kernel
theorem dX0_restoreAll_22 : decode cX0_restoreAll 22 = .ok (.checkcast 17, 3) := dk_192 0 17 (dk_at dksX0_restoreAll_1 0 rfl rfl)
theorem dX0_restoreAll_25 : decode cX0_restoreAll 25 = .ok (.astore_n 2, 1) := dk_77 (dk_at dksX0_restoreAll_1 3 rfl rfl)
theorem dX0_restoreAll_26 : decode cX0_restoreAll 26 = .ok (.aload_n 2, 1) := dk_44 (dk_at dksX0_restoreAll_1 4 rfl rfl)
theorem dX0_restoreAll_27 : decode cX0_restoreAll 27 = .ok (.invokevirtual 23, 3) := dk_182 0 23 (dk_at dksX0_restoreAll_1 5 rfl rfl)
theorem dX0_restoreAll_30 : decode cX0_restoreAll 30 = .ok (.goto (-23), 3) := dk_167 255 233 (dk_at dksX0_restoreAll_1 8 rfl rfl)
theorem dX0_restoreAll_33 : decode cX0_restoreAll 33 = .ok (.return_, 1) := dk_177 (dk_at dksX0_restoreAll_1 11 rfl rfl)
abbrev cX0_rescale : ByteArray := prog_1_method_25_code
def yX0_rescale : MethodName := ⟨RX0, "rescale", "(II)I"⟩
def dkwX0_rescale_5 : List UInt8 := [167, 255, 200, 45, 28, 181, 0, 183, 42, 27, 182, 1, 66, 21, 4, 172]
abbrev dktX0_rescale_5 : List UInt8 := dkwX0_rescale_5 ++ []
def dkwX0_rescale_4 : List UInt8 := [21, 5, 45, 180, 0, 183, 184, 1, 62, 159, 0, 7, 4, 167, 0, 4, 3, 96, 54, 4, 132, 5, 1]
abbrev dktX0_rescale_4 : List UInt8 := dkwX0_rescale_4 ++ dktX0_rescale_5
def dkwX0_rescale_3 : List UInt8 := [180, 0, 187, 180, 1, 4, 192, 0, 28, 21, 5, 182, 1, 58, 153, 0, 25, 21, 5, 28, 184, 1, 62]
abbrev dktX0_rescale_3 : List UInt8 := dkwX0_rescale_3 ++ dktX0_rescale_4
def dkwX0_rescale_2 : List UInt8 := [182, 0, 177, 192, 0, 181, 78, 3, 54, 4, 3, 54, 5, 21, 5, 16, 16, 162, 0, 55, 21, 4, 45]
abbrev dktX0_rescale_2 : List UInt8 := dkwX0_rescale_2 ++ dktX0_rescale_3
def dkwX0_rescale_1 : List UInt8 := [133, 10, 20, 1, 53, 184, 0, 229, 154, 0, 6, 18, 239, 172, 42, 182, 1, 55, 87, 42, 180, 0, 115, 27]
abbrev dktX0_rescale_1 : List UInt8 := dkwX0_rescale_1 ++ dktX0_rescale_2
def dkwX0_rescale_0 : List UInt8 := [27, 133, 10, 42, 180, 0, 115, 182, 0, 174, 4, 100, 133, 184, 0, 229, 154, 0, 7, 19, 1, 52, 172, 28]
abbrev dktX0_rescale_0 : List UInt8 := dkwX0_rescale_0 ++ dktX0_rescale_1
theorem dksX0_rescale_0 : cX0_rescale.data.toList.drop 0 = dktX0_rescale_0 := by decide +kernel
theorem dksX0_rescale_1 : cX0_rescale.data.toList.drop 24 = dktX0_rescale_1 := dk_seg dksX0_rescale_0 24 rfl rfl
theorem dksX0_rescale_2 : cX0_rescale.data.toList.drop 48 = dktX0_rescale_2 := dk_seg dksX0_rescale_1 24 rfl rfl
theorem dksX0_rescale_3 : cX0_rescale.data.toList.drop 71 = dktX0_rescale_3 := dk_seg dksX0_rescale_2 23 rfl rfl
theorem dksX0_rescale_4 : cX0_rescale.data.toList.drop 94 = dktX0_rescale_4 := dk_seg dksX0_rescale_3 23 rfl rfl
theorem dksX0_rescale_5 : cX0_rescale.data.toList.drop 117 = dktX0_rescale_5 := dk_seg dksX0_rescale_4 23 rfl rfl
theorem dX0_rescale_0 : decode cX0_rescale 0 = .ok (.iload_n 1, 1) := dk_27 (dk_at dksX0_rescale_0 0 rfl rfl)
theorem dX0_rescale_1 : decode cX0_rescale 1 = .ok (.i2l, 1) := dk_133 (dk_at dksX0_rescale_0 1 rfl rfl)
theorem dX0_rescale_2 : decode cX0_rescale 2 = .ok (.lconst 1, 1) := dk_10 (dk_at dksX0_rescale_0 2 rfl rfl)
theorem dX0_rescale_3 : decode cX0_rescale 3 = .ok (.aload_n 0, 1) := dk_42 (dk_at dksX0_rescale_0 3 rfl rfl)
theorem dX0_rescale_4 : decode cX0_rescale 4 = .ok (.getfield 115, 3) := dk_180 0 115 (dk_at dksX0_rescale_0 4 rfl rfl)
theorem dX0_rescale_7 : decode cX0_rescale 7 = .ok (.invokevirtual 174, 3) := dk_182 0 174 (dk_at dksX0_rescale_0 7 rfl rfl)
theorem dX0_rescale_10 : decode cX0_rescale 10 = .ok (.iconst 1, 1) := dk_4 (dk_at dksX0_rescale_0 10 rfl rfl)
theorem dX0_rescale_11 : decode cX0_rescale 11 = .ok (.isub, 1) := dk_100 (dk_at dksX0_rescale_0 11 rfl rfl)
theorem dX0_rescale_12 : decode cX0_rescale 12 = .ok (.i2l, 1) := dk_133 (dk_at dksX0_rescale_0 12 rfl rfl)
theorem dX0_rescale_13 : decode cX0_rescale 13 = .ok (.invokestatic 229, 3) := dk_184 0 229 (dk_at dksX0_rescale_0 13 rfl rfl)
theorem dX0_rescale_16 : decode cX0_rescale 16 = .ok (.ifCond .ne 7, 3) := dk_154 0 7 (dk_at dksX0_rescale_0 16 rfl rfl)
theorem dX0_rescale_19 : decode cX0_rescale 19 = .ok (.ldc_w 308, 3) := dk_19 1 52 (dk_at dksX0_rescale_0 19 rfl rfl)
theorem dX0_rescale_22 : decode cX0_rescale 22 = .ok (.ireturn, 1) := dk_172 (dk_at dksX0_rescale_0 22 rfl rfl)
theorem dX0_rescale_23 : decode cX0_rescale 23 = .ok (.iload_n 2, 1) := dk_28 (dk_at dksX0_rescale_0 23 rfl rfl)
theorem dX0_rescale_24 : decode cX0_rescale 24 = .ok (.i2l, 1) := dk_133 (dk_at dksX0_rescale_1 0 rfl rfl)
theorem dX0_rescale_25 : decode cX0_rescale 25 = .ok (.lconst 1, 1) := dk_10 (dk_at dksX0_rescale_1 1 rfl rfl)
theorem dX0_rescale_26 : decode cX0_rescale 26 = .ok (.ldc2_w 309, 3) := dk_20 1 53 (dk_at dksX0_rescale_1 2 rfl rfl)
theorem dX0_rescale_29 : decode cX0_rescale 29 = .ok (.invokestatic 229, 3) := dk_184 0 229 (dk_at dksX0_rescale_1 5 rfl rfl)
theorem dX0_rescale_32 : decode cX0_rescale 32 = .ok (.ifCond .ne 6, 3) := dk_154 0 6 (dk_at dksX0_rescale_1 8 rfl rfl)
theorem dX0_rescale_35 : decode cX0_rescale 35 = .ok (.ldc 239, 2) := dk_18 239 (dk_at dksX0_rescale_1 11 rfl rfl)
theorem dX0_rescale_37 : decode cX0_rescale 37 = .ok (.ireturn, 1) := dk_172 (dk_at dksX0_rescale_1 13 rfl rfl)
theorem dX0_rescale_38 : decode cX0_rescale 38 = .ok (.aload_n 0, 1) := dk_42 (dk_at dksX0_rescale_1 14 rfl rfl)
theorem dX0_rescale_39 : decode cX0_rescale 39 = .ok (.invokevirtual 311, 3) := dk_182 1 55 (dk_at dksX0_rescale_1 15 rfl rfl)
theorem dX0_rescale_42 : decode cX0_rescale 42 = .ok (.pop, 1) := dk_87 (dk_at dksX0_rescale_1 18 rfl rfl)
theorem dX0_rescale_43 : decode cX0_rescale 43 = .ok (.aload_n 0, 1) := dk_42 (dk_at dksX0_rescale_1 19 rfl rfl)
theorem dX0_rescale_44 : decode cX0_rescale 44 = .ok (.getfield 115, 3) := dk_180 0 115 (dk_at dksX0_rescale_1 20 rfl rfl)
theorem dX0_rescale_47 : decode cX0_rescale 47 = .ok (.iload_n 1, 1) := dk_27 (dk_at dksX0_rescale_1 23 rfl rfl)
theorem dX0_rescale_48 : decode cX0_rescale 48 = .ok (.invokevirtual 177, 3) := dk_182 0 177 (dk_at dksX0_rescale_2 0 rfl rfl)
theorem dX0_rescale_51 : decode cX0_rescale 51 = .ok (.checkcast 181, 3) := dk_192 0 181 (dk_at dksX0_rescale_2 3 rfl rfl)
theorem dX0_rescale_54 : decode cX0_rescale 54 = .ok (.astore_n 3, 1) := dk_78 (dk_at dksX0_rescale_2 6 rfl rfl)
theorem dX0_rescale_55 : decode cX0_rescale 55 = .ok (.iconst 0, 1) := dk_3 (dk_at dksX0_rescale_2 7 rfl rfl)
theorem dX0_rescale_56 : decode cX0_rescale 56 = .ok (.istore 4, 2) := dk_54 4 (dk_at dksX0_rescale_2 8 rfl rfl)
theorem dX0_rescale_58 : decode cX0_rescale 58 = .ok (.iconst 0, 1) := dk_3 (dk_at dksX0_rescale_2 10 rfl rfl)
theorem dX0_rescale_59 : decode cX0_rescale 59 = .ok (.istore 5, 2) := dk_54 5 (dk_at dksX0_rescale_2 11 rfl rfl)
theorem dX0_rescale_61 : decode cX0_rescale 61 = .ok (.iload 5, 2) := dk_21 5 (dk_at dksX0_rescale_2 13 rfl rfl)
theorem dX0_rescale_63 : decode cX0_rescale 63 = .ok (.bipush 16, 2) := dk_16 16 (dk_at dksX0_rescale_2 15 rfl rfl)
theorem dX0_rescale_65 : decode cX0_rescale 65 = .ok (.if_icmp .ge 55, 3) := dk_162 0 55 (dk_at dksX0_rescale_2 17 rfl rfl)
theorem dX0_rescale_68 : decode cX0_rescale 68 = .ok (.iload 4, 2) := dk_21 4 (dk_at dksX0_rescale_2 20 rfl rfl)
theorem dX0_rescale_70 : decode cX0_rescale 70 = .ok (.aload_n 3, 1) := dk_45 (dk_at dksX0_rescale_2 22 rfl rfl)
theorem dX0_rescale_71 : decode cX0_rescale 71 = .ok (.getfield 187, 3) := dk_180 0 187 (dk_at dksX0_rescale_3 0 rfl rfl)
theorem dX0_rescale_74 : decode cX0_rescale 74 = .ok (.getfield 260, 3) := dk_180 1 4 (dk_at dksX0_rescale_3 3 rfl rfl)
theorem dX0_rescale_77 : decode cX0_rescale 77 = .ok (.checkcast 28, 3) := dk_192 0 28 (dk_at dksX0_rescale_3 6 rfl rfl)
theorem dX0_rescale_80 : decode cX0_rescale 80 = .ok (.iload 5, 2) := dk_21 5 (dk_at dksX0_rescale_3 9 rfl rfl)
theorem dX0_rescale_82 : decode cX0_rescale 82 = .ok (.invokevirtual 314, 3) := dk_182 1 58 (dk_at dksX0_rescale_3 11 rfl rfl)
theorem dX0_rescale_85 : decode cX0_rescale 85 = .ok (.ifCond .eq 25, 3) := dk_153 0 25 (dk_at dksX0_rescale_3 14 rfl rfl)
theorem dX0_rescale_88 : decode cX0_rescale 88 = .ok (.iload 5, 2) := dk_21 5 (dk_at dksX0_rescale_3 17 rfl rfl)
theorem dX0_rescale_90 : decode cX0_rescale 90 = .ok (.iload_n 2, 1) := dk_28 (dk_at dksX0_rescale_3 19 rfl rfl)
theorem dX0_rescale_91 : decode cX0_rescale 91 = .ok (.invokestatic 318, 3) := dk_184 1 62 (dk_at dksX0_rescale_3 20 rfl rfl)
theorem dX0_rescale_94 : decode cX0_rescale 94 = .ok (.iload 5, 2) := dk_21 5 (dk_at dksX0_rescale_4 0 rfl rfl)
theorem dX0_rescale_96 : decode cX0_rescale 96 = .ok (.aload_n 3, 1) := dk_45 (dk_at dksX0_rescale_4 2 rfl rfl)
theorem dX0_rescale_97 : decode cX0_rescale 97 = .ok (.getfield 183, 3) := dk_180 0 183 (dk_at dksX0_rescale_4 3 rfl rfl)
theorem dX0_rescale_100 : decode cX0_rescale 100 = .ok (.invokestatic 318, 3) := dk_184 1 62 (dk_at dksX0_rescale_4 6 rfl rfl)
theorem dX0_rescale_103 : decode cX0_rescale 103 = .ok (.if_icmp .eq 7, 3) := dk_159 0 7 (dk_at dksX0_rescale_4 9 rfl rfl)
theorem dX0_rescale_106 : decode cX0_rescale 106 = .ok (.iconst 1, 1) := dk_4 (dk_at dksX0_rescale_4 12 rfl rfl)
theorem dX0_rescale_107 : decode cX0_rescale 107 = .ok (.goto 4, 3) := dk_167 0 4 (dk_at dksX0_rescale_4 13 rfl rfl)
theorem dX0_rescale_110 : decode cX0_rescale 110 = .ok (.iconst 0, 1) := dk_3 (dk_at dksX0_rescale_4 16 rfl rfl)
theorem dX0_rescale_111 : decode cX0_rescale 111 = .ok (.iadd, 1) := dk_96 (dk_at dksX0_rescale_4 17 rfl rfl)
theorem dX0_rescale_112 : decode cX0_rescale 112 = .ok (.istore 4, 2) := dk_54 4 (dk_at dksX0_rescale_4 18 rfl rfl)
theorem dX0_rescale_114 : decode cX0_rescale 114 = .ok (.iinc 5 1, 3) := dk_132 5 1 (dk_at dksX0_rescale_4 20 rfl rfl)
theorem dX0_rescale_117 : decode cX0_rescale 117 = .ok (.goto (-56), 3) := dk_167 255 200 (dk_at dksX0_rescale_5 0 rfl rfl)
theorem dX0_rescale_120 : decode cX0_rescale 120 = .ok (.aload_n 3, 1) := dk_45 (dk_at dksX0_rescale_5 3 rfl rfl)
theorem dX0_rescale_121 : decode cX0_rescale 121 = .ok (.iload_n 2, 1) := dk_28 (dk_at dksX0_rescale_5 4 rfl rfl)
theorem dX0_rescale_122 : decode cX0_rescale 122 = .ok (.putfield 183, 3) := dk_181 0 183 (dk_at dksX0_rescale_5 5 rfl rfl)
theorem dX0_rescale_125 : decode cX0_rescale 125 = .ok (.aload_n 0, 1) := dk_42 (dk_at dksX0_rescale_5 8 rfl rfl)
theorem dX0_rescale_126 : decode cX0_rescale 126 = .ok (.iload_n 1, 1) := dk_27 (dk_at dksX0_rescale_5 9 rfl rfl)
theorem dX0_rescale_127 : decode cX0_rescale 127 = .ok (.invokevirtual 322, 3) := dk_182 1 66 (dk_at dksX0_rescale_5 10 rfl rfl)
theorem dX0_rescale_130 : decode cX0_rescale 130 = .ok (.iload 4, 2) := dk_21 4 (dk_at dksX0_rescale_5 13 rfl rfl)
theorem dX0_rescale_132 : decode cX0_rescale 132 = .ok (.ireturn, 1) := dk_172 (dk_at dksX0_rescale_5 15 rfl rfl)
abbrev cX0_rebuild : ByteArray := prog_1_method_26_code
def yX0_rebuild : MethodName := ⟨RX0, "rebuild", "(I)V"⟩
def dkwX0_rebuild_6 : List UInt8 := [182, 1, 34, 132, 4, 1, 167, 255, 164, 132, 3, 1, 167, 255, 144, 177]
abbrev dktX0_rebuild_6 : List UInt8 := dkwX0_rebuild_6 ++ []
def dkwX0_rebuild_5 : List UInt8 := [180, 1, 69, 192, 0, 36, 42, 180, 0, 132, 29, 50, 21, 4, 50, 180, 0, 193, 180, 1, 69, 192, 0, 36]
abbrev dktX0_rebuild_5 : List UInt8 := dkwX0_rebuild_5 ++ dktX0_rebuild_6
def dkwX0_rebuild_4 : List UInt8 := [21, 4, 50, 180, 0, 193, 180, 1, 4, 192, 0, 36, 182, 1, 34, 44, 29, 50, 21, 4, 50, 180, 0, 193]
abbrev dktX0_rebuild_4 : List UInt8 := dkwX0_rebuild_4 ++ dktX0_rebuild_5
def dkwX0_rebuild_3 : List UInt8 := [159, 0, 81, 44, 29, 50, 21, 4, 50, 180, 0, 193, 180, 1, 4, 192, 0, 36, 42, 180, 0, 132, 29, 50]
abbrev dktX0_rebuild_3 : List UInt8 := dkwX0_rebuild_3 ++ dktX0_rebuild_4
def dkwX0_rebuild_2 : List UInt8 := [182, 0, 174, 162, 0, 107, 3, 54, 4, 21, 4, 42, 180, 0, 132, 29, 50, 190, 162, 0, 86, 29, 27]
abbrev dktX0_rebuild_2 : List UInt8 := dkwX0_rebuild_2 ++ dktX0_rebuild_3
def dkwX0_rebuild_1 : List UInt8 := [180, 0, 132, 29, 50, 83, 132, 3, 1, 167, 255, 238, 42, 182, 0, 156, 3, 62, 29, 42, 180, 0, 115]
abbrev dktX0_rebuild_1 : List UInt8 := dkwX0_rebuild_1 ++ dktX0_rebuild_2
def dkwX0_rebuild_0 : List UInt8 := [42, 180, 0, 115, 182, 0, 174, 189, 0, 130, 77, 3, 62, 29, 44, 190, 162, 0, 18, 44, 29, 42]
abbrev dktX0_rebuild_0 : List UInt8 := dkwX0_rebuild_0 ++ dktX0_rebuild_1
theorem dksX0_rebuild_0 : cX0_rebuild.data.toList.drop 0 = dktX0_rebuild_0 := by decide +kernel
theorem dksX0_rebuild_1 : cX0_rebuild.data.toList.drop 22 = dktX0_rebuild_1 := dk_seg dksX0_rebuild_0 22 rfl rfl
theorem dksX0_rebuild_2 : cX0_rebuild.data.toList.drop 45 = dktX0_rebuild_2 := dk_seg dksX0_rebuild_1 23 rfl rfl
theorem dksX0_rebuild_3 : cX0_rebuild.data.toList.drop 68 = dktX0_rebuild_3 := dk_seg dksX0_rebuild_2 23 rfl rfl
theorem dksX0_rebuild_4 : cX0_rebuild.data.toList.drop 92 = dktX0_rebuild_4 := dk_seg dksX0_rebuild_3 24 rfl rfl
theorem dksX0_rebuild_5 : cX0_rebuild.data.toList.drop 116 = dktX0_rebuild_5 := dk_seg dksX0_rebuild_4 24 rfl rfl
theorem dksX0_rebuild_6 : cX0_rebuild.data.toList.drop 140 = dktX0_rebuild_6 := dk_seg dksX0_rebuild_5 24 rfl rfl
theorem dX0_rebuild_0 : decode cX0_rebuild 0 = .ok (.aload_n 0, 1) := dk_42 (dk_at dksX0_rebuild_0 0 rfl rfl)
theorem dX0_rebuild_1 : decode cX0_rebuild 1 = .ok (.getfield 115, 3) := dk_180 0 115 (dk_at dksX0_rebuild_0 1 rfl rfl)
theorem dX0_rebuild_4 : decode cX0_rebuild 4 = .ok (.invokevirtual 174, 3) := dk_182 0 174 (dk_at dksX0_rebuild_0 4 rfl rfl)
theorem dX0_rebuild_7 : decode cX0_rebuild 7 = .ok (.anewarray 130, 3) := dk_189 0 130 (dk_at dksX0_rebuild_0 7 rfl rfl)
theorem dX0_rebuild_10 : decode cX0_rebuild 10 = .ok (.astore_n 2, 1) := dk_77 (dk_at dksX0_rebuild_0 10 rfl rfl)
theorem dX0_rebuild_11 : decode cX0_rebuild 11 = .ok (.iconst 0, 1) := dk_3 (dk_at dksX0_rebuild_0 11 rfl rfl)
theorem dX0_rebuild_12 : decode cX0_rebuild 12 = .ok (.istore_n 3, 1) := dk_62 (dk_at dksX0_rebuild_0 12 rfl rfl)
theorem dX0_rebuild_13 : decode cX0_rebuild 13 = .ok (.iload_n 3, 1) := dk_29 (dk_at dksX0_rebuild_0 13 rfl rfl)
theorem dX0_rebuild_14 : decode cX0_rebuild 14 = .ok (.aload_n 2, 1) := dk_44 (dk_at dksX0_rebuild_0 14 rfl rfl)
theorem dX0_rebuild_15 : decode cX0_rebuild 15 = .ok (.arraylength, 1) := dk_190 (dk_at dksX0_rebuild_0 15 rfl rfl)
theorem dX0_rebuild_16 : decode cX0_rebuild 16 = .ok (.if_icmp .ge 18, 3) := dk_162 0 18 (dk_at dksX0_rebuild_0 16 rfl rfl)
theorem dX0_rebuild_19 : decode cX0_rebuild 19 = .ok (.aload_n 2, 1) := dk_44 (dk_at dksX0_rebuild_0 19 rfl rfl)
theorem dX0_rebuild_20 : decode cX0_rebuild 20 = .ok (.iload_n 3, 1) := dk_29 (dk_at dksX0_rebuild_0 20 rfl rfl)
theorem dX0_rebuild_21 : decode cX0_rebuild 21 = .ok (.aload_n 0, 1) := dk_42 (dk_at dksX0_rebuild_0 21 rfl rfl)
theorem dX0_rebuild_22 : decode cX0_rebuild 22 = .ok (.getfield 132, 3) := dk_180 0 132 (dk_at dksX0_rebuild_1 0 rfl rfl)
theorem dX0_rebuild_25 : decode cX0_rebuild 25 = .ok (.iload_n 3, 1) := dk_29 (dk_at dksX0_rebuild_1 3 rfl rfl)
theorem dX0_rebuild_26 : decode cX0_rebuild 26 = .ok (.aaload, 1) := dk_50 (dk_at dksX0_rebuild_1 4 rfl rfl)
theorem dX0_rebuild_27 : decode cX0_rebuild 27 = .ok (.aastore, 1) := dk_83 (dk_at dksX0_rebuild_1 5 rfl rfl)
theorem dX0_rebuild_28 : decode cX0_rebuild 28 = .ok (.iinc 3 1, 3) := dk_132 3 1 (dk_at dksX0_rebuild_1 6 rfl rfl)
theorem dX0_rebuild_31 : decode cX0_rebuild 31 = .ok (.goto (-18), 3) := dk_167 255 238 (dk_at dksX0_rebuild_1 9 rfl rfl)
theorem dX0_rebuild_34 : decode cX0_rebuild 34 = .ok (.aload_n 0, 1) := dk_42 (dk_at dksX0_rebuild_1 12 rfl rfl)
theorem dX0_rebuild_35 : decode cX0_rebuild 35 = .ok (.invokevirtual 156, 3) := dk_182 0 156 (dk_at dksX0_rebuild_1 13 rfl rfl)
theorem dX0_rebuild_38 : decode cX0_rebuild 38 = .ok (.iconst 0, 1) := dk_3 (dk_at dksX0_rebuild_1 16 rfl rfl)
theorem dX0_rebuild_39 : decode cX0_rebuild 39 = .ok (.istore_n 3, 1) := dk_62 (dk_at dksX0_rebuild_1 17 rfl rfl)
theorem dX0_rebuild_40 : decode cX0_rebuild 40 = .ok (.iload_n 3, 1) := dk_29 (dk_at dksX0_rebuild_1 18 rfl rfl)
theorem dX0_rebuild_41 : decode cX0_rebuild 41 = .ok (.aload_n 0, 1) := dk_42 (dk_at dksX0_rebuild_1 19 rfl rfl)
theorem dX0_rebuild_42 : decode cX0_rebuild 42 = .ok (.getfield 115, 3) := dk_180 0 115 (dk_at dksX0_rebuild_1 20 rfl rfl)
theorem dX0_rebuild_45 : decode cX0_rebuild 45 = .ok (.invokevirtual 174, 3) := dk_182 0 174 (dk_at dksX0_rebuild_2 0 rfl rfl)
theorem dX0_rebuild_48 : decode cX0_rebuild 48 = .ok (.if_icmp .ge 107, 3) := dk_162 0 107 (dk_at dksX0_rebuild_2 3 rfl rfl)
theorem dX0_rebuild_51 : decode cX0_rebuild 51 = .ok (.iconst 0, 1) := dk_3 (dk_at dksX0_rebuild_2 6 rfl rfl)
theorem dX0_rebuild_52 : decode cX0_rebuild 52 = .ok (.istore 4, 2) := dk_54 4 (dk_at dksX0_rebuild_2 7 rfl rfl)
theorem dX0_rebuild_54 : decode cX0_rebuild 54 = .ok (.iload 4, 2) := dk_21 4 (dk_at dksX0_rebuild_2 9 rfl rfl)
theorem dX0_rebuild_56 : decode cX0_rebuild 56 = .ok (.aload_n 0, 1) := dk_42 (dk_at dksX0_rebuild_2 11 rfl rfl)
theorem dX0_rebuild_57 : decode cX0_rebuild 57 = .ok (.getfield 132, 3) := dk_180 0 132 (dk_at dksX0_rebuild_2 12 rfl rfl)
theorem dX0_rebuild_60 : decode cX0_rebuild 60 = .ok (.iload_n 3, 1) := dk_29 (dk_at dksX0_rebuild_2 15 rfl rfl)
theorem dX0_rebuild_61 : decode cX0_rebuild 61 = .ok (.aaload, 1) := dk_50 (dk_at dksX0_rebuild_2 16 rfl rfl)
theorem dX0_rebuild_62 : decode cX0_rebuild 62 = .ok (.arraylength, 1) := dk_190 (dk_at dksX0_rebuild_2 17 rfl rfl)
theorem dX0_rebuild_63 : decode cX0_rebuild 63 = .ok (.if_icmp .ge 86, 3) := dk_162 0 86 (dk_at dksX0_rebuild_2 18 rfl rfl)
theorem dX0_rebuild_66 : decode cX0_rebuild 66 = .ok (.iload_n 3, 1) := dk_29 (dk_at dksX0_rebuild_2 21 rfl rfl)
theorem dX0_rebuild_67 : decode cX0_rebuild 67 = .ok (.iload_n 1, 1) := dk_27 (dk_at dksX0_rebuild_2 22 rfl rfl)
theorem dX0_rebuild_68 : decode cX0_rebuild 68 = .ok (.if_icmp .eq 81, 3) := dk_159 0 81 (dk_at dksX0_rebuild_3 0 rfl rfl)
theorem dX0_rebuild_71 : decode cX0_rebuild 71 = .ok (.aload_n 2, 1) := dk_44 (dk_at dksX0_rebuild_3 3 rfl rfl)
theorem dX0_rebuild_72 : decode cX0_rebuild 72 = .ok (.iload_n 3, 1) := dk_29 (dk_at dksX0_rebuild_3 4 rfl rfl)
theorem dX0_rebuild_73 : decode cX0_rebuild 73 = .ok (.aaload, 1) := dk_50 (dk_at dksX0_rebuild_3 5 rfl rfl)
theorem dX0_rebuild_74 : decode cX0_rebuild 74 = .ok (.iload 4, 2) := dk_21 4 (dk_at dksX0_rebuild_3 6 rfl rfl)
theorem dX0_rebuild_76 : decode cX0_rebuild 76 = .ok (.aaload, 1) := dk_50 (dk_at dksX0_rebuild_3 8 rfl rfl)
theorem dX0_rebuild_77 : decode cX0_rebuild 77 = .ok (.getfield 193, 3) := dk_180 0 193 (dk_at dksX0_rebuild_3 9 rfl rfl)
theorem dX0_rebuild_80 : decode cX0_rebuild 80 = .ok (.getfield 260, 3) := dk_180 1 4 (dk_at dksX0_rebuild_3 12 rfl rfl)
theorem dX0_rebuild_83 : decode cX0_rebuild 83 = .ok (.checkcast 36, 3) := dk_192 0 36 (dk_at dksX0_rebuild_3 15 rfl rfl)
theorem dX0_rebuild_86 : decode cX0_rebuild 86 = .ok (.aload_n 0, 1) := dk_42 (dk_at dksX0_rebuild_3 18 rfl rfl)
theorem dX0_rebuild_87 : decode cX0_rebuild 87 = .ok (.getfield 132, 3) := dk_180 0 132 (dk_at dksX0_rebuild_3 19 rfl rfl)
theorem dX0_rebuild_90 : decode cX0_rebuild 90 = .ok (.iload_n 3, 1) := dk_29 (dk_at dksX0_rebuild_3 22 rfl rfl)
theorem dX0_rebuild_91 : decode cX0_rebuild 91 = .ok (.aaload, 1) := dk_50 (dk_at dksX0_rebuild_3 23 rfl rfl)
theorem dX0_rebuild_92 : decode cX0_rebuild 92 = .ok (.iload 4, 2) := dk_21 4 (dk_at dksX0_rebuild_4 0 rfl rfl)
theorem dX0_rebuild_94 : decode cX0_rebuild 94 = .ok (.aaload, 1) := dk_50 (dk_at dksX0_rebuild_4 2 rfl rfl)
theorem dX0_rebuild_95 : decode cX0_rebuild 95 = .ok (.getfield 193, 3) := dk_180 0 193 (dk_at dksX0_rebuild_4 3 rfl rfl)
theorem dX0_rebuild_98 : decode cX0_rebuild 98 = .ok (.getfield 260, 3) := dk_180 1 4 (dk_at dksX0_rebuild_4 6 rfl rfl)
theorem dX0_rebuild_101 : decode cX0_rebuild 101 = .ok (.checkcast 36, 3) := dk_192 0 36 (dk_at dksX0_rebuild_4 9 rfl rfl)
theorem dX0_rebuild_104 : decode cX0_rebuild 104 = .ok (.invokevirtual 290, 3) := dk_182 1 34 (dk_at dksX0_rebuild_4 12 rfl rfl)
theorem dX0_rebuild_107 : decode cX0_rebuild 107 = .ok (.aload_n 2, 1) := dk_44 (dk_at dksX0_rebuild_4 15 rfl rfl)
theorem dX0_rebuild_108 : decode cX0_rebuild 108 = .ok (.iload_n 3, 1) := dk_29 (dk_at dksX0_rebuild_4 16 rfl rfl)
theorem dX0_rebuild_109 : decode cX0_rebuild 109 = .ok (.aaload, 1) := dk_50 (dk_at dksX0_rebuild_4 17 rfl rfl)
theorem dX0_rebuild_110 : decode cX0_rebuild 110 = .ok (.iload 4, 2) := dk_21 4 (dk_at dksX0_rebuild_4 18 rfl rfl)
theorem dX0_rebuild_112 : decode cX0_rebuild 112 = .ok (.aaload, 1) := dk_50 (dk_at dksX0_rebuild_4 20 rfl rfl)
theorem dX0_rebuild_113 : decode cX0_rebuild 113 = .ok (.getfield 193, 3) := dk_180 0 193 (dk_at dksX0_rebuild_4 21 rfl rfl)
theorem dX0_rebuild_116 : decode cX0_rebuild 116 = .ok (.getfield 325, 3) := dk_180 1 69 (dk_at dksX0_rebuild_5 0 rfl rfl)
theorem dX0_rebuild_119 : decode cX0_rebuild 119 = .ok (.checkcast 36, 3) := dk_192 0 36 (dk_at dksX0_rebuild_5 3 rfl rfl)
theorem dX0_rebuild_122 : decode cX0_rebuild 122 = .ok (.aload_n 0, 1) := dk_42 (dk_at dksX0_rebuild_5 6 rfl rfl)
theorem dX0_rebuild_123 : decode cX0_rebuild 123 = .ok (.getfield 132, 3) := dk_180 0 132 (dk_at dksX0_rebuild_5 7 rfl rfl)
theorem dX0_rebuild_126 : decode cX0_rebuild 126 = .ok (.iload_n 3, 1) := dk_29 (dk_at dksX0_rebuild_5 10 rfl rfl)
theorem dX0_rebuild_127 : decode cX0_rebuild 127 = .ok (.aaload, 1) := dk_50 (dk_at dksX0_rebuild_5 11 rfl rfl)
theorem dX0_rebuild_128 : decode cX0_rebuild 128 = .ok (.iload 4, 2) := dk_21 4 (dk_at dksX0_rebuild_5 12 rfl rfl)
theorem dX0_rebuild_130 : decode cX0_rebuild 130 = .ok (.aaload, 1) := dk_50 (dk_at dksX0_rebuild_5 14 rfl rfl)
theorem dX0_rebuild_131 : decode cX0_rebuild 131 = .ok (.getfield 193, 3) := dk_180 0 193 (dk_at dksX0_rebuild_5 15 rfl rfl)
theorem dX0_rebuild_134 : decode cX0_rebuild 134 = .ok (.getfield 325, 3) := dk_180 1 69 (dk_at dksX0_rebuild_5 18 rfl rfl)
theorem dX0_rebuild_137 : decode cX0_rebuild 137 = .ok (.checkcast 36, 3) := dk_192 0 36 (dk_at dksX0_rebuild_5 21 rfl rfl)
theorem dX0_rebuild_140 : decode cX0_rebuild 140 = .ok (.invokevirtual 290, 3) := dk_182 1 34 (dk_at dksX0_rebuild_6 0 rfl rfl)
theorem dX0_rebuild_143 : decode cX0_rebuild 143 = .ok (.iinc 4 1, 3) := dk_132 4 1 (dk_at dksX0_rebuild_6 3 rfl rfl)
theorem dX0_rebuild_146 : decode cX0_rebuild 146 = .ok (.goto (-92), 3) := dk_167 255 164 (dk_at dksX0_rebuild_6 6 rfl rfl)
theorem dX0_rebuild_149 : decode cX0_rebuild 149 = .ok (.iinc 3 1, 3) := dk_132 3 1 (dk_at dksX0_rebuild_6 9 rfl rfl)
theorem dX0_rebuild_152 : decode cX0_rebuild 152 = .ok (.goto (-112), 3) := dk_167 255 144 (dk_at dksX0_rebuild_6 12 rfl rfl)
theorem dX0_rebuild_155 : decode cX0_rebuild 155 = .ok (.return_, 1) := dk_177 (dk_at dksX0_rebuild_6 15 rfl rfl)
abbrev cX0_count : ByteArray := prog_1_method_29_code
def yX0_count : MethodName := ⟨RX0, "count", "(I)I"⟩
def dkwX0_count_4 : List UInt8 := [42, 182, 1, 11, 172, 42, 182, 1, 14, 172, 42, 182, 1, 75, 172, 18, 239, 172]
abbrev dktX0_count_4 : List UInt8 := dkwX0_count_4 ++ []
def dkwX0_count_3 : List UInt8 := [180, 1, 8, 172, 42, 180, 0, 207, 172, 42, 180, 0, 210, 172, 42, 180, 0, 213, 172, 42, 180, 0, 219, 172]
abbrev dktX0_count_3 : List UInt8 := dkwX0_count_3 ++ dktX0_count_4
def dkwX0_count_2 : List UInt8 := [42, 180, 0, 115, 182, 0, 174, 172, 42, 180, 0, 247, 172, 42, 180, 0, 123, 180, 1, 4, 192, 0, 36]
abbrev dktX0_count_2 : List UInt8 := dkwX0_count_2 ++ dktX0_count_3
def dkwX0_count_1 : List UInt8 := [170, 0, 0, 0, 0, 0, 117, 0, 0, 0, 0, 0, 0, 0, 9, 0, 0, 0, 55, 0, 0, 0, 63, 0, 0, 0, 68, 0, 0, 0, 82, 0, 0, 0, 87, 0, 0, 0, 92, 0, 0, 0, 97, 0, 0, 0, 102, 0, 0, 0, 107, 0, 0, 0, 112]
abbrev dktX0_count_1 : List UInt8 := dkwX0_count_1 ++ dktX0_count_2
def dkwX0_count_0 : List UInt8 := [27]
abbrev dktX0_count_0 : List UInt8 := dkwX0_count_0 ++ dktX0_count_1
theorem dksX0_count_0 : cX0_count.data.toList.drop 0 = dktX0_count_0 := by decide +kernel
theorem dksX0_count_1 : cX0_count.data.toList.drop 1 = dktX0_count_1 := dk_seg dksX0_count_0 1 rfl rfl
theorem dksX0_count_2 : cX0_count.data.toList.drop 56 = dktX0_count_2 := dk_seg dksX0_count_1 55 rfl rfl
theorem dksX0_count_3 : cX0_count.data.toList.drop 79 = dktX0_count_3 := dk_seg dksX0_count_2 23 rfl rfl
theorem dksX0_count_4 : cX0_count.data.toList.drop 103 = dktX0_count_4 := dk_seg dksX0_count_3 24 rfl rfl
theorem dX0_count_0 : decode cX0_count 0 = .ok (.iload_n 1, 1) := dk_27 (dk_at dksX0_count_0 0 rfl rfl)
theorem dX0_count_1 : decode cX0_count 1 = .ok (.tableswitch 117 0 9 #[55, 63, 68, 82, 87, 92, 97, 102, 107, 112], 55) := by decide +kernel
theorem dX0_count_56 : decode cX0_count 56 = .ok (.aload_n 0, 1) := dk_42 (dk_at dksX0_count_2 0 rfl rfl)
theorem dX0_count_57 : decode cX0_count 57 = .ok (.getfield 115, 3) := dk_180 0 115 (dk_at dksX0_count_2 1 rfl rfl)
theorem dX0_count_60 : decode cX0_count 60 = .ok (.invokevirtual 174, 3) := dk_182 0 174 (dk_at dksX0_count_2 4 rfl rfl)
theorem dX0_count_63 : decode cX0_count 63 = .ok (.ireturn, 1) := dk_172 (dk_at dksX0_count_2 7 rfl rfl)
theorem dX0_count_64 : decode cX0_count 64 = .ok (.aload_n 0, 1) := dk_42 (dk_at dksX0_count_2 8 rfl rfl)
theorem dX0_count_65 : decode cX0_count 65 = .ok (.getfield 247, 3) := dk_180 0 247 (dk_at dksX0_count_2 9 rfl rfl)
theorem dX0_count_68 : decode cX0_count 68 = .ok (.ireturn, 1) := dk_172 (dk_at dksX0_count_2 12 rfl rfl)
theorem dX0_count_69 : decode cX0_count 69 = .ok (.aload_n 0, 1) := dk_42 (dk_at dksX0_count_2 13 rfl rfl)
theorem dX0_count_70 : decode cX0_count 70 = .ok (.getfield 123, 3) := dk_180 0 123 (dk_at dksX0_count_2 14 rfl rfl)
theorem dX0_count_73 : decode cX0_count 73 = .ok (.getfield 260, 3) := dk_180 1 4 (dk_at dksX0_count_2 17 rfl rfl)
theorem dX0_count_76 : decode cX0_count 76 = .ok (.checkcast 36, 3) := dk_192 0 36 (dk_at dksX0_count_2 20 rfl rfl)
theorem dX0_count_79 : decode cX0_count 79 = .ok (.getfield 264, 3) := dk_180 1 8 (dk_at dksX0_count_3 0 rfl rfl)
theorem dX0_count_82 : decode cX0_count 82 = .ok (.ireturn, 1) := dk_172 (dk_at dksX0_count_3 3 rfl rfl)
theorem dX0_count_83 : decode cX0_count 83 = .ok (.aload_n 0, 1) := dk_42 (dk_at dksX0_count_3 4 rfl rfl)
theorem dX0_count_84 : decode cX0_count 84 = .ok (.getfield 207, 3) := dk_180 0 207 (dk_at dksX0_count_3 5 rfl rfl)
theorem dX0_count_87 : decode cX0_count 87 = .ok (.ireturn, 1) := dk_172 (dk_at dksX0_count_3 8 rfl rfl)
theorem dX0_count_88 : decode cX0_count 88 = .ok (.aload_n 0, 1) := dk_42 (dk_at dksX0_count_3 9 rfl rfl)
theorem dX0_count_89 : decode cX0_count 89 = .ok (.getfield 210, 3) := dk_180 0 210 (dk_at dksX0_count_3 10 rfl rfl)
theorem dX0_count_92 : decode cX0_count 92 = .ok (.ireturn, 1) := dk_172 (dk_at dksX0_count_3 13 rfl rfl)
theorem dX0_count_93 : decode cX0_count 93 = .ok (.aload_n 0, 1) := dk_42 (dk_at dksX0_count_3 14 rfl rfl)
theorem dX0_count_94 : decode cX0_count 94 = .ok (.getfield 213, 3) := dk_180 0 213 (dk_at dksX0_count_3 15 rfl rfl)
theorem dX0_count_97 : decode cX0_count 97 = .ok (.ireturn, 1) := dk_172 (dk_at dksX0_count_3 18 rfl rfl)
theorem dX0_count_98 : decode cX0_count 98 = .ok (.aload_n 0, 1) := dk_42 (dk_at dksX0_count_3 19 rfl rfl)
theorem dX0_count_99 : decode cX0_count 99 = .ok (.getfield 219, 3) := dk_180 0 219 (dk_at dksX0_count_3 20 rfl rfl)
theorem dX0_count_102 : decode cX0_count 102 = .ok (.ireturn, 1) := dk_172 (dk_at dksX0_count_3 23 rfl rfl)
theorem dX0_count_103 : decode cX0_count 103 = .ok (.aload_n 0, 1) := dk_42 (dk_at dksX0_count_4 0 rfl rfl)
theorem dX0_count_104 : decode cX0_count 104 = .ok (.invokevirtual 267, 3) := dk_182 1 11 (dk_at dksX0_count_4 1 rfl rfl)
theorem dX0_count_107 : decode cX0_count 107 = .ok (.ireturn, 1) := dk_172 (dk_at dksX0_count_4 4 rfl rfl)
theorem dX0_count_108 : decode cX0_count 108 = .ok (.aload_n 0, 1) := dk_42 (dk_at dksX0_count_4 5 rfl rfl)
theorem dX0_count_109 : decode cX0_count 109 = .ok (.invokevirtual 270, 3) := dk_182 1 14 (dk_at dksX0_count_4 6 rfl rfl)
theorem dX0_count_112 : decode cX0_count 112 = .ok (.ireturn, 1) := dk_172 (dk_at dksX0_count_4 9 rfl rfl)
theorem dX0_count_113 : decode cX0_count 113 = .ok (.aload_n 0, 1) := dk_42 (dk_at dksX0_count_4 10 rfl rfl)
theorem dX0_count_114 : decode cX0_count 114 = .ok (.invokevirtual 331, 3) := dk_182 1 75 (dk_at dksX0_count_4 11 rfl rfl)
theorem dX0_count_117 : decode cX0_count 117 = .ok (.ireturn, 1) := dk_172 (dk_at dksX0_count_4 14 rfl rfl)
theorem dX0_count_118 : decode cX0_count 118 = .ok (.ldc 239, 2) := dk_18 239 (dk_at dksX0_count_4 15 rfl rfl)
theorem dX0_count_120 : decode cX0_count 120 = .ok (.ireturn, 1) := dk_172 (dk_at dksX0_count_4 17 rfl rfl)
abbrev cX0_effects : ByteArray := prog_1_method_30_code
def yX0_effects : MethodName := ⟨RX0, "effects", "()I"⟩
def dkwX0_effects_2 : List UInt8 := [167, 255, 212, 27, 172]
abbrev dktX0_effects_2 : List UInt8 := dkwX0_effects_2 ++ []
def dkwX0_effects_1 : List UInt8 := [182, 0, 177, 192, 0, 181, 180, 0, 187, 180, 1, 4, 192, 0, 28, 28, 182, 1, 78, 96, 60, 132, 2, 1]
abbrev dktX0_effects_1 : List UInt8 := dkwX0_effects_1 ++ dktX0_effects_2
def dkwX0_effects_0 : List UInt8 := [3, 60, 3, 61, 28, 16, 16, 162, 0, 44, 27, 42, 180, 0, 115, 42, 180, 0, 115, 182, 0, 174, 4, 100]
abbrev dktX0_effects_0 : List UInt8 := dkwX0_effects_0 ++ dktX0_effects_1
theorem dksX0_effects_0 : cX0_effects.data.toList.drop 0 = dktX0_effects_0 := by decide +kernel
theorem dksX0_effects_1 : cX0_effects.data.toList.drop 24 = dktX0_effects_1 := dk_seg dksX0_effects_0 24 rfl rfl
theorem dksX0_effects_2 : cX0_effects.data.toList.drop 48 = dktX0_effects_2 := dk_seg dksX0_effects_1 24 rfl rfl
theorem dX0_effects_0 : decode cX0_effects 0 = .ok (.iconst 0, 1) := dk_3 (dk_at dksX0_effects_0 0 rfl rfl)
theorem dX0_effects_1 : decode cX0_effects 1 = .ok (.istore_n 1, 1) := dk_60 (dk_at dksX0_effects_0 1 rfl rfl)
theorem dX0_effects_2 : decode cX0_effects 2 = .ok (.iconst 0, 1) := dk_3 (dk_at dksX0_effects_0 2 rfl rfl)
theorem dX0_effects_3 : decode cX0_effects 3 = .ok (.istore_n 2, 1) := dk_61 (dk_at dksX0_effects_0 3 rfl rfl)
theorem dX0_effects_4 : decode cX0_effects 4 = .ok (.iload_n 2, 1) := dk_28 (dk_at dksX0_effects_0 4 rfl rfl)
theorem dX0_effects_5 : decode cX0_effects 5 = .ok (.bipush 16, 2) := dk_16 16 (dk_at dksX0_effects_0 5 rfl rfl)
theorem dX0_effects_7 : decode cX0_effects 7 = .ok (.if_icmp .ge 44, 3) := dk_162 0 44 (dk_at dksX0_effects_0 7 rfl rfl)
theorem dX0_effects_10 : decode cX0_effects 10 = .ok (.iload_n 1, 1) := dk_27 (dk_at dksX0_effects_0 10 rfl rfl)
theorem dX0_effects_11 : decode cX0_effects 11 = .ok (.aload_n 0, 1) := dk_42 (dk_at dksX0_effects_0 11 rfl rfl)
theorem dX0_effects_12 : decode cX0_effects 12 = .ok (.getfield 115, 3) := dk_180 0 115 (dk_at dksX0_effects_0 12 rfl rfl)
theorem dX0_effects_15 : decode cX0_effects 15 = .ok (.aload_n 0, 1) := dk_42 (dk_at dksX0_effects_0 15 rfl rfl)
theorem dX0_effects_16 : decode cX0_effects 16 = .ok (.getfield 115, 3) := dk_180 0 115 (dk_at dksX0_effects_0 16 rfl rfl)
theorem dX0_effects_19 : decode cX0_effects 19 = .ok (.invokevirtual 174, 3) := dk_182 0 174 (dk_at dksX0_effects_0 19 rfl rfl)
theorem dX0_effects_22 : decode cX0_effects 22 = .ok (.iconst 1, 1) := dk_4 (dk_at dksX0_effects_0 22 rfl rfl)
theorem dX0_effects_23 : decode cX0_effects 23 = .ok (.isub, 1) := dk_100 (dk_at dksX0_effects_0 23 rfl rfl)
theorem dX0_effects_24 : decode cX0_effects 24 = .ok (.invokevirtual 177, 3) := dk_182 0 177 (dk_at dksX0_effects_1 0 rfl rfl)
theorem dX0_effects_27 : decode cX0_effects 27 = .ok (.checkcast 181, 3) := dk_192 0 181 (dk_at dksX0_effects_1 3 rfl rfl)
theorem dX0_effects_30 : decode cX0_effects 30 = .ok (.getfield 187, 3) := dk_180 0 187 (dk_at dksX0_effects_1 6 rfl rfl)
theorem dX0_effects_33 : decode cX0_effects 33 = .ok (.getfield 260, 3) := dk_180 1 4 (dk_at dksX0_effects_1 9 rfl rfl)
theorem dX0_effects_36 : decode cX0_effects 36 = .ok (.checkcast 28, 3) := dk_192 0 28 (dk_at dksX0_effects_1 12 rfl rfl)
theorem dX0_effects_39 : decode cX0_effects 39 = .ok (.iload_n 2, 1) := dk_28 (dk_at dksX0_effects_1 15 rfl rfl)
theorem dX0_effects_40 : decode cX0_effects 40 = .ok (.invokevirtual 334, 3) := dk_182 1 78 (dk_at dksX0_effects_1 16 rfl rfl)
theorem dX0_effects_43 : decode cX0_effects 43 = .ok (.iadd, 1) := dk_96 (dk_at dksX0_effects_1 19 rfl rfl)
theorem dX0_effects_44 : decode cX0_effects 44 = .ok (.istore_n 1, 1) := dk_60 (dk_at dksX0_effects_1 20 rfl rfl)
theorem dX0_effects_45 : decode cX0_effects 45 = .ok (.iinc 2 1, 3) := dk_132 2 1 (dk_at dksX0_effects_1 21 rfl rfl)
theorem dX0_effects_48 : decode cX0_effects 48 = .ok (.goto (-44), 3) := dk_167 255 212 (dk_at dksX0_effects_2 0 rfl rfl)
theorem dX0_effects_51 : decode cX0_effects 51 = .ok (.iload_n 1, 1) := dk_27 (dk_at dksX0_effects_2 3 rfl rfl)
theorem dX0_effects_52 : decode cX0_effects 52 = .ok (.ireturn, 1) := dk_172 (dk_at dksX0_effects_2 4 rfl rfl)
abbrev cX0_operator : ByteArray := prog_1_method_31_code
def yX0_operator : MethodName := ⟨RX0, "operator", "(II)I"⟩
def dkwX0_operator_4 : List UInt8 := [172, 45, 180, 1, 94, 172, 45, 180, 1, 97, 172, 45, 180, 1, 100, 172, 18, 239, 172]
abbrev dktX0_operator_4 : List UInt8 := dkwX0_operator_4 ++ []
def dkwX0_operator_3 : List UInt8 := [45, 180, 1, 82, 172, 45, 180, 0, 183, 172, 45, 180, 1, 85, 172, 45, 180, 1, 88, 172, 45, 180, 1, 91]
abbrev dktX0_operator_3 : List UInt8 := dkwX0_operator_3 ++ dktX0_operator_4
def dkwX0_operator_2 : List UInt8 := [170, 0, 0, 0, 0, 0, 87, 0, 0, 0, 0, 0, 0, 0, 7, 0, 0, 0, 47, 0, 0, 0, 52, 0, 0, 0, 57, 0, 0, 0, 62, 0, 0, 0, 67, 0, 0, 0, 72, 0, 0, 0, 77, 0, 0, 0, 82]
abbrev dktX0_operator_2 : List UInt8 := dkwX0_operator_2 ++ dktX0_operator_3
def dkwX0_operator_1 : List UInt8 := [28]
abbrev dktX0_operator_1 : List UInt8 := dkwX0_operator_1 ++ dktX0_operator_2
def dkwX0_operator_0 : List UInt8 := [42, 27, 182, 1, 72, 154, 0, 7, 19, 1, 52, 172, 42, 180, 0, 115, 27, 182, 0, 177, 192, 0, 181, 78]
abbrev dktX0_operator_0 : List UInt8 := dkwX0_operator_0 ++ dktX0_operator_1
theorem dksX0_operator_0 : cX0_operator.data.toList.drop 0 = dktX0_operator_0 := by decide +kernel
theorem dksX0_operator_1 : cX0_operator.data.toList.drop 24 = dktX0_operator_1 := dk_seg dksX0_operator_0 24 rfl rfl
theorem dksX0_operator_2 : cX0_operator.data.toList.drop 25 = dktX0_operator_2 := dk_seg dksX0_operator_1 1 rfl rfl
theorem dksX0_operator_3 : cX0_operator.data.toList.drop 72 = dktX0_operator_3 := dk_seg dksX0_operator_2 47 rfl rfl
theorem dksX0_operator_4 : cX0_operator.data.toList.drop 96 = dktX0_operator_4 := dk_seg dksX0_operator_3 24 rfl rfl
theorem dX0_operator_0 : decode cX0_operator 0 = .ok (.aload_n 0, 1) := dk_42 (dk_at dksX0_operator_0 0 rfl rfl)
theorem dX0_operator_1 : decode cX0_operator 1 = .ok (.iload_n 1, 1) := dk_27 (dk_at dksX0_operator_0 1 rfl rfl)
theorem dX0_operator_2 : decode cX0_operator 2 = .ok (.invokevirtual 328, 3) := dk_182 1 72 (dk_at dksX0_operator_0 2 rfl rfl)
theorem dX0_operator_5 : decode cX0_operator 5 = .ok (.ifCond .ne 7, 3) := dk_154 0 7 (dk_at dksX0_operator_0 5 rfl rfl)
theorem dX0_operator_8 : decode cX0_operator 8 = .ok (.ldc_w 308, 3) := dk_19 1 52 (dk_at dksX0_operator_0 8 rfl rfl)
theorem dX0_operator_11 : decode cX0_operator 11 = .ok (.ireturn, 1) := dk_172 (dk_at dksX0_operator_0 11 rfl rfl)
theorem dX0_operator_12 : decode cX0_operator 12 = .ok (.aload_n 0, 1) := dk_42 (dk_at dksX0_operator_0 12 rfl rfl)
theorem dX0_operator_13 : decode cX0_operator 13 = .ok (.getfield 115, 3) := dk_180 0 115 (dk_at dksX0_operator_0 13 rfl rfl)
theorem dX0_operator_16 : decode cX0_operator 16 = .ok (.iload_n 1, 1) := dk_27 (dk_at dksX0_operator_0 16 rfl rfl)
theorem dX0_operator_17 : decode cX0_operator 17 = .ok (.invokevirtual 177, 3) := dk_182 0 177 (dk_at dksX0_operator_0 17 rfl rfl)
theorem dX0_operator_20 : decode cX0_operator 20 = .ok (.checkcast 181, 3) := dk_192 0 181 (dk_at dksX0_operator_0 20 rfl rfl)
theorem dX0_operator_23 : decode cX0_operator 23 = .ok (.astore_n 3, 1) := dk_78 (dk_at dksX0_operator_0 23 rfl rfl)
theorem dX0_operator_24 : decode cX0_operator 24 = .ok (.iload_n 2, 1) := dk_28 (dk_at dksX0_operator_1 0 rfl rfl)
theorem dX0_operator_25 : decode cX0_operator 25 = .ok (.tableswitch 87 0 7 #[47, 52, 57, 62, 67, 72, 77, 82], 47) := by decide +kernel
theorem dX0_operator_72 : decode cX0_operator 72 = .ok (.aload_n 3, 1) := dk_45 (dk_at dksX0_operator_3 0 rfl rfl)
theorem dX0_operator_73 : decode cX0_operator 73 = .ok (.getfield 338, 3) := dk_180 1 82 (dk_at dksX0_operator_3 1 rfl rfl)
theorem dX0_operator_76 : decode cX0_operator 76 = .ok (.ireturn, 1) := dk_172 (dk_at dksX0_operator_3 4 rfl rfl)
theorem dX0_operator_77 : decode cX0_operator 77 = .ok (.aload_n 3, 1) := dk_45 (dk_at dksX0_operator_3 5 rfl rfl)
theorem dX0_operator_78 : decode cX0_operator 78 = .ok (.getfield 183, 3) := dk_180 0 183 (dk_at dksX0_operator_3 6 rfl rfl)
theorem dX0_operator_81 : decode cX0_operator 81 = .ok (.ireturn, 1) := dk_172 (dk_at dksX0_operator_3 9 rfl rfl)
theorem dX0_operator_82 : decode cX0_operator 82 = .ok (.aload_n 3, 1) := dk_45 (dk_at dksX0_operator_3 10 rfl rfl)
theorem dX0_operator_83 : decode cX0_operator 83 = .ok (.getfield 341, 3) := dk_180 1 85 (dk_at dksX0_operator_3 11 rfl rfl)
theorem dX0_operator_86 : decode cX0_operator 86 = .ok (.ireturn, 1) := dk_172 (dk_at dksX0_operator_3 14 rfl rfl)
theorem dX0_operator_87 : decode cX0_operator 87 = .ok (.aload_n 3, 1) := dk_45 (dk_at dksX0_operator_3 15 rfl rfl)
theorem dX0_operator_88 : decode cX0_operator 88 = .ok (.getfield 344, 3) := dk_180 1 88 (dk_at dksX0_operator_3 16 rfl rfl)
theorem dX0_operator_91 : decode cX0_operator 91 = .ok (.ireturn, 1) := dk_172 (dk_at dksX0_operator_3 19 rfl rfl)
theorem dX0_operator_92 : decode cX0_operator 92 = .ok (.aload_n 3, 1) := dk_45 (dk_at dksX0_operator_3 20 rfl rfl)
theorem dX0_operator_93 : decode cX0_operator 93 = .ok (.getfield 347, 3) := dk_180 1 91 (dk_at dksX0_operator_3 21 rfl rfl)
theorem dX0_operator_96 : decode cX0_operator 96 = .ok (.ireturn, 1) := dk_172 (dk_at dksX0_operator_4 0 rfl rfl)
theorem dX0_operator_97 : decode cX0_operator 97 = .ok (.aload_n 3, 1) := dk_45 (dk_at dksX0_operator_4 1 rfl rfl)
theorem dX0_operator_98 : decode cX0_operator 98 = .ok (.getfield 350, 3) := dk_180 1 94 (dk_at dksX0_operator_4 2 rfl rfl)
theorem dX0_operator_101 : decode cX0_operator 101 = .ok (.ireturn, 1) := dk_172 (dk_at dksX0_operator_4 5 rfl rfl)
theorem dX0_operator_102 : decode cX0_operator 102 = .ok (.aload_n 3, 1) := dk_45 (dk_at dksX0_operator_4 6 rfl rfl)
theorem dX0_operator_103 : decode cX0_operator 103 = .ok (.getfield 353, 3) := dk_180 1 97 (dk_at dksX0_operator_4 7 rfl rfl)
theorem dX0_operator_106 : decode cX0_operator 106 = .ok (.ireturn, 1) := dk_172 (dk_at dksX0_operator_4 10 rfl rfl)
theorem dX0_operator_107 : decode cX0_operator 107 = .ok (.aload_n 3, 1) := dk_45 (dk_at dksX0_operator_4 11 rfl rfl)
theorem dX0_operator_108 : decode cX0_operator 108 = .ok (.getfield 356, 3) := dk_180 1 100 (dk_at dksX0_operator_4 12 rfl rfl)
theorem dX0_operator_111 : decode cX0_operator 111 = .ok (.ireturn, 1) := dk_172 (dk_at dksX0_operator_4 15 rfl rfl)
theorem dX0_operator_112 : decode cX0_operator 112 = .ok (.ldc 239, 2) := dk_18 239 (dk_at dksX0_operator_4 16 rfl rfl)
theorem dX0_operator_114 : decode cX0_operator 114 = .ok (.ireturn, 1) := dk_172 (dk_at dksX0_operator_4 18 rfl rfl)
abbrev cX0_isOperator : ByteArray := prog_1_method_27_code
def yX0_isOperator : MethodName := ⟨RX0, "isOperator", "(I)Z"⟩
def dkwX0_isOperator_0 : List UInt8 := [27, 133, 9, 42, 180, 0, 115, 182, 0, 174, 4, 100, 133, 184, 0, 229, 172]
abbrev dktX0_isOperator_0 : List UInt8 := dkwX0_isOperator_0 ++ []
theorem dksX0_isOperator_0 : cX0_isOperator.data.toList.drop 0 = dktX0_isOperator_0 := by decide +kernel
theorem dX0_isOperator_0 : decode cX0_isOperator 0 = .ok (.iload_n 1, 1) := dk_27 (dk_at dksX0_isOperator_0 0 rfl rfl)
theorem dX0_isOperator_1 : decode cX0_isOperator 1 = .ok (.i2l, 1) := dk_133 (dk_at dksX0_isOperator_0 1 rfl rfl)
theorem dX0_isOperator_2 : decode cX0_isOperator 2 = .ok (.lconst 0, 1) := dk_9 (dk_at dksX0_isOperator_0 2 rfl rfl)
theorem dX0_isOperator_3 : decode cX0_isOperator 3 = .ok (.aload_n 0, 1) := dk_42 (dk_at dksX0_isOperator_0 3 rfl rfl)
theorem dX0_isOperator_4 : decode cX0_isOperator 4 = .ok (.getfield 115, 3) := dk_180 0 115 (dk_at dksX0_isOperator_0 4 rfl rfl)
theorem dX0_isOperator_7 : decode cX0_isOperator 7 = .ok (.invokevirtual 174, 3) := dk_182 0 174 (dk_at dksX0_isOperator_0 7 rfl rfl)
theorem dX0_isOperator_10 : decode cX0_isOperator 10 = .ok (.iconst 1, 1) := dk_4 (dk_at dksX0_isOperator_0 10 rfl rfl)
theorem dX0_isOperator_11 : decode cX0_isOperator 11 = .ok (.isub, 1) := dk_100 (dk_at dksX0_isOperator_0 11 rfl rfl)
theorem dX0_isOperator_12 : decode cX0_isOperator 12 = .ok (.i2l, 1) := dk_133 (dk_at dksX0_isOperator_0 12 rfl rfl)
theorem dX0_isOperator_13 : decode cX0_isOperator 13 = .ok (.invokestatic 229, 3) := dk_184 0 229 (dk_at dksX0_isOperator_0 13 rfl rfl)
theorem dX0_isOperator_16 : decode cX0_isOperator 16 = .ok (.ireturn, 1) := dk_172 (dk_at dksX0_isOperator_0 16 rfl rfl)
abbrev cX0_instance : ByteArray := prog_1_method_32_code
def yX0_instance : MethodName := ⟨RX0, "instance", "(III)I"⟩
def dkwX0_instance_4 : List UInt8 := [172, 25, 4, 182, 1, 113, 172, 18, 239, 172]
abbrev dktX0_instance_4 : List UInt8 := dkwX0_instance_4 ++ []
def dkwX0_instance_3 : List UInt8 := [182, 1, 107, 172, 25, 4, 180, 1, 110, 172, 25, 4, 180, 0, 193, 180, 1, 4, 192, 0, 36, 180, 1, 8]
abbrev dktX0_instance_3 : List UInt8 := dkwX0_instance_3 ++ dktX0_instance_4
def dkwX0_instance_2 : List UInt8 := [25, 4, 182, 1, 1, 172, 25, 4, 180, 1, 38, 153, 0, 7, 4, 167, 0, 4, 3, 172, 25, 4]
abbrev dktX0_instance_2 : List UInt8 := dkwX0_instance_2 ++ dktX0_instance_3
def dkwX0_instance_1 : List UInt8 := [170, 0, 0, 0, 0, 0, 0, 93, 0, 0, 0, 0, 0, 0, 0, 5, 0, 0, 0, 40, 0, 0, 0, 46, 0, 0, 0, 60, 0, 0, 0, 66, 0, 0, 0, 72, 0, 0, 0, 87]
abbrev dktX0_instance_1 : List UInt8 := dkwX0_instance_1 ++ dktX0_instance_2
def dkwX0_instance_0 : List UInt8 := [42, 27, 28, 182, 1, 103, 154, 0, 7, 19, 1, 52, 172, 42, 180, 0, 132, 27, 50, 28, 50, 58, 4, 29]
abbrev dktX0_instance_0 : List UInt8 := dkwX0_instance_0 ++ dktX0_instance_1
theorem dksX0_instance_0 : cX0_instance.data.toList.drop 0 = dktX0_instance_0 := by decide +kernel
theorem dksX0_instance_1 : cX0_instance.data.toList.drop 24 = dktX0_instance_1 := dk_seg dksX0_instance_0 24 rfl rfl
theorem dksX0_instance_2 : cX0_instance.data.toList.drop 64 = dktX0_instance_2 := dk_seg dksX0_instance_1 40 rfl rfl
theorem dksX0_instance_3 : cX0_instance.data.toList.drop 86 = dktX0_instance_3 := dk_seg dksX0_instance_2 22 rfl rfl
theorem dksX0_instance_4 : cX0_instance.data.toList.drop 110 = dktX0_instance_4 := dk_seg dksX0_instance_3 24 rfl rfl
theorem dX0_instance_0 : decode cX0_instance 0 = .ok (.aload_n 0, 1) := dk_42 (dk_at dksX0_instance_0 0 rfl rfl)
theorem dX0_instance_1 : decode cX0_instance 1 = .ok (.iload_n 1, 1) := dk_27 (dk_at dksX0_instance_0 1 rfl rfl)
theorem dX0_instance_2 : decode cX0_instance 2 = .ok (.iload_n 2, 1) := dk_28 (dk_at dksX0_instance_0 2 rfl rfl)
theorem dX0_instance_3 : decode cX0_instance 3 = .ok (.invokevirtual 359, 3) := dk_182 1 103 (dk_at dksX0_instance_0 3 rfl rfl)
theorem dX0_instance_6 : decode cX0_instance 6 = .ok (.ifCond .ne 7, 3) := dk_154 0 7 (dk_at dksX0_instance_0 6 rfl rfl)
theorem dX0_instance_9 : decode cX0_instance 9 = .ok (.ldc_w 308, 3) := dk_19 1 52 (dk_at dksX0_instance_0 9 rfl rfl)
theorem dX0_instance_12 : decode cX0_instance 12 = .ok (.ireturn, 1) := dk_172 (dk_at dksX0_instance_0 12 rfl rfl)
theorem dX0_instance_13 : decode cX0_instance 13 = .ok (.aload_n 0, 1) := dk_42 (dk_at dksX0_instance_0 13 rfl rfl)
theorem dX0_instance_14 : decode cX0_instance 14 = .ok (.getfield 132, 3) := dk_180 0 132 (dk_at dksX0_instance_0 14 rfl rfl)
theorem dX0_instance_17 : decode cX0_instance 17 = .ok (.iload_n 1, 1) := dk_27 (dk_at dksX0_instance_0 17 rfl rfl)
theorem dX0_instance_18 : decode cX0_instance 18 = .ok (.aaload, 1) := dk_50 (dk_at dksX0_instance_0 18 rfl rfl)
theorem dX0_instance_19 : decode cX0_instance 19 = .ok (.iload_n 2, 1) := dk_28 (dk_at dksX0_instance_0 19 rfl rfl)
theorem dX0_instance_20 : decode cX0_instance 20 = .ok (.aaload, 1) := dk_50 (dk_at dksX0_instance_0 20 rfl rfl)
theorem dX0_instance_21 : decode cX0_instance 21 = .ok (.astore 4, 2) := dk_58 4 (dk_at dksX0_instance_0 21 rfl rfl)
theorem dX0_instance_23 : decode cX0_instance 23 = .ok (.iload_n 3, 1) := dk_29 (dk_at dksX0_instance_0 23 rfl rfl)
theorem dX0_instance_24 : decode cX0_instance 24 = .ok (.tableswitch 93 0 5 #[40, 46, 60, 66, 72, 87], 40) := by decide +kernel
theorem dX0_instance_64 : decode cX0_instance 64 = .ok (.aload 4, 2) := dk_25 4 (dk_at dksX0_instance_2 0 rfl rfl)
theorem dX0_instance_66 : decode cX0_instance 66 = .ok (.invokevirtual 257, 3) := dk_182 1 1 (dk_at dksX0_instance_2 2 rfl rfl)
theorem dX0_instance_69 : decode cX0_instance 69 = .ok (.ireturn, 1) := dk_172 (dk_at dksX0_instance_2 5 rfl rfl)
theorem dX0_instance_70 : decode cX0_instance 70 = .ok (.aload 4, 2) := dk_25 4 (dk_at dksX0_instance_2 6 rfl rfl)
theorem dX0_instance_72 : decode cX0_instance 72 = .ok (.getfield 294, 3) := dk_180 1 38 (dk_at dksX0_instance_2 8 rfl rfl)
theorem dX0_instance_75 : decode cX0_instance 75 = .ok (.ifCond .eq 7, 3) := dk_153 0 7 (dk_at dksX0_instance_2 11 rfl rfl)
theorem dX0_instance_78 : decode cX0_instance 78 = .ok (.iconst 1, 1) := dk_4 (dk_at dksX0_instance_2 14 rfl rfl)
theorem dX0_instance_79 : decode cX0_instance 79 = .ok (.goto 4, 3) := dk_167 0 4 (dk_at dksX0_instance_2 15 rfl rfl)
theorem dX0_instance_82 : decode cX0_instance 82 = .ok (.iconst 0, 1) := dk_3 (dk_at dksX0_instance_2 18 rfl rfl)
theorem dX0_instance_83 : decode cX0_instance 83 = .ok (.ireturn, 1) := dk_172 (dk_at dksX0_instance_2 19 rfl rfl)
theorem dX0_instance_84 : decode cX0_instance 84 = .ok (.aload 4, 2) := dk_25 4 (dk_at dksX0_instance_2 20 rfl rfl)
theorem dX0_instance_86 : decode cX0_instance 86 = .ok (.invokevirtual 363, 3) := dk_182 1 107 (dk_at dksX0_instance_3 0 rfl rfl)
theorem dX0_instance_89 : decode cX0_instance 89 = .ok (.ireturn, 1) := dk_172 (dk_at dksX0_instance_3 3 rfl rfl)
theorem dX0_instance_90 : decode cX0_instance 90 = .ok (.aload 4, 2) := dk_25 4 (dk_at dksX0_instance_3 4 rfl rfl)
theorem dX0_instance_92 : decode cX0_instance 92 = .ok (.getfield 366, 3) := dk_180 1 110 (dk_at dksX0_instance_3 6 rfl rfl)
theorem dX0_instance_95 : decode cX0_instance 95 = .ok (.ireturn, 1) := dk_172 (dk_at dksX0_instance_3 9 rfl rfl)
theorem dX0_instance_96 : decode cX0_instance 96 = .ok (.aload 4, 2) := dk_25 4 (dk_at dksX0_instance_3 10 rfl rfl)
theorem dX0_instance_98 : decode cX0_instance 98 = .ok (.getfield 193, 3) := dk_180 0 193 (dk_at dksX0_instance_3 12 rfl rfl)
theorem dX0_instance_101 : decode cX0_instance 101 = .ok (.getfield 260, 3) := dk_180 1 4 (dk_at dksX0_instance_3 15 rfl rfl)
theorem dX0_instance_104 : decode cX0_instance 104 = .ok (.checkcast 36, 3) := dk_192 0 36 (dk_at dksX0_instance_3 18 rfl rfl)
theorem dX0_instance_107 : decode cX0_instance 107 = .ok (.getfield 264, 3) := dk_180 1 8 (dk_at dksX0_instance_3 21 rfl rfl)
theorem dX0_instance_110 : decode cX0_instance 110 = .ok (.ireturn, 1) := dk_172 (dk_at dksX0_instance_4 0 rfl rfl)
theorem dX0_instance_111 : decode cX0_instance 111 = .ok (.aload 4, 2) := dk_25 4 (dk_at dksX0_instance_4 1 rfl rfl)
theorem dX0_instance_113 : decode cX0_instance 113 = .ok (.invokevirtual 369, 3) := dk_182 1 113 (dk_at dksX0_instance_4 3 rfl rfl)
theorem dX0_instance_116 : decode cX0_instance 116 = .ok (.ireturn, 1) := dk_172 (dk_at dksX0_instance_4 6 rfl rfl)
theorem dX0_instance_117 : decode cX0_instance 117 = .ok (.ldc 239, 2) := dk_18 239 (dk_at dksX0_instance_4 7 rfl rfl)
theorem dX0_instance_119 : decode cX0_instance 119 = .ok (.ireturn, 1) := dk_172 (dk_at dksX0_instance_4 9 rfl rfl)
abbrev cX0_isInstance : ByteArray := prog_1_method_28_code
def yX0_isInstance : MethodName := ⟨RX0, "isInstance", "(II)Z"⟩
def dkwX0_isInstance_1 : List UInt8 := [180, 0, 183, 4, 100, 133, 184, 0, 229, 153, 0, 7, 4, 167, 0, 4, 3, 172]
abbrev dktX0_isInstance_1 : List UInt8 := dkwX0_isInstance_1 ++ []
def dkwX0_isInstance_0 : List UInt8 := [42, 27, 182, 1, 72, 153, 0, 33, 28, 133, 9, 42, 180, 0, 115, 27, 182, 0, 177, 192, 0, 181]
abbrev dktX0_isInstance_0 : List UInt8 := dkwX0_isInstance_0 ++ dktX0_isInstance_1
theorem dksX0_isInstance_0 : cX0_isInstance.data.toList.drop 0 = dktX0_isInstance_0 := by decide +kernel
theorem dksX0_isInstance_1 : cX0_isInstance.data.toList.drop 22 = dktX0_isInstance_1 := dk_seg dksX0_isInstance_0 22 rfl rfl
theorem dX0_isInstance_0 : decode cX0_isInstance 0 = .ok (.aload_n 0, 1) := dk_42 (dk_at dksX0_isInstance_0 0 rfl rfl)
theorem dX0_isInstance_1 : decode cX0_isInstance 1 = .ok (.iload_n 1, 1) := dk_27 (dk_at dksX0_isInstance_0 1 rfl rfl)
theorem dX0_isInstance_2 : decode cX0_isInstance 2 = .ok (.invokevirtual 328, 3) := dk_182 1 72 (dk_at dksX0_isInstance_0 2 rfl rfl)
theorem dX0_isInstance_5 : decode cX0_isInstance 5 = .ok (.ifCond .eq 33, 3) := dk_153 0 33 (dk_at dksX0_isInstance_0 5 rfl rfl)
theorem dX0_isInstance_8 : decode cX0_isInstance 8 = .ok (.iload_n 2, 1) := dk_28 (dk_at dksX0_isInstance_0 8 rfl rfl)
theorem dX0_isInstance_9 : decode cX0_isInstance 9 = .ok (.i2l, 1) := dk_133 (dk_at dksX0_isInstance_0 9 rfl rfl)
theorem dX0_isInstance_10 : decode cX0_isInstance 10 = .ok (.lconst 0, 1) := dk_9 (dk_at dksX0_isInstance_0 10 rfl rfl)
theorem dX0_isInstance_11 : decode cX0_isInstance 11 = .ok (.aload_n 0, 1) := dk_42 (dk_at dksX0_isInstance_0 11 rfl rfl)
theorem dX0_isInstance_12 : decode cX0_isInstance 12 = .ok (.getfield 115, 3) := dk_180 0 115 (dk_at dksX0_isInstance_0 12 rfl rfl)
theorem dX0_isInstance_15 : decode cX0_isInstance 15 = .ok (.iload_n 1, 1) := dk_27 (dk_at dksX0_isInstance_0 15 rfl rfl)
theorem dX0_isInstance_16 : decode cX0_isInstance 16 = .ok (.invokevirtual 177, 3) := dk_182 0 177 (dk_at dksX0_isInstance_0 16 rfl rfl)
theorem dX0_isInstance_19 : decode cX0_isInstance 19 = .ok (.checkcast 181, 3) := dk_192 0 181 (dk_at dksX0_isInstance_0 19 rfl rfl)
theorem dX0_isInstance_22 : decode cX0_isInstance 22 = .ok (.getfield 183, 3) := dk_180 0 183 (dk_at dksX0_isInstance_1 0 rfl rfl)
theorem dX0_isInstance_25 : decode cX0_isInstance 25 = .ok (.iconst 1, 1) := dk_4 (dk_at dksX0_isInstance_1 3 rfl rfl)
theorem dX0_isInstance_26 : decode cX0_isInstance 26 = .ok (.isub, 1) := dk_100 (dk_at dksX0_isInstance_1 4 rfl rfl)
theorem dX0_isInstance_27 : decode cX0_isInstance 27 = .ok (.i2l, 1) := dk_133 (dk_at dksX0_isInstance_1 5 rfl rfl)
theorem dX0_isInstance_28 : decode cX0_isInstance 28 = .ok (.invokestatic 229, 3) := dk_184 0 229 (dk_at dksX0_isInstance_1 6 rfl rfl)
theorem dX0_isInstance_31 : decode cX0_isInstance 31 = .ok (.ifCond .eq 7, 3) := dk_153 0 7 (dk_at dksX0_isInstance_1 9 rfl rfl)
theorem dX0_isInstance_34 : decode cX0_isInstance 34 = .ok (.iconst 1, 1) := dk_4 (dk_at dksX0_isInstance_1 12 rfl rfl)
theorem dX0_isInstance_35 : decode cX0_isInstance 35 = .ok (.goto 4, 3) := dk_167 0 4 (dk_at dksX0_isInstance_1 13 rfl rfl)
theorem dX0_isInstance_38 : decode cX0_isInstance 38 = .ok (.iconst 0, 1) := dk_3 (dk_at dksX0_isInstance_1 16 rfl rfl)
theorem dX0_isInstance_39 : decode cX0_isInstance 39 = .ok (.ireturn, 1) := dk_172 (dk_at dksX0_isInstance_1 17 rfl rfl)
abbrev cX0_channel_2 : ByteArray := prog_1_method_33_code
def yX0_channel_2 : MethodName := ⟨RX0, "channel", "(IIII)I"⟩
def dkwX0_channel_2_4 : List UInt8 := [25, 5, 180, 1, 132, 172, 42, 180, 0, 99, 25, 5, 180, 1, 120, 182, 1, 124, 100, 172, 18, 239, 172]
abbrev dktX0_channel_2_4 : List UInt8 := dkwX0_channel_2_4 ++ []
def dkwX0_channel_2_3 : List UInt8 := [25, 5, 180, 1, 120, 182, 1, 124, 172, 25, 5, 180, 1, 127, 182, 1, 131, 172, 25, 5, 180, 0, 254, 172]
abbrev dktX0_channel_2_3 : List UInt8 := dkwX0_channel_2_3 ++ dktX0_channel_2_4
def dkwX0_channel_2_2 : List UInt8 := [170, 0, 0, 0, 77, 0, 0, 0, 0, 0, 0, 0, 4, 0, 0, 0, 33, 0, 0, 0, 42, 0, 0, 0, 51, 0, 0, 0, 57, 0, 0, 0, 63]
abbrev dktX0_channel_2_2 : List UInt8 := dkwX0_channel_2_2 ++ dktX0_channel_2_3
def dkwX0_channel_2_1 : List UInt8 := [42, 27, 28, 29, 182, 1, 116, 58, 5, 21, 4]
abbrev dktX0_channel_2_1 : List UInt8 := dkwX0_channel_2_1 ++ dktX0_channel_2_2
def dkwX0_channel_2_0 : List UInt8 := [42, 27, 28, 182, 1, 103, 153, 0, 14, 42, 27, 4, 96, 29, 182, 1, 103, 154, 0, 7, 19, 1, 52, 172]
abbrev dktX0_channel_2_0 : List UInt8 := dkwX0_channel_2_0 ++ dktX0_channel_2_1
theorem dksX0_channel_2_0 : cX0_channel_2.data.toList.drop 0 = dktX0_channel_2_0 := by decide +kernel
theorem dksX0_channel_2_1 : cX0_channel_2.data.toList.drop 24 = dktX0_channel_2_1 := dk_seg dksX0_channel_2_0 24 rfl rfl
theorem dksX0_channel_2_2 : cX0_channel_2.data.toList.drop 35 = dktX0_channel_2_2 := dk_seg dksX0_channel_2_1 11 rfl rfl
theorem dksX0_channel_2_3 : cX0_channel_2.data.toList.drop 68 = dktX0_channel_2_3 := dk_seg dksX0_channel_2_2 33 rfl rfl
theorem dksX0_channel_2_4 : cX0_channel_2.data.toList.drop 92 = dktX0_channel_2_4 := dk_seg dksX0_channel_2_3 24 rfl rfl
theorem dX0_channel_2_0 : decode cX0_channel_2 0 = .ok (.aload_n 0, 1) := dk_42 (dk_at dksX0_channel_2_0 0 rfl rfl)
theorem dX0_channel_2_1 : decode cX0_channel_2 1 = .ok (.iload_n 1, 1) := dk_27 (dk_at dksX0_channel_2_0 1 rfl rfl)
theorem dX0_channel_2_2 : decode cX0_channel_2 2 = .ok (.iload_n 2, 1) := dk_28 (dk_at dksX0_channel_2_0 2 rfl rfl)
theorem dX0_channel_2_3 : decode cX0_channel_2 3 = .ok (.invokevirtual 359, 3) := dk_182 1 103 (dk_at dksX0_channel_2_0 3 rfl rfl)
theorem dX0_channel_2_6 : decode cX0_channel_2 6 = .ok (.ifCond .eq 14, 3) := dk_153 0 14 (dk_at dksX0_channel_2_0 6 rfl rfl)
theorem dX0_channel_2_9 : decode cX0_channel_2 9 = .ok (.aload_n 0, 1) := dk_42 (dk_at dksX0_channel_2_0 9 rfl rfl)
theorem dX0_channel_2_10 : decode cX0_channel_2 10 = .ok (.iload_n 1, 1) := dk_27 (dk_at dksX0_channel_2_0 10 rfl rfl)
theorem dX0_channel_2_11 : decode cX0_channel_2 11 = .ok (.iconst 1, 1) := dk_4 (dk_at dksX0_channel_2_0 11 rfl rfl)
theorem dX0_channel_2_12 : decode cX0_channel_2 12 = .ok (.iadd, 1) := dk_96 (dk_at dksX0_channel_2_0 12 rfl rfl)
theorem dX0_channel_2_13 : decode cX0_channel_2 13 = .ok (.iload_n 3, 1) := dk_29 (dk_at dksX0_channel_2_0 13 rfl rfl)
theorem dX0_channel_2_14 : decode cX0_channel_2 14 = .ok (.invokevirtual 359, 3) := dk_182 1 103 (dk_at dksX0_channel_2_0 14 rfl rfl)
theorem dX0_channel_2_17 : decode cX0_channel_2 17 = .ok (.ifCond .ne 7, 3) := dk_154 0 7 (dk_at dksX0_channel_2_0 17 rfl rfl)
theorem dX0_channel_2_20 : decode cX0_channel_2 20 = .ok (.ldc_w 308, 3) := dk_19 1 52 (dk_at dksX0_channel_2_0 20 rfl rfl)
theorem dX0_channel_2_23 : decode cX0_channel_2 23 = .ok (.ireturn, 1) := dk_172 (dk_at dksX0_channel_2_0 23 rfl rfl)
theorem dX0_channel_2_24 : decode cX0_channel_2 24 = .ok (.aload_n 0, 1) := dk_42 (dk_at dksX0_channel_2_1 0 rfl rfl)
theorem dX0_channel_2_25 : decode cX0_channel_2 25 = .ok (.iload_n 1, 1) := dk_27 (dk_at dksX0_channel_2_1 1 rfl rfl)
theorem dX0_channel_2_26 : decode cX0_channel_2 26 = .ok (.iload_n 2, 1) := dk_28 (dk_at dksX0_channel_2_1 2 rfl rfl)
theorem dX0_channel_2_27 : decode cX0_channel_2 27 = .ok (.iload_n 3, 1) := dk_29 (dk_at dksX0_channel_2_1 3 rfl rfl)
theorem dX0_channel_2_28 : decode cX0_channel_2 28 = .ok (.invokevirtual 372, 3) := dk_182 1 116 (dk_at dksX0_channel_2_1 4 rfl rfl)
theorem dX0_channel_2_31 : decode cX0_channel_2 31 = .ok (.astore 5, 2) := dk_58 5 (dk_at dksX0_channel_2_1 7 rfl rfl)
theorem dX0_channel_2_33 : decode cX0_channel_2 33 = .ok (.iload 4, 2) := dk_21 4 (dk_at dksX0_channel_2_1 9 rfl rfl)
theorem dX0_channel_2_35 : decode cX0_channel_2 35 = .ok (.tableswitch 77 0 4 #[33, 42, 51, 57, 63], 33) := by decide +kernel
theorem dX0_channel_2_68 : decode cX0_channel_2 68 = .ok (.aload 5, 2) := dk_25 5 (dk_at dksX0_channel_2_3 0 rfl rfl)
theorem dX0_channel_2_70 : decode cX0_channel_2 70 = .ok (.getfield 376, 3) := dk_180 1 120 (dk_at dksX0_channel_2_3 2 rfl rfl)
theorem dX0_channel_2_73 : decode cX0_channel_2 73 = .ok (.invokevirtual 380, 3) := dk_182 1 124 (dk_at dksX0_channel_2_3 5 rfl rfl)
theorem dX0_channel_2_76 : decode cX0_channel_2 76 = .ok (.ireturn, 1) := dk_172 (dk_at dksX0_channel_2_3 8 rfl rfl)
theorem dX0_channel_2_77 : decode cX0_channel_2 77 = .ok (.aload 5, 2) := dk_25 5 (dk_at dksX0_channel_2_3 9 rfl rfl)
theorem dX0_channel_2_79 : decode cX0_channel_2 79 = .ok (.getfield 383, 3) := dk_180 1 127 (dk_at dksX0_channel_2_3 11 rfl rfl)
theorem dX0_channel_2_82 : decode cX0_channel_2 82 = .ok (.invokevirtual 387, 3) := dk_182 1 131 (dk_at dksX0_channel_2_3 14 rfl rfl)
theorem dX0_channel_2_85 : decode cX0_channel_2 85 = .ok (.ireturn, 1) := dk_172 (dk_at dksX0_channel_2_3 17 rfl rfl)
theorem dX0_channel_2_86 : decode cX0_channel_2 86 = .ok (.aload 5, 2) := dk_25 5 (dk_at dksX0_channel_2_3 18 rfl rfl)
theorem dX0_channel_2_88 : decode cX0_channel_2 88 = .ok (.getfield 254, 3) := dk_180 0 254 (dk_at dksX0_channel_2_3 20 rfl rfl)
theorem dX0_channel_2_91 : decode cX0_channel_2 91 = .ok (.ireturn, 1) := dk_172 (dk_at dksX0_channel_2_3 23 rfl rfl)
theorem dX0_channel_2_92 : decode cX0_channel_2 92 = .ok (.aload 5, 2) := dk_25 5 (dk_at dksX0_channel_2_4 0 rfl rfl)
theorem dX0_channel_2_94 : decode cX0_channel_2 94 = .ok (.getfield 388, 3) := dk_180 1 132 (dk_at dksX0_channel_2_4 2 rfl rfl)
theorem dX0_channel_2_97 : decode cX0_channel_2 97 = .ok (.ireturn, 1) := dk_172 (dk_at dksX0_channel_2_4 5 rfl rfl)
theorem dX0_channel_2_98 : decode cX0_channel_2 98 = .ok (.aload_n 0, 1) := dk_42 (dk_at dksX0_channel_2_4 6 rfl rfl)
theorem dX0_channel_2_99 : decode cX0_channel_2 99 = .ok (.getfield 99, 3) := dk_180 0 99 (dk_at dksX0_channel_2_4 7 rfl rfl)
theorem dX0_channel_2_102 : decode cX0_channel_2 102 = .ok (.aload 5, 2) := dk_25 5 (dk_at dksX0_channel_2_4 10 rfl rfl)
theorem dX0_channel_2_104 : decode cX0_channel_2 104 = .ok (.getfield 376, 3) := dk_180 1 120 (dk_at dksX0_channel_2_4 12 rfl rfl)
theorem dX0_channel_2_107 : decode cX0_channel_2 107 = .ok (.invokevirtual 380, 3) := dk_182 1 124 (dk_at dksX0_channel_2_4 15 rfl rfl)
theorem dX0_channel_2_110 : decode cX0_channel_2 110 = .ok (.isub, 1) := dk_100 (dk_at dksX0_channel_2_4 18 rfl rfl)
theorem dX0_channel_2_111 : decode cX0_channel_2 111 = .ok (.ireturn, 1) := dk_172 (dk_at dksX0_channel_2_4 19 rfl rfl)
theorem dX0_channel_2_112 : decode cX0_channel_2 112 = .ok (.ldc 239, 2) := dk_18 239 (dk_at dksX0_channel_2_4 20 rfl rfl)
theorem dX0_channel_2_114 : decode cX0_channel_2 114 = .ok (.ireturn, 1) := dk_172 (dk_at dksX0_channel_2_4 22 rfl rfl)
abbrev cX0_state : ByteArray := prog_1_method_36_code
def yX0_state : MethodName := ⟨RX0, "state", "(III)I"⟩
def dkwX0_state_1 : List UInt8 := [180, 1, 4, 192, 0, 28, 28, 29, 184, 1, 144, 167, 0, 6, 19, 1, 52, 172]
abbrev dktX0_state_1 : List UInt8 := dkwX0_state_1 ++ []
def dkwX0_state_0 : List UInt8 := [42, 27, 28, 182, 1, 141, 153, 0, 31, 42, 180, 0, 115, 27, 182, 0, 177, 192, 0, 181, 180, 0, 187]
abbrev dktX0_state_0 : List UInt8 := dkwX0_state_0 ++ dktX0_state_1
theorem dksX0_state_0 : cX0_state.data.toList.drop 0 = dktX0_state_0 := by decide +kernel
theorem dksX0_state_1 : cX0_state.data.toList.drop 23 = dktX0_state_1 := dk_seg dksX0_state_0 23 rfl rfl
theorem dX0_state_0 : decode cX0_state 0 = .ok (.aload_n 0, 1) := dk_42 (dk_at dksX0_state_0 0 rfl rfl)
theorem dX0_state_1 : decode cX0_state 1 = .ok (.iload_n 1, 1) := dk_27 (dk_at dksX0_state_0 1 rfl rfl)
theorem dX0_state_2 : decode cX0_state 2 = .ok (.iload_n 2, 1) := dk_28 (dk_at dksX0_state_0 2 rfl rfl)
theorem dX0_state_3 : decode cX0_state 3 = .ok (.invokevirtual 397, 3) := dk_182 1 141 (dk_at dksX0_state_0 3 rfl rfl)
theorem dX0_state_6 : decode cX0_state 6 = .ok (.ifCond .eq 31, 3) := dk_153 0 31 (dk_at dksX0_state_0 6 rfl rfl)
theorem dX0_state_9 : decode cX0_state 9 = .ok (.aload_n 0, 1) := dk_42 (dk_at dksX0_state_0 9 rfl rfl)
theorem dX0_state_10 : decode cX0_state 10 = .ok (.getfield 115, 3) := dk_180 0 115 (dk_at dksX0_state_0 10 rfl rfl)
theorem dX0_state_13 : decode cX0_state 13 = .ok (.iload_n 1, 1) := dk_27 (dk_at dksX0_state_0 13 rfl rfl)
theorem dX0_state_14 : decode cX0_state 14 = .ok (.invokevirtual 177, 3) := dk_182 0 177 (dk_at dksX0_state_0 14 rfl rfl)
theorem dX0_state_17 : decode cX0_state 17 = .ok (.checkcast 181, 3) := dk_192 0 181 (dk_at dksX0_state_0 17 rfl rfl)
theorem dX0_state_20 : decode cX0_state 20 = .ok (.getfield 187, 3) := dk_180 0 187 (dk_at dksX0_state_0 20 rfl rfl)
theorem dX0_state_23 : decode cX0_state 23 = .ok (.getfield 260, 3) := dk_180 1 4 (dk_at dksX0_state_1 0 rfl rfl)
theorem dX0_state_26 : decode cX0_state 26 = .ok (.checkcast 28, 3) := dk_192 0 28 (dk_at dksX0_state_1 3 rfl rfl)
theorem dX0_state_29 : decode cX0_state 29 = .ok (.iload_n 2, 1) := dk_28 (dk_at dksX0_state_1 6 rfl rfl)
theorem dX0_state_30 : decode cX0_state 30 = .ok (.iload_n 3, 1) := dk_29 (dk_at dksX0_state_1 7 rfl rfl)
theorem dX0_state_31 : decode cX0_state 31 = .ok (.invokestatic 400, 3) := dk_184 1 144 (dk_at dksX0_state_1 8 rfl rfl)
theorem dX0_state_34 : decode cX0_state 34 = .ok (.goto 6, 3) := dk_167 0 6 (dk_at dksX0_state_1 11 rfl rfl)
theorem dX0_state_37 : decode cX0_state 37 = .ok (.ldc_w 308, 3) := dk_19 1 52 (dk_at dksX0_state_1 14 rfl rfl)
theorem dX0_state_40 : decode cX0_state 40 = .ok (.ireturn, 1) := dk_172 (dk_at dksX0_state_1 17 rfl rfl)
abbrev cX0_isStateOf : ByteArray := prog_1_method_34_code
def yX0_isStateOf : MethodName := ⟨RX0, "isStateOf", "(II)Z"⟩
def dkwX0_isStateOf_1 : List UInt8 := [27, 182, 0, 177, 192, 0, 181, 182, 1, 135, 153, 0, 7, 4, 167, 0, 4, 3, 172]
abbrev dktX0_isStateOf_1 : List UInt8 := dkwX0_isStateOf_1 ++ []
def dkwX0_isStateOf_0 : List UInt8 := [42, 27, 182, 1, 72, 153, 0, 36, 28, 133, 9, 20, 0, 241, 184, 0, 229, 153, 0, 24, 42, 180, 0, 115]
abbrev dktX0_isStateOf_0 : List UInt8 := dkwX0_isStateOf_0 ++ dktX0_isStateOf_1
theorem dksX0_isStateOf_0 : cX0_isStateOf.data.toList.drop 0 = dktX0_isStateOf_0 := by decide +kernel
theorem dksX0_isStateOf_1 : cX0_isStateOf.data.toList.drop 24 = dktX0_isStateOf_1 := dk_seg dksX0_isStateOf_0 24 rfl rfl
theorem dX0_isStateOf_0 : decode cX0_isStateOf 0 = .ok (.aload_n 0, 1) := dk_42 (dk_at dksX0_isStateOf_0 0 rfl rfl)
theorem dX0_isStateOf_1 : decode cX0_isStateOf 1 = .ok (.iload_n 1, 1) := dk_27 (dk_at dksX0_isStateOf_0 1 rfl rfl)
theorem dX0_isStateOf_2 : decode cX0_isStateOf 2 = .ok (.invokevirtual 328, 3) := dk_182 1 72 (dk_at dksX0_isStateOf_0 2 rfl rfl)
theorem dX0_isStateOf_5 : decode cX0_isStateOf 5 = .ok (.ifCond .eq 36, 3) := dk_153 0 36 (dk_at dksX0_isStateOf_0 5 rfl rfl)
theorem dX0_isStateOf_8 : decode cX0_isStateOf 8 = .ok (.iload_n 2, 1) := dk_28 (dk_at dksX0_isStateOf_0 8 rfl rfl)
theorem dX0_isStateOf_9 : decode cX0_isStateOf 9 = .ok (.i2l, 1) := dk_133 (dk_at dksX0_isStateOf_0 9 rfl rfl)
theorem dX0_isStateOf_10 : decode cX0_isStateOf 10 = .ok (.lconst 0, 1) := dk_9 (dk_at dksX0_isStateOf_0 10 rfl rfl)
theorem dX0_isStateOf_11 : decode cX0_isStateOf 11 = .ok (.ldc2_w 241, 3) := dk_20 0 241 (dk_at dksX0_isStateOf_0 11 rfl rfl)
theorem dX0_isStateOf_14 : decode cX0_isStateOf 14 = .ok (.invokestatic 229, 3) := dk_184 0 229 (dk_at dksX0_isStateOf_0 14 rfl rfl)
theorem dX0_isStateOf_17 : decode cX0_isStateOf 17 = .ok (.ifCond .eq 24, 3) := dk_153 0 24 (dk_at dksX0_isStateOf_0 17 rfl rfl)
theorem dX0_isStateOf_20 : decode cX0_isStateOf 20 = .ok (.aload_n 0, 1) := dk_42 (dk_at dksX0_isStateOf_0 20 rfl rfl)
theorem dX0_isStateOf_21 : decode cX0_isStateOf 21 = .ok (.getfield 115, 3) := dk_180 0 115 (dk_at dksX0_isStateOf_0 21 rfl rfl)
theorem dX0_isStateOf_24 : decode cX0_isStateOf 24 = .ok (.iload_n 1, 1) := dk_27 (dk_at dksX0_isStateOf_1 0 rfl rfl)
theorem dX0_isStateOf_25 : decode cX0_isStateOf 25 = .ok (.invokevirtual 177, 3) := dk_182 0 177 (dk_at dksX0_isStateOf_1 1 rfl rfl)
theorem dX0_isStateOf_28 : decode cX0_isStateOf 28 = .ok (.checkcast 181, 3) := dk_192 0 181 (dk_at dksX0_isStateOf_1 4 rfl rfl)
theorem dX0_isStateOf_31 : decode cX0_isStateOf 31 = .ok (.invokevirtual 391, 3) := dk_182 1 135 (dk_at dksX0_isStateOf_1 7 rfl rfl)
theorem dX0_isStateOf_34 : decode cX0_isStateOf 34 = .ok (.ifCond .eq 7, 3) := dk_153 0 7 (dk_at dksX0_isStateOf_1 10 rfl rfl)
theorem dX0_isStateOf_37 : decode cX0_isStateOf 37 = .ok (.iconst 1, 1) := dk_4 (dk_at dksX0_isStateOf_1 13 rfl rfl)
theorem dX0_isStateOf_38 : decode cX0_isStateOf 38 = .ok (.goto 4, 3) := dk_167 0 4 (dk_at dksX0_isStateOf_1 14 rfl rfl)
theorem dX0_isStateOf_41 : decode cX0_isStateOf 41 = .ok (.iconst 0, 1) := dk_3 (dk_at dksX0_isStateOf_1 17 rfl rfl)
theorem dX0_isStateOf_42 : decode cX0_isStateOf 42 = .ok (.ireturn, 1) := dk_172 (dk_at dksX0_isStateOf_1 18 rfl rfl)
abbrev cX0_number : ByteArray := prog_1_method_35_code
def yX0_number : MethodName := ⟨RX0, "number", "(LPipelineSimulator$KeyStates;II)I"⟩
def dkwX0_number_1 : List UInt8 := [28, 182, 1, 138, 167, 0, 5, 18, 239, 172]
abbrev dktX0_number_1 : List UInt8 := dkwX0_number_1 ++ []
def dkwX0_number_0 : List UInt8 := [42, 27, 182, 1, 58, 154, 0, 7, 19, 1, 52, 172, 28, 133, 9, 10, 184, 0, 229, 153, 0, 12, 42, 27]
abbrev dktX0_number_0 : List UInt8 := dkwX0_number_0 ++ dktX0_number_1
theorem dksX0_number_0 : cX0_number.data.toList.drop 0 = dktX0_number_0 := by decide +kernel
theorem dksX0_number_1 : cX0_number.data.toList.drop 24 = dktX0_number_1 := dk_seg dksX0_number_0 24 rfl rfl
theorem dX0_number_0 : decode cX0_number 0 = .ok (.aload_n 0, 1) := dk_42 (dk_at dksX0_number_0 0 rfl rfl)
theorem dX0_number_1 : decode cX0_number 1 = .ok (.iload_n 1, 1) := dk_27 (dk_at dksX0_number_0 1 rfl rfl)
theorem dX0_number_2 : decode cX0_number 2 = .ok (.invokevirtual 314, 3) := dk_182 1 58 (dk_at dksX0_number_0 2 rfl rfl)
theorem dX0_number_5 : decode cX0_number 5 = .ok (.ifCond .ne 7, 3) := dk_154 0 7 (dk_at dksX0_number_0 5 rfl rfl)
theorem dX0_number_8 : decode cX0_number 8 = .ok (.ldc_w 308, 3) := dk_19 1 52 (dk_at dksX0_number_0 8 rfl rfl)
theorem dX0_number_11 : decode cX0_number 11 = .ok (.ireturn, 1) := dk_172 (dk_at dksX0_number_0 11 rfl rfl)
theorem dX0_number_12 : decode cX0_number 12 = .ok (.iload_n 2, 1) := dk_28 (dk_at dksX0_number_0 12 rfl rfl)
theorem dX0_number_13 : decode cX0_number 13 = .ok (.i2l, 1) := dk_133 (dk_at dksX0_number_0 13 rfl rfl)
theorem dX0_number_14 : decode cX0_number 14 = .ok (.lconst 0, 1) := dk_9 (dk_at dksX0_number_0 14 rfl rfl)
theorem dX0_number_15 : decode cX0_number 15 = .ok (.lconst 1, 1) := dk_10 (dk_at dksX0_number_0 15 rfl rfl)
theorem dX0_number_16 : decode cX0_number 16 = .ok (.invokestatic 229, 3) := dk_184 0 229 (dk_at dksX0_number_0 16 rfl rfl)
theorem dX0_number_19 : decode cX0_number 19 = .ok (.ifCond .eq 12, 3) := dk_153 0 12 (dk_at dksX0_number_0 19 rfl rfl)
theorem dX0_number_22 : decode cX0_number 22 = .ok (.aload_n 0, 1) := dk_42 (dk_at dksX0_number_0 22 rfl rfl)
theorem dX0_number_23 : decode cX0_number 23 = .ok (.iload_n 1, 1) := dk_27 (dk_at dksX0_number_0 23 rfl rfl)
theorem dX0_number_24 : decode cX0_number 24 = .ok (.iload_n 2, 1) := dk_28 (dk_at dksX0_number_1 0 rfl rfl)
theorem dX0_number_25 : decode cX0_number 25 = .ok (.invokevirtual 394, 3) := dk_182 1 138 (dk_at dksX0_number_1 1 rfl rfl)
theorem dX0_number_28 : decode cX0_number 28 = .ok (.goto 5, 3) := dk_167 0 5 (dk_at dksX0_number_1 4 rfl rfl)
theorem dX0_number_31 : decode cX0_number 31 = .ok (.ldc 239, 2) := dk_18 239 (dk_at dksX0_number_1 7 rfl rfl)
theorem dX0_number_33 : decode cX0_number 33 = .ok (.ireturn, 1) := dk_172 (dk_at dksX0_number_1 9 rfl rfl)
abbrev cX0_savedState : ByteArray := prog_1_method_37_code
def yX0_savedState : MethodName := ⟨RX0, "savedState", "(III)I"⟩
def dkwX0_savedState_1 : List UInt8 := [180, 1, 69, 192, 0, 28, 28, 29, 184, 1, 144, 167, 0, 6, 19, 1, 52, 172]
abbrev dktX0_savedState_1 : List UInt8 := dkwX0_savedState_1 ++ []
def dkwX0_savedState_0 : List UInt8 := [42, 27, 28, 182, 1, 141, 153, 0, 31, 42, 180, 0, 115, 27, 182, 0, 177, 192, 0, 181, 180, 0, 187]
abbrev dktX0_savedState_0 : List UInt8 := dkwX0_savedState_0 ++ dktX0_savedState_1
theorem dksX0_savedState_0 : cX0_savedState.data.toList.drop 0 = dktX0_savedState_0 := by decide +kernel
theorem dksX0_savedState_1 : cX0_savedState.data.toList.drop 23 = dktX0_savedState_1 := dk_seg dksX0_savedState_0 23 rfl rfl
theorem dX0_savedState_0 : decode cX0_savedState 0 = .ok (.aload_n 0, 1) := dk_42 (dk_at dksX0_savedState_0 0 rfl rfl)
theorem dX0_savedState_1 : decode cX0_savedState 1 = .ok (.iload_n 1, 1) := dk_27 (dk_at dksX0_savedState_0 1 rfl rfl)
theorem dX0_savedState_2 : decode cX0_savedState 2 = .ok (.iload_n 2, 1) := dk_28 (dk_at dksX0_savedState_0 2 rfl rfl)
theorem dX0_savedState_3 : decode cX0_savedState 3 = .ok (.invokevirtual 397, 3) := dk_182 1 141 (dk_at dksX0_savedState_0 3 rfl rfl)
theorem dX0_savedState_6 : decode cX0_savedState 6 = .ok (.ifCond .eq 31, 3) := dk_153 0 31 (dk_at dksX0_savedState_0 6 rfl rfl)
theorem dX0_savedState_9 : decode cX0_savedState 9 = .ok (.aload_n 0, 1) := dk_42 (dk_at dksX0_savedState_0 9 rfl rfl)
theorem dX0_savedState_10 : decode cX0_savedState 10 = .ok (.getfield 115, 3) := dk_180 0 115 (dk_at dksX0_savedState_0 10 rfl rfl)
theorem dX0_savedState_13 : decode cX0_savedState 13 = .ok (.iload_n 1, 1) := dk_27 (dk_at dksX0_savedState_0 13 rfl rfl)
theorem dX0_savedState_14 : decode cX0_savedState 14 = .ok (.invokevirtual 177, 3) := dk_182 0 177 (dk_at dksX0_savedState_0 14 rfl rfl)
theorem dX0_savedState_17 : decode cX0_savedState 17 = .ok (.checkcast 181, 3) := dk_192 0 181 (dk_at dksX0_savedState_0 17 rfl rfl)
theorem dX0_savedState_20 : decode cX0_savedState 20 = .ok (.getfield 187, 3) := dk_180 0 187 (dk_at dksX0_savedState_0 20 rfl rfl)
theorem dX0_savedState_23 : decode cX0_savedState 23 = .ok (.getfield 325, 3) := dk_180 1 69 (dk_at dksX0_savedState_1 0 rfl rfl)
theorem dX0_savedState_26 : decode cX0_savedState 26 = .ok (.checkcast 28, 3) := dk_192 0 28 (dk_at dksX0_savedState_1 3 rfl rfl)
theorem dX0_savedState_29 : decode cX0_savedState 29 = .ok (.iload_n 2, 1) := dk_28 (dk_at dksX0_savedState_1 6 rfl rfl)
theorem dX0_savedState_30 : decode cX0_savedState 30 = .ok (.iload_n 3, 1) := dk_29 (dk_at dksX0_savedState_1 7 rfl rfl)
theorem dX0_savedState_31 : decode cX0_savedState 31 = .ok (.invokestatic 400, 3) := dk_184 1 144 (dk_at dksX0_savedState_1 8 rfl rfl)
theorem dX0_savedState_34 : decode cX0_savedState 34 = .ok (.goto 6, 3) := dk_167 0 6 (dk_at dksX0_savedState_1 11 rfl rfl)
theorem dX0_savedState_37 : decode cX0_savedState 37 = .ok (.ldc_w 308, 3) := dk_19 1 52 (dk_at dksX0_savedState_1 14 rfl rfl)
theorem dX0_savedState_40 : decode cX0_savedState 40 = .ok (.ireturn, 1) := dk_172 (dk_at dksX0_savedState_1 17 rfl rfl)
abbrev cX0_plain : ByteArray := prog_1_method_39_code
def yX0_plain : MethodName := ⟨RX0, "plain", "(II)I"⟩
def dkwX0_plain_3 : List UInt8 := [167, 255, 217, 45, 182, 1, 167, 27, 28, 184, 1, 144, 172]
abbrev dktX0_plain_3 : List UInt8 := dkwX0_plain_3 ++ []
def dkwX0_plain_2 : List UInt8 := [162, 0, 27, 45, 42, 180, 0, 105, 21, 4, 46, 42, 180, 0, 109, 21, 4, 46, 182, 1, 164, 132, 4, 1]
abbrev dktX0_plain_2 : List UInt8 := dkwX0_plain_2 ++ dktX0_plain_3
def dkwX0_plain_1 : List UInt8 := [183, 1, 161, 78, 3, 54, 4, 21, 4, 42, 180, 0, 123, 180, 1, 4, 192, 0, 36, 180, 1, 8]
abbrev dktX0_plain_1 : List UInt8 := dkwX0_plain_1 ++ dktX0_plain_2
def dkwX0_plain_0 : List UInt8 := [27, 133, 9, 20, 0, 241, 184, 0, 229, 154, 0, 7, 19, 1, 52, 172, 187, 1, 159, 89, 42, 3]
abbrev dktX0_plain_0 : List UInt8 := dkwX0_plain_0 ++ dktX0_plain_1
theorem dksX0_plain_0 : cX0_plain.data.toList.drop 0 = dktX0_plain_0 := by decide +kernel
theorem dksX0_plain_1 : cX0_plain.data.toList.drop 22 = dktX0_plain_1 := dk_seg dksX0_plain_0 22 rfl rfl
theorem dksX0_plain_2 : cX0_plain.data.toList.drop 44 = dktX0_plain_2 := dk_seg dksX0_plain_1 22 rfl rfl
theorem dksX0_plain_3 : cX0_plain.data.toList.drop 68 = dktX0_plain_3 := dk_seg dksX0_plain_2 24 rfl rfl
theorem dX0_plain_0 : decode cX0_plain 0 = .ok (.iload_n 1, 1) := dk_27 (dk_at dksX0_plain_0 0 rfl rfl)
theorem dX0_plain_1 : decode cX0_plain 1 = .ok (.i2l, 1) := dk_133 (dk_at dksX0_plain_0 1 rfl rfl)
theorem dX0_plain_2 : decode cX0_plain 2 = .ok (.lconst 0, 1) := dk_9 (dk_at dksX0_plain_0 2 rfl rfl)
theorem dX0_plain_3 : decode cX0_plain 3 = .ok (.ldc2_w 241, 3) := dk_20 0 241 (dk_at dksX0_plain_0 3 rfl rfl)
theorem dX0_plain_6 : decode cX0_plain 6 = .ok (.invokestatic 229, 3) := dk_184 0 229 (dk_at dksX0_plain_0 6 rfl rfl)
theorem dX0_plain_9 : decode cX0_plain 9 = .ok (.ifCond .ne 7, 3) := dk_154 0 7 (dk_at dksX0_plain_0 9 rfl rfl)
theorem dX0_plain_12 : decode cX0_plain 12 = .ok (.ldc_w 308, 3) := dk_19 1 52 (dk_at dksX0_plain_0 12 rfl rfl)
theorem dX0_plain_15 : decode cX0_plain 15 = .ok (.ireturn, 1) := dk_172 (dk_at dksX0_plain_0 15 rfl rfl)
theorem dX0_plain_16 : decode cX0_plain 16 = .ok (.new 415, 3) := dk_187 1 159 (dk_at dksX0_plain_0 16 rfl rfl)
theorem dX0_plain_19 : decode cX0_plain 19 = .ok (.dup, 1) := dk_89 (dk_at dksX0_plain_0 19 rfl rfl)
theorem dX0_plain_20 : decode cX0_plain 20 = .ok (.aload_n 0, 1) := dk_42 (dk_at dksX0_plain_0 20 rfl rfl)
theorem dX0_plain_21 : decode cX0_plain 21 = .ok (.iconst 0, 1) := dk_3 (dk_at dksX0_plain_0 21 rfl rfl)
theorem dX0_plain_22 : decode cX0_plain 22 = .ok (.invokespecial 417, 3) := dk_183 1 161 (dk_at dksX0_plain_1 0 rfl rfl)
theorem dX0_plain_25 : decode cX0_plain 25 = .ok (.astore_n 3, 1) := dk_78 (dk_at dksX0_plain_1 3 rfl rfl)
theorem dX0_plain_26 : decode cX0_plain 26 = .ok (.iconst 0, 1) := dk_3 (dk_at dksX0_plain_1 4 rfl rfl)
theorem dX0_plain_27 : decode cX0_plain 27 = .ok (.istore 4, 2) := dk_54 4 (dk_at dksX0_plain_1 5 rfl rfl)
theorem dX0_plain_29 : decode cX0_plain 29 = .ok (.iload 4, 2) := dk_21 4 (dk_at dksX0_plain_1 7 rfl rfl)
theorem dX0_plain_31 : decode cX0_plain 31 = .ok (.aload_n 0, 1) := dk_42 (dk_at dksX0_plain_1 9 rfl rfl)
theorem dX0_plain_32 : decode cX0_plain 32 = .ok (.getfield 123, 3) := dk_180 0 123 (dk_at dksX0_plain_1 10 rfl rfl)
theorem dX0_plain_35 : decode cX0_plain 35 = .ok (.getfield 260, 3) := dk_180 1 4 (dk_at dksX0_plain_1 13 rfl rfl)
theorem dX0_plain_38 : decode cX0_plain 38 = .ok (.checkcast 36, 3) := dk_192 0 36 (dk_at dksX0_plain_1 16 rfl rfl)
theorem dX0_plain_41 : decode cX0_plain 41 = .ok (.getfield 264, 3) := dk_180 1 8 (dk_at dksX0_plain_1 19 rfl rfl)
theorem dX0_plain_44 : decode cX0_plain 44 = .ok (.if_icmp .ge 27, 3) := dk_162 0 27 (dk_at dksX0_plain_2 0 rfl rfl)
theorem dX0_plain_47 : decode cX0_plain 47 = .ok (.aload_n 3, 1) := dk_45 (dk_at dksX0_plain_2 3 rfl rfl)
theorem dX0_plain_48 : decode cX0_plain 48 = .ok (.aload_n 0, 1) := dk_42 (dk_at dksX0_plain_2 4 rfl rfl)
theorem dX0_plain_49 : decode cX0_plain 49 = .ok (.getfield 105, 3) := dk_180 0 105 (dk_at dksX0_plain_2 5 rfl rfl)
theorem dX0_plain_52 : decode cX0_plain 52 = .ok (.iload 4, 2) := dk_21 4 (dk_at dksX0_plain_2 8 rfl rfl)
theorem dX0_plain_54 : decode cX0_plain 54 = .ok (.iaload, 1) := dk_46 (dk_at dksX0_plain_2 10 rfl rfl)
theorem dX0_plain_55 : decode cX0_plain 55 = .ok (.aload_n 0, 1) := dk_42 (dk_at dksX0_plain_2 11 rfl rfl)
theorem dX0_plain_56 : decode cX0_plain 56 = .ok (.getfield 109, 3) := dk_180 0 109 (dk_at dksX0_plain_2 12 rfl rfl)
theorem dX0_plain_59 : decode cX0_plain 59 = .ok (.iload 4, 2) := dk_21 4 (dk_at dksX0_plain_2 15 rfl rfl)
theorem dX0_plain_61 : decode cX0_plain 61 = .ok (.iaload, 1) := dk_46 (dk_at dksX0_plain_2 17 rfl rfl)
theorem dX0_plain_62 : decode cX0_plain 62 = .ok (.invokevirtual 420, 3) := dk_182 1 164 (dk_at dksX0_plain_2 18 rfl rfl)
theorem dX0_plain_65 : decode cX0_plain 65 = .ok (.iinc 4 1, 3) := dk_132 4 1 (dk_at dksX0_plain_2 21 rfl rfl)
theorem dX0_plain_68 : decode cX0_plain 68 = .ok (.goto (-39), 3) := dk_167 255 217 (dk_at dksX0_plain_3 0 rfl rfl)
theorem dX0_plain_71 : decode cX0_plain 71 = .ok (.aload_n 3, 1) := dk_45 (dk_at dksX0_plain_3 3 rfl rfl)
theorem dX0_plain_72 : decode cX0_plain 72 = .ok (.invokevirtual 423, 3) := dk_182 1 167 (dk_at dksX0_plain_3 4 rfl rfl)
theorem dX0_plain_75 : decode cX0_plain 75 = .ok (.iload_n 1, 1) := dk_27 (dk_at dksX0_plain_3 7 rfl rfl)
theorem dX0_plain_76 : decode cX0_plain 76 = .ok (.iload_n 2, 1) := dk_28 (dk_at dksX0_plain_3 8 rfl rfl)
theorem dX0_plain_77 : decode cX0_plain 77 = .ok (.invokestatic 400, 3) := dk_184 1 144 (dk_at dksX0_plain_3 9 rfl rfl)
theorem dX0_plain_80 : decode cX0_plain 80 = .ok (.ireturn, 1) := dk_172 (dk_at dksX0_plain_3 12 rfl rfl)
abbrev cX0_explain : ByteArray := prog_1_method_40_code
def yX0_explain : MethodName := ⟨RX0, "explain", "(II)I"⟩
def dkwX0_explain_3 : List UInt8 := [167, 255, 224, 42, 180, 0, 159, 182, 0, 174, 172]
abbrev dktX0_explain_3 : List UInt8 := dkwX0_explain_3 ++ []
def dkwX0_explain_2 : List UInt8 := [25, 5, 192, 1, 174, 58, 4, 42, 180, 0, 159, 25, 4, 182, 0, 152, 87, 25, 5, 182, 1, 176, 58, 5]
abbrev dktX0_explain_2 : List UInt8 := dkwX0_explain_2 ++ dktX0_explain_3
def dkwX0_explain_1 : List UInt8 := [27, 50, 28, 50, 3, 182, 1, 171, 167, 0, 42, 78, 45, 58, 5, 25, 5, 193, 1, 174, 153, 0, 30]
abbrev dktX0_explain_1 : List UInt8 := dkwX0_explain_1 ++ dktX0_explain_2
def dkwX0_explain_0 : List UInt8 := [42, 27, 28, 182, 1, 103, 154, 0, 7, 19, 1, 52, 172, 42, 180, 0, 159, 182, 0, 172, 42, 180, 0, 132]
abbrev dktX0_explain_0 : List UInt8 := dkwX0_explain_0 ++ dktX0_explain_1
theorem dksX0_explain_0 : cX0_explain.data.toList.drop 0 = dktX0_explain_0 := by decide +kernel
theorem dksX0_explain_1 : cX0_explain.data.toList.drop 24 = dktX0_explain_1 := dk_seg dksX0_explain_0 24 rfl rfl
theorem dksX0_explain_2 : cX0_explain.data.toList.drop 47 = dktX0_explain_2 := dk_seg dksX0_explain_1 23 rfl rfl
theorem dksX0_explain_3 : cX0_explain.data.toList.drop 71 = dktX0_explain_3 := dk_seg dksX0_explain_2 24 rfl rfl
theorem dX0_explain_0 : decode cX0_explain 0 = .ok (.aload_n 0, 1) := dk_42 (dk_at dksX0_explain_0 0 rfl rfl)
theorem dX0_explain_1 : decode cX0_explain 1 = .ok (.iload_n 1, 1) := dk_27 (dk_at dksX0_explain_0 1 rfl rfl)
theorem dX0_explain_2 : decode cX0_explain 2 = .ok (.iload_n 2, 1) := dk_28 (dk_at dksX0_explain_0 2 rfl rfl)
theorem dX0_explain_3 : decode cX0_explain 3 = .ok (.invokevirtual 359, 3) := dk_182 1 103 (dk_at dksX0_explain_0 3 rfl rfl)
theorem dX0_explain_6 : decode cX0_explain 6 = .ok (.ifCond .ne 7, 3) := dk_154 0 7 (dk_at dksX0_explain_0 6 rfl rfl)
theorem dX0_explain_9 : decode cX0_explain 9 = .ok (.ldc_w 308, 3) := dk_19 1 52 (dk_at dksX0_explain_0 9 rfl rfl)
theorem dX0_explain_12 : decode cX0_explain 12 = .ok (.ireturn, 1) := dk_172 (dk_at dksX0_explain_0 12 rfl rfl)
theorem dX0_explain_13 : decode cX0_explain 13 = .ok (.aload_n 0, 1) := dk_42 (dk_at dksX0_explain_0 13 rfl rfl)
theorem dX0_explain_14 : decode cX0_explain 14 = .ok (.getfield 159, 3) := dk_180 0 159 (dk_at dksX0_explain_0 14 rfl rfl)
theorem dX0_explain_17 : decode cX0_explain 17 = .ok (.invokevirtual 172, 3) := dk_182 0 172 (dk_at dksX0_explain_0 17 rfl rfl)
theorem dX0_explain_20 : decode cX0_explain 20 = .ok (.aload_n 0, 1) := dk_42 (dk_at dksX0_explain_0 20 rfl rfl)
theorem dX0_explain_21 : decode cX0_explain 21 = .ok (.getfield 132, 3) := dk_180 0 132 (dk_at dksX0_explain_0 21 rfl rfl)
theorem dX0_explain_24 : decode cX0_explain 24 = .ok (.iload_n 1, 1) := dk_27 (dk_at dksX0_explain_1 0 rfl rfl)
theorem dX0_explain_25 : decode cX0_explain 25 = .ok (.aaload, 1) := dk_50 (dk_at dksX0_explain_1 1 rfl rfl)
theorem dX0_explain_26 : decode cX0_explain 26 = .ok (.iload_n 2, 1) := dk_28 (dk_at dksX0_explain_1 2 rfl rfl)
theorem dX0_explain_27 : decode cX0_explain 27 = .ok (.aaload, 1) := dk_50 (dk_at dksX0_explain_1 3 rfl rfl)
theorem dX0_explain_28 : decode cX0_explain 28 = .ok (.iconst 0, 1) := dk_3 (dk_at dksX0_explain_1 4 rfl rfl)
theorem dX0_explain_29 : decode cX0_explain 29 = .ok (.invokevirtual 427, 3) := dk_182 1 171 (dk_at dksX0_explain_1 5 rfl rfl)
theorem dX0_explain_32 : decode cX0_explain 32 = .ok (.goto 42, 3) := dk_167 0 42 (dk_at dksX0_explain_1 8 rfl rfl)
theorem dX0_explain_35 : decode cX0_explain 35 = .ok (.astore_n 3, 1) := dk_78 (dk_at dksX0_explain_1 11 rfl rfl)
theorem dX0_explain_36 : decode cX0_explain 36 = .ok (.aload_n 3, 1) := dk_45 (dk_at dksX0_explain_1 12 rfl rfl)
theorem dX0_explain_37 : decode cX0_explain 37 = .ok (.astore 5, 2) := dk_58 5 (dk_at dksX0_explain_1 13 rfl rfl)
theorem dX0_explain_39 : decode cX0_explain 39 = .ok (.aload 5, 2) := dk_25 5 (dk_at dksX0_explain_1 15 rfl rfl)
theorem dX0_explain_41 : decode cX0_explain 41 = .ok (.instanceof 430, 3) := dk_193 1 174 (dk_at dksX0_explain_1 17 rfl rfl)
theorem dX0_explain_44 : decode cX0_explain 44 = .ok (.ifCond .eq 30, 3) := dk_153 0 30 (dk_at dksX0_explain_1 20 rfl rfl)
theorem dX0_explain_47 : decode cX0_explain 47 = .ok (.aload 5, 2) := dk_25 5 (dk_at dksX0_explain_2 0 rfl rfl)
theorem dX0_explain_49 : decode cX0_explain 49 = .ok (.checkcast 430, 3) := dk_192 1 174 (dk_at dksX0_explain_2 2 rfl rfl)
theorem dX0_explain_52 : decode cX0_explain 52 = .ok (.astore 4, 2) := dk_58 4 (dk_at dksX0_explain_2 5 rfl rfl)
theorem dX0_explain_54 : decode cX0_explain 54 = .ok (.aload_n 0, 1) := dk_42 (dk_at dksX0_explain_2 7 rfl rfl)
theorem dX0_explain_55 : decode cX0_explain 55 = .ok (.getfield 159, 3) := dk_180 0 159 (dk_at dksX0_explain_2 8 rfl rfl)
theorem dX0_explain_58 : decode cX0_explain 58 = .ok (.aload 4, 2) := dk_25 4 (dk_at dksX0_explain_2 11 rfl rfl)
theorem dX0_explain_60 : decode cX0_explain 60 = .ok (.invokevirtual 152, 3) := dk_182 0 152 (dk_at dksX0_explain_2 13 rfl rfl)
theorem dX0_explain_63 : decode cX0_explain 63 = .ok (.pop, 1) := dk_87 (dk_at dksX0_explain_2 16 rfl rfl)
theorem dX0_explain_64 : decode cX0_explain 64 = .ok (.aload 5, 2) := dk_25 5 (dk_at dksX0_explain_2 17 rfl rfl)
theorem dX0_explain_66 : decode cX0_explain 66 = .ok (.invokevirtual 432, 3) := dk_182 1 176 (dk_at dksX0_explain_2 19 rfl rfl)
theorem dX0_explain_69 : decode cX0_explain 69 = .ok (.astore 5, 2) := dk_58 5 (dk_at dksX0_explain_2 22 rfl rfl)
theorem dX0_explain_71 : decode cX0_explain 71 = .ok (.goto (-32), 3) := dk_167 255 224 (dk_at dksX0_explain_3 0 rfl rfl)
theorem dX0_explain_74 : decode cX0_explain 74 = .ok (.aload_n 0, 1) := dk_42 (dk_at dksX0_explain_3 3 rfl rfl)
theorem dX0_explain_75 : decode cX0_explain 75 = .ok (.getfield 159, 3) := dk_180 0 159 (dk_at dksX0_explain_3 4 rfl rfl)
theorem dX0_explain_78 : decode cX0_explain 78 = .ok (.invokevirtual 174, 3) := dk_182 0 174 (dk_at dksX0_explain_3 7 rfl rfl)
theorem dX0_explain_81 : decode cX0_explain 81 = .ok (.ireturn, 1) := dk_172 (dk_at dksX0_explain_3 10 rfl rfl)
abbrev cX0_explanation : ByteArray := prog_1_method_41_code
def yX0_explanation : MethodName := ⟨RX0, "explanation", "(II)I"⟩
def dkwX0_explanation_2 : List UInt8 := [192, 1, 174, 180, 1, 182, 167, 0, 17, 42, 180, 0, 159, 27, 182, 0, 177, 192, 1, 174, 180, 1, 185, 172]
abbrev dktX0_explanation_2 : List UInt8 := dkwX0_explanation_2 ++ []
def dkwX0_explanation_1 : List UInt8 := [133, 9, 10, 184, 0, 229, 154, 0, 6, 18, 239, 172, 28, 154, 0, 20, 42, 180, 0, 159, 27, 182, 0, 177]
abbrev dktX0_explanation_1 : List UInt8 := dkwX0_explanation_1 ++ dktX0_explanation_2
def dkwX0_explanation_0 : List UInt8 := [27, 133, 9, 42, 180, 0, 159, 182, 0, 174, 4, 100, 133, 184, 0, 229, 154, 0, 7, 19, 1, 52, 172, 28]
abbrev dktX0_explanation_0 : List UInt8 := dkwX0_explanation_0 ++ dktX0_explanation_1
theorem dksX0_explanation_0 : cX0_explanation.data.toList.drop 0 = dktX0_explanation_0 := by decide +kernel
theorem dksX0_explanation_1 : cX0_explanation.data.toList.drop 24 = dktX0_explanation_1 := dk_seg dksX0_explanation_0 24 rfl rfl
theorem dksX0_explanation_2 : cX0_explanation.data.toList.drop 48 = dktX0_explanation_2 := dk_seg dksX0_explanation_1 24 rfl rfl
theorem dX0_explanation_0 : decode cX0_explanation 0 = .ok (.iload_n 1, 1) := dk_27 (dk_at dksX0_explanation_0 0 rfl rfl)
theorem dX0_explanation_1 : decode cX0_explanation 1 = .ok (.i2l, 1) := dk_133 (dk_at dksX0_explanation_0 1 rfl rfl)
theorem dX0_explanation_2 : decode cX0_explanation 2 = .ok (.lconst 0, 1) := dk_9 (dk_at dksX0_explanation_0 2 rfl rfl)
theorem dX0_explanation_3 : decode cX0_explanation 3 = .ok (.aload_n 0, 1) := dk_42 (dk_at dksX0_explanation_0 3 rfl rfl)
theorem dX0_explanation_4 : decode cX0_explanation 4 = .ok (.getfield 159, 3) := dk_180 0 159 (dk_at dksX0_explanation_0 4 rfl rfl)
theorem dX0_explanation_7 : decode cX0_explanation 7 = .ok (.invokevirtual 174, 3) := dk_182 0 174 (dk_at dksX0_explanation_0 7 rfl rfl)
theorem dX0_explanation_10 : decode cX0_explanation 10 = .ok (.iconst 1, 1) := dk_4 (dk_at dksX0_explanation_0 10 rfl rfl)
theorem dX0_explanation_11 : decode cX0_explanation 11 = .ok (.isub, 1) := dk_100 (dk_at dksX0_explanation_0 11 rfl rfl)
theorem dX0_explanation_12 : decode cX0_explanation 12 = .ok (.i2l, 1) := dk_133 (dk_at dksX0_explanation_0 12 rfl rfl)
theorem dX0_explanation_13 : decode cX0_explanation 13 = .ok (.invokestatic 229, 3) := dk_184 0 229 (dk_at dksX0_explanation_0 13 rfl rfl)
theorem dX0_explanation_16 : decode cX0_explanation 16 = .ok (.ifCond .ne 7, 3) := dk_154 0 7 (dk_at dksX0_explanation_0 16 rfl rfl)
theorem dX0_explanation_19 : decode cX0_explanation 19 = .ok (.ldc_w 308, 3) := dk_19 1 52 (dk_at dksX0_explanation_0 19 rfl rfl)
theorem dX0_explanation_22 : decode cX0_explanation 22 = .ok (.ireturn, 1) := dk_172 (dk_at dksX0_explanation_0 22 rfl rfl)
theorem dX0_explanation_23 : decode cX0_explanation 23 = .ok (.iload_n 2, 1) := dk_28 (dk_at dksX0_explanation_0 23 rfl rfl)
theorem dX0_explanation_24 : decode cX0_explanation 24 = .ok (.i2l, 1) := dk_133 (dk_at dksX0_explanation_1 0 rfl rfl)
theorem dX0_explanation_25 : decode cX0_explanation 25 = .ok (.lconst 0, 1) := dk_9 (dk_at dksX0_explanation_1 1 rfl rfl)
theorem dX0_explanation_26 : decode cX0_explanation 26 = .ok (.lconst 1, 1) := dk_10 (dk_at dksX0_explanation_1 2 rfl rfl)
theorem dX0_explanation_27 : decode cX0_explanation 27 = .ok (.invokestatic 229, 3) := dk_184 0 229 (dk_at dksX0_explanation_1 3 rfl rfl)
theorem dX0_explanation_30 : decode cX0_explanation 30 = .ok (.ifCond .ne 6, 3) := dk_154 0 6 (dk_at dksX0_explanation_1 6 rfl rfl)
theorem dX0_explanation_33 : decode cX0_explanation 33 = .ok (.ldc 239, 2) := dk_18 239 (dk_at dksX0_explanation_1 9 rfl rfl)
theorem dX0_explanation_35 : decode cX0_explanation 35 = .ok (.ireturn, 1) := dk_172 (dk_at dksX0_explanation_1 11 rfl rfl)
theorem dX0_explanation_36 : decode cX0_explanation 36 = .ok (.iload_n 2, 1) := dk_28 (dk_at dksX0_explanation_1 12 rfl rfl)
theorem dX0_explanation_37 : decode cX0_explanation 37 = .ok (.ifCond .ne 20, 3) := dk_154 0 20 (dk_at dksX0_explanation_1 13 rfl rfl)
theorem dX0_explanation_40 : decode cX0_explanation 40 = .ok (.aload_n 0, 1) := dk_42 (dk_at dksX0_explanation_1 16 rfl rfl)
theorem dX0_explanation_41 : decode cX0_explanation 41 = .ok (.getfield 159, 3) := dk_180 0 159 (dk_at dksX0_explanation_1 17 rfl rfl)
theorem dX0_explanation_44 : decode cX0_explanation 44 = .ok (.iload_n 1, 1) := dk_27 (dk_at dksX0_explanation_1 20 rfl rfl)
theorem dX0_explanation_45 : decode cX0_explanation 45 = .ok (.invokevirtual 177, 3) := dk_182 0 177 (dk_at dksX0_explanation_1 21 rfl rfl)
theorem dX0_explanation_48 : decode cX0_explanation 48 = .ok (.checkcast 430, 3) := dk_192 1 174 (dk_at dksX0_explanation_2 0 rfl rfl)
theorem dX0_explanation_51 : decode cX0_explanation 51 = .ok (.getfield 438, 3) := dk_180 1 182 (dk_at dksX0_explanation_2 3 rfl rfl)
theorem dX0_explanation_54 : decode cX0_explanation 54 = .ok (.goto 17, 3) := dk_167 0 17 (dk_at dksX0_explanation_2 6 rfl rfl)
theorem dX0_explanation_57 : decode cX0_explanation 57 = .ok (.aload_n 0, 1) := dk_42 (dk_at dksX0_explanation_2 9 rfl rfl)
theorem dX0_explanation_58 : decode cX0_explanation 58 = .ok (.getfield 159, 3) := dk_180 0 159 (dk_at dksX0_explanation_2 10 rfl rfl)
theorem dX0_explanation_61 : decode cX0_explanation 61 = .ok (.iload_n 1, 1) := dk_27 (dk_at dksX0_explanation_2 13 rfl rfl)
theorem dX0_explanation_62 : decode cX0_explanation 62 = .ok (.invokevirtual 177, 3) := dk_182 0 177 (dk_at dksX0_explanation_2 14 rfl rfl)
theorem dX0_explanation_65 : decode cX0_explanation 65 = .ok (.checkcast 430, 3) := dk_192 1 174 (dk_at dksX0_explanation_2 17 rfl rfl)
theorem dX0_explanation_68 : decode cX0_explanation 68 = .ok (.getfield 441, 3) := dk_180 1 185 (dk_at dksX0_explanation_2 20 rfl rfl)
theorem dX0_explanation_71 : decode cX0_explanation 71 = .ok (.ireturn, 1) := dk_172 (dk_at dksX0_explanation_2 23 rfl rfl)
abbrev cX0_append : ByteArray := prog_1_method_42_code
def yX0_append : MethodName := ⟨RX0, "append", "(II)I"⟩
def dkwX0_append_3 : List UInt8 := [182, 1, 192, 172]
abbrev dktX0_append_3 : List UInt8 := dkwX0_append_3 ++ []
def dkwX0_append_2 : List UInt8 := [162, 0, 19, 42, 180, 0, 165, 27, 146, 182, 1, 195, 87, 132, 3, 1, 167, 255, 238, 42, 180, 0, 165]
abbrev dktX0_append_2 : List UInt8 := dkwX0_append_2 ++ dktX0_append_3
def dkwX0_append_1 : List UInt8 := [18, 239, 172, 42, 180, 0, 165, 182, 1, 192, 28, 96, 16, 60, 164, 0, 6, 18, 250, 172, 3, 62, 29, 28]
abbrev dktX0_append_1 : List UInt8 := dkwX0_append_1 ++ dktX0_append_2
def dkwX0_append_0 : List UInt8 := [27, 133, 9, 20, 1, 188, 184, 0, 229, 153, 0, 15, 28, 133, 10, 20, 1, 190, 184, 0, 229, 154, 0, 6]
abbrev dktX0_append_0 : List UInt8 := dkwX0_append_0 ++ dktX0_append_1
theorem dksX0_append_0 : cX0_append.data.toList.drop 0 = dktX0_append_0 := by decide +kernel
theorem dksX0_append_1 : cX0_append.data.toList.drop 24 = dktX0_append_1 := dk_seg dksX0_append_0 24 rfl rfl
theorem dksX0_append_2 : cX0_append.data.toList.drop 48 = dktX0_append_2 := dk_seg dksX0_append_1 24 rfl rfl
theorem dksX0_append_3 : cX0_append.data.toList.drop 71 = dktX0_append_3 := dk_seg dksX0_append_2 23 rfl rfl
theorem dX0_append_0 : decode cX0_append 0 = .ok (.iload_n 1, 1) := dk_27 (dk_at dksX0_append_0 0 rfl rfl)
theorem dX0_append_1 : decode cX0_append 1 = .ok (.i2l, 1) := dk_133 (dk_at dksX0_append_0 1 rfl rfl)
theorem dX0_append_2 : decode cX0_append 2 = .ok (.lconst 0, 1) := dk_9 (dk_at dksX0_append_0 2 rfl rfl)
theorem dX0_append_3 : decode cX0_append 3 = .ok (.ldc2_w 444, 3) := dk_20 1 188 (dk_at dksX0_append_0 3 rfl rfl)
theorem dX0_append_6 : decode cX0_append 6 = .ok (.invokestatic 229, 3) := dk_184 0 229 (dk_at dksX0_append_0 6 rfl rfl)
theorem dX0_append_9 : decode cX0_append 9 = .ok (.ifCond .eq 15, 3) := dk_153 0 15 (dk_at dksX0_append_0 9 rfl rfl)
theorem dX0_append_12 : decode cX0_append 12 = .ok (.iload_n 2, 1) := dk_28 (dk_at dksX0_append_0 12 rfl rfl)
theorem dX0_append_13 : decode cX0_append 13 = .ok (.i2l, 1) := dk_133 (dk_at dksX0_append_0 13 rfl rfl)
theorem dX0_append_14 : decode cX0_append 14 = .ok (.lconst 1, 1) := dk_10 (dk_at dksX0_append_0 14 rfl rfl)
theorem dX0_append_15 : decode cX0_append 15 = .ok (.ldc2_w 446, 3) := dk_20 1 190 (dk_at dksX0_append_0 15 rfl rfl)
theorem dX0_append_18 : decode cX0_append 18 = .ok (.invokestatic 229, 3) := dk_184 0 229 (dk_at dksX0_append_0 18 rfl rfl)
theorem dX0_append_21 : decode cX0_append 21 = .ok (.ifCond .ne 6, 3) := dk_154 0 6 (dk_at dksX0_append_0 21 rfl rfl)
theorem dX0_append_24 : decode cX0_append 24 = .ok (.ldc 239, 2) := dk_18 239 (dk_at dksX0_append_1 0 rfl rfl)
theorem dX0_append_26 : decode cX0_append 26 = .ok (.ireturn, 1) := dk_172 (dk_at dksX0_append_1 2 rfl rfl)
theorem dX0_append_27 : decode cX0_append 27 = .ok (.aload_n 0, 1) := dk_42 (dk_at dksX0_append_1 3 rfl rfl)
theorem dX0_append_28 : decode cX0_append 28 = .ok (.getfield 165, 3) := dk_180 0 165 (dk_at dksX0_append_1 4 rfl rfl)
theorem dX0_append_31 : decode cX0_append 31 = .ok (.invokevirtual 448, 3) := dk_182 1 192 (dk_at dksX0_append_1 7 rfl rfl)
theorem dX0_append_34 : decode cX0_append 34 = .ok (.iload_n 2, 1) := dk_28 (dk_at dksX0_append_1 10 rfl rfl)
theorem dX0_append_35 : decode cX0_append 35 = .ok (.iadd, 1) := dk_96 (dk_at dksX0_append_1 11 rfl rfl)
theorem dX0_append_36 : decode cX0_append 36 = .ok (.bipush 60, 2) := dk_16 60 (dk_at dksX0_append_1 12 rfl rfl)
theorem dX0_append_38 : decode cX0_append 38 = .ok (.if_icmp .le 6, 3) := dk_164 0 6 (dk_at dksX0_append_1 14 rfl rfl)
theorem dX0_append_41 : decode cX0_append 41 = .ok (.ldc 250, 2) := dk_18 250 (dk_at dksX0_append_1 17 rfl rfl)
theorem dX0_append_43 : decode cX0_append 43 = .ok (.ireturn, 1) := dk_172 (dk_at dksX0_append_1 19 rfl rfl)
theorem dX0_append_44 : decode cX0_append 44 = .ok (.iconst 0, 1) := dk_3 (dk_at dksX0_append_1 20 rfl rfl)
theorem dX0_append_45 : decode cX0_append 45 = .ok (.istore_n 3, 1) := dk_62 (dk_at dksX0_append_1 21 rfl rfl)
theorem dX0_append_46 : decode cX0_append 46 = .ok (.iload_n 3, 1) := dk_29 (dk_at dksX0_append_1 22 rfl rfl)
theorem dX0_append_47 : decode cX0_append 47 = .ok (.iload_n 2, 1) := dk_28 (dk_at dksX0_append_1 23 rfl rfl)
theorem dX0_append_48 : decode cX0_append 48 = .ok (.if_icmp .ge 19, 3) := dk_162 0 19 (dk_at dksX0_append_2 0 rfl rfl)
theorem dX0_append_51 : decode cX0_append 51 = .ok (.aload_n 0, 1) := dk_42 (dk_at dksX0_append_2 3 rfl rfl)
theorem dX0_append_52 : decode cX0_append 52 = .ok (.getfield 165, 3) := dk_180 0 165 (dk_at dksX0_append_2 4 rfl rfl)
theorem dX0_append_55 : decode cX0_append 55 = .ok (.iload_n 1, 1) := dk_27 (dk_at dksX0_append_2 7 rfl rfl)
theorem dX0_append_56 : decode cX0_append 56 = .ok (.i2c, 1) := dk_146 (dk_at dksX0_append_2 8 rfl rfl)
theorem dX0_append_57 : decode cX0_append 57 = .ok (.invokevirtual 451, 3) := dk_182 1 195 (dk_at dksX0_append_2 9 rfl rfl)
theorem dX0_append_60 : decode cX0_append 60 = .ok (.pop, 1) := dk_87 (dk_at dksX0_append_2 12 rfl rfl)
theorem dX0_append_61 : decode cX0_append 61 = .ok (.iinc 3 1, 3) := dk_132 3 1 (dk_at dksX0_append_2 13 rfl rfl)
theorem dX0_append_64 : decode cX0_append 64 = .ok (.goto (-18), 3) := dk_167 255 238 (dk_at dksX0_append_2 16 rfl rfl)
theorem dX0_append_67 : decode cX0_append 67 = .ok (.aload_n 0, 1) := dk_42 (dk_at dksX0_append_2 19 rfl rfl)
theorem dX0_append_68 : decode cX0_append 68 = .ok (.getfield 165, 3) := dk_180 0 165 (dk_at dksX0_append_2 20 rfl rfl)
theorem dX0_append_71 : decode cX0_append 71 = .ok (.invokevirtual 448, 3) := dk_182 1 192 (dk_at dksX0_append_3 0 rfl rfl)
theorem dX0_append_74 : decode cX0_append 74 = .ok (.ireturn, 1) := dk_172 (dk_at dksX0_append_3 3 rfl rfl)
abbrev cX0_readPipeline : ByteArray := prog_1_method_43_code
def yX0_readPipeline : MethodName := ⟨RX0, "readPipeline", "()I"⟩
def dkwX0_readPipeline_2 : List UInt8 := [100, 61, 42, 180, 0, 165, 3, 182, 1, 206, 28, 172, 78, 42, 180, 0, 165, 3, 182, 1, 206, 45, 191]
abbrev dktX0_readPipeline_2 : List UInt8 := dkwX0_readPipeline_2 ++ []
def dkwX0_readPipeline_1 : List UInt8 := [182, 0, 174, 5, 100, 60, 42, 180, 0, 165, 3, 182, 1, 206, 27, 172, 76, 17, 248, 48, 43, 180, 1, 211]
abbrev dktX0_readPipeline_1 : List UInt8 := dkwX0_readPipeline_1 ++ dktX0_readPipeline_2
def dkwX0_readPipeline_0 : List UInt8 := [42, 187, 1, 199, 89, 42, 183, 1, 201, 182, 1, 202, 181, 0, 115, 42, 182, 0, 251, 42, 180, 0, 115]
abbrev dktX0_readPipeline_0 : List UInt8 := dkwX0_readPipeline_0 ++ dktX0_readPipeline_1
theorem dksX0_readPipeline_0 : cX0_readPipeline.data.toList.drop 0 = dktX0_readPipeline_0 := by decide +kernel
theorem dksX0_readPipeline_1 : cX0_readPipeline.data.toList.drop 23 = dktX0_readPipeline_1 := dk_seg dksX0_readPipeline_0 23 rfl rfl
theorem dksX0_readPipeline_2 : cX0_readPipeline.data.toList.drop 47 = dktX0_readPipeline_2 := dk_seg dksX0_readPipeline_1 24 rfl rfl
theorem dX0_readPipeline_0 : decode cX0_readPipeline 0 = .ok (.aload_n 0, 1) := dk_42 (dk_at dksX0_readPipeline_0 0 rfl rfl)
theorem dX0_readPipeline_1 : decode cX0_readPipeline 1 = .ok (.new 455, 3) := dk_187 1 199 (dk_at dksX0_readPipeline_0 1 rfl rfl)
theorem dX0_readPipeline_4 : decode cX0_readPipeline 4 = .ok (.dup, 1) := dk_89 (dk_at dksX0_readPipeline_0 4 rfl rfl)
theorem dX0_readPipeline_5 : decode cX0_readPipeline 5 = .ok (.aload_n 0, 1) := dk_42 (dk_at dksX0_readPipeline_0 5 rfl rfl)
theorem dX0_readPipeline_6 : decode cX0_readPipeline 6 = .ok (.invokespecial 457, 3) := dk_183 1 201 (dk_at dksX0_readPipeline_0 6 rfl rfl)
theorem dX0_readPipeline_9 : decode cX0_readPipeline 9 = .ok (.invokevirtual 458, 3) := dk_182 1 202 (dk_at dksX0_readPipeline_0 9 rfl rfl)
theorem dX0_readPipeline_12 : decode cX0_readPipeline 12 = .ok (.putfield 115, 3) := dk_181 0 115 (dk_at dksX0_readPipeline_0 12 rfl rfl)
theorem dX0_readPipeline_15 : decode cX0_readPipeline 15 = .ok (.aload_n 0, 1) := dk_42 (dk_at dksX0_readPipeline_0 15 rfl rfl)
theorem dX0_readPipeline_16 : decode cX0_readPipeline 16 = .ok (.invokevirtual 251, 3) := dk_182 0 251 (dk_at dksX0_readPipeline_0 16 rfl rfl)
theorem dX0_readPipeline_19 : decode cX0_readPipeline 19 = .ok (.aload_n 0, 1) := dk_42 (dk_at dksX0_readPipeline_0 19 rfl rfl)
theorem dX0_readPipeline_20 : decode cX0_readPipeline 20 = .ok (.getfield 115, 3) := dk_180 0 115 (dk_at dksX0_readPipeline_0 20 rfl rfl)
theorem dX0_readPipeline_23 : decode cX0_readPipeline 23 = .ok (.invokevirtual 174, 3) := dk_182 0 174 (dk_at dksX0_readPipeline_1 0 rfl rfl)
theorem dX0_readPipeline_26 : decode cX0_readPipeline 26 = .ok (.iconst 2, 1) := dk_5 (dk_at dksX0_readPipeline_1 3 rfl rfl)
theorem dX0_readPipeline_27 : decode cX0_readPipeline 27 = .ok (.isub, 1) := dk_100 (dk_at dksX0_readPipeline_1 4 rfl rfl)
theorem dX0_readPipeline_28 : decode cX0_readPipeline 28 = .ok (.istore_n 1, 1) := dk_60 (dk_at dksX0_readPipeline_1 5 rfl rfl)
theorem dX0_readPipeline_29 : decode cX0_readPipeline 29 = .ok (.aload_n 0, 1) := dk_42 (dk_at dksX0_readPipeline_1 6 rfl rfl)
theorem dX0_readPipeline_30 : decode cX0_readPipeline 30 = .ok (.getfield 165, 3) := dk_180 0 165 (dk_at dksX0_readPipeline_1 7 rfl rfl)
theorem dX0_readPipeline_33 : decode cX0_readPipeline 33 = .ok (.iconst 0, 1) := dk_3 (dk_at dksX0_readPipeline_1 10 rfl rfl)
theorem dX0_readPipeline_34 : decode cX0_readPipeline 34 = .ok (.invokevirtual 462, 3) := dk_182 1 206 (dk_at dksX0_readPipeline_1 11 rfl rfl)
theorem dX0_readPipeline_37 : decode cX0_readPipeline 37 = .ok (.iload_n 1, 1) := dk_27 (dk_at dksX0_readPipeline_1 14 rfl rfl)
theorem dX0_readPipeline_38 : decode cX0_readPipeline 38 = .ok (.ireturn, 1) := dk_172 (dk_at dksX0_readPipeline_1 15 rfl rfl)
theorem dX0_readPipeline_39 : decode cX0_readPipeline 39 = .ok (.astore_n 1, 1) := dk_76 (dk_at dksX0_readPipeline_1 16 rfl rfl)
theorem dX0_readPipeline_40 : decode cX0_readPipeline 40 = .ok (.sipush (-2000), 3) := dk_17 248 48 (dk_at dksX0_readPipeline_1 17 rfl rfl)
theorem dX0_readPipeline_43 : decode cX0_readPipeline 43 = .ok (.aload_n 1, 1) := dk_43 (dk_at dksX0_readPipeline_1 20 rfl rfl)
theorem dX0_readPipeline_44 : decode cX0_readPipeline 44 = .ok (.getfield 467, 3) := dk_180 1 211 (dk_at dksX0_readPipeline_1 21 rfl rfl)
theorem dX0_readPipeline_47 : decode cX0_readPipeline 47 = .ok (.isub, 1) := dk_100 (dk_at dksX0_readPipeline_2 0 rfl rfl)
theorem dX0_readPipeline_48 : decode cX0_readPipeline 48 = .ok (.istore_n 2, 1) := dk_61 (dk_at dksX0_readPipeline_2 1 rfl rfl)
theorem dX0_readPipeline_49 : decode cX0_readPipeline 49 = .ok (.aload_n 0, 1) := dk_42 (dk_at dksX0_readPipeline_2 2 rfl rfl)
theorem dX0_readPipeline_50 : decode cX0_readPipeline 50 = .ok (.getfield 165, 3) := dk_180 0 165 (dk_at dksX0_readPipeline_2 3 rfl rfl)
theorem dX0_readPipeline_53 : decode cX0_readPipeline 53 = .ok (.iconst 0, 1) := dk_3 (dk_at dksX0_readPipeline_2 6 rfl rfl)
theorem dX0_readPipeline_54 : decode cX0_readPipeline 54 = .ok (.invokevirtual 462, 3) := dk_182 1 206 (dk_at dksX0_readPipeline_2 7 rfl rfl)
theorem dX0_readPipeline_57 : decode cX0_readPipeline 57 = .ok (.iload_n 2, 1) := dk_28 (dk_at dksX0_readPipeline_2 10 rfl rfl)
theorem dX0_readPipeline_58 : decode cX0_readPipeline 58 = .ok (.ireturn, 1) := dk_172 (dk_at dksX0_readPipeline_2 11 rfl rfl)
theorem dX0_readPipeline_59 : decode cX0_readPipeline 59 = .ok (.astore_n 3, 1) := dk_78 (dk_at dksX0_readPipeline_2 12 rfl rfl)
theorem dX0_readPipeline_60 : decode cX0_readPipeline 60 = .ok (.aload_n 0, 1) := dk_42 (dk_at dksX0_readPipeline_2 13 rfl rfl)
theorem dX0_readPipeline_61 : decode cX0_readPipeline 61 = .ok (.getfield 165, 3) := dk_180 0 165 (dk_at dksX0_readPipeline_2 14 rfl rfl)
theorem dX0_readPipeline_64 : decode cX0_readPipeline 64 = .ok (.iconst 0, 1) := dk_3 (dk_at dksX0_readPipeline_2 17 rfl rfl)
theorem dX0_readPipeline_65 : decode cX0_readPipeline 65 = .ok (.invokevirtual 462, 3) := dk_182 1 206 (dk_at dksX0_readPipeline_2 18 rfl rfl)
theorem dX0_readPipeline_68 : decode cX0_readPipeline 68 = .ok (.aload_n 3, 1) := dk_45 (dk_at dksX0_readPipeline_2 21 rfl rfl)
theorem dX0_readPipeline_69 : decode cX0_readPipeline 69 = .ok (.athrow, 1) := dk_191 (dk_at dksX0_readPipeline_2 22 rfl rfl)
abbrev cX0_operator_2 : ByteArray := prog_1_method_7_code
def yX0_operator_2 : MethodName := ⟨RX0, "operator", "(IIII)LPipelineSimulator$Operator;"⟩
def dkwX0_operator_2_5 : List UInt8 := [176, 187, 0, 66, 89, 29, 183, 0, 68, 176]
abbrev dktX0_operator_2_5 : List UInt8 := dkwX0_operator_2_5 ++ []
def dkwX0_operator_2_4 : List UInt8 := [89, 27, 29, 183, 0, 57, 176, 187, 0, 58, 89, 29, 183, 0, 60, 176, 187, 0, 63, 89, 29, 183, 0, 65]
abbrev dktX0_operator_2_4 : List UInt8 := dkwX0_operator_2_4 ++ dktX0_operator_2_5
def dkwX0_operator_2_3 : List UInt8 := [187, 0, 47, 89, 27, 28, 29, 183, 0, 49, 176, 187, 0, 50, 89, 27, 29, 183, 0, 52, 176, 187, 0, 55]
abbrev dktX0_operator_2_3 : List UInt8 := dkwX0_operator_2_3 ++ dktX0_operator_2_4
def dkwX0_operator_2_2 : List UInt8 := [187, 0, 39, 89, 27, 28, 29, 183, 0, 41, 176, 187, 0, 44, 89, 27, 28, 29, 183, 0, 46, 176]
abbrev dktX0_operator_2_2 : List UInt8 := dkwX0_operator_2_2 ++ dktX0_operator_2_3
def dkwX0_operator_2_1 : List UInt8 := [170, 0, 0, 0, 0, 0, 114, 0, 0, 0, 0, 0, 0, 0, 6, 0, 0, 0, 43, 0, 0, 0, 54, 0, 0, 0, 65, 0, 0, 0, 76, 0, 0, 0, 86, 0, 0, 0, 96, 0, 0, 0, 105]
abbrev dktX0_operator_2_1 : List UInt8 := dkwX0_operator_2_1 ++ dktX0_operator_2_2
def dkwX0_operator_2_0 : List UInt8 := [26]
abbrev dktX0_operator_2_0 : List UInt8 := dkwX0_operator_2_0 ++ dktX0_operator_2_1
theorem dksX0_operator_2_0 : cX0_operator_2.data.toList.drop 0 = dktX0_operator_2_0 := by decide +kernel
theorem dksX0_operator_2_1 : cX0_operator_2.data.toList.drop 1 = dktX0_operator_2_1 := dk_seg dksX0_operator_2_0 1 rfl rfl
theorem dksX0_operator_2_2 : cX0_operator_2.data.toList.drop 44 = dktX0_operator_2_2 := dk_seg dksX0_operator_2_1 43 rfl rfl
theorem dksX0_operator_2_3 : cX0_operator_2.data.toList.drop 66 = dktX0_operator_2_3 := dk_seg dksX0_operator_2_2 22 rfl rfl
theorem dksX0_operator_2_4 : cX0_operator_2.data.toList.drop 90 = dktX0_operator_2_4 := dk_seg dksX0_operator_2_3 24 rfl rfl
theorem dksX0_operator_2_5 : cX0_operator_2.data.toList.drop 114 = dktX0_operator_2_5 := dk_seg dksX0_operator_2_4 24 rfl rfl
theorem dX0_operator_2_0 : decode cX0_operator_2 0 = .ok (.iload_n 0, 1) := dk_26 (dk_at dksX0_operator_2_0 0 rfl rfl)
theorem dX0_operator_2_1 : decode cX0_operator_2 1 = .ok (.tableswitch 114 0 6 #[43, 54, 65, 76, 86, 96, 105], 43) := by decide +kernel
theorem dX0_operator_2_44 : decode cX0_operator_2 44 = .ok (.new 39, 3) := dk_187 0 39 (dk_at dksX0_operator_2_2 0 rfl rfl)
theorem dX0_operator_2_47 : decode cX0_operator_2 47 = .ok (.dup, 1) := dk_89 (dk_at dksX0_operator_2_2 3 rfl rfl)
theorem dX0_operator_2_48 : decode cX0_operator_2 48 = .ok (.iload_n 1, 1) := dk_27 (dk_at dksX0_operator_2_2 4 rfl rfl)
theorem dX0_operator_2_49 : decode cX0_operator_2 49 = .ok (.iload_n 2, 1) := dk_28 (dk_at dksX0_operator_2_2 5 rfl rfl)
theorem dX0_operator_2_50 : decode cX0_operator_2 50 = .ok (.iload_n 3, 1) := dk_29 (dk_at dksX0_operator_2_2 6 rfl rfl)
theorem dX0_operator_2_51 : decode cX0_operator_2 51 = .ok (.invokespecial 41, 3) := dk_183 0 41 (dk_at dksX0_operator_2_2 7 rfl rfl)
theorem dX0_operator_2_54 : decode cX0_operator_2 54 = .ok (.areturn, 1) := dk_176 (dk_at dksX0_operator_2_2 10 rfl rfl)
theorem dX0_operator_2_55 : decode cX0_operator_2 55 = .ok (.new 44, 3) := dk_187 0 44 (dk_at dksX0_operator_2_2 11 rfl rfl)
theorem dX0_operator_2_58 : decode cX0_operator_2 58 = .ok (.dup, 1) := dk_89 (dk_at dksX0_operator_2_2 14 rfl rfl)
theorem dX0_operator_2_59 : decode cX0_operator_2 59 = .ok (.iload_n 1, 1) := dk_27 (dk_at dksX0_operator_2_2 15 rfl rfl)
theorem dX0_operator_2_60 : decode cX0_operator_2 60 = .ok (.iload_n 2, 1) := dk_28 (dk_at dksX0_operator_2_2 16 rfl rfl)
theorem dX0_operator_2_61 : decode cX0_operator_2 61 = .ok (.iload_n 3, 1) := dk_29 (dk_at dksX0_operator_2_2 17 rfl rfl)
theorem dX0_operator_2_62 : decode cX0_operator_2 62 = .ok (.invokespecial 46, 3) := dk_183 0 46 (dk_at dksX0_operator_2_2 18 rfl rfl)
theorem dX0_operator_2_65 : decode cX0_operator_2 65 = .ok (.areturn, 1) := dk_176 (dk_at dksX0_operator_2_2 21 rfl rfl)
theorem dX0_operator_2_66 : decode cX0_operator_2 66 = .ok (.new 47, 3) := dk_187 0 47 (dk_at dksX0_operator_2_3 0 rfl rfl)
theorem dX0_operator_2_69 : decode cX0_operator_2 69 = .ok (.dup, 1) := dk_89 (dk_at dksX0_operator_2_3 3 rfl rfl)
theorem dX0_operator_2_70 : decode cX0_operator_2 70 = .ok (.iload_n 1, 1) := dk_27 (dk_at dksX0_operator_2_3 4 rfl rfl)
theorem dX0_operator_2_71 : decode cX0_operator_2 71 = .ok (.iload_n 2, 1) := dk_28 (dk_at dksX0_operator_2_3 5 rfl rfl)
theorem dX0_operator_2_72 : decode cX0_operator_2 72 = .ok (.iload_n 3, 1) := dk_29 (dk_at dksX0_operator_2_3 6 rfl rfl)
theorem dX0_operator_2_73 : decode cX0_operator_2 73 = .ok (.invokespecial 49, 3) := dk_183 0 49 (dk_at dksX0_operator_2_3 7 rfl rfl)
theorem dX0_operator_2_76 : decode cX0_operator_2 76 = .ok (.areturn, 1) := dk_176 (dk_at dksX0_operator_2_3 10 rfl rfl)
theorem dX0_operator_2_77 : decode cX0_operator_2 77 = .ok (.new 50, 3) := dk_187 0 50 (dk_at dksX0_operator_2_3 11 rfl rfl)
theorem dX0_operator_2_80 : decode cX0_operator_2 80 = .ok (.dup, 1) := dk_89 (dk_at dksX0_operator_2_3 14 rfl rfl)
theorem dX0_operator_2_81 : decode cX0_operator_2 81 = .ok (.iload_n 1, 1) := dk_27 (dk_at dksX0_operator_2_3 15 rfl rfl)
theorem dX0_operator_2_82 : decode cX0_operator_2 82 = .ok (.iload_n 3, 1) := dk_29 (dk_at dksX0_operator_2_3 16 rfl rfl)
theorem dX0_operator_2_83 : decode cX0_operator_2 83 = .ok (.invokespecial 52, 3) := dk_183 0 52 (dk_at dksX0_operator_2_3 17 rfl rfl)
theorem dX0_operator_2_86 : decode cX0_operator_2 86 = .ok (.areturn, 1) := dk_176 (dk_at dksX0_operator_2_3 20 rfl rfl)
theorem dX0_operator_2_87 : decode cX0_operator_2 87 = .ok (.new 55, 3) := dk_187 0 55 (dk_at dksX0_operator_2_3 21 rfl rfl)
theorem dX0_operator_2_90 : decode cX0_operator_2 90 = .ok (.dup, 1) := dk_89 (dk_at dksX0_operator_2_4 0 rfl rfl)
theorem dX0_operator_2_91 : decode cX0_operator_2 91 = .ok (.iload_n 1, 1) := dk_27 (dk_at dksX0_operator_2_4 1 rfl rfl)
theorem dX0_operator_2_92 : decode cX0_operator_2 92 = .ok (.iload_n 3, 1) := dk_29 (dk_at dksX0_operator_2_4 2 rfl rfl)
theorem dX0_operator_2_93 : decode cX0_operator_2 93 = .ok (.invokespecial 57, 3) := dk_183 0 57 (dk_at dksX0_operator_2_4 3 rfl rfl)
theorem dX0_operator_2_96 : decode cX0_operator_2 96 = .ok (.areturn, 1) := dk_176 (dk_at dksX0_operator_2_4 6 rfl rfl)
theorem dX0_operator_2_97 : decode cX0_operator_2 97 = .ok (.new 58, 3) := dk_187 0 58 (dk_at dksX0_operator_2_4 7 rfl rfl)
theorem dX0_operator_2_100 : decode cX0_operator_2 100 = .ok (.dup, 1) := dk_89 (dk_at dksX0_operator_2_4 10 rfl rfl)
theorem dX0_operator_2_101 : decode cX0_operator_2 101 = .ok (.iload_n 3, 1) := dk_29 (dk_at dksX0_operator_2_4 11 rfl rfl)
theorem dX0_operator_2_102 : decode cX0_operator_2 102 = .ok (.invokespecial 60, 3) := dk_183 0 60 (dk_at dksX0_operator_2_4 12 rfl rfl)
theorem dX0_operator_2_105 : decode cX0_operator_2 105 = .ok (.areturn, 1) := dk_176 (dk_at dksX0_operator_2_4 15 rfl rfl)
theorem dX0_operator_2_106 : decode cX0_operator_2 106 = .ok (.new 63, 3) := dk_187 0 63 (dk_at dksX0_operator_2_4 16 rfl rfl)
theorem dX0_operator_2_109 : decode cX0_operator_2 109 = .ok (.dup, 1) := dk_89 (dk_at dksX0_operator_2_4 19 rfl rfl)
theorem dX0_operator_2_110 : decode cX0_operator_2 110 = .ok (.iload_n 3, 1) := dk_29 (dk_at dksX0_operator_2_4 20 rfl rfl)
theorem dX0_operator_2_111 : decode cX0_operator_2 111 = .ok (.invokespecial 65, 3) := dk_183 0 65 (dk_at dksX0_operator_2_4 21 rfl rfl)
theorem dX0_operator_2_114 : decode cX0_operator_2 114 = .ok (.areturn, 1) := dk_176 (dk_at dksX0_operator_2_5 0 rfl rfl)
theorem dX0_operator_2_115 : decode cX0_operator_2 115 = .ok (.new 66, 3) := dk_187 0 66 (dk_at dksX0_operator_2_5 1 rfl rfl)
theorem dX0_operator_2_118 : decode cX0_operator_2 118 = .ok (.dup, 1) := dk_89 (dk_at dksX0_operator_2_5 4 rfl rfl)
theorem dX0_operator_2_119 : decode cX0_operator_2 119 = .ok (.iload_n 3, 1) := dk_29 (dk_at dksX0_operator_2_5 5 rfl rfl)
theorem dX0_operator_2_120 : decode cX0_operator_2 120 = .ok (.invokespecial 68, 3) := dk_183 0 68 (dk_at dksX0_operator_2_5 6 rfl rfl)
theorem dX0_operator_2_123 : decode cX0_operator_2 123 = .ok (.areturn, 1) := dk_176 (dk_at dksX0_operator_2_5 9 rfl rfl)
abbrev cX0_write : ByteArray := prog_1_method_44_code
def yX0_write : MethodName := ⟨RX0, "write", "()I"⟩
def dkwX0_write_3 : List UInt8 := [132, 1, 1, 167, 255, 196, 42, 180, 0, 169, 182, 1, 192, 172]
abbrev dktX0_write_3 : List UInt8 := dkwX0_write_3 ++ []
def dkwX0_write_2 : List UInt8 := [182, 1, 195, 87, 42, 180, 0, 115, 27, 182, 0, 177, 192, 0, 181, 42, 180, 0, 169, 182, 1, 213]
abbrev dktX0_write_2 : List UInt8 := dkwX0_write_2 ++ dktX0_write_3
def dkwX0_write_1 : List UInt8 := [164, 0, 26, 27, 42, 180, 0, 115, 182, 0, 174, 4, 100, 162, 0, 13, 42, 180, 0, 169, 16, 124]
abbrev dktX0_write_1 : List UInt8 := dkwX0_write_1 ++ dktX0_write_2
def dkwX0_write_0 : List UInt8 := [42, 180, 0, 169, 3, 182, 1, 206, 4, 60, 27, 42, 180, 0, 115, 182, 0, 174, 162, 0, 55, 27, 4]
abbrev dktX0_write_0 : List UInt8 := dkwX0_write_0 ++ dktX0_write_1
theorem dksX0_write_0 : cX0_write.data.toList.drop 0 = dktX0_write_0 := by decide +kernel
theorem dksX0_write_1 : cX0_write.data.toList.drop 23 = dktX0_write_1 := dk_seg dksX0_write_0 23 rfl rfl
theorem dksX0_write_2 : cX0_write.data.toList.drop 45 = dktX0_write_2 := dk_seg dksX0_write_1 22 rfl rfl
theorem dksX0_write_3 : cX0_write.data.toList.drop 67 = dktX0_write_3 := dk_seg dksX0_write_2 22 rfl rfl
theorem dX0_write_0 : decode cX0_write 0 = .ok (.aload_n 0, 1) := dk_42 (dk_at dksX0_write_0 0 rfl rfl)
theorem dX0_write_1 : decode cX0_write 1 = .ok (.getfield 169, 3) := dk_180 0 169 (dk_at dksX0_write_0 1 rfl rfl)
theorem dX0_write_4 : decode cX0_write 4 = .ok (.iconst 0, 1) := dk_3 (dk_at dksX0_write_0 4 rfl rfl)
theorem dX0_write_5 : decode cX0_write 5 = .ok (.invokevirtual 462, 3) := dk_182 1 206 (dk_at dksX0_write_0 5 rfl rfl)
theorem dX0_write_8 : decode cX0_write 8 = .ok (.iconst 1, 1) := dk_4 (dk_at dksX0_write_0 8 rfl rfl)
theorem dX0_write_9 : decode cX0_write 9 = .ok (.istore_n 1, 1) := dk_60 (dk_at dksX0_write_0 9 rfl rfl)
theorem dX0_write_10 : decode cX0_write 10 = .ok (.iload_n 1, 1) := dk_27 (dk_at dksX0_write_0 10 rfl rfl)
theorem dX0_write_11 : decode cX0_write 11 = .ok (.aload_n 0, 1) := dk_42 (dk_at dksX0_write_0 11 rfl rfl)
theorem dX0_write_12 : decode cX0_write 12 = .ok (.getfield 115, 3) := dk_180 0 115 (dk_at dksX0_write_0 12 rfl rfl)
theorem dX0_write_15 : decode cX0_write 15 = .ok (.invokevirtual 174, 3) := dk_182 0 174 (dk_at dksX0_write_0 15 rfl rfl)
theorem dX0_write_18 : decode cX0_write 18 = .ok (.if_icmp .ge 55, 3) := dk_162 0 55 (dk_at dksX0_write_0 18 rfl rfl)
theorem dX0_write_21 : decode cX0_write 21 = .ok (.iload_n 1, 1) := dk_27 (dk_at dksX0_write_0 21 rfl rfl)
theorem dX0_write_22 : decode cX0_write 22 = .ok (.iconst 1, 1) := dk_4 (dk_at dksX0_write_0 22 rfl rfl)
theorem dX0_write_23 : decode cX0_write 23 = .ok (.if_icmp .le 26, 3) := dk_164 0 26 (dk_at dksX0_write_1 0 rfl rfl)
theorem dX0_write_26 : decode cX0_write 26 = .ok (.iload_n 1, 1) := dk_27 (dk_at dksX0_write_1 3 rfl rfl)
theorem dX0_write_27 : decode cX0_write 27 = .ok (.aload_n 0, 1) := dk_42 (dk_at dksX0_write_1 4 rfl rfl)
theorem dX0_write_28 : decode cX0_write 28 = .ok (.getfield 115, 3) := dk_180 0 115 (dk_at dksX0_write_1 5 rfl rfl)
theorem dX0_write_31 : decode cX0_write 31 = .ok (.invokevirtual 174, 3) := dk_182 0 174 (dk_at dksX0_write_1 8 rfl rfl)
theorem dX0_write_34 : decode cX0_write 34 = .ok (.iconst 1, 1) := dk_4 (dk_at dksX0_write_1 11 rfl rfl)
theorem dX0_write_35 : decode cX0_write 35 = .ok (.isub, 1) := dk_100 (dk_at dksX0_write_1 12 rfl rfl)
theorem dX0_write_36 : decode cX0_write 36 = .ok (.if_icmp .ge 13, 3) := dk_162 0 13 (dk_at dksX0_write_1 13 rfl rfl)
theorem dX0_write_39 : decode cX0_write 39 = .ok (.aload_n 0, 1) := dk_42 (dk_at dksX0_write_1 16 rfl rfl)
theorem dX0_write_40 : decode cX0_write 40 = .ok (.getfield 169, 3) := dk_180 0 169 (dk_at dksX0_write_1 17 rfl rfl)
theorem dX0_write_43 : decode cX0_write 43 = .ok (.bipush 124, 2) := dk_16 124 (dk_at dksX0_write_1 20 rfl rfl)
theorem dX0_write_45 : decode cX0_write 45 = .ok (.invokevirtual 451, 3) := dk_182 1 195 (dk_at dksX0_write_2 0 rfl rfl)
theorem dX0_write_48 : decode cX0_write 48 = .ok (.pop, 1) := dk_87 (dk_at dksX0_write_2 3 rfl rfl)
theorem dX0_write_49 : decode cX0_write 49 = .ok (.aload_n 0, 1) := dk_42 (dk_at dksX0_write_2 4 rfl rfl)
theorem dX0_write_50 : decode cX0_write 50 = .ok (.getfield 115, 3) := dk_180 0 115 (dk_at dksX0_write_2 5 rfl rfl)
theorem dX0_write_53 : decode cX0_write 53 = .ok (.iload_n 1, 1) := dk_27 (dk_at dksX0_write_2 8 rfl rfl)
theorem dX0_write_54 : decode cX0_write 54 = .ok (.invokevirtual 177, 3) := dk_182 0 177 (dk_at dksX0_write_2 9 rfl rfl)
theorem dX0_write_57 : decode cX0_write 57 = .ok (.checkcast 181, 3) := dk_192 0 181 (dk_at dksX0_write_2 12 rfl rfl)
theorem dX0_write_60 : decode cX0_write 60 = .ok (.aload_n 0, 1) := dk_42 (dk_at dksX0_write_2 15 rfl rfl)
theorem dX0_write_61 : decode cX0_write 61 = .ok (.getfield 169, 3) := dk_180 0 169 (dk_at dksX0_write_2 16 rfl rfl)
theorem dX0_write_64 : decode cX0_write 64 = .ok (.invokevirtual 469, 3) := dk_182 1 213 (dk_at dksX0_write_2 19 rfl rfl)
theorem dX0_write_67 : decode cX0_write 67 = .ok (.iinc 1 1, 3) := dk_132 1 1 (dk_at dksX0_write_3 0 rfl rfl)
theorem dX0_write_70 : decode cX0_write 70 = .ok (.goto (-60), 3) := dk_167 255 196 (dk_at dksX0_write_3 3 rfl rfl)
theorem dX0_write_73 : decode cX0_write 73 = .ok (.aload_n 0, 1) := dk_42 (dk_at dksX0_write_3 6 rfl rfl)
theorem dX0_write_74 : decode cX0_write 74 = .ok (.getfield 169, 3) := dk_180 0 169 (dk_at dksX0_write_3 7 rfl rfl)
theorem dX0_write_77 : decode cX0_write 77 = .ok (.invokevirtual 448, 3) := dk_182 1 192 (dk_at dksX0_write_3 10 rfl rfl)
theorem dX0_write_80 : decode cX0_write 80 = .ok (.ireturn, 1) := dk_172 (dk_at dksX0_write_3 13 rfl rfl)
abbrev cX0_written : ByteArray := prog_1_method_45_code
def yX0_written : MethodName := ⟨RX0, "written", "(I)I"⟩
def dkwX0_written_1 : List UInt8 := [182, 1, 217, 167, 0, 6, 19, 1, 52, 172]
abbrev dktX0_written_1 : List UInt8 := dkwX0_written_1 ++ []
def dkwX0_written_0 : List UInt8 := [27, 133, 9, 42, 180, 0, 169, 182, 1, 192, 4, 100, 133, 184, 0, 229, 153, 0, 14, 42, 180, 0, 169, 27]
abbrev dktX0_written_0 : List UInt8 := dkwX0_written_0 ++ dktX0_written_1
theorem dksX0_written_0 : cX0_written.data.toList.drop 0 = dktX0_written_0 := by decide +kernel
theorem dksX0_written_1 : cX0_written.data.toList.drop 24 = dktX0_written_1 := dk_seg dksX0_written_0 24 rfl rfl
theorem dX0_written_0 : decode cX0_written 0 = .ok (.iload_n 1, 1) := dk_27 (dk_at dksX0_written_0 0 rfl rfl)
theorem dX0_written_1 : decode cX0_written 1 = .ok (.i2l, 1) := dk_133 (dk_at dksX0_written_0 1 rfl rfl)
theorem dX0_written_2 : decode cX0_written 2 = .ok (.lconst 0, 1) := dk_9 (dk_at dksX0_written_0 2 rfl rfl)
theorem dX0_written_3 : decode cX0_written 3 = .ok (.aload_n 0, 1) := dk_42 (dk_at dksX0_written_0 3 rfl rfl)
theorem dX0_written_4 : decode cX0_written 4 = .ok (.getfield 169, 3) := dk_180 0 169 (dk_at dksX0_written_0 4 rfl rfl)
theorem dX0_written_7 : decode cX0_written 7 = .ok (.invokevirtual 448, 3) := dk_182 1 192 (dk_at dksX0_written_0 7 rfl rfl)
theorem dX0_written_10 : decode cX0_written 10 = .ok (.iconst 1, 1) := dk_4 (dk_at dksX0_written_0 10 rfl rfl)
theorem dX0_written_11 : decode cX0_written 11 = .ok (.isub, 1) := dk_100 (dk_at dksX0_written_0 11 rfl rfl)
theorem dX0_written_12 : decode cX0_written 12 = .ok (.i2l, 1) := dk_133 (dk_at dksX0_written_0 12 rfl rfl)
theorem dX0_written_13 : decode cX0_written 13 = .ok (.invokestatic 229, 3) := dk_184 0 229 (dk_at dksX0_written_0 13 rfl rfl)
theorem dX0_written_16 : decode cX0_written 16 = .ok (.ifCond .eq 14, 3) := dk_153 0 14 (dk_at dksX0_written_0 16 rfl rfl)
theorem dX0_written_19 : decode cX0_written 19 = .ok (.aload_n 0, 1) := dk_42 (dk_at dksX0_written_0 19 rfl rfl)
theorem dX0_written_20 : decode cX0_written 20 = .ok (.getfield 169, 3) := dk_180 0 169 (dk_at dksX0_written_0 20 rfl rfl)
theorem dX0_written_23 : decode cX0_written 23 = .ok (.iload_n 1, 1) := dk_27 (dk_at dksX0_written_0 23 rfl rfl)
theorem dX0_written_24 : decode cX0_written 24 = .ok (.invokevirtual 473, 3) := dk_182 1 217 (dk_at dksX0_written_1 0 rfl rfl)
theorem dX0_written_27 : decode cX0_written 27 = .ok (.goto 6, 3) := dk_167 0 6 (dk_at dksX0_written_1 3 rfl rfl)
theorem dX0_written_30 : decode cX0_written 30 = .ok (.ldc_w 308, 3) := dk_19 1 52 (dk_at dksX0_written_1 6 rfl rfl)
theorem dX0_written_33 : decode cX0_written 33 = .ok (.ireturn, 1) := dk_172 (dk_at dksX0_written_1 9 rfl rfl)
theorem q98 : (Jvm.Cond.initialized "PipelineSimulator") ∈ lw_all := lw_g (lw_at lw_m1 1 rfl) rfl
theorem q156 : (Jvm.Cond.instantiable "PipelineSimulator" (23 : Nat)) ∈ lw_all := lw_g (lw_at lw_m1 59 rfl) rfl
theorem q158 : (Jvm.Cond.instanceMethod ({ cls := "PipelineSimulator", name := "<init>", desc := "()V" } : Jvm.MethodName)) ∈ lw_all := lw_g (lw_at lw_m1 61 rfl) rfl
theorem q159 : (Jvm.Cond.code ({ cls := "PipelineSimulator", name := "<init>", desc := "()V" } : Jvm.MethodName) prog_1_method_9_code (1 : Nat) (Option.none : Option Jvm.ClassFile.FieldType)) ∈ lw_all := lw_g (lw_at lw_m1 62 rfl) rfl
theorem q160 : (Jvm.Cond.methodLink "PipelineSimulator" (88 : Nat) ({ cls := "java/lang/Object", name := "<init>", desc := "()V" } : Jvm.MethodName)) ∈ lw_all := lw_g (lw_at lw_m1 63 rfl) rfl
theorem q163 : (Jvm.Cond.classLink "PipelineSimulator" (74 : Nat) "java/util/LinkedList") ∈ lw_all := lw_g (lw_at lw_m1 66 rfl) rfl
theorem q165 : (Jvm.Cond.methodLink "PipelineSimulator" (91 : Nat) ({ cls := "java/util/LinkedList", name := "<init>", desc := "()V" } : Jvm.MethodName)) ∈ lw_all := lw_g (lw_at lw_m1 68 rfl) rfl
theorem q199 : (Jvm.Cond.classLink "PipelineSimulator" (112 : Nat) "java/util/ArrayList") ∈ lw_all := lw_g (lw_at lw_m1 102 rfl) rfl
theorem q201 : (Jvm.Cond.methodLink "PipelineSimulator" (114 : Nat) ({ cls := "java/util/ArrayList", name := "<init>", desc := "()V" } : Jvm.MethodName)) ∈ lw_all := lw_g (lw_at lw_m1 104 rfl) rfl
theorem q218 : (Jvm.Cond.methodLink "PipelineSimulator" (119 : Nat) ({ cls := "PipelineSimulator", name := "counter", desc := "()LPipelineSimulator$Versions;" } : Jvm.MethodName)) ∈ lw_all := lw_g (lw_at lw_m1 121 rfl) rfl
theorem q219 : (Jvm.Cond.static ({ cls := "PipelineSimulator", name := "counter", desc := "()LPipelineSimulator$Versions;" } : Jvm.MethodName)) ∈ lw_all := lw_g (lw_at lw_m1 122 rfl) rfl
theorem q220 : (Jvm.Cond.code ({ cls := "PipelineSimulator", name := "counter", desc := "()LPipelineSimulator$Versions;" } : Jvm.MethodName) prog_1_method_6_code (0 : Nat) (Option.some (Jvm.ClassFile.FieldType.object "PipelineSimulator$Versions"))) ∈ lw_all := lw_g (lw_at lw_m1 123 rfl) rfl
theorem q221 : (Jvm.Cond.classLink "PipelineSimulator" (17 : Nat) "PipelineSimulator$Versions") ∈ lw_all := lw_g (lw_at lw_m1 124 rfl) rfl
theorem q223 : (Jvm.Cond.classLink "PipelineSimulator" (36 : Nat) "PipelineSimulator$Counter") ∈ lw_all := lw_g (lw_at lw_m1 126 rfl) rfl
theorem q225 : (Jvm.Cond.methodLinkNest "PipelineSimulator" (38 : Nat) ({ cls := "PipelineSimulator$Counter", name := "<init>", desc := "()V" } : Jvm.MethodName) "PipelineSimulator") ∈ lw_tbl := lw_at lw_m1 128 rfl
theorem q231 : (Jvm.Cond.fieldLink "PipelineSimulator" (264 : Nat) "PipelineSimulator$Counter" "value" "I") ∈ lw_all := lw_g (lw_at lw_m1 134 rfl) rfl
theorem q235 : (Jvm.Cond.methodLink "PipelineSimulator" (33 : Nat) ({ cls := "PipelineSimulator$Versions", name := "<init>", desc := "(LPipelineSimulator$Copyable;LPipelineSimulator$Copyable;LPipelineSimulator$Copyable;)V" } : Jvm.MethodName)) ∈ lw_all := lw_g (lw_at lw_m1 138 rfl) rfl
theorem q241 : (Jvm.Cond.fieldLink "PipelineSimulator" (260 : Nat) "PipelineSimulator$Versions" "present" "LPipelineSimulator$Copyable;") ∈ lw_all := lw_g (lw_at lw_m1 144 rfl) rfl
theorem q244 : (Jvm.Cond.fieldLink "PipelineSimulator" (288 : Nat) "PipelineSimulator$Versions" "running" "LPipelineSimulator$Copyable;") ∈ lw_all := lw_g (lw_at lw_m1 147 rfl) rfl
theorem q246 : (Jvm.Cond.fieldLink "PipelineSimulator" (325 : Nat) "PipelineSimulator$Versions" "complete" "LPipelineSimulator$Copyable;") ∈ lw_all := lw_g (lw_at lw_m1 149 rfl) rfl
theorem q254 : (Jvm.Cond.classLink "PipelineSimulator" (130 : Nat) "[LPipelineSimulator$Instance;") ∈ lw_all := lw_g (lw_at lw_m1 157 rfl) rfl
theorem q257 : (Jvm.Cond.classLink "PipelineSimulator" (136 : Nat) "[[LPipelineSimulator$Channel;") ∈ lw_all := lw_g (lw_at lw_m1 160 rfl) rfl
theorem q261 : (Jvm.Cond.classLink "PipelineSimulator" (142 : Nat) "PipelineSimulator$Latencies") ∈ lw_all := lw_g (lw_at lw_m1 164 rfl) rfl
theorem q263 : (Jvm.Cond.methodLinkNest "PipelineSimulator" (144 : Nat) ({ cls := "PipelineSimulator$Latencies", name := "<init>", desc := "()V" } : Jvm.MethodName) "PipelineSimulator") ∈ lw_tbl := lw_at lw_m1 166 rfl
theorem q280 : (Jvm.Cond.classLink "PipelineSimulator" (149 : Nat) "PipelineSimulator$Source") ∈ lw_all := lw_g (lw_at lw_m1 183 rfl) rfl
theorem q282 : (Jvm.Cond.methodLink "PipelineSimulator" (151 : Nat) ({ cls := "PipelineSimulator$Source", name := "<init>", desc := "()V" } : Jvm.MethodName)) ∈ lw_all := lw_g (lw_at lw_m1 185 rfl) rfl
theorem q290 : (Jvm.Cond.static ({ cls := "PipelineSimulator", name := "keyStates", desc := "()LPipelineSimulator$Versions;" } : Jvm.MethodName)) ∈ lw_all := lw_g (lw_at lw_m1 193 rfl) rfl
theorem q291 : (Jvm.Cond.code ({ cls := "PipelineSimulator", name := "keyStates", desc := "()LPipelineSimulator$Versions;" } : Jvm.MethodName) prog_1_method_5_code (0 : Nat) (Option.some (Jvm.ClassFile.FieldType.object "PipelineSimulator$Versions"))) ∈ lw_all := lw_g (lw_at lw_m1 194 rfl) rfl
theorem q292 : (Jvm.Cond.classLink "PipelineSimulator" (28 : Nat) "PipelineSimulator$KeyStates") ∈ lw_all := lw_g (lw_at lw_m1 195 rfl) rfl
theorem q294 : (Jvm.Cond.methodLinkNest "PipelineSimulator" (30 : Nat) ({ cls := "PipelineSimulator$KeyStates", name := "<init>", desc := "()V" } : Jvm.MethodName) "PipelineSimulator") ∈ lw_tbl := lw_at lw_m1 197 rfl
theorem q333 : (Jvm.Cond.fieldLink "PipelineSimulator" (338 : Nat) "PipelineSimulator$Operator" "kind" "I") ∈ lw_all := lw_g (lw_at lw_m1 236 rfl) rfl
theorem q345 : (Jvm.Cond.fieldLink "PipelineSimulator" (341 : Nat) "PipelineSimulator$Operator" "a" "I") ∈ lw_all := lw_g (lw_at lw_m2 8 rfl) rfl
theorem q353 : (Jvm.Cond.fieldLink "PipelineSimulator" (344 : Nat) "PipelineSimulator$Operator" "b" "I") ∈ lw_all := lw_g (lw_at lw_m2 16 rfl) rfl
theorem q358 : (Jvm.Cond.fieldLink "PipelineSimulator" (183 : Nat) "PipelineSimulator$Operator" "instances" "I") ∈ lw_all := lw_g (lw_at lw_m2 21 rfl) rfl
theorem q360 : (Jvm.Cond.fieldLink "PipelineSimulator" (187 : Nat) "PipelineSimulator$Operator" "states" "LPipelineSimulator$Versions;") ∈ lw_all := lw_g (lw_at lw_m2 23 rfl) rfl
theorem q364 : (Jvm.Cond.fieldLink "PipelineSimulator" (347 : Nat) "PipelineSimulator$Operator" "processed" "I") ∈ lw_all := lw_g (lw_at lw_m2 27 rfl) rfl
theorem q367 : (Jvm.Cond.fieldLink "PipelineSimulator" (350 : Nat) "PipelineSimulator$Operator" "emitted" "I") ∈ lw_all := lw_g (lw_at lw_m2 30 rfl) rfl
theorem q370 : (Jvm.Cond.fieldLink "PipelineSimulator" (353 : Nat) "PipelineSimulator$Operator" "blocked" "I") ∈ lw_all := lw_g (lw_at lw_m2 33 rfl) rfl
theorem q373 : (Jvm.Cond.fieldLink "PipelineSimulator" (356 : Nat) "PipelineSimulator$Operator" "idle" "I") ∈ lw_all := lw_g (lw_at lw_m2 36 rfl) rfl
theorem q393 : (Jvm.Cond.methodLink "PipelineSimulator" (152 : Nat) ({ cls := "java/util/ArrayList", name := "add", desc := "(Ljava/lang/Object;)Z" } : Jvm.MethodName)) ∈ lw_all := lw_g (lw_at lw_m2 56 rfl) rfl
theorem q425 : (Jvm.Cond.selects "PipelineSimulator" ({ cls := "java/lang/Object", name := "getClass", desc := "()Ljava/lang/Class;" } : Jvm.MethodName) ({ cls := "java/lang/Object", name := "getClass", desc := "()Ljava/lang/Class;" } : Jvm.MethodName)) ∈ lw_all := lw_g (lw_at lw_m2 88 rfl) rfl
theorem q475 : (Jvm.Cond.classLink "PipelineSimulator" (66 : Nat) "PipelineSimulator$Sink") ∈ lw_all := lw_g (lw_at lw_m2 138 rfl) rfl
theorem q477 : (Jvm.Cond.methodLink "PipelineSimulator" (68 : Nat) ({ cls := "PipelineSimulator$Sink", name := "<init>", desc := "(I)V" } : Jvm.MethodName)) ∈ lw_all := lw_g (lw_at lw_m2 140 rfl) rfl
theorem q494 : (Jvm.Cond.methodLink "PipelineSimulator" (156 : Nat) ({ cls := "PipelineSimulator", name := "build", desc := "()V" } : Jvm.MethodName)) ∈ lw_all := lw_g (lw_at lw_m2 157 rfl) rfl
theorem q495 : (Jvm.Cond.privateMethod ({ cls := "PipelineSimulator", name := "build", desc := "()V" } : Jvm.MethodName)) ∈ lw_tbl := lw_at lw_m2 158 rfl
theorem q496 : (Jvm.Cond.instanceMethod ({ cls := "PipelineSimulator", name := "build", desc := "()V" } : Jvm.MethodName)) ∈ lw_all := lw_g (lw_at lw_m2 159 rfl) rfl
theorem q497 : (Jvm.Cond.code ({ cls := "PipelineSimulator", name := "build", desc := "()V" } : Jvm.MethodName) prog_1_method_11_code (4 : Nat) (Option.none : Option Jvm.ClassFile.FieldType)) ∈ lw_all := lw_g (lw_at lw_m2 160 rfl) rfl
theorem q498 : (Jvm.Cond.methodLink "PipelineSimulator" (172 : Nat) ({ cls := "java/util/ArrayList", name := "clear", desc := "()V" } : Jvm.MethodName)) ∈ lw_all := lw_g (lw_at lw_m2 161 rfl) rfl
theorem q502 : (Jvm.Cond.methodLink "PipelineSimulator" (174 : Nat) ({ cls := "java/util/ArrayList", name := "size", desc := "()I" } : Jvm.MethodName)) ∈ lw_all := lw_g (lw_at lw_m2 165 rfl) rfl
theorem q506 : (Jvm.Cond.methodLink "PipelineSimulator" (177 : Nat) ({ cls := "java/util/ArrayList", name := "get", desc := "(I)Ljava/lang/Object;" } : Jvm.MethodName)) ∈ lw_all := lw_g (lw_at lw_m2 169 rfl) rfl
theorem q520 : (Jvm.Cond.classLink "PipelineSimulator" (181 : Nat) "PipelineSimulator$Operator") ∈ lw_all := lw_g (lw_at lw_m2 183 rfl) rfl
theorem q521 : (Jvm.Cond.classLink "PipelineSimulator" (185 : Nat) "PipelineSimulator$Instance") ∈ lw_all := lw_g (lw_at lw_m2 184 rfl) rfl
theorem q523 : (Jvm.Cond.methodLink "PipelineSimulator" (190 : Nat) ({ cls := "PipelineSimulator$Instance", name := "<init>", desc := "(LPipelineSimulator;II)V" } : Jvm.MethodName)) ∈ lw_all := lw_g (lw_at lw_m2 186 rfl) rfl
theorem q539 : (Jvm.Cond.fieldLinkNest "PipelineSimulator" (294 : Nat) "PipelineSimulator$Instance" "holdsBarrier" "Z" "PipelineSimulator") ∈ lw_tbl := lw_at lw_m2 202 rfl
theorem q542 : (Jvm.Cond.fieldLinkNest "PipelineSimulator" (366 : Nat) "PipelineSimulator$Instance" "pointer" "I" "PipelineSimulator") ∈ lw_tbl := lw_at lw_m2 205 rfl
theorem q544 : (Jvm.Cond.fieldLinkNest "PipelineSimulator" (193 : Nat) "PipelineSimulator$Instance" "counter" "LPipelineSimulator$Versions;" "PipelineSimulator") ∈ lw_tbl := lw_at lw_m2 207 rfl
theorem q573 : (Jvm.Cond.classLink "PipelineSimulator" (195 : Nat) "[LPipelineSimulator$Channel;") ∈ lw_all := lw_g (lw_at lw_m2 236 rfl) rfl
theorem q574 : (Jvm.Cond.classLink "PipelineSimulator" (197 : Nat) "PipelineSimulator$Channel") ∈ lw_all := lw_g (lw_at lw_m2 237 rfl) rfl
theorem q576 : (Jvm.Cond.methodLinkNest "PipelineSimulator" (199 : Nat) ({ cls := "PipelineSimulator$Channel", name := "<init>", desc := "(LPipelineSimulator;)V" } : Jvm.MethodName) "PipelineSimulator") ∈ lw_tbl := lw_at lw_m2 239 rfl
theorem q600 : (Jvm.Cond.privateMethod ({ cls := "PipelineSimulator", name := "batch", desc := "()LPipelineSimulator$Batch;" } : Jvm.MethodName)) ∈ lw_tbl := lw_at lw_m3 23 rfl
theorem q601 : (Jvm.Cond.instanceMethod ({ cls := "PipelineSimulator", name := "batch", desc := "()LPipelineSimulator$Batch;" } : Jvm.MethodName)) ∈ lw_all := lw_g (lw_at lw_m3 24 rfl) rfl
theorem q602 : (Jvm.Cond.code ({ cls := "PipelineSimulator", name := "batch", desc := "()LPipelineSimulator$Batch;" } : Jvm.MethodName) prog_1_method_8_code (1 : Nat) (Option.some (Jvm.ClassFile.FieldType.object "PipelineSimulator$Batch"))) ∈ lw_all := lw_g (lw_at lw_m3 25 rfl) rfl
theorem q603 : (Jvm.Cond.methodLink "PipelineSimulator" (73 : Nat) ({ cls := "java/util/LinkedList", name := "isEmpty", desc := "()Z" } : Jvm.MethodName)) ∈ lw_all := lw_g (lw_at lw_m3 26 rfl) rfl
theorem q622 : (Jvm.Cond.classLink "PipelineSimulator" (78 : Nat) "PipelineSimulator$Batch") ∈ lw_all := lw_g (lw_at lw_m3 45 rfl) rfl
theorem q624 : (Jvm.Cond.methodLinkNest "PipelineSimulator" (80 : Nat) ({ cls := "PipelineSimulator$Batch", name := "<init>", desc := "()V" } : Jvm.MethodName) "PipelineSimulator") ∈ lw_tbl := lw_at lw_m3 47 rfl
theorem q649 : (Jvm.Cond.methodLink "PipelineSimulator" (81 : Nat) ({ cls := "java/util/LinkedList", name := "removeLast", desc := "()Ljava/lang/Object;" } : Jvm.MethodName)) ∈ lw_all := lw_g (lw_at lw_m3 72 rfl) rfl
theorem q657 : (Jvm.Cond.methodLink "PipelineSimulator" (84 : Nat) ({ cls := "PipelineSimulator$Batch", name := "clear", desc := "()LPipelineSimulator$Batch;" } : Jvm.MethodName)) ∈ lw_all := lw_g (lw_at lw_m3 80 rfl) rfl
theorem q662 : (Jvm.Cond.fieldLinkNest "PipelineSimulator" (376 : Nat) "PipelineSimulator$Channel" "queue" "Ljava/util/ArrayDeque;" "PipelineSimulator") ∈ lw_tbl := lw_at lw_m3 85 rfl
theorem q664 : (Jvm.Cond.fieldLinkNest "PipelineSimulator" (383 : Nat) "PipelineSimulator$Channel" "open" "LPipelineSimulator$Batch;" "PipelineSimulator") ∈ lw_tbl := lw_at lw_m3 87 rfl
theorem q666 : (Jvm.Cond.fieldLinkNest "PipelineSimulator" (388 : Nat) "PipelineSimulator$Channel" "age" "I" "PipelineSimulator") ∈ lw_tbl := lw_at lw_m3 89 rfl
theorem q668 : (Jvm.Cond.fieldLinkNest "PipelineSimulator" (254 : Nat) "PipelineSimulator$Channel" "records" "I" "PipelineSimulator") ∈ lw_tbl := lw_at lw_m3 91 rfl
theorem q681 : (Jvm.Cond.classLink "PipelineSimulator" (162 : Nat) "java/lang/StringBuilder") ∈ lw_all := lw_g (lw_at lw_m3 104 rfl) rfl
theorem q683 : (Jvm.Cond.methodLink "PipelineSimulator" (164 : Nat) ({ cls := "java/lang/StringBuilder", name := "<init>", desc := "()V" } : Jvm.MethodName)) ∈ lw_all := lw_g (lw_at lw_m3 106 rfl) rfl
theorem q714 : (Jvm.Cond.fieldLink "PipelineSimulator" (69 : Nat) "PipelineSimulator" "spare" "Ljava/util/LinkedList;") ∈ lw_all := lw_g (lw_at lw_m3 137 rfl) rfl
theorem q717 : (Jvm.Cond.fieldLink "PipelineSimulator" (92 : Nat) "PipelineSimulator" "size" "I") ∈ lw_all := lw_g (lw_at lw_m3 140 rfl) rfl
theorem q719 : (Jvm.Cond.fieldLink "PipelineSimulator" (96 : Nat) "PipelineSimulator" "greatestAge" "I") ∈ lw_all := lw_g (lw_at lw_m3 142 rfl) rfl
theorem q721 : (Jvm.Cond.fieldLink "PipelineSimulator" (99 : Nat) "PipelineSimulator" "credits" "I") ∈ lw_all := lw_g (lw_at lw_m3 144 rfl) rfl
theorem q722 : (Jvm.Cond.fieldLink "PipelineSimulator" (102 : Nat) "PipelineSimulator" "rate" "I") ∈ lw_all := lw_g (lw_at lw_m3 145 rfl) rfl
theorem q724 : (Jvm.Cond.fieldLink "PipelineSimulator" (105 : Nat) "PipelineSimulator" "inputKeys" "[I") ∈ lw_all := lw_g (lw_at lw_m3 147 rfl) rfl
theorem q726 : (Jvm.Cond.fieldLink "PipelineSimulator" (109 : Nat) "PipelineSimulator" "inputValues" "[I") ∈ lw_all := lw_g (lw_at lw_m3 149 rfl) rfl
theorem q728 : (Jvm.Cond.fieldLink "PipelineSimulator" (247 : Nat) "PipelineSimulator" "inputSize" "I") ∈ lw_all := lw_g (lw_at lw_m3 151 rfl) rfl
theorem q732 : (Jvm.Cond.fieldLink "PipelineSimulator" (115 : Nat) "PipelineSimulator" "operators" "Ljava/util/ArrayList;") ∈ lw_all := lw_g (lw_at lw_m3 155 rfl) rfl
theorem q733 : (Jvm.Cond.fieldLink "PipelineSimulator" (123 : Nat) "PipelineSimulator" "offset" "LPipelineSimulator$Versions;") ∈ lw_all := lw_g (lw_at lw_m3 156 rfl) rfl
theorem q735 : (Jvm.Cond.fieldLink "PipelineSimulator" (127 : Nat) "PipelineSimulator" "versions" "Ljava/util/ArrayList;") ∈ lw_all := lw_g (lw_at lw_m3 158 rfl) rfl
theorem q736 : (Jvm.Cond.fieldLink "PipelineSimulator" (132 : Nat) "PipelineSimulator" "instances" "[[LPipelineSimulator$Instance;") ∈ lw_all := lw_g (lw_at lw_m3 159 rfl) rfl
theorem q738 : (Jvm.Cond.fieldLink "PipelineSimulator" (138 : Nat) "PipelineSimulator" "channels" "[[[LPipelineSimulator$Channel;") ∈ lw_all := lw_g (lw_at lw_m3 161 rfl) rfl
theorem q739 : (Jvm.Cond.fieldLink "PipelineSimulator" (145 : Nat) "PipelineSimulator" "latencies" "LPipelineSimulator$Latencies;") ∈ lw_all := lw_g (lw_at lw_m3 162 rfl) rfl
theorem q741 : (Jvm.Cond.fieldLink "PipelineSimulator" (207 : Nat) "PipelineSimulator" "ticks" "I") ∈ lw_all := lw_g (lw_at lw_m3 164 rfl) rfl
theorem q743 : (Jvm.Cond.fieldLink "PipelineSimulator" (210 : Nat) "PipelineSimulator" "completed" "I") ∈ lw_all := lw_g (lw_at lw_m3 166 rfl) rfl
theorem q744 : (Jvm.Cond.fieldLink "PipelineSimulator" (213 : Nat) "PipelineSimulator" "running" "I") ∈ lw_all := lw_g (lw_at lw_m3 167 rfl) rfl
theorem q745 : (Jvm.Cond.fieldLink "PipelineSimulator" (216 : Nat) "PipelineSimulator" "alignedSinks" "I") ∈ lw_all := lw_g (lw_at lw_m3 168 rfl) rfl
theorem q747 : (Jvm.Cond.fieldLink "PipelineSimulator" (219 : Nat) "PipelineSimulator" "failures" "I") ∈ lw_all := lw_g (lw_at lw_m3 170 rfl) rfl
theorem q748 : (Jvm.Cond.fieldLink "PipelineSimulator" (222 : Nat) "PipelineSimulator" "hasBegun" "Z") ∈ lw_all := lw_g (lw_at lw_m3 171 rfl) rfl
theorem q749 : (Jvm.Cond.fieldLink "PipelineSimulator" (159 : Nat) "PipelineSimulator" "explanation" "Ljava/util/ArrayList;") ∈ lw_all := lw_g (lw_at lw_m3 172 rfl) rfl
theorem q751 : (Jvm.Cond.fieldLink "PipelineSimulator" (165 : Nat) "PipelineSimulator" "text" "Ljava/lang/StringBuilder;") ∈ lw_all := lw_g (lw_at lw_m3 174 rfl) rfl
theorem q752 : (Jvm.Cond.fieldLink "PipelineSimulator" (169 : Nat) "PipelineSimulator" "written" "Ljava/lang/StringBuilder;") ∈ lw_all := lw_g (lw_at lw_m3 175 rfl) rfl
theorem q753 : (Jvm.Cond.laysFinal "PipelineSimulator" "PipelineSimulator" "spare" "Ljava/util/LinkedList;") ∈ lw_all := lw_g (lw_at lw_m3 176 rfl) rfl
theorem q754 : (Jvm.Cond.soleField "PipelineSimulator" "spare") ∈ lw_all := lw_g (lw_at lw_m3 177 rfl) rfl
theorem q755 : (Jvm.Cond.lays "PipelineSimulator" "PipelineSimulator" "size" "I") ∈ lw_all := lw_g (lw_at lw_m3 178 rfl) rfl
theorem q756 : (Jvm.Cond.soleField "PipelineSimulator" "size") ∈ lw_all := lw_g (lw_at lw_m3 179 rfl) rfl
theorem q757 : (Jvm.Cond.lays "PipelineSimulator" "PipelineSimulator" "greatestAge" "I") ∈ lw_all := lw_g (lw_at lw_m3 180 rfl) rfl
theorem q758 : (Jvm.Cond.soleField "PipelineSimulator" "greatestAge") ∈ lw_all := lw_g (lw_at lw_m3 181 rfl) rfl
theorem q759 : (Jvm.Cond.lays "PipelineSimulator" "PipelineSimulator" "credits" "I") ∈ lw_all := lw_g (lw_at lw_m3 182 rfl) rfl
theorem q760 : (Jvm.Cond.soleField "PipelineSimulator" "credits") ∈ lw_all := lw_g (lw_at lw_m3 183 rfl) rfl
theorem q761 : (Jvm.Cond.lays "PipelineSimulator" "PipelineSimulator" "rate" "I") ∈ lw_all := lw_g (lw_at lw_m3 184 rfl) rfl
theorem q762 : (Jvm.Cond.soleField "PipelineSimulator" "rate") ∈ lw_all := lw_g (lw_at lw_m3 185 rfl) rfl
theorem q763 : (Jvm.Cond.laysFinal "PipelineSimulator" "PipelineSimulator" "inputKeys" "[I") ∈ lw_all := lw_g (lw_at lw_m3 186 rfl) rfl
theorem q764 : (Jvm.Cond.soleField "PipelineSimulator" "inputKeys") ∈ lw_all := lw_g (lw_at lw_m3 187 rfl) rfl
theorem q765 : (Jvm.Cond.laysFinal "PipelineSimulator" "PipelineSimulator" "inputValues" "[I") ∈ lw_all := lw_g (lw_at lw_m3 188 rfl) rfl
theorem q766 : (Jvm.Cond.soleField "PipelineSimulator" "inputValues") ∈ lw_all := lw_g (lw_at lw_m3 189 rfl) rfl
theorem q767 : (Jvm.Cond.lays "PipelineSimulator" "PipelineSimulator" "inputSize" "I") ∈ lw_all := lw_g (lw_at lw_m3 190 rfl) rfl
theorem q768 : (Jvm.Cond.soleField "PipelineSimulator" "inputSize") ∈ lw_all := lw_g (lw_at lw_m3 191 rfl) rfl
theorem q769 : (Jvm.Cond.lays "PipelineSimulator" "PipelineSimulator" "operators" "Ljava/util/ArrayList;") ∈ lw_all := lw_g (lw_at lw_m3 192 rfl) rfl
theorem q770 : (Jvm.Cond.soleField "PipelineSimulator" "operators") ∈ lw_all := lw_g (lw_at lw_m3 193 rfl) rfl
theorem q771 : (Jvm.Cond.laysFinal "PipelineSimulator" "PipelineSimulator" "offset" "LPipelineSimulator$Versions;") ∈ lw_all := lw_g (lw_at lw_m3 194 rfl) rfl
theorem q772 : (Jvm.Cond.soleField "PipelineSimulator" "offset") ∈ lw_all := lw_g (lw_at lw_m3 195 rfl) rfl
theorem q773 : (Jvm.Cond.laysFinal "PipelineSimulator" "PipelineSimulator" "versions" "Ljava/util/ArrayList;") ∈ lw_all := lw_g (lw_at lw_m3 196 rfl) rfl
theorem q774 : (Jvm.Cond.soleField "PipelineSimulator" "versions") ∈ lw_all := lw_g (lw_at lw_m3 197 rfl) rfl
theorem q775 : (Jvm.Cond.laysFinal "PipelineSimulator" "PipelineSimulator" "instances" "[[LPipelineSimulator$Instance;") ∈ lw_all := lw_g (lw_at lw_m3 198 rfl) rfl
theorem q776 : (Jvm.Cond.soleField "PipelineSimulator" "instances") ∈ lw_all := lw_g (lw_at lw_m3 199 rfl) rfl
theorem q777 : (Jvm.Cond.laysFinal "PipelineSimulator" "PipelineSimulator" "channels" "[[[LPipelineSimulator$Channel;") ∈ lw_all := lw_g (lw_at lw_m3 200 rfl) rfl
theorem q778 : (Jvm.Cond.soleField "PipelineSimulator" "channels") ∈ lw_all := lw_g (lw_at lw_m3 201 rfl) rfl
theorem q779 : (Jvm.Cond.laysFinal "PipelineSimulator" "PipelineSimulator" "latencies" "LPipelineSimulator$Latencies;") ∈ lw_all := lw_g (lw_at lw_m3 202 rfl) rfl
theorem q780 : (Jvm.Cond.soleField "PipelineSimulator" "latencies") ∈ lw_all := lw_g (lw_at lw_m3 203 rfl) rfl
theorem q781 : (Jvm.Cond.lays "PipelineSimulator" "PipelineSimulator" "ticks" "I") ∈ lw_all := lw_g (lw_at lw_m3 204 rfl) rfl
theorem q782 : (Jvm.Cond.soleField "PipelineSimulator" "ticks") ∈ lw_all := lw_g (lw_at lw_m3 205 rfl) rfl
theorem q783 : (Jvm.Cond.lays "PipelineSimulator" "PipelineSimulator" "completed" "I") ∈ lw_all := lw_g (lw_at lw_m3 206 rfl) rfl
theorem q784 : (Jvm.Cond.soleField "PipelineSimulator" "completed") ∈ lw_all := lw_g (lw_at lw_m3 207 rfl) rfl
theorem q785 : (Jvm.Cond.lays "PipelineSimulator" "PipelineSimulator" "running" "I") ∈ lw_all := lw_g (lw_at lw_m3 208 rfl) rfl
theorem q786 : (Jvm.Cond.soleField "PipelineSimulator" "running") ∈ lw_all := lw_g (lw_at lw_m3 209 rfl) rfl
theorem q787 : (Jvm.Cond.lays "PipelineSimulator" "PipelineSimulator" "alignedSinks" "I") ∈ lw_all := lw_g (lw_at lw_m3 210 rfl) rfl
theorem q788 : (Jvm.Cond.soleField "PipelineSimulator" "alignedSinks") ∈ lw_all := lw_g (lw_at lw_m3 211 rfl) rfl
theorem q789 : (Jvm.Cond.lays "PipelineSimulator" "PipelineSimulator" "failures" "I") ∈ lw_all := lw_g (lw_at lw_m3 212 rfl) rfl
theorem q790 : (Jvm.Cond.soleField "PipelineSimulator" "failures") ∈ lw_all := lw_g (lw_at lw_m3 213 rfl) rfl
theorem q791 : (Jvm.Cond.lays "PipelineSimulator" "PipelineSimulator" "hasBegun" "Z") ∈ lw_all := lw_g (lw_at lw_m3 214 rfl) rfl
theorem q792 : (Jvm.Cond.soleField "PipelineSimulator" "hasBegun") ∈ lw_all := lw_g (lw_at lw_m3 215 rfl) rfl
theorem q793 : (Jvm.Cond.laysFinal "PipelineSimulator" "PipelineSimulator" "explanation" "Ljava/util/ArrayList;") ∈ lw_all := lw_g (lw_at lw_m3 216 rfl) rfl
theorem q794 : (Jvm.Cond.soleField "PipelineSimulator" "explanation") ∈ lw_all := lw_g (lw_at lw_m3 217 rfl) rfl
theorem q795 : (Jvm.Cond.laysFinal "PipelineSimulator" "PipelineSimulator" "text" "Ljava/lang/StringBuilder;") ∈ lw_all := lw_g (lw_at lw_m3 218 rfl) rfl
theorem q796 : (Jvm.Cond.soleField "PipelineSimulator" "text") ∈ lw_all := lw_g (lw_at lw_m3 219 rfl) rfl
theorem q797 : (Jvm.Cond.laysFinal "PipelineSimulator" "PipelineSimulator" "written" "Ljava/lang/StringBuilder;") ∈ lw_all := lw_g (lw_at lw_m3 220 rfl) rfl
theorem q798 : (Jvm.Cond.soleField "PipelineSimulator" "written") ∈ lw_all := lw_g (lw_at lw_m3 221 rfl) rfl
theorem q799 : (Jvm.Cond.superclass "PipelineSimulator" "java/lang/Object") ∈ lw_all := lw_g (lw_at lw_m3 222 rfl) rfl
theorem q801 : (Jvm.Cond.instanceMethod ({ cls := "PipelineSimulator", name := "configure", desc := "(IIII)I" } : Jvm.MethodName)) ∈ lw_all := lw_g (lw_at lw_m3 224 rfl) rfl
theorem q802 : (Jvm.Cond.selects "PipelineSimulator" ({ cls := "PipelineSimulator", name := "configure", desc := "(IIII)I" } : Jvm.MethodName) ({ cls := "PipelineSimulator", name := "configure", desc := "(IIII)I" } : Jvm.MethodName)) ∈ lw_all := lw_g (lw_at lw_m3 225 rfl) rfl
theorem q803 : (Jvm.Cond.code ({ cls := "PipelineSimulator", name := "configure", desc := "(IIII)I" } : Jvm.MethodName) prog_1_method_13_code (6 : Nat) (Option.some Jvm.ClassFile.FieldType.int)) ∈ lw_all := lw_g (lw_at lw_m3 226 rfl) rfl
theorem q804 : (Jvm.Cond.constantLong "PipelineSimulator" (227 : Nat) (4 : Int64)) ∈ lw_all := lw_g (lw_at lw_m3 227 rfl) rfl
theorem q805 : (Jvm.Cond.methodLink "PipelineSimulator" (229 : Nat) ({ cls := "PipelineSimulator", name := "isBetween", desc := "(JJJ)Z" } : Jvm.MethodName)) ∈ lw_all := lw_g (lw_at lw_m3 228 rfl) rfl
theorem q806 : (Jvm.Cond.static ({ cls := "PipelineSimulator", name := "isBetween", desc := "(JJJ)Z" } : Jvm.MethodName)) ∈ lw_all := lw_g (lw_at lw_m3 229 rfl) rfl
theorem q807 : (Jvm.Cond.code ({ cls := "PipelineSimulator", name := "isBetween", desc := "(JJJ)Z" } : Jvm.MethodName) prog_1_method_1_code (6 : Nat) (Option.some Jvm.ClassFile.FieldType.boolean)) ∈ lw_all := lw_g (lw_at lw_m3 230 rfl) rfl
theorem q808 : (Jvm.Cond.constantLong "PipelineSimulator" (233 : Nat) (9 : Int64)) ∈ lw_all := lw_g (lw_at lw_m3 231 rfl) rfl
theorem q809 : (Jvm.Cond.constantLong "PipelineSimulator" (235 : Nat) (2 : Int64)) ∈ lw_all := lw_g (lw_at lw_m3 232 rfl) rfl
theorem q810 : (Jvm.Cond.constantLong "PipelineSimulator" (237 : Nat) (5 : Int64)) ∈ lw_all := lw_g (lw_at lw_m3 233 rfl) rfl
theorem q811 : (Jvm.Cond.constant "PipelineSimulator" (239 : Nat) (-1000000002 : Int32)) ∈ lw_all := lw_g (lw_at lw_m3 234 rfl) rfl
theorem q812 : (Jvm.Cond.constant "PipelineSimulator" (240 : Nat) (-1000000004 : Int32)) ∈ lw_all := lw_g (lw_at lw_m3 235 rfl) rfl
theorem q814 : (Jvm.Cond.instanceMethod ({ cls := "PipelineSimulator", name := "push", desc := "(II)I" } : Jvm.MethodName)) ∈ lw_all := lw_g (lw_at lw_m3 237 rfl) rfl
theorem q815 : (Jvm.Cond.selects "PipelineSimulator" ({ cls := "PipelineSimulator", name := "push", desc := "(II)I" } : Jvm.MethodName) ({ cls := "PipelineSimulator", name := "push", desc := "(II)I" } : Jvm.MethodName)) ∈ lw_all := lw_g (lw_at lw_m3 238 rfl) rfl
theorem q816 : (Jvm.Cond.code ({ cls := "PipelineSimulator", name := "push", desc := "(II)I" } : Jvm.MethodName) prog_1_method_14_code (3 : Nat) (Option.some Jvm.ClassFile.FieldType.int)) ∈ lw_all := lw_g (lw_at lw_m3 239 rfl) rfl
theorem q817 : (Jvm.Cond.constantLong "PipelineSimulator" (241 : Nat) (15 : Int64)) ∈ lw_all := lw_g (lw_at lw_m4 0 rfl) rfl
theorem q818 : (Jvm.Cond.constantLong "PipelineSimulator" (243 : Nat) (-99 : Int64)) ∈ lw_all := lw_g (lw_at lw_m4 1 rfl) rfl
theorem q819 : (Jvm.Cond.constantLong "PipelineSimulator" (245 : Nat) (99 : Int64)) ∈ lw_all := lw_g (lw_at lw_m4 2 rfl) rfl
theorem q820 : (Jvm.Cond.constant "PipelineSimulator" (250 : Nat) (-1000000003 : Int32)) ∈ lw_all := lw_g (lw_at lw_m4 3 rfl) rfl
theorem q822 : (Jvm.Cond.instanceMethod ({ cls := "PipelineSimulator", name := "clear", desc := "()I" } : Jvm.MethodName)) ∈ lw_all := lw_g (lw_at lw_m4 5 rfl) rfl
theorem q823 : (Jvm.Cond.selects "PipelineSimulator" ({ cls := "PipelineSimulator", name := "clear", desc := "()I" } : Jvm.MethodName) ({ cls := "PipelineSimulator", name := "clear", desc := "()I" } : Jvm.MethodName)) ∈ lw_all := lw_g (lw_at lw_m4 6 rfl) rfl
theorem q824 : (Jvm.Cond.code ({ cls := "PipelineSimulator", name := "clear", desc := "()I" } : Jvm.MethodName) prog_1_method_15_code (2 : Nat) (Option.some Jvm.ClassFile.FieldType.int)) ∈ lw_all := lw_g (lw_at lw_m4 7 rfl) rfl
theorem q825 : (Jvm.Cond.methodLink "PipelineSimulator" (251 : Nat) ({ cls := "PipelineSimulator", name := "restart", desc := "()V" } : Jvm.MethodName)) ∈ lw_all := lw_g (lw_at lw_m4 8 rfl) rfl
theorem q826 : (Jvm.Cond.privateMethod ({ cls := "PipelineSimulator", name := "restart", desc := "()V" } : Jvm.MethodName)) ∈ lw_tbl := lw_at lw_m4 9 rfl
theorem q827 : (Jvm.Cond.instanceMethod ({ cls := "PipelineSimulator", name := "restart", desc := "()V" } : Jvm.MethodName)) ∈ lw_all := lw_g (lw_at lw_m4 10 rfl) rfl
theorem q828 : (Jvm.Cond.code ({ cls := "PipelineSimulator", name := "restart", desc := "()V" } : Jvm.MethodName) prog_1_method_12_code (3 : Nat) (Option.none : Option Jvm.ClassFile.FieldType)) ∈ lw_all := lw_g (lw_at lw_m4 11 rfl) rfl
theorem q829 : (Jvm.Cond.methodLink "PipelineSimulator" (202 : Nat) ({ cls := "java/util/ArrayList", name := "iterator", desc := "()Ljava/util/Iterator;" } : Jvm.MethodName)) ∈ lw_all := lw_g (lw_at lw_m4 12 rfl) rfl
theorem q854 : (Jvm.Cond.interfaceEntry "PipelineSimulator" (7 : Nat)) ∈ lw_tbl := lw_at lw_m4 37 rfl
theorem q855 : (Jvm.Cond.methodLink "PipelineSimulator" (7 : Nat) ({ cls := "java/util/Iterator", name := "hasNext", desc := "()Z" } : Jvm.MethodName)) ∈ lw_all := lw_g (lw_at lw_m4 38 rfl) rfl
theorem q889 : (Jvm.Cond.interfaceEntry "PipelineSimulator" (13 : Nat)) ∈ lw_tbl := lw_at lw_m4 72 rfl
theorem q890 : (Jvm.Cond.methodLink "PipelineSimulator" (13 : Nat) ({ cls := "java/util/Iterator", name := "next", desc := "()Ljava/lang/Object;" } : Jvm.MethodName)) ∈ lw_all := lw_g (lw_at lw_m4 73 rfl) rfl
theorem q1212 : (Jvm.Cond.methodLink "PipelineSimulator" (203 : Nat) ({ cls := "PipelineSimulator$Versions", name := "reset", desc := "()V" } : Jvm.MethodName)) ∈ lw_all := lw_g (lw_at lw_m5 155 rfl) rfl
theorem q1236 : (Jvm.Cond.methodLink "PipelineSimulator" (206 : Nat) ({ cls := "PipelineSimulator$Operator", name := "reset", desc := "()V" } : Jvm.MethodName)) ∈ lw_all := lw_g (lw_at lw_m5 179 rfl) rfl
theorem q1250 : (Jvm.Cond.methodLink "PipelineSimulator" (226 : Nat) ({ cls := "PipelineSimulator$Latencies", name := "reset", desc := "()V" } : Jvm.MethodName)) ∈ lw_all := lw_g (lw_at lw_m5 193 rfl) rfl
theorem q1255 : (Jvm.Cond.instanceMethod ({ cls := "PipelineSimulator", name := "tick", desc := "(I)I" } : Jvm.MethodName)) ∈ lw_all := lw_g (lw_at lw_m5 198 rfl) rfl
theorem q1256 : (Jvm.Cond.selects "PipelineSimulator" ({ cls := "PipelineSimulator", name := "tick", desc := "(I)I" } : Jvm.MethodName) ({ cls := "PipelineSimulator", name := "tick", desc := "(I)I" } : Jvm.MethodName)) ∈ lw_all := lw_g (lw_at lw_m5 199 rfl) rfl
theorem q1257 : (Jvm.Cond.code ({ cls := "PipelineSimulator", name := "tick", desc := "(I)I" } : Jvm.MethodName) prog_1_method_20_code (3 : Nat) (Option.some Jvm.ClassFile.FieldType.int)) ∈ lw_all := lw_g (lw_at lw_m5 200 rfl) rfl
theorem q1258 : (Jvm.Cond.constantLong "PipelineSimulator" (279 : Nat) (200 : Int64)) ∈ lw_all := lw_g (lw_at lw_m5 201 rfl) rfl
theorem q1259 : (Jvm.Cond.methodLink "PipelineSimulator" (281 : Nat) ({ cls := "PipelineSimulator", name := "isDone", desc := "()Z" } : Jvm.MethodName)) ∈ lw_all := lw_g (lw_at lw_m5 202 rfl) rfl
theorem q1260 : (Jvm.Cond.privateMethod ({ cls := "PipelineSimulator", name := "isDone", desc := "()Z" } : Jvm.MethodName)) ∈ lw_tbl := lw_at lw_m5 203 rfl
theorem q1261 : (Jvm.Cond.instanceMethod ({ cls := "PipelineSimulator", name := "isDone", desc := "()Z" } : Jvm.MethodName)) ∈ lw_all := lw_g (lw_at lw_m5 204 rfl) rfl
theorem q1262 : (Jvm.Cond.code ({ cls := "PipelineSimulator", name := "isDone", desc := "()Z" } : Jvm.MethodName) prog_1_method_18_code (1 : Nat) (Option.some Jvm.ClassFile.FieldType.boolean)) ∈ lw_all := lw_g (lw_at lw_m5 205 rfl) rfl
theorem q1263 : (Jvm.Cond.methodLink "PipelineSimulator" (267 : Nat) ({ cls := "PipelineSimulator", name := "recordsInChannels", desc := "()I" } : Jvm.MethodName)) ∈ lw_all := lw_g (lw_at lw_m5 206 rfl) rfl
theorem q1264 : (Jvm.Cond.privateMethod ({ cls := "PipelineSimulator", name := "recordsInChannels", desc := "()I" } : Jvm.MethodName)) ∈ lw_tbl := lw_at lw_m5 207 rfl
theorem q1265 : (Jvm.Cond.instanceMethod ({ cls := "PipelineSimulator", name := "recordsInChannels", desc := "()I" } : Jvm.MethodName)) ∈ lw_all := lw_g (lw_at lw_m5 208 rfl) rfl
theorem q1266 : (Jvm.Cond.code ({ cls := "PipelineSimulator", name := "recordsInChannels", desc := "()I" } : Jvm.MethodName) prog_1_method_16_code (11 : Nat) (Option.some Jvm.ClassFile.FieldType.int)) ∈ lw_all := lw_g (lw_at lw_m5 209 rfl) rfl
theorem q1267 : (Jvm.Cond.methodLink "PipelineSimulator" (270 : Nat) ({ cls := "PipelineSimulator", name := "recordsInLists", desc := "()I" } : Jvm.MethodName)) ∈ lw_all := lw_g (lw_at lw_m5 210 rfl) rfl
theorem q1268 : (Jvm.Cond.privateMethod ({ cls := "PipelineSimulator", name := "recordsInLists", desc := "()I" } : Jvm.MethodName)) ∈ lw_tbl := lw_at lw_m5 211 rfl
theorem q1269 : (Jvm.Cond.instanceMethod ({ cls := "PipelineSimulator", name := "recordsInLists", desc := "()I" } : Jvm.MethodName)) ∈ lw_all := lw_g (lw_at lw_m5 212 rfl) rfl
theorem q1270 : (Jvm.Cond.code ({ cls := "PipelineSimulator", name := "recordsInLists", desc := "()I" } : Jvm.MethodName) prog_1_method_17_code (7 : Nat) (Option.some Jvm.ClassFile.FieldType.int)) ∈ lw_all := lw_g (lw_at lw_m5 213 rfl) rfl
theorem q1271 : (Jvm.Cond.methodLink "PipelineSimulator" (257 : Nat) ({ cls := "PipelineSimulator$Instance", name := "waiting", desc := "()I" } : Jvm.MethodName)) ∈ lw_all := lw_g (lw_at lw_m5 214 rfl) rfl
theorem q1275 : (Jvm.Cond.methodLink "PipelineSimulator" (284 : Nat) ({ cls := "PipelineSimulator", name := "tick", desc := "()V" } : Jvm.MethodName)) ∈ lw_all := lw_g (lw_at lw_m5 218 rfl) rfl
theorem q1276 : (Jvm.Cond.privateMethod ({ cls := "PipelineSimulator", name := "tick", desc := "()V" } : Jvm.MethodName)) ∈ lw_tbl := lw_at lw_m5 219 rfl
theorem q1277 : (Jvm.Cond.instanceMethod ({ cls := "PipelineSimulator", name := "tick", desc := "()V" } : Jvm.MethodName)) ∈ lw_all := lw_g (lw_at lw_m5 220 rfl) rfl
theorem q1278 : (Jvm.Cond.code ({ cls := "PipelineSimulator", name := "tick", desc := "()V" } : Jvm.MethodName) prog_1_method_19_code (10 : Nat) (Option.none : Option Jvm.ClassFile.FieldType)) ∈ lw_all := lw_g (lw_at lw_m5 221 rfl) rfl
theorem q1279 : (Jvm.Cond.methodLink "PipelineSimulator" (273 : Nat) ({ cls := "PipelineSimulator$Channel", name := "grow", desc := "()V" } : Jvm.MethodName)) ∈ lw_all := lw_g (lw_at lw_m5 222 rfl) rfl
theorem q1313 : (Jvm.Cond.methodLink "PipelineSimulator" (276 : Nat) ({ cls := "PipelineSimulator$Instance", name := "work", desc := "()V" } : Jvm.MethodName)) ∈ lw_all := lw_g (lw_at lw_m6 16 rfl) rfl
theorem q1351 : (Jvm.Cond.static ({ cls := "PipelineSimulator", name := "home", desc := "(II)I" } : Jvm.MethodName)) ∈ lw_all := lw_g (lw_at lw_m6 54 rfl) rfl
theorem q1352 : (Jvm.Cond.code ({ cls := "PipelineSimulator", name := "home", desc := "(II)I" } : Jvm.MethodName) prog_1_method_4_code (2 : Nat) (Option.some Jvm.ClassFile.FieldType.int)) ∈ lw_all := lw_g (lw_at lw_m6 55 rfl) rfl
theorem q1355 : (Jvm.Cond.privateMethod ({ cls := "PipelineSimulator", name := "channel", desc := "(III)LPipelineSimulator$Channel;" } : Jvm.MethodName)) ∈ lw_tbl := lw_at lw_m6 58 rfl
theorem q1356 : (Jvm.Cond.instanceMethod ({ cls := "PipelineSimulator", name := "channel", desc := "(III)LPipelineSimulator$Channel;" } : Jvm.MethodName)) ∈ lw_all := lw_g (lw_at lw_m6 59 rfl) rfl
theorem q1357 : (Jvm.Cond.code ({ cls := "PipelineSimulator", name := "channel", desc := "(III)LPipelineSimulator$Channel;" } : Jvm.MethodName) prog_1_method_10_code (4 : Nat) (Option.some (Jvm.ClassFile.FieldType.object "PipelineSimulator$Channel"))) ∈ lw_all := lw_g (lw_at lw_m6 60 rfl) rfl
theorem q1652 : (Jvm.Cond.privateMethod ({ cls := "PipelineSimulator", name := "complete", desc := "()V" } : Jvm.MethodName)) ∈ lw_tbl := lw_at lw_m7 115 rfl
theorem q1653 : (Jvm.Cond.instanceMethod ({ cls := "PipelineSimulator", name := "complete", desc := "()V" } : Jvm.MethodName)) ∈ lw_all := lw_g (lw_at lw_m7 116 rfl) rfl
theorem q1654 : (Jvm.Cond.code ({ cls := "PipelineSimulator", name := "complete", desc := "()V" } : Jvm.MethodName) prog_1_method_23_code (1 : Nat) (Option.none : Option Jvm.ClassFile.FieldType)) ∈ lw_all := lw_g (lw_at lw_m7 117 rfl) rfl
theorem q1655 : (Jvm.Cond.methodLink "PipelineSimulator" (297 : Nat) ({ cls := "PipelineSimulator", name := "finishAll", desc := "(Ljava/lang/Iterable;)V" } : Jvm.MethodName)) ∈ lw_all := lw_g (lw_at lw_m7 118 rfl) rfl
theorem q1656 : (Jvm.Cond.static ({ cls := "PipelineSimulator", name := "finishAll", desc := "(Ljava/lang/Iterable;)V" } : Jvm.MethodName)) ∈ lw_all := lw_g (lw_at lw_m7 119 rfl) rfl
theorem q1657 : (Jvm.Cond.code ({ cls := "PipelineSimulator", name := "finishAll", desc := "(Ljava/lang/Iterable;)V" } : Jvm.MethodName) prog_1_method_2_code (3 : Nat) (Option.none : Option Jvm.ClassFile.FieldType)) ∈ lw_all := lw_g (lw_at lw_m7 120 rfl) rfl
theorem q1658 : (Jvm.Cond.interfaceEntry "PipelineSimulator" (1 : Nat)) ∈ lw_tbl := lw_at lw_m7 121 rfl
theorem q1659 : (Jvm.Cond.methodLink "PipelineSimulator" (1 : Nat) ({ cls := "java/lang/Iterable", name := "iterator", desc := "()Ljava/util/Iterator;" } : Jvm.MethodName)) ∈ lw_all := lw_g (lw_at lw_m7 122 rfl) rfl
theorem q1763 : (Jvm.Cond.methodLink "PipelineSimulator" (19 : Nat) ({ cls := "PipelineSimulator$Versions", name := "finish", desc := "()V" } : Jvm.MethodName)) ∈ lw_all := lw_g (lw_at lw_m7 226 rfl) rfl
theorem q1816 : (Jvm.Cond.instanceMethod ({ cls := "PipelineSimulator", name := "isQuiet", desc := "()I" } : Jvm.MethodName)) ∈ lw_all := lw_g (lw_at lw_m8 39 rfl) rfl
theorem q1817 : (Jvm.Cond.selects "PipelineSimulator" ({ cls := "PipelineSimulator", name := "isQuiet", desc := "()I" } : Jvm.MethodName) ({ cls := "PipelineSimulator", name := "isQuiet", desc := "()I" } : Jvm.MethodName)) ∈ lw_all := lw_g (lw_at lw_m8 40 rfl) rfl
theorem q1818 : (Jvm.Cond.code ({ cls := "PipelineSimulator", name := "isQuiet", desc := "()I" } : Jvm.MethodName) prog_1_method_21_code (1 : Nat) (Option.some Jvm.ClassFile.FieldType.int)) ∈ lw_all := lw_g (lw_at lw_m8 41 rfl) rfl
theorem q1820 : (Jvm.Cond.instanceMethod ({ cls := "PipelineSimulator", name := "checkpoint", desc := "()I" } : Jvm.MethodName)) ∈ lw_all := lw_g (lw_at lw_m8 43 rfl) rfl
theorem q1821 : (Jvm.Cond.selects "PipelineSimulator" ({ cls := "PipelineSimulator", name := "checkpoint", desc := "()I" } : Jvm.MethodName) ({ cls := "PipelineSimulator", name := "checkpoint", desc := "()I" } : Jvm.MethodName)) ∈ lw_all := lw_g (lw_at lw_m8 44 rfl) rfl
theorem q1822 : (Jvm.Cond.code ({ cls := "PipelineSimulator", name := "checkpoint", desc := "()I" } : Jvm.MethodName) prog_1_method_22_code (1 : Nat) (Option.some Jvm.ClassFile.FieldType.int)) ∈ lw_all := lw_g (lw_at lw_m8 45 rfl) rfl
theorem q1823 : (Jvm.Cond.constant "PipelineSimulator" (287 : Nat) (-1000000005 : Int32)) ∈ lw_all := lw_g (lw_at lw_m8 46 rfl) rfl
theorem q1824 : (Jvm.Cond.methodLink "PipelineSimulator" (290 : Nat) ({ cls := "PipelineSimulator$Counter", name := "copyTo", desc := "(LPipelineSimulator$Counter;)V" } : Jvm.MethodName)) ∈ lw_all := lw_g (lw_at lw_m8 47 rfl) rfl
theorem q1826 : (Jvm.Cond.instanceMethod ({ cls := "PipelineSimulator", name := "fail", desc := "()I" } : Jvm.MethodName)) ∈ lw_all := lw_g (lw_at lw_m8 49 rfl) rfl
theorem q1827 : (Jvm.Cond.selects "PipelineSimulator" ({ cls := "PipelineSimulator", name := "fail", desc := "()I" } : Jvm.MethodName) ({ cls := "PipelineSimulator", name := "fail", desc := "()I" } : Jvm.MethodName)) ∈ lw_all := lw_g (lw_at lw_m8 50 rfl) rfl
theorem q1828 : (Jvm.Cond.code ({ cls := "PipelineSimulator", name := "fail", desc := "()I" } : Jvm.MethodName) prog_1_method_24_code (10 : Nat) (Option.some Jvm.ClassFile.FieldType.int)) ∈ lw_all := lw_g (lw_at lw_m8 51 rfl) rfl
theorem q1829 : (Jvm.Cond.methodLink "PipelineSimulator" (301 : Nat) ({ cls := "PipelineSimulator$Instance", name := "drop", desc := "()V" } : Jvm.MethodName)) ∈ lw_all := lw_g (lw_at lw_m8 52 rfl) rfl
theorem q1833 : (Jvm.Cond.methodLink "PipelineSimulator" (304 : Nat) ({ cls := "PipelineSimulator$Channel", name := "clear", desc := "()V" } : Jvm.MethodName)) ∈ lw_all := lw_g (lw_at lw_m8 56 rfl) rfl
theorem q1842 : (Jvm.Cond.methodLink "PipelineSimulator" (305 : Nat) ({ cls := "PipelineSimulator", name := "restoreAll", desc := "(Ljava/lang/Iterable;)V" } : Jvm.MethodName)) ∈ lw_all := lw_g (lw_at lw_m8 65 rfl) rfl
theorem q1843 : (Jvm.Cond.static ({ cls := "PipelineSimulator", name := "restoreAll", desc := "(Ljava/lang/Iterable;)V" } : Jvm.MethodName)) ∈ lw_all := lw_g (lw_at lw_m8 66 rfl) rfl
theorem q1844 : (Jvm.Cond.code ({ cls := "PipelineSimulator", name := "restoreAll", desc := "(Ljava/lang/Iterable;)V" } : Jvm.MethodName) prog_1_method_3_code (3 : Nat) (Option.none : Option Jvm.ClassFile.FieldType)) ∈ lw_all := lw_g (lw_at lw_m8 67 rfl) rfl
theorem q1845 : (Jvm.Cond.methodLink "PipelineSimulator" (23 : Nat) ({ cls := "PipelineSimulator$Versions", name := "restore", desc := "()V" } : Jvm.MethodName)) ∈ lw_all := lw_g (lw_at lw_m8 68 rfl) rfl
theorem q1850 : (Jvm.Cond.instanceMethod ({ cls := "PipelineSimulator", name := "rescale", desc := "(II)I" } : Jvm.MethodName)) ∈ lw_all := lw_g (lw_at lw_m8 73 rfl) rfl
theorem q1851 : (Jvm.Cond.selects "PipelineSimulator" ({ cls := "PipelineSimulator", name := "rescale", desc := "(II)I" } : Jvm.MethodName) ({ cls := "PipelineSimulator", name := "rescale", desc := "(II)I" } : Jvm.MethodName)) ∈ lw_all := lw_g (lw_at lw_m8 74 rfl) rfl
theorem q1852 : (Jvm.Cond.code ({ cls := "PipelineSimulator", name := "rescale", desc := "(II)I" } : Jvm.MethodName) prog_1_method_25_code (6 : Nat) (Option.some Jvm.ClassFile.FieldType.int)) ∈ lw_all := lw_g (lw_at lw_m8 75 rfl) rfl
theorem q1853 : (Jvm.Cond.constant "PipelineSimulator" (308 : Nat) (-1000000001 : Int32)) ∈ lw_all := lw_g (lw_at lw_m8 76 rfl) rfl
theorem q1854 : (Jvm.Cond.constantLong "PipelineSimulator" (309 : Nat) (3 : Int64)) ∈ lw_all := lw_g (lw_at lw_m8 77 rfl) rfl
theorem q1855 : (Jvm.Cond.methodLink "PipelineSimulator" (311 : Nat) ({ cls := "PipelineSimulator", name := "fail", desc := "()I" } : Jvm.MethodName)) ∈ lw_all := lw_g (lw_at lw_m8 78 rfl) rfl
theorem q1856 : (Jvm.Cond.methodLink "PipelineSimulator" (314 : Nat) ({ cls := "PipelineSimulator$KeyStates", name := "has", desc := "(I)Z" } : Jvm.MethodName)) ∈ lw_all := lw_g (lw_at lw_m8 79 rfl) rfl
theorem q1857 : (Jvm.Cond.methodLink "PipelineSimulator" (318 : Nat) ({ cls := "PipelineSimulator", name := "home", desc := "(II)I" } : Jvm.MethodName)) ∈ lw_all := lw_g (lw_at lw_m8 80 rfl) rfl
theorem q1858 : (Jvm.Cond.methodLink "PipelineSimulator" (322 : Nat) ({ cls := "PipelineSimulator", name := "rebuild", desc := "(I)V" } : Jvm.MethodName)) ∈ lw_all := lw_g (lw_at lw_m8 81 rfl) rfl
theorem q1859 : (Jvm.Cond.privateMethod ({ cls := "PipelineSimulator", name := "rebuild", desc := "(I)V" } : Jvm.MethodName)) ∈ lw_tbl := lw_at lw_m8 82 rfl
theorem q1860 : (Jvm.Cond.instanceMethod ({ cls := "PipelineSimulator", name := "rebuild", desc := "(I)V" } : Jvm.MethodName)) ∈ lw_all := lw_g (lw_at lw_m8 83 rfl) rfl
theorem q1861 : (Jvm.Cond.code ({ cls := "PipelineSimulator", name := "rebuild", desc := "(I)V" } : Jvm.MethodName) prog_1_method_26_code (5 : Nat) (Option.none : Option Jvm.ClassFile.FieldType)) ∈ lw_all := lw_g (lw_at lw_m8 84 rfl) rfl
theorem q1863 : (Jvm.Cond.instanceMethod ({ cls := "PipelineSimulator", name := "count", desc := "(I)I" } : Jvm.MethodName)) ∈ lw_all := lw_g (lw_at lw_m8 86 rfl) rfl
theorem q1864 : (Jvm.Cond.selects "PipelineSimulator" ({ cls := "PipelineSimulator", name := "count", desc := "(I)I" } : Jvm.MethodName) ({ cls := "PipelineSimulator", name := "count", desc := "(I)I" } : Jvm.MethodName)) ∈ lw_all := lw_g (lw_at lw_m8 87 rfl) rfl
theorem q1865 : (Jvm.Cond.code ({ cls := "PipelineSimulator", name := "count", desc := "(I)I" } : Jvm.MethodName) prog_1_method_29_code (2 : Nat) (Option.some Jvm.ClassFile.FieldType.int)) ∈ lw_all := lw_g (lw_at lw_m8 88 rfl) rfl
theorem q1866 : (Jvm.Cond.methodLink "PipelineSimulator" (331 : Nat) ({ cls := "PipelineSimulator", name := "effects", desc := "()I" } : Jvm.MethodName)) ∈ lw_all := lw_g (lw_at lw_m8 89 rfl) rfl
theorem q1867 : (Jvm.Cond.privateMethod ({ cls := "PipelineSimulator", name := "effects", desc := "()I" } : Jvm.MethodName)) ∈ lw_tbl := lw_at lw_m8 90 rfl
theorem q1868 : (Jvm.Cond.instanceMethod ({ cls := "PipelineSimulator", name := "effects", desc := "()I" } : Jvm.MethodName)) ∈ lw_all := lw_g (lw_at lw_m8 91 rfl) rfl
theorem q1869 : (Jvm.Cond.code ({ cls := "PipelineSimulator", name := "effects", desc := "()I" } : Jvm.MethodName) prog_1_method_30_code (3 : Nat) (Option.some Jvm.ClassFile.FieldType.int)) ∈ lw_all := lw_g (lw_at lw_m8 92 rfl) rfl
theorem q1870 : (Jvm.Cond.methodLink "PipelineSimulator" (334 : Nat) ({ cls := "PipelineSimulator$KeyStates", name := "second", desc := "(I)I" } : Jvm.MethodName)) ∈ lw_all := lw_g (lw_at lw_m8 93 rfl) rfl
theorem q1872 : (Jvm.Cond.instanceMethod ({ cls := "PipelineSimulator", name := "operator", desc := "(II)I" } : Jvm.MethodName)) ∈ lw_all := lw_g (lw_at lw_m8 95 rfl) rfl
theorem q1873 : (Jvm.Cond.selects "PipelineSimulator" ({ cls := "PipelineSimulator", name := "operator", desc := "(II)I" } : Jvm.MethodName) ({ cls := "PipelineSimulator", name := "operator", desc := "(II)I" } : Jvm.MethodName)) ∈ lw_all := lw_g (lw_at lw_m8 96 rfl) rfl
theorem q1874 : (Jvm.Cond.code ({ cls := "PipelineSimulator", name := "operator", desc := "(II)I" } : Jvm.MethodName) prog_1_method_31_code (4 : Nat) (Option.some Jvm.ClassFile.FieldType.int)) ∈ lw_all := lw_g (lw_at lw_m8 97 rfl) rfl
theorem q1875 : (Jvm.Cond.methodLink "PipelineSimulator" (328 : Nat) ({ cls := "PipelineSimulator", name := "isOperator", desc := "(I)Z" } : Jvm.MethodName)) ∈ lw_all := lw_g (lw_at lw_m8 98 rfl) rfl
theorem q1876 : (Jvm.Cond.privateMethod ({ cls := "PipelineSimulator", name := "isOperator", desc := "(I)Z" } : Jvm.MethodName)) ∈ lw_tbl := lw_at lw_m8 99 rfl
theorem q1877 : (Jvm.Cond.instanceMethod ({ cls := "PipelineSimulator", name := "isOperator", desc := "(I)Z" } : Jvm.MethodName)) ∈ lw_all := lw_g (lw_at lw_m8 100 rfl) rfl
theorem q1878 : (Jvm.Cond.code ({ cls := "PipelineSimulator", name := "isOperator", desc := "(I)Z" } : Jvm.MethodName) prog_1_method_27_code (2 : Nat) (Option.some Jvm.ClassFile.FieldType.boolean)) ∈ lw_all := lw_g (lw_at lw_m8 101 rfl) rfl
theorem q1880 : (Jvm.Cond.instanceMethod ({ cls := "PipelineSimulator", name := "instance", desc := "(III)I" } : Jvm.MethodName)) ∈ lw_all := lw_g (lw_at lw_m8 103 rfl) rfl
theorem q1881 : (Jvm.Cond.selects "PipelineSimulator" ({ cls := "PipelineSimulator", name := "instance", desc := "(III)I" } : Jvm.MethodName) ({ cls := "PipelineSimulator", name := "instance", desc := "(III)I" } : Jvm.MethodName)) ∈ lw_all := lw_g (lw_at lw_m8 104 rfl) rfl
theorem q1882 : (Jvm.Cond.code ({ cls := "PipelineSimulator", name := "instance", desc := "(III)I" } : Jvm.MethodName) prog_1_method_32_code (5 : Nat) (Option.some Jvm.ClassFile.FieldType.int)) ∈ lw_all := lw_g (lw_at lw_m8 105 rfl) rfl
theorem q1883 : (Jvm.Cond.methodLink "PipelineSimulator" (359 : Nat) ({ cls := "PipelineSimulator", name := "isInstance", desc := "(II)Z" } : Jvm.MethodName)) ∈ lw_all := lw_g (lw_at lw_m8 106 rfl) rfl
theorem q1884 : (Jvm.Cond.privateMethod ({ cls := "PipelineSimulator", name := "isInstance", desc := "(II)Z" } : Jvm.MethodName)) ∈ lw_tbl := lw_at lw_m8 107 rfl
theorem q1885 : (Jvm.Cond.instanceMethod ({ cls := "PipelineSimulator", name := "isInstance", desc := "(II)Z" } : Jvm.MethodName)) ∈ lw_all := lw_g (lw_at lw_m8 108 rfl) rfl
theorem q1886 : (Jvm.Cond.code ({ cls := "PipelineSimulator", name := "isInstance", desc := "(II)Z" } : Jvm.MethodName) prog_1_method_28_code (3 : Nat) (Option.some Jvm.ClassFile.FieldType.boolean)) ∈ lw_all := lw_g (lw_at lw_m8 109 rfl) rfl
theorem q1887 : (Jvm.Cond.methodLink "PipelineSimulator" (363 : Nat) ({ cls := "PipelineSimulator$Instance", name := "stopped", desc := "()I" } : Jvm.MethodName)) ∈ lw_all := lw_g (lw_at lw_m8 110 rfl) rfl
theorem q1891 : (Jvm.Cond.methodLink "PipelineSimulator" (369 : Nat) ({ cls := "PipelineSimulator$Instance", name := "keys", desc := "()I" } : Jvm.MethodName)) ∈ lw_all := lw_g (lw_at lw_m8 114 rfl) rfl
theorem q1897 : (Jvm.Cond.instanceMethod ({ cls := "PipelineSimulator", name := "channel", desc := "(IIII)I" } : Jvm.MethodName)) ∈ lw_all := lw_g (lw_at lw_m8 120 rfl) rfl
theorem q1898 : (Jvm.Cond.selects "PipelineSimulator" ({ cls := "PipelineSimulator", name := "channel", desc := "(IIII)I" } : Jvm.MethodName) ({ cls := "PipelineSimulator", name := "channel", desc := "(IIII)I" } : Jvm.MethodName)) ∈ lw_all := lw_g (lw_at lw_m8 121 rfl) rfl
theorem q1899 : (Jvm.Cond.code ({ cls := "PipelineSimulator", name := "channel", desc := "(IIII)I" } : Jvm.MethodName) prog_1_method_33_code (6 : Nat) (Option.some Jvm.ClassFile.FieldType.int)) ∈ lw_all := lw_g (lw_at lw_m8 122 rfl) rfl
theorem q1900 : (Jvm.Cond.methodLink "PipelineSimulator" (372 : Nat) ({ cls := "PipelineSimulator", name := "channel", desc := "(III)LPipelineSimulator$Channel;" } : Jvm.MethodName)) ∈ lw_all := lw_g (lw_at lw_m8 123 rfl) rfl
theorem q1901 : (Jvm.Cond.methodLink "PipelineSimulator" (380 : Nat) ({ cls := "java/util/ArrayDeque", name := "size", desc := "()I" } : Jvm.MethodName)) ∈ lw_all := lw_g (lw_at lw_m8 124 rfl) rfl
theorem q1902 : (Jvm.Cond.methodLink "PipelineSimulator" (387 : Nat) ({ cls := "PipelineSimulator$Batch", name := "size", desc := "()I" } : Jvm.MethodName)) ∈ lw_all := lw_g (lw_at lw_m8 125 rfl) rfl
theorem q1904 : (Jvm.Cond.instanceMethod ({ cls := "PipelineSimulator", name := "state", desc := "(III)I" } : Jvm.MethodName)) ∈ lw_all := lw_g (lw_at lw_m8 127 rfl) rfl
theorem q1905 : (Jvm.Cond.selects "PipelineSimulator" ({ cls := "PipelineSimulator", name := "state", desc := "(III)I" } : Jvm.MethodName) ({ cls := "PipelineSimulator", name := "state", desc := "(III)I" } : Jvm.MethodName)) ∈ lw_all := lw_g (lw_at lw_m8 128 rfl) rfl
theorem q1906 : (Jvm.Cond.code ({ cls := "PipelineSimulator", name := "state", desc := "(III)I" } : Jvm.MethodName) prog_1_method_36_code (4 : Nat) (Option.some Jvm.ClassFile.FieldType.int)) ∈ lw_all := lw_g (lw_at lw_m8 129 rfl) rfl
theorem q1907 : (Jvm.Cond.methodLink "PipelineSimulator" (397 : Nat) ({ cls := "PipelineSimulator", name := "isStateOf", desc := "(II)Z" } : Jvm.MethodName)) ∈ lw_all := lw_g (lw_at lw_m8 130 rfl) rfl
theorem q1908 : (Jvm.Cond.privateMethod ({ cls := "PipelineSimulator", name := "isStateOf", desc := "(II)Z" } : Jvm.MethodName)) ∈ lw_tbl := lw_at lw_m8 131 rfl
theorem q1909 : (Jvm.Cond.instanceMethod ({ cls := "PipelineSimulator", name := "isStateOf", desc := "(II)Z" } : Jvm.MethodName)) ∈ lw_all := lw_g (lw_at lw_m8 132 rfl) rfl
theorem q1910 : (Jvm.Cond.code ({ cls := "PipelineSimulator", name := "isStateOf", desc := "(II)Z" } : Jvm.MethodName) prog_1_method_34_code (3 : Nat) (Option.some Jvm.ClassFile.FieldType.boolean)) ∈ lw_all := lw_g (lw_at lw_m8 133 rfl) rfl
theorem q1911 : (Jvm.Cond.methodLink "PipelineSimulator" (391 : Nat) ({ cls := "PipelineSimulator$Operator", name := "isKeyed", desc := "()Z" } : Jvm.MethodName)) ∈ lw_all := lw_g (lw_at lw_m8 134 rfl) rfl
theorem q1912 : (Jvm.Cond.methodLink "PipelineSimulator" (400 : Nat) ({ cls := "PipelineSimulator", name := "number", desc := "(LPipelineSimulator$KeyStates;II)I" } : Jvm.MethodName)) ∈ lw_all := lw_g (lw_at lw_m8 135 rfl) rfl
theorem q1913 : (Jvm.Cond.static ({ cls := "PipelineSimulator", name := "number", desc := "(LPipelineSimulator$KeyStates;II)I" } : Jvm.MethodName)) ∈ lw_all := lw_g (lw_at lw_m8 136 rfl) rfl
theorem q1914 : (Jvm.Cond.code ({ cls := "PipelineSimulator", name := "number", desc := "(LPipelineSimulator$KeyStates;II)I" } : Jvm.MethodName) prog_1_method_35_code (3 : Nat) (Option.some Jvm.ClassFile.FieldType.int)) ∈ lw_all := lw_g (lw_at lw_m8 137 rfl) rfl
theorem q1915 : (Jvm.Cond.methodLink "PipelineSimulator" (394 : Nat) ({ cls := "PipelineSimulator$KeyStates", name := "number", desc := "(II)I" } : Jvm.MethodName)) ∈ lw_all := lw_g (lw_at lw_m8 138 rfl) rfl
theorem q1921 : (Jvm.Cond.instanceMethod ({ cls := "PipelineSimulator", name := "savedState", desc := "(III)I" } : Jvm.MethodName)) ∈ lw_all := lw_g (lw_at lw_m8 144 rfl) rfl
theorem q1922 : (Jvm.Cond.selects "PipelineSimulator" ({ cls := "PipelineSimulator", name := "savedState", desc := "(III)I" } : Jvm.MethodName) ({ cls := "PipelineSimulator", name := "savedState", desc := "(III)I" } : Jvm.MethodName)) ∈ lw_all := lw_g (lw_at lw_m8 145 rfl) rfl
theorem q1923 : (Jvm.Cond.code ({ cls := "PipelineSimulator", name := "savedState", desc := "(III)I" } : Jvm.MethodName) prog_1_method_37_code (4 : Nat) (Option.some Jvm.ClassFile.FieldType.int)) ∈ lw_all := lw_g (lw_at lw_m8 146 rfl) rfl
theorem q1925 : (Jvm.Cond.instanceMethod ({ cls := "PipelineSimulator", name := "plain", desc := "(II)I" } : Jvm.MethodName)) ∈ lw_all := lw_g (lw_at lw_m8 148 rfl) rfl
theorem q1926 : (Jvm.Cond.selects "PipelineSimulator" ({ cls := "PipelineSimulator", name := "plain", desc := "(II)I" } : Jvm.MethodName) ({ cls := "PipelineSimulator", name := "plain", desc := "(II)I" } : Jvm.MethodName)) ∈ lw_all := lw_g (lw_at lw_m8 149 rfl) rfl
theorem q1927 : (Jvm.Cond.code ({ cls := "PipelineSimulator", name := "plain", desc := "(II)I" } : Jvm.MethodName) prog_1_method_39_code (5 : Nat) (Option.some Jvm.ClassFile.FieldType.int)) ∈ lw_all := lw_g (lw_at lw_m8 150 rfl) rfl
theorem q1928 : (Jvm.Cond.classLink "PipelineSimulator" (415 : Nat) "PipelineSimulator$Plain") ∈ lw_all := lw_g (lw_at lw_m8 151 rfl) rfl
theorem q1930 : (Jvm.Cond.methodLink "PipelineSimulator" (417 : Nat) ({ cls := "PipelineSimulator$Plain", name := "<init>", desc := "(LPipelineSimulator;I)V" } : Jvm.MethodName)) ∈ lw_all := lw_g (lw_at lw_m8 153 rfl) rfl
theorem q1952 : (Jvm.Cond.methodLink "PipelineSimulator" (420 : Nat) ({ cls := "PipelineSimulator$Plain", name := "take", desc := "(II)V" } : Jvm.MethodName)) ∈ lw_all := lw_g (lw_at lw_m8 175 rfl) rfl
theorem q1953 : (Jvm.Cond.methodLink "PipelineSimulator" (423 : Nat) ({ cls := "PipelineSimulator$Plain", name := "last", desc := "()LPipelineSimulator$KeyStates;" } : Jvm.MethodName)) ∈ lw_all := lw_g (lw_at lw_m8 176 rfl) rfl
theorem q1959 : (Jvm.Cond.instanceMethod ({ cls := "PipelineSimulator", name := "explain", desc := "(II)I" } : Jvm.MethodName)) ∈ lw_all := lw_g (lw_at lw_m8 182 rfl) rfl
theorem q1960 : (Jvm.Cond.selects "PipelineSimulator" ({ cls := "PipelineSimulator", name := "explain", desc := "(II)I" } : Jvm.MethodName) ({ cls := "PipelineSimulator", name := "explain", desc := "(II)I" } : Jvm.MethodName)) ∈ lw_all := lw_g (lw_at lw_m8 183 rfl) rfl
theorem q1961 : (Jvm.Cond.codeWith ({ cls := "PipelineSimulator", name := "explain", desc := "(II)I" } : Jvm.MethodName) prog_1_method_40_code (6 : Nat) (Option.some Jvm.ClassFile.FieldType.int) [((20 : Nat), (32 : Nat), (35 : Nat), (430 : Nat))]) ∈ lw_all := lw_g (lw_at lw_m8 184 rfl) rfl
theorem q1962 : (Jvm.Cond.classLink "PipelineSimulator" (430 : Nat) "PipelineSimulator$WaitException") ∈ lw_all := lw_g (lw_at lw_m8 185 rfl) rfl
theorem q1963 : (Jvm.Cond.methodLink "PipelineSimulator" (427 : Nat) ({ cls := "PipelineSimulator$Instance", name := "explain", desc := "(I)V" } : Jvm.MethodName)) ∈ lw_all := lw_g (lw_at lw_m8 186 rfl) rfl
theorem q1996 : (Jvm.Cond.fieldLink "PipelineSimulator" (438 : Nat) "PipelineSimulator$WaitException" "place" "I") ∈ lw_all := lw_g (lw_at lw_m8 219 rfl) rfl
theorem q1998 : (Jvm.Cond.fieldLink "PipelineSimulator" (441 : Nat) "PipelineSimulator$WaitException" "reason" "I") ∈ lw_all := lw_g (lw_at lw_m8 221 rfl) rfl
theorem q2027 : (Jvm.Cond.methodLink "PipelineSimulator" (432 : Nat) ({ cls := "java/lang/Throwable", name := "getCause", desc := "()Ljava/lang/Throwable;" } : Jvm.MethodName)) ∈ lw_all := lw_g (lw_at lw_m9 10 rfl) rfl
theorem q2035 : (Jvm.Cond.instanceMethod ({ cls := "PipelineSimulator", name := "explanation", desc := "(II)I" } : Jvm.MethodName)) ∈ lw_all := lw_g (lw_at lw_m9 18 rfl) rfl
theorem q2036 : (Jvm.Cond.selects "PipelineSimulator" ({ cls := "PipelineSimulator", name := "explanation", desc := "(II)I" } : Jvm.MethodName) ({ cls := "PipelineSimulator", name := "explanation", desc := "(II)I" } : Jvm.MethodName)) ∈ lw_all := lw_g (lw_at lw_m9 19 rfl) rfl
theorem q2037 : (Jvm.Cond.code ({ cls := "PipelineSimulator", name := "explanation", desc := "(II)I" } : Jvm.MethodName) prog_1_method_41_code (3 : Nat) (Option.some Jvm.ClassFile.FieldType.int)) ∈ lw_all := lw_g (lw_at lw_m9 20 rfl) rfl
theorem q2039 : (Jvm.Cond.instanceMethod ({ cls := "PipelineSimulator", name := "append", desc := "(II)I" } : Jvm.MethodName)) ∈ lw_all := lw_g (lw_at lw_m9 22 rfl) rfl
theorem q2040 : (Jvm.Cond.selects "PipelineSimulator" ({ cls := "PipelineSimulator", name := "append", desc := "(II)I" } : Jvm.MethodName) ({ cls := "PipelineSimulator", name := "append", desc := "(II)I" } : Jvm.MethodName)) ∈ lw_all := lw_g (lw_at lw_m9 23 rfl) rfl
theorem q2041 : (Jvm.Cond.code ({ cls := "PipelineSimulator", name := "append", desc := "(II)I" } : Jvm.MethodName) prog_1_method_42_code (4 : Nat) (Option.some Jvm.ClassFile.FieldType.int)) ∈ lw_all := lw_g (lw_at lw_m9 24 rfl) rfl
theorem q2042 : (Jvm.Cond.constantLong "PipelineSimulator" (444 : Nat) (127 : Int64)) ∈ lw_all := lw_g (lw_at lw_m9 25 rfl) rfl
theorem q2043 : (Jvm.Cond.constantLong "PipelineSimulator" (446 : Nat) (60 : Int64)) ∈ lw_all := lw_g (lw_at lw_m9 26 rfl) rfl
theorem q2044 : (Jvm.Cond.methodLink "PipelineSimulator" (448 : Nat) ({ cls := "java/lang/StringBuilder", name := "length", desc := "()I" } : Jvm.MethodName)) ∈ lw_all := lw_g (lw_at lw_m9 27 rfl) rfl
theorem q2045 : (Jvm.Cond.methodLink "PipelineSimulator" (451 : Nat) ({ cls := "java/lang/StringBuilder", name := "append", desc := "(C)Ljava/lang/StringBuilder;" } : Jvm.MethodName)) ∈ lw_all := lw_g (lw_at lw_m9 28 rfl) rfl
theorem q2066 : (Jvm.Cond.instanceMethod ({ cls := "PipelineSimulator", name := "readPipeline", desc := "()I" } : Jvm.MethodName)) ∈ lw_all := lw_g (lw_at lw_m9 49 rfl) rfl
theorem q2067 : (Jvm.Cond.selects "PipelineSimulator" ({ cls := "PipelineSimulator", name := "readPipeline", desc := "()I" } : Jvm.MethodName) ({ cls := "PipelineSimulator", name := "readPipeline", desc := "()I" } : Jvm.MethodName)) ∈ lw_all := lw_g (lw_at lw_m9 50 rfl) rfl
theorem q2068 : (Jvm.Cond.codeWith ({ cls := "PipelineSimulator", name := "readPipeline", desc := "()I" } : Jvm.MethodName) prog_1_method_43_code (4 : Nat) (Option.some Jvm.ClassFile.FieldType.int) [((0 : Nat), (29 : Nat), (39 : Nat), (465 : Nat)), ((0 : Nat), (29 : Nat), (59 : Nat), (0 : Nat)), ((39 : Nat), (49 : Nat), (59 : Nat), (0 : Nat))]) ∈ lw_all := lw_g (lw_at lw_m9 51 rfl) rfl
theorem q2069 : (Jvm.Cond.classLink "PipelineSimulator" (465 : Nat) "PipelineSimulator$SyntaxException") ∈ lw_all := lw_g (lw_at lw_m9 52 rfl) rfl
theorem q2070 : (Jvm.Cond.classLink "PipelineSimulator" (455 : Nat) "PipelineSimulator$Parser") ∈ lw_all := lw_g (lw_at lw_m9 53 rfl) rfl
theorem q2072 : (Jvm.Cond.methodLinkNest "PipelineSimulator" (457 : Nat) ({ cls := "PipelineSimulator$Parser", name := "<init>", desc := "(LPipelineSimulator;)V" } : Jvm.MethodName) "PipelineSimulator") ∈ lw_tbl := lw_at lw_m9 55 rfl
theorem q2088 : (Jvm.Cond.methodLink "PipelineSimulator" (458 : Nat) ({ cls := "PipelineSimulator$Parser", name := "parse", desc := "()Ljava/util/ArrayList;" } : Jvm.MethodName)) ∈ lw_all := lw_g (lw_at lw_m9 71 rfl) rfl
theorem q2184 : (Jvm.Cond.fieldLink "PipelineSimulator" (467 : Nat) "PipelineSimulator$SyntaxException" "offset" "I") ∈ lw_all := lw_g (lw_at lw_m9 167 rfl) rfl
theorem q2206 : (Jvm.Cond.static ({ cls := "PipelineSimulator", name := "operator", desc := "(IIII)LPipelineSimulator$Operator;" } : Jvm.MethodName)) ∈ lw_all := lw_g (lw_at lw_m9 189 rfl) rfl
theorem q2207 : (Jvm.Cond.code ({ cls := "PipelineSimulator", name := "operator", desc := "(IIII)LPipelineSimulator$Operator;" } : Jvm.MethodName) prog_1_method_7_code (4 : Nat) (Option.some (Jvm.ClassFile.FieldType.object "PipelineSimulator$Operator"))) ∈ lw_all := lw_g (lw_at lw_m9 190 rfl) rfl
theorem q2208 : (Jvm.Cond.classLink "PipelineSimulator" (39 : Nat) "PipelineSimulator$Mapper") ∈ lw_all := lw_g (lw_at lw_m9 191 rfl) rfl
theorem q2210 : (Jvm.Cond.methodLink "PipelineSimulator" (41 : Nat) ({ cls := "PipelineSimulator$Mapper", name := "<init>", desc := "(III)V" } : Jvm.MethodName)) ∈ lw_all := lw_g (lw_at lw_m9 193 rfl) rfl
theorem q2224 : (Jvm.Cond.classLink "PipelineSimulator" (44 : Nat) "PipelineSimulator$Filter") ∈ lw_all := lw_g (lw_at lw_m9 207 rfl) rfl
theorem q2226 : (Jvm.Cond.methodLink "PipelineSimulator" (46 : Nat) ({ cls := "PipelineSimulator$Filter", name := "<init>", desc := "(III)V" } : Jvm.MethodName)) ∈ lw_all := lw_g (lw_at lw_m9 209 rfl) rfl
theorem q2240 : (Jvm.Cond.classLink "PipelineSimulator" (47 : Nat) "PipelineSimulator$Rekeyer") ∈ lw_all := lw_g (lw_at lw_m9 223 rfl) rfl
theorem q2242 : (Jvm.Cond.methodLink "PipelineSimulator" (49 : Nat) ({ cls := "PipelineSimulator$Rekeyer", name := "<init>", desc := "(III)V" } : Jvm.MethodName)) ∈ lw_all := lw_g (lw_at lw_m9 225 rfl) rfl
theorem q2256 : (Jvm.Cond.classLink "PipelineSimulator" (50 : Nat) "PipelineSimulator$Copier") ∈ lw_all := lw_g (lw_at lw_m9 239 rfl) rfl
theorem q2258 : (Jvm.Cond.methodLink "PipelineSimulator" (52 : Nat) ({ cls := "PipelineSimulator$Copier", name := "<init>", desc := "(II)V" } : Jvm.MethodName)) ∈ lw_all := lw_g (lw_at lw_m10 1 rfl) rfl
theorem q2272 : (Jvm.Cond.classLink "PipelineSimulator" (55 : Nat) "PipelineSimulator$Summer") ∈ lw_all := lw_g (lw_at lw_m10 15 rfl) rfl
theorem q2274 : (Jvm.Cond.methodLink "PipelineSimulator" (57 : Nat) ({ cls := "PipelineSimulator$Summer", name := "<init>", desc := "(II)V" } : Jvm.MethodName)) ∈ lw_all := lw_g (lw_at lw_m10 17 rfl) rfl
theorem q2288 : (Jvm.Cond.classLink "PipelineSimulator" (58 : Nat) "PipelineSimulator$Changes") ∈ lw_all := lw_g (lw_at lw_m10 31 rfl) rfl
theorem q2290 : (Jvm.Cond.methodLink "PipelineSimulator" (60 : Nat) ({ cls := "PipelineSimulator$Changes", name := "<init>", desc := "(I)V" } : Jvm.MethodName)) ∈ lw_all := lw_g (lw_at lw_m10 33 rfl) rfl
theorem q2304 : (Jvm.Cond.classLink "PipelineSimulator" (63 : Nat) "PipelineSimulator$Greatest") ∈ lw_all := lw_g (lw_at lw_m10 47 rfl) rfl
theorem q2306 : (Jvm.Cond.methodLink "PipelineSimulator" (65 : Nat) ({ cls := "PipelineSimulator$Greatest", name := "<init>", desc := "(I)V" } : Jvm.MethodName)) ∈ lw_all := lw_g (lw_at lw_m10 49 rfl) rfl
theorem q2323 : (Jvm.Cond.methodLink "PipelineSimulator" (462 : Nat) ({ cls := "java/lang/StringBuilder", name := "setLength", desc := "(I)V" } : Jvm.MethodName)) ∈ lw_all := lw_g (lw_at lw_m10 66 rfl) rfl
theorem q2344 : (Jvm.Cond.instanceMethod ({ cls := "PipelineSimulator", name := "write", desc := "()I" } : Jvm.MethodName)) ∈ lw_all := lw_g (lw_at lw_m10 87 rfl) rfl
theorem q2345 : (Jvm.Cond.selects "PipelineSimulator" ({ cls := "PipelineSimulator", name := "write", desc := "()I" } : Jvm.MethodName) ({ cls := "PipelineSimulator", name := "write", desc := "()I" } : Jvm.MethodName)) ∈ lw_all := lw_g (lw_at lw_m10 88 rfl) rfl
theorem q2346 : (Jvm.Cond.code ({ cls := "PipelineSimulator", name := "write", desc := "()I" } : Jvm.MethodName) prog_1_method_44_code (2 : Nat) (Option.some Jvm.ClassFile.FieldType.int)) ∈ lw_all := lw_g (lw_at lw_m10 89 rfl) rfl
theorem q2347 : (Jvm.Cond.methodLink "PipelineSimulator" (469 : Nat) ({ cls := "PipelineSimulator$Operator", name := "write", desc := "(Ljava/lang/StringBuilder;)V" } : Jvm.MethodName)) ∈ lw_all := lw_g (lw_at lw_m10 90 rfl) rfl
theorem q2403 : (Jvm.Cond.instanceMethod ({ cls := "PipelineSimulator", name := "written", desc := "(I)I" } : Jvm.MethodName)) ∈ lw_all := lw_g (lw_at lw_m10 146 rfl) rfl
theorem q2404 : (Jvm.Cond.selects "PipelineSimulator" ({ cls := "PipelineSimulator", name := "written", desc := "(I)I" } : Jvm.MethodName) ({ cls := "PipelineSimulator", name := "written", desc := "(I)I" } : Jvm.MethodName)) ∈ lw_all := lw_g (lw_at lw_m10 147 rfl) rfl
theorem q2405 : (Jvm.Cond.code ({ cls := "PipelineSimulator", name := "written", desc := "(I)I" } : Jvm.MethodName) prog_1_method_45_code (2 : Nat) (Option.some Jvm.ClassFile.FieldType.int)) ∈ lw_all := lw_g (lw_at lw_m10 148 rfl) rfl
theorem q2406 : (Jvm.Cond.methodLink "PipelineSimulator" (473 : Nat) ({ cls := "java/lang/StringBuilder", name := "charAt", desc := "(I)C" } : Jvm.MethodName)) ∈ lw_all := lw_g (lw_at lw_m10 149 rfl) rfl
theorem q2946 : (Jvm.Cond.castable "PipelineSimulator" "java/lang/Object") ∈ lw_tbl := lw_at lw_m12 209 rfl
theorem in_X0 : ∀ w ∈ wsX00, w ∈ lw_all := lw_in wsX00 [753, 755, 757, 759, 761, 763, 765, 767, 769, 771, 773, 775, 777, 779, 781, 783, 785, 787, 789, 791, 793, 795, 797] (by decide +kernel) (by decide +kernel)
