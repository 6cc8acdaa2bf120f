/-! PipelineSimulator$Instance -/
set_option maxRecDepth 100000
def RX9 : String := "PipelineSimulator$Instance"
def TX9 : u_T := fun k => match k with
  | 0 => ("PipelineSimulator$Instance", "operator", "I", true)
  | 1 => ("PipelineSimulator$Instance", "number", "I", true)
  | 2 => ("PipelineSimulator$Instance", "keys", "[I", true)
  | 3 => ("PipelineSimulator$Instance", "values", "[I", true)
  | 4 => ("PipelineSimulator$Instance", "births", "[I", true)
  | 5 => ("PipelineSimulator$Instance", "from", "I", false)
  | 6 => ("PipelineSimulator$Instance", "till", "I", false)
  | 7 => ("PipelineSimulator$Instance", "birth", "I", false)
  | 8 => ("PipelineSimulator$Instance", "holdsBarrier", "Z", false)
  | 9 => ("PipelineSimulator$Instance", "stopped", "Ljava/util/BitSet;", true)
  | 10 => ("PipelineSimulator$Instance", "pointer", "I", false)
  | 11 => ("PipelineSimulator$Instance", "counter", "LPipelineSimulator$Versions;", true)
  | _ => ("PipelineSimulator$Instance", "this$0", "LPipelineSimulator;", true)
def tyX9 : Nat → FieldType := fun k => match k with
  | 0 => .int
  | 1 => .int
  | 2 => .array .int
  | 3 => .array .int
  | 4 => .array .int
  | 5 => .int
  | 6 => .int
  | 7 => .int
  | 8 => .boolean
  | 9 => .object "java/util/BitSet"
  | 10 => .int
  | 11 => .object "PipelineSimulator$Versions"
  | _ => .object "PipelineSimulator"
abbrev wsX90 : List Cond := u_ws RX9 TX9 13
set_option maxRecDepth 100000 in
theorem nmX9 : ∀ a, a < 13 → ∀ b, b < 13 → a ≠ b → (TX9 a).2.1 ≠ (TX9 b).2.1 := by decide +kernel
set_option maxRecDepth 100000 in
theorem tyX9_ok : ∀ k, k < 13 → parseFieldDescriptor (TX9 k).2.2.1 = some (tyX9 k) := by decide +kernel
abbrev cX9_init : ByteArray := prog_10_method_1_code
def yX9_init : MethodName := ⟨RX9, "<init>", "(LPipelineSimulator;II)V"⟩
def dkwX9_init_2 : List UInt8 := [181, 0, 38, 42, 28, 181, 0, 41, 42, 29, 181, 0, 45, 177]
abbrev dktX9_init_2 : List UInt8 := dkwX9_init_2 ++ []
def dkwX9_init_1 : List UInt8 := [6, 188, 10, 181, 0, 22, 42, 187, 0, 25, 89, 6, 183, 0, 27, 181, 0, 30, 42, 184, 0, 34]
abbrev dktX9_init_1 : List UInt8 := dkwX9_init_1 ++ dktX9_init_2
def dkwX9_init_0 : List UInt8 := [42, 43, 181, 0, 3, 42, 183, 0, 9, 42, 6, 188, 10, 181, 0, 15, 42, 6, 188, 10, 181, 0, 19, 42]
abbrev dktX9_init_0 : List UInt8 := dkwX9_init_0 ++ dktX9_init_1
theorem dksX9_init_0 : cX9_init.data.toList.drop 0 = dktX9_init_0 := by decide +kernel
theorem dksX9_init_1 : cX9_init.data.toList.drop 24 = dktX9_init_1 := dk_seg dksX9_init_0 24 rfl rfl
theorem dksX9_init_2 : cX9_init.data.toList.drop 46 = dktX9_init_2 := dk_seg dksX9_init_1 22 rfl rfl
theorem dX9_init_0 : decode cX9_init 0 = .ok (.aload_n 0, 1) := dk_42 (dk_at dksX9_init_0 0 rfl rfl)
theorem dX9_init_1 : decode cX9_init 1 = .ok (.aload_n 1, 1) := dk_43 (dk_at dksX9_init_0 1 rfl rfl)
theorem dX9_init_2 : decode cX9_init 2 = .ok (.putfield 3, 3) := dk_181 0 3 (dk_at dksX9_init_0 2 rfl rfl)
theorem dX9_init_5 : decode cX9_init 5 = .ok (.aload_n 0, 1) := dk_42 (dk_at dksX9_init_0 5 rfl rfl)
theorem dX9_init_6 : decode cX9_init 6 = .ok (.invokespecial 9, 3) := dk_183 0 9 (dk_at dksX9_init_0 6 rfl rfl)
theorem dX9_init_9 : decode cX9_init 9 = .ok (.aload_n 0, 1) := dk_42 (dk_at dksX9_init_0 9 rfl rfl)
theorem dX9_init_10 : decode cX9_init 10 = .ok (.iconst 3, 1) := dk_6 (dk_at dksX9_init_0 10 rfl rfl)
theorem dX9_init_11 : decode cX9_init 11 = .ok (.newarray .int, 2) := dk_188_10 (dk_at dksX9_init_0 11 rfl rfl)
theorem dX9_init_13 : decode cX9_init 13 = .ok (.putfield 15, 3) := dk_181 0 15 (dk_at dksX9_init_0 13 rfl rfl)
theorem dX9_init_16 : decode cX9_init 16 = .ok (.aload_n 0, 1) := dk_42 (dk_at dksX9_init_0 16 rfl rfl)
theorem dX9_init_17 : decode cX9_init 17 = .ok (.iconst 3, 1) := dk_6 (dk_at dksX9_init_0 17 rfl rfl)
theorem dX9_init_18 : decode cX9_init 18 = .ok (.newarray .int, 2) := dk_188_10 (dk_at dksX9_init_0 18 rfl rfl)
theorem dX9_init_20 : decode cX9_init 20 = .ok (.putfield 19, 3) := dk_181 0 19 (dk_at dksX9_init_0 20 rfl rfl)
theorem dX9_init_23 : decode cX9_init 23 = .ok (.aload_n 0, 1) := dk_42 (dk_at dksX9_init_0 23 rfl rfl)
theorem dX9_init_24 : decode cX9_init 24 = .ok (.iconst 3, 1) := dk_6 (dk_at dksX9_init_1 0 rfl rfl)
theorem dX9_init_25 : decode cX9_init 25 = .ok (.newarray .int, 2) := dk_188_10 (dk_at dksX9_init_1 1 rfl rfl)
theorem dX9_init_27 : decode cX9_init 27 = .ok (.putfield 22, 3) := dk_181 0 22 (dk_at dksX9_init_1 3 rfl rfl)
theorem dX9_init_30 : decode cX9_init 30 = .ok (.aload_n 0, 1) := dk_42 (dk_at dksX9_init_1 6 rfl rfl)
theorem dX9_init_31 : decode cX9_init 31 = .ok (.new 25, 3) := dk_187 0 25 (dk_at dksX9_init_1 7 rfl rfl)
theorem dX9_init_34 : decode cX9_init 34 = .ok (.dup, 1) := dk_89 (dk_at dksX9_init_1 10 rfl rfl)
theorem dX9_init_35 : decode cX9_init 35 = .ok (.iconst 3, 1) := dk_6 (dk_at dksX9_init_1 11 rfl rfl)
theorem dX9_init_36 : decode cX9_init 36 = .ok (.invokespecial 27, 3) := dk_183 0 27 (dk_at dksX9_init_1 12 rfl rfl)
theorem dX9_init_39 : decode cX9_init 39 = .ok (.putfield 30, 3) := dk_181 0 30 (dk_at dksX9_init_1 15 rfl rfl)
theorem dX9_init_42 : decode cX9_init 42 = .ok (.aload_n 0, 1) := dk_42 (dk_at dksX9_init_1 18 rfl rfl)
theorem dX9_init_43 : decode cX9_init 43 = .ok (.invokestatic 34, 3) := dk_184 0 34 (dk_at dksX9_init_1 19 rfl rfl)
theorem dX9_init_46 : decode cX9_init 46 = .ok (.putfield 38, 3) := dk_181 0 38 (dk_at dksX9_init_2 0 rfl rfl)
theorem dX9_init_49 : decode cX9_init 49 = .ok (.aload_n 0, 1) := dk_42 (dk_at dksX9_init_2 3 rfl rfl)
theorem dX9_init_50 : decode cX9_init 50 = .ok (.iload_n 2, 1) := dk_28 (dk_at dksX9_init_2 4 rfl rfl)
theorem dX9_init_51 : decode cX9_init 51 = .ok (.putfield 41, 3) := dk_181 0 41 (dk_at dksX9_init_2 5 rfl rfl)
theorem dX9_init_54 : decode cX9_init 54 = .ok (.aload_n 0, 1) := dk_42 (dk_at dksX9_init_2 8 rfl rfl)
theorem dX9_init_55 : decode cX9_init 55 = .ok (.iload_n 3, 1) := dk_29 (dk_at dksX9_init_2 9 rfl rfl)
theorem dX9_init_56 : decode cX9_init 56 = .ok (.putfield 45, 3) := dk_181 0 45 (dk_at dksX9_init_2 10 rfl rfl)
theorem dX9_init_59 : decode cX9_init 59 = .ok (.return_, 1) := dk_177 (dk_at dksX9_init_2 13 rfl rfl)
abbrev cX9_waiting : ByteArray := prog_10_method_5_code
def yX9_waiting : MethodName := ⟨RX9, "waiting", "()I"⟩
def dkwX9_waiting_0 : List UInt8 := [42, 180, 0, 64, 42, 180, 0, 67, 100, 172]
abbrev dktX9_waiting_0 : List UInt8 := dkwX9_waiting_0 ++ []
theorem dksX9_waiting_0 : cX9_waiting.data.toList.drop 0 = dktX9_waiting_0 := by decide +kernel
theorem dX9_waiting_0 : decode cX9_waiting 0 = .ok (.aload_n 0, 1) := dk_42 (dk_at dksX9_waiting_0 0 rfl rfl)
theorem dX9_waiting_1 : decode cX9_waiting 1 = .ok (.getfield 64, 3) := dk_180 0 64 (dk_at dksX9_waiting_0 1 rfl rfl)
theorem dX9_waiting_4 : decode cX9_waiting 4 = .ok (.aload_n 0, 1) := dk_42 (dk_at dksX9_waiting_0 4 rfl rfl)
theorem dX9_waiting_5 : decode cX9_waiting 5 = .ok (.getfield 67, 3) := dk_180 0 67 (dk_at dksX9_waiting_0 5 rfl rfl)
theorem dX9_waiting_8 : decode cX9_waiting 8 = .ok (.isub, 1) := dk_100 (dk_at dksX9_waiting_0 8 rfl rfl)
theorem dX9_waiting_9 : decode cX9_waiting 9 = .ok (.ireturn, 1) := dk_172 (dk_at dksX9_waiting_0 9 rfl rfl)
abbrev cX9_work : ByteArray := prog_10_method_20_code
def yX9_work : MethodName := ⟨RX9, "work", "()V"⟩
def dkwX9_work_2 : List UInt8 := [180, 1, 10, 4, 96, 181, 1, 10, 177, 132, 1, 255, 167, 255, 206]
abbrev dktX9_work_2 : List UInt8 := dkwX9_work_2 ++ []
def dkwX9_work_1 : List UInt8 := [96, 181, 1, 4, 177, 27, 154, 0, 4, 177, 42, 182, 1, 7, 154, 0, 17, 42, 182, 0, 73, 89]
abbrev dktX9_work_1 : List UInt8 := dkwX9_work_1 ++ dktX9_work_2
def dkwX9_work_0 : List UInt8 := [42, 180, 0, 3, 180, 0, 254, 60, 42, 182, 1, 1, 154, 0, 17, 42, 182, 0, 73, 89, 180, 1, 4, 4]
abbrev dktX9_work_0 : List UInt8 := dkwX9_work_0 ++ dktX9_work_1
theorem dksX9_work_0 : cX9_work.data.toList.drop 0 = dktX9_work_0 := by decide +kernel
theorem dksX9_work_1 : cX9_work.data.toList.drop 24 = dktX9_work_1 := dk_seg dksX9_work_0 24 rfl rfl
theorem dksX9_work_2 : cX9_work.data.toList.drop 46 = dktX9_work_2 := dk_seg dksX9_work_1 22 rfl rfl
theorem dX9_work_0 : decode cX9_work 0 = .ok (.aload_n 0, 1) := dk_42 (dk_at dksX9_work_0 0 rfl rfl)
theorem dX9_work_1 : decode cX9_work 1 = .ok (.getfield 3, 3) := dk_180 0 3 (dk_at dksX9_work_0 1 rfl rfl)
theorem dX9_work_4 : decode cX9_work 4 = .ok (.getfield 254, 3) := dk_180 0 254 (dk_at dksX9_work_0 4 rfl rfl)
theorem dX9_work_7 : decode cX9_work 7 = .ok (.istore_n 1, 1) := dk_60 (dk_at dksX9_work_0 7 rfl rfl)
theorem dX9_work_8 : decode cX9_work 8 = .ok (.aload_n 0, 1) := dk_42 (dk_at dksX9_work_0 8 rfl rfl)
theorem dX9_work_9 : decode cX9_work 9 = .ok (.invokevirtual 257, 3) := dk_182 1 1 (dk_at dksX9_work_0 9 rfl rfl)
theorem dX9_work_12 : decode cX9_work 12 = .ok (.ifCond .ne 17, 3) := dk_154 0 17 (dk_at dksX9_work_0 12 rfl rfl)
theorem dX9_work_15 : decode cX9_work 15 = .ok (.aload_n 0, 1) := dk_42 (dk_at dksX9_work_0 15 rfl rfl)
theorem dX9_work_16 : decode cX9_work 16 = .ok (.invokevirtual 73, 3) := dk_182 0 73 (dk_at dksX9_work_0 16 rfl rfl)
theorem dX9_work_19 : decode cX9_work 19 = .ok (.dup, 1) := dk_89 (dk_at dksX9_work_0 19 rfl rfl)
theorem dX9_work_20 : decode cX9_work 20 = .ok (.getfield 260, 3) := dk_180 1 4 (dk_at dksX9_work_0 20 rfl rfl)
theorem dX9_work_23 : decode cX9_work 23 = .ok (.iconst 1, 1) := dk_4 (dk_at dksX9_work_0 23 rfl rfl)
theorem dX9_work_24 : decode cX9_work 24 = .ok (.iadd, 1) := dk_96 (dk_at dksX9_work_1 0 rfl rfl)
theorem dX9_work_25 : decode cX9_work 25 = .ok (.putfield 260, 3) := dk_181 1 4 (dk_at dksX9_work_1 1 rfl rfl)
theorem dX9_work_28 : decode cX9_work 28 = .ok (.return_, 1) := dk_177 (dk_at dksX9_work_1 4 rfl rfl)
theorem dX9_work_29 : decode cX9_work 29 = .ok (.iload_n 1, 1) := dk_27 (dk_at dksX9_work_1 5 rfl rfl)
theorem dX9_work_30 : decode cX9_work 30 = .ok (.ifCond .ne 4, 3) := dk_154 0 4 (dk_at dksX9_work_1 6 rfl rfl)
theorem dX9_work_33 : decode cX9_work 33 = .ok (.return_, 1) := dk_177 (dk_at dksX9_work_1 9 rfl rfl)
theorem dX9_work_34 : decode cX9_work 34 = .ok (.aload_n 0, 1) := dk_42 (dk_at dksX9_work_1 10 rfl rfl)
theorem dX9_work_35 : decode cX9_work 35 = .ok (.invokevirtual 263, 3) := dk_182 1 7 (dk_at dksX9_work_1 11 rfl rfl)
theorem dX9_work_38 : decode cX9_work 38 = .ok (.ifCond .ne 17, 3) := dk_154 0 17 (dk_at dksX9_work_1 14 rfl rfl)
theorem dX9_work_41 : decode cX9_work 41 = .ok (.aload_n 0, 1) := dk_42 (dk_at dksX9_work_1 17 rfl rfl)
theorem dX9_work_42 : decode cX9_work 42 = .ok (.invokevirtual 73, 3) := dk_182 0 73 (dk_at dksX9_work_1 18 rfl rfl)
theorem dX9_work_45 : decode cX9_work 45 = .ok (.dup, 1) := dk_89 (dk_at dksX9_work_1 21 rfl rfl)
theorem dX9_work_46 : decode cX9_work 46 = .ok (.getfield 266, 3) := dk_180 1 10 (dk_at dksX9_work_2 0 rfl rfl)
theorem dX9_work_49 : decode cX9_work 49 = .ok (.iconst 1, 1) := dk_4 (dk_at dksX9_work_2 3 rfl rfl)
theorem dX9_work_50 : decode cX9_work 50 = .ok (.iadd, 1) := dk_96 (dk_at dksX9_work_2 4 rfl rfl)
theorem dX9_work_51 : decode cX9_work 51 = .ok (.putfield 266, 3) := dk_181 1 10 (dk_at dksX9_work_2 5 rfl rfl)
theorem dX9_work_54 : decode cX9_work 54 = .ok (.return_, 1) := dk_177 (dk_at dksX9_work_2 8 rfl rfl)
theorem dX9_work_55 : decode cX9_work 55 = .ok (.iinc 1 (-1), 3) := dk_132 1 255 (dk_at dksX9_work_2 9 rfl rfl)
theorem dX9_work_58 : decode cX9_work 58 = .ok (.goto (-50), 3) := dk_167 255 206 (dk_at dksX9_work_2 12 rfl rfl)
abbrev cX9_flush : ByteArray := prog_10_method_19_code
def yX9_flush : MethodName := ⟨RX9, "flush", "()Z"⟩
def dkwX9_flush_2 : List UInt8 := [182, 0, 251, 4, 172]
abbrev dktX9_flush_2 : List UInt8 := dkwX9_flush_2 ++ []
def dkwX9_flush_1 : List UInt8 := [167, 255, 232, 42, 180, 0, 128, 154, 0, 5, 4, 172, 42, 182, 0, 248, 18, 124, 159, 0, 5, 3, 172, 42]
abbrev dktX9_flush_1 : List UInt8 := dkwX9_flush_1 ++ dktX9_flush_2
def dkwX9_flush_0 : List UInt8 := [42, 180, 0, 67, 42, 180, 0, 64, 162, 0, 19, 42, 182, 0, 242, 154, 0, 5, 3, 172, 42, 182, 0, 245]
abbrev dktX9_flush_0 : List UInt8 := dkwX9_flush_0 ++ dktX9_flush_1
theorem dksX9_flush_0 : cX9_flush.data.toList.drop 0 = dktX9_flush_0 := by decide +kernel
theorem dksX9_flush_1 : cX9_flush.data.toList.drop 24 = dktX9_flush_1 := dk_seg dksX9_flush_0 24 rfl rfl
theorem dksX9_flush_2 : cX9_flush.data.toList.drop 48 = dktX9_flush_2 := dk_seg dksX9_flush_1 24 rfl rfl
theorem dX9_flush_0 : decode cX9_flush 0 = .ok (.aload_n 0, 1) := dk_42 (dk_at dksX9_flush_0 0 rfl rfl)
theorem dX9_flush_1 : decode cX9_flush 1 = .ok (.getfield 67, 3) := dk_180 0 67 (dk_at dksX9_flush_0 1 rfl rfl)
theorem dX9_flush_4 : decode cX9_flush 4 = .ok (.aload_n 0, 1) := dk_42 (dk_at dksX9_flush_0 4 rfl rfl)
theorem dX9_flush_5 : decode cX9_flush 5 = .ok (.getfield 64, 3) := dk_180 0 64 (dk_at dksX9_flush_0 5 rfl rfl)
theorem dX9_flush_8 : decode cX9_flush 8 = .ok (.if_icmp .ge 19, 3) := dk_162 0 19 (dk_at dksX9_flush_0 8 rfl rfl)
theorem dX9_flush_11 : decode cX9_flush 11 = .ok (.aload_n 0, 1) := dk_42 (dk_at dksX9_flush_0 11 rfl rfl)
theorem dX9_flush_12 : decode cX9_flush 12 = .ok (.invokevirtual 242, 3) := dk_182 0 242 (dk_at dksX9_flush_0 12 rfl rfl)
theorem dX9_flush_15 : decode cX9_flush 15 = .ok (.ifCond .ne 5, 3) := dk_154 0 5 (dk_at dksX9_flush_0 15 rfl rfl)
theorem dX9_flush_18 : decode cX9_flush 18 = .ok (.iconst 0, 1) := dk_3 (dk_at dksX9_flush_0 18 rfl rfl)
theorem dX9_flush_19 : decode cX9_flush 19 = .ok (.ireturn, 1) := dk_172 (dk_at dksX9_flush_0 19 rfl rfl)
theorem dX9_flush_20 : decode cX9_flush 20 = .ok (.aload_n 0, 1) := dk_42 (dk_at dksX9_flush_0 20 rfl rfl)
theorem dX9_flush_21 : decode cX9_flush 21 = .ok (.invokevirtual 245, 3) := dk_182 0 245 (dk_at dksX9_flush_0 21 rfl rfl)
theorem dX9_flush_24 : decode cX9_flush 24 = .ok (.goto (-24), 3) := dk_167 255 232 (dk_at dksX9_flush_1 0 rfl rfl)
theorem dX9_flush_27 : decode cX9_flush 27 = .ok (.aload_n 0, 1) := dk_42 (dk_at dksX9_flush_1 3 rfl rfl)
theorem dX9_flush_28 : decode cX9_flush 28 = .ok (.getfield 128, 3) := dk_180 0 128 (dk_at dksX9_flush_1 4 rfl rfl)
theorem dX9_flush_31 : decode cX9_flush 31 = .ok (.ifCond .ne 5, 3) := dk_154 0 5 (dk_at dksX9_flush_1 7 rfl rfl)
theorem dX9_flush_34 : decode cX9_flush 34 = .ok (.iconst 1, 1) := dk_4 (dk_at dksX9_flush_1 10 rfl rfl)
theorem dX9_flush_35 : decode cX9_flush 35 = .ok (.ireturn, 1) := dk_172 (dk_at dksX9_flush_1 11 rfl rfl)
theorem dX9_flush_36 : decode cX9_flush 36 = .ok (.aload_n 0, 1) := dk_42 (dk_at dksX9_flush_1 12 rfl rfl)
theorem dX9_flush_37 : decode cX9_flush 37 = .ok (.invokevirtual 248, 3) := dk_182 0 248 (dk_at dksX9_flush_1 13 rfl rfl)
theorem dX9_flush_40 : decode cX9_flush 40 = .ok (.ldc 124, 2) := dk_18 124 (dk_at dksX9_flush_1 16 rfl rfl)
theorem dX9_flush_42 : decode cX9_flush 42 = .ok (.if_icmp .eq 5, 3) := dk_159 0 5 (dk_at dksX9_flush_1 18 rfl rfl)
theorem dX9_flush_45 : decode cX9_flush 45 = .ok (.iconst 0, 1) := dk_3 (dk_at dksX9_flush_1 21 rfl rfl)
theorem dX9_flush_46 : decode cX9_flush 46 = .ok (.ireturn, 1) := dk_172 (dk_at dksX9_flush_1 22 rfl rfl)
theorem dX9_flush_47 : decode cX9_flush 47 = .ok (.aload_n 0, 1) := dk_42 (dk_at dksX9_flush_1 23 rfl rfl)
theorem dX9_flush_48 : decode cX9_flush 48 = .ok (.invokevirtual 251, 3) := dk_182 0 251 (dk_at dksX9_flush_2 0 rfl rfl)
theorem dX9_flush_51 : decode cX9_flush 51 = .ok (.iconst 1, 1) := dk_4 (dk_at dksX9_flush_2 3 rfl rfl)
theorem dX9_flush_52 : decode cX9_flush 52 = .ok (.ireturn, 1) := dk_172 (dk_at dksX9_flush_2 4 rfl rfl)
abbrev cX9_canSend : ByteArray := prog_10_method_8_code
def yX9_canSend : MethodName := ⟨RX9, "canSend", "()Z"⟩
def dkwX9_canSend_0 : List UInt8 := [42, 180, 0, 3, 42, 180, 0, 41, 42, 180, 0, 45, 42, 182, 0, 105, 182, 0, 108, 182, 0, 112, 172]
abbrev dktX9_canSend_0 : List UInt8 := dkwX9_canSend_0 ++ []
theorem dksX9_canSend_0 : cX9_canSend.data.toList.drop 0 = dktX9_canSend_0 := by decide +kernel
theorem dX9_canSend_0 : decode cX9_canSend 0 = .ok (.aload_n 0, 1) := dk_42 (dk_at dksX9_canSend_0 0 rfl rfl)
theorem dX9_canSend_1 : decode cX9_canSend 1 = .ok (.getfield 3, 3) := dk_180 0 3 (dk_at dksX9_canSend_0 1 rfl rfl)
theorem dX9_canSend_4 : decode cX9_canSend 4 = .ok (.aload_n 0, 1) := dk_42 (dk_at dksX9_canSend_0 4 rfl rfl)
theorem dX9_canSend_5 : decode cX9_canSend 5 = .ok (.getfield 41, 3) := dk_180 0 41 (dk_at dksX9_canSend_0 5 rfl rfl)
theorem dX9_canSend_8 : decode cX9_canSend 8 = .ok (.aload_n 0, 1) := dk_42 (dk_at dksX9_canSend_0 8 rfl rfl)
theorem dX9_canSend_9 : decode cX9_canSend 9 = .ok (.getfield 45, 3) := dk_180 0 45 (dk_at dksX9_canSend_0 9 rfl rfl)
theorem dX9_canSend_12 : decode cX9_canSend 12 = .ok (.aload_n 0, 1) := dk_42 (dk_at dksX9_canSend_0 12 rfl rfl)
theorem dX9_canSend_13 : decode cX9_canSend 13 = .ok (.invokevirtual 105, 3) := dk_182 0 105 (dk_at dksX9_canSend_0 13 rfl rfl)
theorem dX9_canSend_16 : decode cX9_canSend 16 = .ok (.invokevirtual 108, 3) := dk_182 0 108 (dk_at dksX9_canSend_0 16 rfl rfl)
theorem dX9_canSend_19 : decode cX9_canSend 19 = .ok (.invokevirtual 112, 3) := dk_182 0 112 (dk_at dksX9_canSend_0 19 rfl rfl)
theorem dX9_canSend_22 : decode cX9_canSend 22 = .ok (.ireturn, 1) := dk_172 (dk_at dksX9_canSend_0 22 rfl rfl)
abbrev cX9_target : ByteArray := prog_10_method_7_code
def yX9_target : MethodName := ⟨RX9, "target", "()I"⟩
def dkwX9_target_2 : List UInt8 := [182, 0, 80, 180, 0, 87, 112, 172]
abbrev dktX9_target_2 : List UInt8 := dkwX9_target_2 ++ []
def dkwX9_target_1 : List UInt8 := [180, 0, 87, 184, 0, 90, 167, 0, 24, 42, 180, 0, 38, 180, 0, 94, 192, 0, 100, 180, 0, 102, 42]
abbrev dktX9_target_1 : List UInt8 := dkwX9_target_1 ++ dktX9_target_2
def dkwX9_target_0 : List UInt8 := [42, 182, 0, 80, 182, 0, 83, 153, 0, 25, 42, 180, 0, 15, 42, 180, 0, 67, 46, 42, 182, 0, 80]
abbrev dktX9_target_0 : List UInt8 := dkwX9_target_0 ++ dktX9_target_1
theorem dksX9_target_0 : cX9_target.data.toList.drop 0 = dktX9_target_0 := by decide +kernel
theorem dksX9_target_1 : cX9_target.data.toList.drop 23 = dktX9_target_1 := dk_seg dksX9_target_0 23 rfl rfl
theorem dksX9_target_2 : cX9_target.data.toList.drop 46 = dktX9_target_2 := dk_seg dksX9_target_1 23 rfl rfl
theorem dX9_target_0 : decode cX9_target 0 = .ok (.aload_n 0, 1) := dk_42 (dk_at dksX9_target_0 0 rfl rfl)
theorem dX9_target_1 : decode cX9_target 1 = .ok (.invokevirtual 80, 3) := dk_182 0 80 (dk_at dksX9_target_0 1 rfl rfl)
theorem dX9_target_4 : decode cX9_target 4 = .ok (.invokevirtual 83, 3) := dk_182 0 83 (dk_at dksX9_target_0 4 rfl rfl)
theorem dX9_target_7 : decode cX9_target 7 = .ok (.ifCond .eq 25, 3) := dk_153 0 25 (dk_at dksX9_target_0 7 rfl rfl)
theorem dX9_target_10 : decode cX9_target 10 = .ok (.aload_n 0, 1) := dk_42 (dk_at dksX9_target_0 10 rfl rfl)
theorem dX9_target_11 : decode cX9_target 11 = .ok (.getfield 15, 3) := dk_180 0 15 (dk_at dksX9_target_0 11 rfl rfl)
theorem dX9_target_14 : decode cX9_target 14 = .ok (.aload_n 0, 1) := dk_42 (dk_at dksX9_target_0 14 rfl rfl)
theorem dX9_target_15 : decode cX9_target 15 = .ok (.getfield 67, 3) := dk_180 0 67 (dk_at dksX9_target_0 15 rfl rfl)
theorem dX9_target_18 : decode cX9_target 18 = .ok (.iaload, 1) := dk_46 (dk_at dksX9_target_0 18 rfl rfl)
theorem dX9_target_19 : decode cX9_target 19 = .ok (.aload_n 0, 1) := dk_42 (dk_at dksX9_target_0 19 rfl rfl)
theorem dX9_target_20 : decode cX9_target 20 = .ok (.invokevirtual 80, 3) := dk_182 0 80 (dk_at dksX9_target_0 20 rfl rfl)
theorem dX9_target_23 : decode cX9_target 23 = .ok (.getfield 87, 3) := dk_180 0 87 (dk_at dksX9_target_1 0 rfl rfl)
theorem dX9_target_26 : decode cX9_target 26 = .ok (.invokestatic 90, 3) := dk_184 0 90 (dk_at dksX9_target_1 3 rfl rfl)
theorem dX9_target_29 : decode cX9_target 29 = .ok (.goto 24, 3) := dk_167 0 24 (dk_at dksX9_target_1 6 rfl rfl)
theorem dX9_target_32 : decode cX9_target 32 = .ok (.aload_n 0, 1) := dk_42 (dk_at dksX9_target_1 9 rfl rfl)
theorem dX9_target_33 : decode cX9_target 33 = .ok (.getfield 38, 3) := dk_180 0 38 (dk_at dksX9_target_1 10 rfl rfl)
theorem dX9_target_36 : decode cX9_target 36 = .ok (.getfield 94, 3) := dk_180 0 94 (dk_at dksX9_target_1 13 rfl rfl)
theorem dX9_target_39 : decode cX9_target 39 = .ok (.checkcast 100, 3) := dk_192 0 100 (dk_at dksX9_target_1 16 rfl rfl)
theorem dX9_target_42 : decode cX9_target 42 = .ok (.getfield 102, 3) := dk_180 0 102 (dk_at dksX9_target_1 19 rfl rfl)
theorem dX9_target_45 : decode cX9_target 45 = .ok (.aload_n 0, 1) := dk_42 (dk_at dksX9_target_1 22 rfl rfl)
theorem dX9_target_46 : decode cX9_target 46 = .ok (.invokevirtual 80, 3) := dk_182 0 80 (dk_at dksX9_target_2 0 rfl rfl)
theorem dX9_target_49 : decode cX9_target 49 = .ok (.getfield 87, 3) := dk_180 0 87 (dk_at dksX9_target_2 3 rfl rfl)
theorem dX9_target_52 : decode cX9_target 52 = .ok (.irem, 1) := dk_112 (dk_at dksX9_target_2 6 rfl rfl)
theorem dX9_target_53 : decode cX9_target 53 = .ok (.ireturn, 1) := dk_172 (dk_at dksX9_target_2 7 rfl rfl)
abbrev cX9_next : ByteArray := prog_10_method_3_code
def yX9_next : MethodName := ⟨RX9, "next", "()LPipelineSimulator$Operator;"⟩
def dkwX9_next_0 : List UInt8 := [42, 180, 0, 3, 180, 0, 48, 42, 180, 0, 41, 4, 96, 182, 0, 52, 192, 0, 58, 176]
abbrev dktX9_next_0 : List UInt8 := dkwX9_next_0 ++ []
theorem dksX9_next_0 : cX9_next.data.toList.drop 0 = dktX9_next_0 := by decide +kernel
theorem dX9_next_0 : decode cX9_next 0 = .ok (.aload_n 0, 1) := dk_42 (dk_at dksX9_next_0 0 rfl rfl)
theorem dX9_next_1 : decode cX9_next 1 = .ok (.getfield 3, 3) := dk_180 0 3 (dk_at dksX9_next_0 1 rfl rfl)
theorem dX9_next_4 : decode cX9_next 4 = .ok (.getfield 48, 3) := dk_180 0 48 (dk_at dksX9_next_0 4 rfl rfl)
theorem dX9_next_7 : decode cX9_next 7 = .ok (.aload_n 0, 1) := dk_42 (dk_at dksX9_next_0 7 rfl rfl)
theorem dX9_next_8 : decode cX9_next 8 = .ok (.getfield 41, 3) := dk_180 0 41 (dk_at dksX9_next_0 8 rfl rfl)
theorem dX9_next_11 : decode cX9_next 11 = .ok (.iconst 1, 1) := dk_4 (dk_at dksX9_next_0 11 rfl rfl)
theorem dX9_next_12 : decode cX9_next 12 = .ok (.iadd, 1) := dk_96 (dk_at dksX9_next_0 12 rfl rfl)
theorem dX9_next_13 : decode cX9_next 13 = .ok (.invokevirtual 52, 3) := dk_182 0 52 (dk_at dksX9_next_0 13 rfl rfl)
theorem dX9_next_16 : decode cX9_next 16 = .ok (.checkcast 58, 3) := dk_192 0 58 (dk_at dksX9_next_0 16 rfl rfl)
theorem dX9_next_19 : decode cX9_next 19 = .ok (.areturn, 1) := dk_176 (dk_at dksX9_next_0 19 rfl rfl)
abbrev cX9_send : ByteArray := prog_10_method_9_code
def yX9_send : MethodName := ⟨RX9, "send", "()V"⟩
def dkwX9_send_3 : List UInt8 := [180, 0, 22, 42, 180, 0, 67, 46, 182, 0, 117, 42, 89, 180, 0, 67, 4, 96, 181, 0, 67, 177]
abbrev dktX9_send_3 : List UInt8 := dkwX9_send_3 ++ []
def dkwX9_send_2 : List UInt8 := [27, 182, 0, 108, 42, 180, 0, 15, 42, 180, 0, 67, 46, 42, 180, 0, 19, 42, 180, 0, 67, 46, 42]
abbrev dktX9_send_2 : List UInt8 := dkwX9_send_2 ++ dktX9_send_3
def dkwX9_send_1 : List UInt8 := [192, 0, 100, 89, 180, 0, 102, 4, 96, 181, 0, 102, 42, 180, 0, 3, 42, 180, 0, 41, 42, 180, 0, 45]
abbrev dktX9_send_1 : List UInt8 := dkwX9_send_1 ++ dktX9_send_2
def dkwX9_send_0 : List UInt8 := [42, 182, 0, 105, 60, 42, 182, 0, 80, 182, 0, 83, 154, 0, 22, 42, 180, 0, 38, 180, 0, 94]
abbrev dktX9_send_0 : List UInt8 := dkwX9_send_0 ++ dktX9_send_1
theorem dksX9_send_0 : cX9_send.data.toList.drop 0 = dktX9_send_0 := by decide +kernel
theorem dksX9_send_1 : cX9_send.data.toList.drop 22 = dktX9_send_1 := dk_seg dksX9_send_0 22 rfl rfl
theorem dksX9_send_2 : cX9_send.data.toList.drop 46 = dktX9_send_2 := dk_seg dksX9_send_1 24 rfl rfl
theorem dksX9_send_3 : cX9_send.data.toList.drop 69 = dktX9_send_3 := dk_seg dksX9_send_2 23 rfl rfl
theorem dX9_send_0 : decode cX9_send 0 = .ok (.aload_n 0, 1) := dk_42 (dk_at dksX9_send_0 0 rfl rfl)
theorem dX9_send_1 : decode cX9_send 1 = .ok (.invokevirtual 105, 3) := dk_182 0 105 (dk_at dksX9_send_0 1 rfl rfl)
theorem dX9_send_4 : decode cX9_send 4 = .ok (.istore_n 1, 1) := dk_60 (dk_at dksX9_send_0 4 rfl rfl)
theorem dX9_send_5 : decode cX9_send 5 = .ok (.aload_n 0, 1) := dk_42 (dk_at dksX9_send_0 5 rfl rfl)
theorem dX9_send_6 : decode cX9_send 6 = .ok (.invokevirtual 80, 3) := dk_182 0 80 (dk_at dksX9_send_0 6 rfl rfl)
theorem dX9_send_9 : decode cX9_send 9 = .ok (.invokevirtual 83, 3) := dk_182 0 83 (dk_at dksX9_send_0 9 rfl rfl)
theorem dX9_send_12 : decode cX9_send 12 = .ok (.ifCond .ne 22, 3) := dk_154 0 22 (dk_at dksX9_send_0 12 rfl rfl)
theorem dX9_send_15 : decode cX9_send 15 = .ok (.aload_n 0, 1) := dk_42 (dk_at dksX9_send_0 15 rfl rfl)
theorem dX9_send_16 : decode cX9_send 16 = .ok (.getfield 38, 3) := dk_180 0 38 (dk_at dksX9_send_0 16 rfl rfl)
theorem dX9_send_19 : decode cX9_send 19 = .ok (.getfield 94, 3) := dk_180 0 94 (dk_at dksX9_send_0 19 rfl rfl)
theorem dX9_send_22 : decode cX9_send 22 = .ok (.checkcast 100, 3) := dk_192 0 100 (dk_at dksX9_send_1 0 rfl rfl)
theorem dX9_send_25 : decode cX9_send 25 = .ok (.dup, 1) := dk_89 (dk_at dksX9_send_1 3 rfl rfl)
theorem dX9_send_26 : decode cX9_send 26 = .ok (.getfield 102, 3) := dk_180 0 102 (dk_at dksX9_send_1 4 rfl rfl)
theorem dX9_send_29 : decode cX9_send 29 = .ok (.iconst 1, 1) := dk_4 (dk_at dksX9_send_1 7 rfl rfl)
theorem dX9_send_30 : decode cX9_send 30 = .ok (.iadd, 1) := dk_96 (dk_at dksX9_send_1 8 rfl rfl)
theorem dX9_send_31 : decode cX9_send 31 = .ok (.putfield 102, 3) := dk_181 0 102 (dk_at dksX9_send_1 9 rfl rfl)
theorem dX9_send_34 : decode cX9_send 34 = .ok (.aload_n 0, 1) := dk_42 (dk_at dksX9_send_1 12 rfl rfl)
theorem dX9_send_35 : decode cX9_send 35 = .ok (.getfield 3, 3) := dk_180 0 3 (dk_at dksX9_send_1 13 rfl rfl)
theorem dX9_send_38 : decode cX9_send 38 = .ok (.aload_n 0, 1) := dk_42 (dk_at dksX9_send_1 16 rfl rfl)
theorem dX9_send_39 : decode cX9_send 39 = .ok (.getfield 41, 3) := dk_180 0 41 (dk_at dksX9_send_1 17 rfl rfl)
theorem dX9_send_42 : decode cX9_send 42 = .ok (.aload_n 0, 1) := dk_42 (dk_at dksX9_send_1 20 rfl rfl)
theorem dX9_send_43 : decode cX9_send 43 = .ok (.getfield 45, 3) := dk_180 0 45 (dk_at dksX9_send_1 21 rfl rfl)
theorem dX9_send_46 : decode cX9_send 46 = .ok (.iload_n 1, 1) := dk_27 (dk_at dksX9_send_2 0 rfl rfl)
theorem dX9_send_47 : decode cX9_send 47 = .ok (.invokevirtual 108, 3) := dk_182 0 108 (dk_at dksX9_send_2 1 rfl rfl)
theorem dX9_send_50 : decode cX9_send 50 = .ok (.aload_n 0, 1) := dk_42 (dk_at dksX9_send_2 4 rfl rfl)
theorem dX9_send_51 : decode cX9_send 51 = .ok (.getfield 15, 3) := dk_180 0 15 (dk_at dksX9_send_2 5 rfl rfl)
theorem dX9_send_54 : decode cX9_send 54 = .ok (.aload_n 0, 1) := dk_42 (dk_at dksX9_send_2 8 rfl rfl)
theorem dX9_send_55 : decode cX9_send 55 = .ok (.getfield 67, 3) := dk_180 0 67 (dk_at dksX9_send_2 9 rfl rfl)
theorem dX9_send_58 : decode cX9_send 58 = .ok (.iaload, 1) := dk_46 (dk_at dksX9_send_2 12 rfl rfl)
theorem dX9_send_59 : decode cX9_send 59 = .ok (.aload_n 0, 1) := dk_42 (dk_at dksX9_send_2 13 rfl rfl)
theorem dX9_send_60 : decode cX9_send 60 = .ok (.getfield 19, 3) := dk_180 0 19 (dk_at dksX9_send_2 14 rfl rfl)
theorem dX9_send_63 : decode cX9_send 63 = .ok (.aload_n 0, 1) := dk_42 (dk_at dksX9_send_2 17 rfl rfl)
theorem dX9_send_64 : decode cX9_send 64 = .ok (.getfield 67, 3) := dk_180 0 67 (dk_at dksX9_send_2 18 rfl rfl)
theorem dX9_send_67 : decode cX9_send 67 = .ok (.iaload, 1) := dk_46 (dk_at dksX9_send_2 21 rfl rfl)
theorem dX9_send_68 : decode cX9_send 68 = .ok (.aload_n 0, 1) := dk_42 (dk_at dksX9_send_2 22 rfl rfl)
theorem dX9_send_69 : decode cX9_send 69 = .ok (.getfield 22, 3) := dk_180 0 22 (dk_at dksX9_send_3 0 rfl rfl)
theorem dX9_send_72 : decode cX9_send 72 = .ok (.aload_n 0, 1) := dk_42 (dk_at dksX9_send_3 3 rfl rfl)
theorem dX9_send_73 : decode cX9_send 73 = .ok (.getfield 67, 3) := dk_180 0 67 (dk_at dksX9_send_3 4 rfl rfl)
theorem dX9_send_76 : decode cX9_send 76 = .ok (.iaload, 1) := dk_46 (dk_at dksX9_send_3 7 rfl rfl)
theorem dX9_send_77 : decode cX9_send 77 = .ok (.invokevirtual 117, 3) := dk_182 0 117 (dk_at dksX9_send_3 8 rfl rfl)
theorem dX9_send_80 : decode cX9_send 80 = .ok (.aload_n 0, 1) := dk_42 (dk_at dksX9_send_3 11 rfl rfl)
theorem dX9_send_81 : decode cX9_send 81 = .ok (.dup, 1) := dk_89 (dk_at dksX9_send_3 12 rfl rfl)
theorem dX9_send_82 : decode cX9_send 82 = .ok (.getfield 67, 3) := dk_180 0 67 (dk_at dksX9_send_3 13 rfl rfl)
theorem dX9_send_85 : decode cX9_send 85 = .ok (.iconst 1, 1) := dk_4 (dk_at dksX9_send_3 16 rfl rfl)
theorem dX9_send_86 : decode cX9_send 86 = .ok (.iadd, 1) := dk_96 (dk_at dksX9_send_3 17 rfl rfl)
theorem dX9_send_87 : decode cX9_send 87 = .ok (.putfield 67, 3) := dk_181 0 67 (dk_at dksX9_send_3 18 rfl rfl)
theorem dX9_send_90 : decode cX9_send 90 = .ok (.return_, 1) := dk_177 (dk_at dksX9_send_3 21 rfl rfl)
abbrev cX9_barred : ByteArray := prog_10_method_10_code
def yX9_barred : MethodName := ⟨RX9, "barred", "()I"⟩
def dkwX9_barred_1 : List UInt8 := [180, 0, 45, 27, 182, 0, 108, 182, 0, 121, 154, 0, 5, 27, 172, 132, 1, 1, 167, 255, 218, 18, 124, 172]
abbrev dktX9_barred_1 : List UInt8 := dkwX9_barred_1 ++ []
def dkwX9_barred_0 : List UInt8 := [3, 60, 27, 42, 182, 0, 80, 180, 0, 87, 162, 0, 33, 42, 180, 0, 3, 42, 180, 0, 41, 42]
abbrev dktX9_barred_0 : List UInt8 := dkwX9_barred_0 ++ dktX9_barred_1
theorem dksX9_barred_0 : cX9_barred.data.toList.drop 0 = dktX9_barred_0 := by decide +kernel
theorem dksX9_barred_1 : cX9_barred.data.toList.drop 22 = dktX9_barred_1 := dk_seg dksX9_barred_0 22 rfl rfl
theorem dX9_barred_0 : decode cX9_barred 0 = .ok (.iconst 0, 1) := dk_3 (dk_at dksX9_barred_0 0 rfl rfl)
theorem dX9_barred_1 : decode cX9_barred 1 = .ok (.istore_n 1, 1) := dk_60 (dk_at dksX9_barred_0 1 rfl rfl)
theorem dX9_barred_2 : decode cX9_barred 2 = .ok (.iload_n 1, 1) := dk_27 (dk_at dksX9_barred_0 2 rfl rfl)
theorem dX9_barred_3 : decode cX9_barred 3 = .ok (.aload_n 0, 1) := dk_42 (dk_at dksX9_barred_0 3 rfl rfl)
theorem dX9_barred_4 : decode cX9_barred 4 = .ok (.invokevirtual 80, 3) := dk_182 0 80 (dk_at dksX9_barred_0 4 rfl rfl)
theorem dX9_barred_7 : decode cX9_barred 7 = .ok (.getfield 87, 3) := dk_180 0 87 (dk_at dksX9_barred_0 7 rfl rfl)
theorem dX9_barred_10 : decode cX9_barred 10 = .ok (.if_icmp .ge 33, 3) := dk_162 0 33 (dk_at dksX9_barred_0 10 rfl rfl)
theorem dX9_barred_13 : decode cX9_barred 13 = .ok (.aload_n 0, 1) := dk_42 (dk_at dksX9_barred_0 13 rfl rfl)
theorem dX9_barred_14 : decode cX9_barred 14 = .ok (.getfield 3, 3) := dk_180 0 3 (dk_at dksX9_barred_0 14 rfl rfl)
theorem dX9_barred_17 : decode cX9_barred 17 = .ok (.aload_n 0, 1) := dk_42 (dk_at dksX9_barred_0 17 rfl rfl)
theorem dX9_barred_18 : decode cX9_barred 18 = .ok (.getfield 41, 3) := dk_180 0 41 (dk_at dksX9_barred_0 18 rfl rfl)
theorem dX9_barred_21 : decode cX9_barred 21 = .ok (.aload_n 0, 1) := dk_42 (dk_at dksX9_barred_0 21 rfl rfl)
theorem dX9_barred_22 : decode cX9_barred 22 = .ok (.getfield 45, 3) := dk_180 0 45 (dk_at dksX9_barred_1 0 rfl rfl)
theorem dX9_barred_25 : decode cX9_barred 25 = .ok (.iload_n 1, 1) := dk_27 (dk_at dksX9_barred_1 3 rfl rfl)
theorem dX9_barred_26 : decode cX9_barred 26 = .ok (.invokevirtual 108, 3) := dk_182 0 108 (dk_at dksX9_barred_1 4 rfl rfl)
theorem dX9_barred_29 : decode cX9_barred 29 = .ok (.invokevirtual 121, 3) := dk_182 0 121 (dk_at dksX9_barred_1 7 rfl rfl)
theorem dX9_barred_32 : decode cX9_barred 32 = .ok (.ifCond .ne 5, 3) := dk_154 0 5 (dk_at dksX9_barred_1 10 rfl rfl)
theorem dX9_barred_35 : decode cX9_barred 35 = .ok (.iload_n 1, 1) := dk_27 (dk_at dksX9_barred_1 13 rfl rfl)
theorem dX9_barred_36 : decode cX9_barred 36 = .ok (.ireturn, 1) := dk_172 (dk_at dksX9_barred_1 14 rfl rfl)
theorem dX9_barred_37 : decode cX9_barred 37 = .ok (.iinc 1 1, 3) := dk_132 1 1 (dk_at dksX9_barred_1 15 rfl rfl)
theorem dX9_barred_40 : decode cX9_barred 40 = .ok (.goto (-38), 3) := dk_167 255 218 (dk_at dksX9_barred_1 18 rfl rfl)
theorem dX9_barred_43 : decode cX9_barred 43 = .ok (.ldc 124, 2) := dk_18 124 (dk_at dksX9_barred_1 21 rfl rfl)
theorem dX9_barred_45 : decode cX9_barred 45 = .ok (.ireturn, 1) := dk_172 (dk_at dksX9_barred_1 23 rfl rfl)
abbrev cX9_sendBarrier : ByteArray := prog_10_method_11_code
def yX9_sendBarrier : MethodName := ⟨RX9, "sendBarrier", "()V"⟩
def dkwX9_sendBarrier_1 : List UInt8 := [180, 0, 45, 27, 182, 0, 108, 182, 0, 125, 132, 1, 1, 167, 255, 223, 42, 3, 181, 0, 128, 177]
abbrev dktX9_sendBarrier_1 : List UInt8 := dkwX9_sendBarrier_1 ++ []
def dkwX9_sendBarrier_0 : List UInt8 := [3, 60, 27, 42, 182, 0, 80, 180, 0, 87, 162, 0, 28, 42, 180, 0, 3, 42, 180, 0, 41, 42]
abbrev dktX9_sendBarrier_0 : List UInt8 := dkwX9_sendBarrier_0 ++ dktX9_sendBarrier_1
theorem dksX9_sendBarrier_0 : cX9_sendBarrier.data.toList.drop 0 = dktX9_sendBarrier_0 := by decide +kernel
theorem dksX9_sendBarrier_1 : cX9_sendBarrier.data.toList.drop 22 = dktX9_sendBarrier_1 := dk_seg dksX9_sendBarrier_0 22 rfl rfl
theorem dX9_sendBarrier_0 : decode cX9_sendBarrier 0 = .ok (.iconst 0, 1) := dk_3 (dk_at dksX9_sendBarrier_0 0 rfl rfl)
theorem dX9_sendBarrier_1 : decode cX9_sendBarrier 1 = .ok (.istore_n 1, 1) := dk_60 (dk_at dksX9_sendBarrier_0 1 rfl rfl)
theorem dX9_sendBarrier_2 : decode cX9_sendBarrier 2 = .ok (.iload_n 1, 1) := dk_27 (dk_at dksX9_sendBarrier_0 2 rfl rfl)
theorem dX9_sendBarrier_3 : decode cX9_sendBarrier 3 = .ok (.aload_n 0, 1) := dk_42 (dk_at dksX9_sendBarrier_0 3 rfl rfl)
theorem dX9_sendBarrier_4 : decode cX9_sendBarrier 4 = .ok (.invokevirtual 80, 3) := dk_182 0 80 (dk_at dksX9_sendBarrier_0 4 rfl rfl)
theorem dX9_sendBarrier_7 : decode cX9_sendBarrier 7 = .ok (.getfield 87, 3) := dk_180 0 87 (dk_at dksX9_sendBarrier_0 7 rfl rfl)
theorem dX9_sendBarrier_10 : decode cX9_sendBarrier 10 = .ok (.if_icmp .ge 28, 3) := dk_162 0 28 (dk_at dksX9_sendBarrier_0 10 rfl rfl)
theorem dX9_sendBarrier_13 : decode cX9_sendBarrier 13 = .ok (.aload_n 0, 1) := dk_42 (dk_at dksX9_sendBarrier_0 13 rfl rfl)
theorem dX9_sendBarrier_14 : decode cX9_sendBarrier 14 = .ok (.getfield 3, 3) := dk_180 0 3 (dk_at dksX9_sendBarrier_0 14 rfl rfl)
theorem dX9_sendBarrier_17 : decode cX9_sendBarrier 17 = .ok (.aload_n 0, 1) := dk_42 (dk_at dksX9_sendBarrier_0 17 rfl rfl)
theorem dX9_sendBarrier_18 : decode cX9_sendBarrier 18 = .ok (.getfield 41, 3) := dk_180 0 41 (dk_at dksX9_sendBarrier_0 18 rfl rfl)
theorem dX9_sendBarrier_21 : decode cX9_sendBarrier 21 = .ok (.aload_n 0, 1) := dk_42 (dk_at dksX9_sendBarrier_0 21 rfl rfl)
theorem dX9_sendBarrier_22 : decode cX9_sendBarrier 22 = .ok (.getfield 45, 3) := dk_180 0 45 (dk_at dksX9_sendBarrier_1 0 rfl rfl)
theorem dX9_sendBarrier_25 : decode cX9_sendBarrier 25 = .ok (.iload_n 1, 1) := dk_27 (dk_at dksX9_sendBarrier_1 3 rfl rfl)
theorem dX9_sendBarrier_26 : decode cX9_sendBarrier 26 = .ok (.invokevirtual 108, 3) := dk_182 0 108 (dk_at dksX9_sendBarrier_1 4 rfl rfl)
theorem dX9_sendBarrier_29 : decode cX9_sendBarrier 29 = .ok (.invokevirtual 125, 3) := dk_182 0 125 (dk_at dksX9_sendBarrier_1 7 rfl rfl)
theorem dX9_sendBarrier_32 : decode cX9_sendBarrier 32 = .ok (.iinc 1 1, 3) := dk_132 1 1 (dk_at dksX9_sendBarrier_1 10 rfl rfl)
theorem dX9_sendBarrier_35 : decode cX9_sendBarrier 35 = .ok (.goto (-33), 3) := dk_167 255 223 (dk_at dksX9_sendBarrier_1 13 rfl rfl)
theorem dX9_sendBarrier_38 : decode cX9_sendBarrier 38 = .ok (.aload_n 0, 1) := dk_42 (dk_at dksX9_sendBarrier_1 16 rfl rfl)
theorem dX9_sendBarrier_39 : decode cX9_sendBarrier 39 = .ok (.iconst 0, 1) := dk_3 (dk_at dksX9_sendBarrier_1 17 rfl rfl)
theorem dX9_sendBarrier_40 : decode cX9_sendBarrier 40 = .ok (.putfield 128, 3) := dk_181 0 128 (dk_at dksX9_sendBarrier_1 18 rfl rfl)
theorem dX9_sendBarrier_43 : decode cX9_sendBarrier 43 = .ok (.return_, 1) := dk_177 (dk_at dksX9_sendBarrier_1 21 rfl rfl)
abbrev cX9_self : ByteArray := prog_10_method_2_code
def yX9_self : MethodName := ⟨RX9, "self", "()LPipelineSimulator$Operator;"⟩
def dkwX9_self_0 : List UInt8 := [42, 180, 0, 3, 180, 0, 48, 42, 180, 0, 41, 182, 0, 52, 192, 0, 58, 176]
abbrev dktX9_self_0 : List UInt8 := dkwX9_self_0 ++ []
theorem dksX9_self_0 : cX9_self.data.toList.drop 0 = dktX9_self_0 := by decide +kernel
theorem dX9_self_0 : decode cX9_self 0 = .ok (.aload_n 0, 1) := dk_42 (dk_at dksX9_self_0 0 rfl rfl)
theorem dX9_self_1 : decode cX9_self 1 = .ok (.getfield 3, 3) := dk_180 0 3 (dk_at dksX9_self_0 1 rfl rfl)
theorem dX9_self_4 : decode cX9_self 4 = .ok (.getfield 48, 3) := dk_180 0 48 (dk_at dksX9_self_0 4 rfl rfl)
theorem dX9_self_7 : decode cX9_self 7 = .ok (.aload_n 0, 1) := dk_42 (dk_at dksX9_self_0 7 rfl rfl)
theorem dX9_self_8 : decode cX9_self 8 = .ok (.getfield 41, 3) := dk_180 0 41 (dk_at dksX9_self_0 8 rfl rfl)
theorem dX9_self_11 : decode cX9_self 11 = .ok (.invokevirtual 52, 3) := dk_182 0 52 (dk_at dksX9_self_0 11 rfl rfl)
theorem dX9_self_14 : decode cX9_self 14 = .ok (.checkcast 58, 3) := dk_192 0 58 (dk_at dksX9_self_0 14 rfl rfl)
theorem dX9_self_17 : decode cX9_self 17 = .ok (.areturn, 1) := dk_176 (dk_at dksX9_self_0 17 rfl rfl)
abbrev cX9_take : ByteArray := prog_10_method_14_code
def yX9_take : MethodName := ⟨RX9, "take", "()Z"⟩
def dkwX9_take_0 : List UInt8 := [42, 180, 0, 41, 154, 0, 10, 42, 182, 0, 145, 167, 0, 7, 42, 182, 0, 148, 172]
abbrev dktX9_take_0 : List UInt8 := dkwX9_take_0 ++ []
theorem dksX9_take_0 : cX9_take.data.toList.drop 0 = dktX9_take_0 := by decide +kernel
theorem dX9_take_0 : decode cX9_take 0 = .ok (.aload_n 0, 1) := dk_42 (dk_at dksX9_take_0 0 rfl rfl)
theorem dX9_take_1 : decode cX9_take 1 = .ok (.getfield 41, 3) := dk_180 0 41 (dk_at dksX9_take_0 1 rfl rfl)
theorem dX9_take_4 : decode cX9_take 4 = .ok (.ifCond .ne 10, 3) := dk_154 0 10 (dk_at dksX9_take_0 4 rfl rfl)
theorem dX9_take_7 : decode cX9_take 7 = .ok (.aload_n 0, 1) := dk_42 (dk_at dksX9_take_0 7 rfl rfl)
theorem dX9_take_8 : decode cX9_take 8 = .ok (.invokevirtual 145, 3) := dk_182 0 145 (dk_at dksX9_take_0 8 rfl rfl)
theorem dX9_take_11 : decode cX9_take 11 = .ok (.goto 7, 3) := dk_167 0 7 (dk_at dksX9_take_0 11 rfl rfl)
theorem dX9_take_14 : decode cX9_take 14 = .ok (.aload_n 0, 1) := dk_42 (dk_at dksX9_take_0 14 rfl rfl)
theorem dX9_take_15 : decode cX9_take 15 = .ok (.invokevirtual 148, 3) := dk_182 0 148 (dk_at dksX9_take_0 15 rfl rfl)
theorem dX9_take_18 : decode cX9_take 18 = .ok (.ireturn, 1) := dk_172 (dk_at dksX9_take_0 18 rfl rfl)
abbrev cX9_takeInput : ByteArray := prog_10_method_15_code
def yX9_takeInput : MethodName := ⟨RX9, "takeInput", "()Z"⟩
def dkwX9_takeInput_4 : List UInt8 := [182, 0, 166, 4, 172]
abbrev dktX9_takeInput_4 : List UInt8 := dkwX9_takeInput_4 ++ []
def dkwX9_takeInput_3 : List UInt8 := [180, 0, 3, 180, 0, 157, 27, 46, 42, 180, 0, 3, 180, 0, 160, 27, 46, 42, 180, 0, 3, 180, 0, 163]
abbrev dktX9_takeInput_3 : List UInt8 := dkwX9_takeInput_3 ++ dktX9_takeInput_4
def dkwX9_takeInput_2 : List UInt8 := [180, 0, 3, 180, 0, 151, 180, 0, 94, 192, 0, 100, 89, 180, 0, 102, 4, 96, 181, 0, 102, 42, 42]
abbrev dktX9_takeInput_2 : List UInt8 := dkwX9_takeInput_2 ++ dktX9_takeInput_3
def dkwX9_takeInput_1 : List UInt8 := [160, 0, 5, 3, 172, 42, 180, 0, 3, 180, 0, 151, 180, 0, 94, 192, 0, 100, 180, 0, 102, 60, 42]
abbrev dktX9_takeInput_1 : List UInt8 := dkwX9_takeInput_1 ++ dktX9_takeInput_2
def dkwX9_takeInput_0 : List UInt8 := [42, 180, 0, 3, 180, 0, 151, 180, 0, 94, 192, 0, 100, 180, 0, 102, 42, 180, 0, 3, 180, 0, 154]
abbrev dktX9_takeInput_0 : List UInt8 := dkwX9_takeInput_0 ++ dktX9_takeInput_1
theorem dksX9_takeInput_0 : cX9_takeInput.data.toList.drop 0 = dktX9_takeInput_0 := by decide +kernel
theorem dksX9_takeInput_1 : cX9_takeInput.data.toList.drop 23 = dktX9_takeInput_1 := dk_seg dksX9_takeInput_0 23 rfl rfl
theorem dksX9_takeInput_2 : cX9_takeInput.data.toList.drop 46 = dktX9_takeInput_2 := dk_seg dksX9_takeInput_1 23 rfl rfl
theorem dksX9_takeInput_3 : cX9_takeInput.data.toList.drop 69 = dktX9_takeInput_3 := dk_seg dksX9_takeInput_2 23 rfl rfl
theorem dksX9_takeInput_4 : cX9_takeInput.data.toList.drop 93 = dktX9_takeInput_4 := dk_seg dksX9_takeInput_3 24 rfl rfl
theorem dX9_takeInput_0 : decode cX9_takeInput 0 = .ok (.aload_n 0, 1) := dk_42 (dk_at dksX9_takeInput_0 0 rfl rfl)
theorem dX9_takeInput_1 : decode cX9_takeInput 1 = .ok (.getfield 3, 3) := dk_180 0 3 (dk_at dksX9_takeInput_0 1 rfl rfl)
theorem dX9_takeInput_4 : decode cX9_takeInput 4 = .ok (.getfield 151, 3) := dk_180 0 151 (dk_at dksX9_takeInput_0 4 rfl rfl)
theorem dX9_takeInput_7 : decode cX9_takeInput 7 = .ok (.getfield 94, 3) := dk_180 0 94 (dk_at dksX9_takeInput_0 7 rfl rfl)
theorem dX9_takeInput_10 : decode cX9_takeInput 10 = .ok (.checkcast 100, 3) := dk_192 0 100 (dk_at dksX9_takeInput_0 10 rfl rfl)
theorem dX9_takeInput_13 : decode cX9_takeInput 13 = .ok (.getfield 102, 3) := dk_180 0 102 (dk_at dksX9_takeInput_0 13 rfl rfl)
theorem dX9_takeInput_16 : decode cX9_takeInput 16 = .ok (.aload_n 0, 1) := dk_42 (dk_at dksX9_takeInput_0 16 rfl rfl)
theorem dX9_takeInput_17 : decode cX9_takeInput 17 = .ok (.getfield 3, 3) := dk_180 0 3 (dk_at dksX9_takeInput_0 17 rfl rfl)
theorem dX9_takeInput_20 : decode cX9_takeInput 20 = .ok (.getfield 154, 3) := dk_180 0 154 (dk_at dksX9_takeInput_0 20 rfl rfl)
theorem dX9_takeInput_23 : decode cX9_takeInput 23 = .ok (.if_icmp .ne 5, 3) := dk_160 0 5 (dk_at dksX9_takeInput_1 0 rfl rfl)
theorem dX9_takeInput_26 : decode cX9_takeInput 26 = .ok (.iconst 0, 1) := dk_3 (dk_at dksX9_takeInput_1 3 rfl rfl)
theorem dX9_takeInput_27 : decode cX9_takeInput 27 = .ok (.ireturn, 1) := dk_172 (dk_at dksX9_takeInput_1 4 rfl rfl)
theorem dX9_takeInput_28 : decode cX9_takeInput 28 = .ok (.aload_n 0, 1) := dk_42 (dk_at dksX9_takeInput_1 5 rfl rfl)
theorem dX9_takeInput_29 : decode cX9_takeInput 29 = .ok (.getfield 3, 3) := dk_180 0 3 (dk_at dksX9_takeInput_1 6 rfl rfl)
theorem dX9_takeInput_32 : decode cX9_takeInput 32 = .ok (.getfield 151, 3) := dk_180 0 151 (dk_at dksX9_takeInput_1 9 rfl rfl)
theorem dX9_takeInput_35 : decode cX9_takeInput 35 = .ok (.getfield 94, 3) := dk_180 0 94 (dk_at dksX9_takeInput_1 12 rfl rfl)
theorem dX9_takeInput_38 : decode cX9_takeInput 38 = .ok (.checkcast 100, 3) := dk_192 0 100 (dk_at dksX9_takeInput_1 15 rfl rfl)
theorem dX9_takeInput_41 : decode cX9_takeInput 41 = .ok (.getfield 102, 3) := dk_180 0 102 (dk_at dksX9_takeInput_1 18 rfl rfl)
theorem dX9_takeInput_44 : decode cX9_takeInput 44 = .ok (.istore_n 1, 1) := dk_60 (dk_at dksX9_takeInput_1 21 rfl rfl)
theorem dX9_takeInput_45 : decode cX9_takeInput 45 = .ok (.aload_n 0, 1) := dk_42 (dk_at dksX9_takeInput_1 22 rfl rfl)
theorem dX9_takeInput_46 : decode cX9_takeInput 46 = .ok (.getfield 3, 3) := dk_180 0 3 (dk_at dksX9_takeInput_2 0 rfl rfl)
theorem dX9_takeInput_49 : decode cX9_takeInput 49 = .ok (.getfield 151, 3) := dk_180 0 151 (dk_at dksX9_takeInput_2 3 rfl rfl)
theorem dX9_takeInput_52 : decode cX9_takeInput 52 = .ok (.getfield 94, 3) := dk_180 0 94 (dk_at dksX9_takeInput_2 6 rfl rfl)
theorem dX9_takeInput_55 : decode cX9_takeInput 55 = .ok (.checkcast 100, 3) := dk_192 0 100 (dk_at dksX9_takeInput_2 9 rfl rfl)
theorem dX9_takeInput_58 : decode cX9_takeInput 58 = .ok (.dup, 1) := dk_89 (dk_at dksX9_takeInput_2 12 rfl rfl)
theorem dX9_takeInput_59 : decode cX9_takeInput 59 = .ok (.getfield 102, 3) := dk_180 0 102 (dk_at dksX9_takeInput_2 13 rfl rfl)
theorem dX9_takeInput_62 : decode cX9_takeInput 62 = .ok (.iconst 1, 1) := dk_4 (dk_at dksX9_takeInput_2 16 rfl rfl)
theorem dX9_takeInput_63 : decode cX9_takeInput 63 = .ok (.iadd, 1) := dk_96 (dk_at dksX9_takeInput_2 17 rfl rfl)
theorem dX9_takeInput_64 : decode cX9_takeInput 64 = .ok (.putfield 102, 3) := dk_181 0 102 (dk_at dksX9_takeInput_2 18 rfl rfl)
theorem dX9_takeInput_67 : decode cX9_takeInput 67 = .ok (.aload_n 0, 1) := dk_42 (dk_at dksX9_takeInput_2 21 rfl rfl)
theorem dX9_takeInput_68 : decode cX9_takeInput 68 = .ok (.aload_n 0, 1) := dk_42 (dk_at dksX9_takeInput_2 22 rfl rfl)
theorem dX9_takeInput_69 : decode cX9_takeInput 69 = .ok (.getfield 3, 3) := dk_180 0 3 (dk_at dksX9_takeInput_3 0 rfl rfl)
theorem dX9_takeInput_72 : decode cX9_takeInput 72 = .ok (.getfield 157, 3) := dk_180 0 157 (dk_at dksX9_takeInput_3 3 rfl rfl)
theorem dX9_takeInput_75 : decode cX9_takeInput 75 = .ok (.iload_n 1, 1) := dk_27 (dk_at dksX9_takeInput_3 6 rfl rfl)
theorem dX9_takeInput_76 : decode cX9_takeInput 76 = .ok (.iaload, 1) := dk_46 (dk_at dksX9_takeInput_3 7 rfl rfl)
theorem dX9_takeInput_77 : decode cX9_takeInput 77 = .ok (.aload_n 0, 1) := dk_42 (dk_at dksX9_takeInput_3 8 rfl rfl)
theorem dX9_takeInput_78 : decode cX9_takeInput 78 = .ok (.getfield 3, 3) := dk_180 0 3 (dk_at dksX9_takeInput_3 9 rfl rfl)
theorem dX9_takeInput_81 : decode cX9_takeInput 81 = .ok (.getfield 160, 3) := dk_180 0 160 (dk_at dksX9_takeInput_3 12 rfl rfl)
theorem dX9_takeInput_84 : decode cX9_takeInput 84 = .ok (.iload_n 1, 1) := dk_27 (dk_at dksX9_takeInput_3 15 rfl rfl)
theorem dX9_takeInput_85 : decode cX9_takeInput 85 = .ok (.iaload, 1) := dk_46 (dk_at dksX9_takeInput_3 16 rfl rfl)
theorem dX9_takeInput_86 : decode cX9_takeInput 86 = .ok (.aload_n 0, 1) := dk_42 (dk_at dksX9_takeInput_3 17 rfl rfl)
theorem dX9_takeInput_87 : decode cX9_takeInput 87 = .ok (.getfield 3, 3) := dk_180 0 3 (dk_at dksX9_takeInput_3 18 rfl rfl)
theorem dX9_takeInput_90 : decode cX9_takeInput 90 = .ok (.getfield 163, 3) := dk_180 0 163 (dk_at dksX9_takeInput_3 21 rfl rfl)
theorem dX9_takeInput_93 : decode cX9_takeInput 93 = .ok (.invokevirtual 166, 3) := dk_182 0 166 (dk_at dksX9_takeInput_4 0 rfl rfl)
theorem dX9_takeInput_96 : decode cX9_takeInput 96 = .ok (.iconst 1, 1) := dk_4 (dk_at dksX9_takeInput_4 3 rfl rfl)
theorem dX9_takeInput_97 : decode cX9_takeInput 97 = .ok (.ireturn, 1) := dk_172 (dk_at dksX9_takeInput_4 4 rfl rfl)
abbrev cX9_process : ByteArray := prog_10_method_17_code
def yX9_process : MethodName := ⟨RX9, "process", "(III)V"⟩
def dkwX9_process_2 : List UInt8 := [182, 0, 73, 27, 28, 42, 182, 0, 73, 180, 0, 214, 180, 0, 94, 192, 0, 217, 42, 182, 0, 219, 177]
abbrev dktX9_process_2 : List UInt8 := dkwX9_process_2 ++ []
def dkwX9_process_1 : List UInt8 := [180, 0, 163, 29, 100, 182, 0, 206, 42, 182, 0, 73, 89, 180, 0, 211, 4, 96, 181, 0, 211, 42]
abbrev dktX9_process_1 : List UInt8 := dkwX9_process_1 ++ dktX9_process_2
def dkwX9_process_0 : List UInt8 := [42, 29, 181, 0, 70, 42, 182, 0, 199, 153, 0, 22, 42, 180, 0, 3, 180, 0, 202, 42, 180, 0, 3]
abbrev dktX9_process_0 : List UInt8 := dkwX9_process_0 ++ dktX9_process_1
theorem dksX9_process_0 : cX9_process.data.toList.drop 0 = dktX9_process_0 := by decide +kernel
theorem dksX9_process_1 : cX9_process.data.toList.drop 23 = dktX9_process_1 := dk_seg dksX9_process_0 23 rfl rfl
theorem dksX9_process_2 : cX9_process.data.toList.drop 45 = dktX9_process_2 := dk_seg dksX9_process_1 22 rfl rfl
theorem dX9_process_0 : decode cX9_process 0 = .ok (.aload_n 0, 1) := dk_42 (dk_at dksX9_process_0 0 rfl rfl)
theorem dX9_process_1 : decode cX9_process 1 = .ok (.iload_n 3, 1) := dk_29 (dk_at dksX9_process_0 1 rfl rfl)
theorem dX9_process_2 : decode cX9_process 2 = .ok (.putfield 70, 3) := dk_181 0 70 (dk_at dksX9_process_0 2 rfl rfl)
theorem dX9_process_5 : decode cX9_process 5 = .ok (.aload_n 0, 1) := dk_42 (dk_at dksX9_process_0 5 rfl rfl)
theorem dX9_process_6 : decode cX9_process 6 = .ok (.invokevirtual 199, 3) := dk_182 0 199 (dk_at dksX9_process_0 6 rfl rfl)
theorem dX9_process_9 : decode cX9_process 9 = .ok (.ifCond .eq 22, 3) := dk_153 0 22 (dk_at dksX9_process_0 9 rfl rfl)
theorem dX9_process_12 : decode cX9_process 12 = .ok (.aload_n 0, 1) := dk_42 (dk_at dksX9_process_0 12 rfl rfl)
theorem dX9_process_13 : decode cX9_process 13 = .ok (.getfield 3, 3) := dk_180 0 3 (dk_at dksX9_process_0 13 rfl rfl)
theorem dX9_process_16 : decode cX9_process 16 = .ok (.getfield 202, 3) := dk_180 0 202 (dk_at dksX9_process_0 16 rfl rfl)
theorem dX9_process_19 : decode cX9_process 19 = .ok (.aload_n 0, 1) := dk_42 (dk_at dksX9_process_0 19 rfl rfl)
theorem dX9_process_20 : decode cX9_process 20 = .ok (.getfield 3, 3) := dk_180 0 3 (dk_at dksX9_process_0 20 rfl rfl)
theorem dX9_process_23 : decode cX9_process 23 = .ok (.getfield 163, 3) := dk_180 0 163 (dk_at dksX9_process_1 0 rfl rfl)
theorem dX9_process_26 : decode cX9_process 26 = .ok (.iload_n 3, 1) := dk_29 (dk_at dksX9_process_1 3 rfl rfl)
theorem dX9_process_27 : decode cX9_process 27 = .ok (.isub, 1) := dk_100 (dk_at dksX9_process_1 4 rfl rfl)
theorem dX9_process_28 : decode cX9_process 28 = .ok (.invokevirtual 206, 3) := dk_182 0 206 (dk_at dksX9_process_1 5 rfl rfl)
theorem dX9_process_31 : decode cX9_process 31 = .ok (.aload_n 0, 1) := dk_42 (dk_at dksX9_process_1 8 rfl rfl)
theorem dX9_process_32 : decode cX9_process 32 = .ok (.invokevirtual 73, 3) := dk_182 0 73 (dk_at dksX9_process_1 9 rfl rfl)
theorem dX9_process_35 : decode cX9_process 35 = .ok (.dup, 1) := dk_89 (dk_at dksX9_process_1 12 rfl rfl)
theorem dX9_process_36 : decode cX9_process 36 = .ok (.getfield 211, 3) := dk_180 0 211 (dk_at dksX9_process_1 13 rfl rfl)
theorem dX9_process_39 : decode cX9_process 39 = .ok (.iconst 1, 1) := dk_4 (dk_at dksX9_process_1 16 rfl rfl)
theorem dX9_process_40 : decode cX9_process 40 = .ok (.iadd, 1) := dk_96 (dk_at dksX9_process_1 17 rfl rfl)
theorem dX9_process_41 : decode cX9_process 41 = .ok (.putfield 211, 3) := dk_181 0 211 (dk_at dksX9_process_1 18 rfl rfl)
theorem dX9_process_44 : decode cX9_process 44 = .ok (.aload_n 0, 1) := dk_42 (dk_at dksX9_process_1 21 rfl rfl)
theorem dX9_process_45 : decode cX9_process 45 = .ok (.invokevirtual 73, 3) := dk_182 0 73 (dk_at dksX9_process_2 0 rfl rfl)
theorem dX9_process_48 : decode cX9_process 48 = .ok (.iload_n 1, 1) := dk_27 (dk_at dksX9_process_2 3 rfl rfl)
theorem dX9_process_49 : decode cX9_process 49 = .ok (.iload_n 2, 1) := dk_28 (dk_at dksX9_process_2 4 rfl rfl)
theorem dX9_process_50 : decode cX9_process 50 = .ok (.aload_n 0, 1) := dk_42 (dk_at dksX9_process_2 5 rfl rfl)
theorem dX9_process_51 : decode cX9_process 51 = .ok (.invokevirtual 73, 3) := dk_182 0 73 (dk_at dksX9_process_2 6 rfl rfl)
theorem dX9_process_54 : decode cX9_process 54 = .ok (.getfield 214, 3) := dk_180 0 214 (dk_at dksX9_process_2 9 rfl rfl)
theorem dX9_process_57 : decode cX9_process 57 = .ok (.getfield 94, 3) := dk_180 0 94 (dk_at dksX9_process_2 12 rfl rfl)
theorem dX9_process_60 : decode cX9_process 60 = .ok (.checkcast 217, 3) := dk_192 0 217 (dk_at dksX9_process_2 15 rfl rfl)
theorem dX9_process_63 : decode cX9_process 63 = .ok (.aload_n 0, 1) := dk_42 (dk_at dksX9_process_2 18 rfl rfl)
theorem dX9_process_64 : decode cX9_process 64 = .ok (.invokevirtual 219, 3) := dk_182 0 219 (dk_at dksX9_process_2 19 rfl rfl)
theorem dX9_process_67 : decode cX9_process 67 = .ok (.return_, 1) := dk_177 (dk_at dksX9_process_2 22 rfl rfl)
abbrev cX9_isLast : ByteArray := prog_10_method_4_code
def yX9_isLast : MethodName := ⟨RX9, "isLast", "()Z"⟩
def dkwX9_isLast_1 : List UInt8 := [172]
abbrev dktX9_isLast_1 : List UInt8 := dkwX9_isLast_1 ++ []
def dkwX9_isLast_0 : List UInt8 := [42, 180, 0, 41, 42, 180, 0, 3, 180, 0, 48, 182, 0, 60, 4, 100, 160, 0, 7, 4, 167, 0, 4, 3]
abbrev dktX9_isLast_0 : List UInt8 := dkwX9_isLast_0 ++ dktX9_isLast_1
theorem dksX9_isLast_0 : cX9_isLast.data.toList.drop 0 = dktX9_isLast_0 := by decide +kernel
theorem dksX9_isLast_1 : cX9_isLast.data.toList.drop 24 = dktX9_isLast_1 := dk_seg dksX9_isLast_0 24 rfl rfl
theorem dX9_isLast_0 : decode cX9_isLast 0 = .ok (.aload_n 0, 1) := dk_42 (dk_at dksX9_isLast_0 0 rfl rfl)
theorem dX9_isLast_1 : decode cX9_isLast 1 = .ok (.getfield 41, 3) := dk_180 0 41 (dk_at dksX9_isLast_0 1 rfl rfl)
theorem dX9_isLast_4 : decode cX9_isLast 4 = .ok (.aload_n 0, 1) := dk_42 (dk_at dksX9_isLast_0 4 rfl rfl)
theorem dX9_isLast_5 : decode cX9_isLast 5 = .ok (.getfield 3, 3) := dk_180 0 3 (dk_at dksX9_isLast_0 5 rfl rfl)
theorem dX9_isLast_8 : decode cX9_isLast 8 = .ok (.getfield 48, 3) := dk_180 0 48 (dk_at dksX9_isLast_0 8 rfl rfl)
theorem dX9_isLast_11 : decode cX9_isLast 11 = .ok (.invokevirtual 60, 3) := dk_182 0 60 (dk_at dksX9_isLast_0 11 rfl rfl)
theorem dX9_isLast_14 : decode cX9_isLast 14 = .ok (.iconst 1, 1) := dk_4 (dk_at dksX9_isLast_0 14 rfl rfl)
theorem dX9_isLast_15 : decode cX9_isLast 15 = .ok (.isub, 1) := dk_100 (dk_at dksX9_isLast_0 15 rfl rfl)
theorem dX9_isLast_16 : decode cX9_isLast 16 = .ok (.if_icmp .ne 7, 3) := dk_160 0 7 (dk_at dksX9_isLast_0 16 rfl rfl)
theorem dX9_isLast_19 : decode cX9_isLast 19 = .ok (.iconst 1, 1) := dk_4 (dk_at dksX9_isLast_0 19 rfl rfl)
theorem dX9_isLast_20 : decode cX9_isLast 20 = .ok (.goto 4, 3) := dk_167 0 4 (dk_at dksX9_isLast_0 20 rfl rfl)
theorem dX9_isLast_23 : decode cX9_isLast 23 = .ok (.iconst 0, 1) := dk_3 (dk_at dksX9_isLast_0 23 rfl rfl)
theorem dX9_isLast_24 : decode cX9_isLast 24 = .ok (.ireturn, 1) := dk_172 (dk_at dksX9_isLast_1 0 rfl rfl)
abbrev cX9_emit : ByteArray := prog_10_method_6_code
def yX9_emit : MethodName := ⟨RX9, "emit", "(II)V"⟩
def dkwX9_emit_3 : List UInt8 := [180, 0, 77, 4, 96, 181, 0, 77, 177]
abbrev dktX9_emit_3 : List UInt8 := dkwX9_emit_3 ++ []
def dkwX9_emit_2 : List UInt8 := [180, 0, 64, 42, 180, 0, 70, 79, 42, 89, 180, 0, 64, 4, 96, 181, 0, 64, 42, 182, 0, 73, 89]
abbrev dktX9_emit_2 : List UInt8 := dkwX9_emit_2 ++ dktX9_emit_3
def dkwX9_emit_1 : List UInt8 := [180, 0, 15, 42, 180, 0, 64, 27, 79, 42, 180, 0, 19, 42, 180, 0, 64, 28, 79, 42, 180, 0, 22, 42]
abbrev dktX9_emit_1 : List UInt8 := dkwX9_emit_1 ++ dktX9_emit_2
def dkwX9_emit_0 : List UInt8 := [42, 180, 0, 67, 42, 180, 0, 64, 160, 0, 13, 42, 3, 181, 0, 67, 42, 3, 181, 0, 64, 42]
abbrev dktX9_emit_0 : List UInt8 := dkwX9_emit_0 ++ dktX9_emit_1
theorem dksX9_emit_0 : cX9_emit.data.toList.drop 0 = dktX9_emit_0 := by decide +kernel
theorem dksX9_emit_1 : cX9_emit.data.toList.drop 22 = dktX9_emit_1 := dk_seg dksX9_emit_0 22 rfl rfl
theorem dksX9_emit_2 : cX9_emit.data.toList.drop 46 = dktX9_emit_2 := dk_seg dksX9_emit_1 24 rfl rfl
theorem dksX9_emit_3 : cX9_emit.data.toList.drop 69 = dktX9_emit_3 := dk_seg dksX9_emit_2 23 rfl rfl
theorem dX9_emit_0 : decode cX9_emit 0 = .ok (.aload_n 0, 1) := dk_42 (dk_at dksX9_emit_0 0 rfl rfl)
theorem dX9_emit_1 : decode cX9_emit 1 = .ok (.getfield 67, 3) := dk_180 0 67 (dk_at dksX9_emit_0 1 rfl rfl)
theorem dX9_emit_4 : decode cX9_emit 4 = .ok (.aload_n 0, 1) := dk_42 (dk_at dksX9_emit_0 4 rfl rfl)
theorem dX9_emit_5 : decode cX9_emit 5 = .ok (.getfield 64, 3) := dk_180 0 64 (dk_at dksX9_emit_0 5 rfl rfl)
theorem dX9_emit_8 : decode cX9_emit 8 = .ok (.if_icmp .ne 13, 3) := dk_160 0 13 (dk_at dksX9_emit_0 8 rfl rfl)
theorem dX9_emit_11 : decode cX9_emit 11 = .ok (.aload_n 0, 1) := dk_42 (dk_at dksX9_emit_0 11 rfl rfl)
theorem dX9_emit_12 : decode cX9_emit 12 = .ok (.iconst 0, 1) := dk_3 (dk_at dksX9_emit_0 12 rfl rfl)
theorem dX9_emit_13 : decode cX9_emit 13 = .ok (.putfield 67, 3) := dk_181 0 67 (dk_at dksX9_emit_0 13 rfl rfl)
theorem dX9_emit_16 : decode cX9_emit 16 = .ok (.aload_n 0, 1) := dk_42 (dk_at dksX9_emit_0 16 rfl rfl)
theorem dX9_emit_17 : decode cX9_emit 17 = .ok (.iconst 0, 1) := dk_3 (dk_at dksX9_emit_0 17 rfl rfl)
theorem dX9_emit_18 : decode cX9_emit 18 = .ok (.putfield 64, 3) := dk_181 0 64 (dk_at dksX9_emit_0 18 rfl rfl)
theorem dX9_emit_21 : decode cX9_emit 21 = .ok (.aload_n 0, 1) := dk_42 (dk_at dksX9_emit_0 21 rfl rfl)
theorem dX9_emit_22 : decode cX9_emit 22 = .ok (.getfield 15, 3) := dk_180 0 15 (dk_at dksX9_emit_1 0 rfl rfl)
theorem dX9_emit_25 : decode cX9_emit 25 = .ok (.aload_n 0, 1) := dk_42 (dk_at dksX9_emit_1 3 rfl rfl)
theorem dX9_emit_26 : decode cX9_emit 26 = .ok (.getfield 64, 3) := dk_180 0 64 (dk_at dksX9_emit_1 4 rfl rfl)
theorem dX9_emit_29 : decode cX9_emit 29 = .ok (.iload_n 1, 1) := dk_27 (dk_at dksX9_emit_1 7 rfl rfl)
theorem dX9_emit_30 : decode cX9_emit 30 = .ok (.iastore, 1) := dk_79 (dk_at dksX9_emit_1 8 rfl rfl)
theorem dX9_emit_31 : decode cX9_emit 31 = .ok (.aload_n 0, 1) := dk_42 (dk_at dksX9_emit_1 9 rfl rfl)
theorem dX9_emit_32 : decode cX9_emit 32 = .ok (.getfield 19, 3) := dk_180 0 19 (dk_at dksX9_emit_1 10 rfl rfl)
theorem dX9_emit_35 : decode cX9_emit 35 = .ok (.aload_n 0, 1) := dk_42 (dk_at dksX9_emit_1 13 rfl rfl)
theorem dX9_emit_36 : decode cX9_emit 36 = .ok (.getfield 64, 3) := dk_180 0 64 (dk_at dksX9_emit_1 14 rfl rfl)
theorem dX9_emit_39 : decode cX9_emit 39 = .ok (.iload_n 2, 1) := dk_28 (dk_at dksX9_emit_1 17 rfl rfl)
theorem dX9_emit_40 : decode cX9_emit 40 = .ok (.iastore, 1) := dk_79 (dk_at dksX9_emit_1 18 rfl rfl)
theorem dX9_emit_41 : decode cX9_emit 41 = .ok (.aload_n 0, 1) := dk_42 (dk_at dksX9_emit_1 19 rfl rfl)
theorem dX9_emit_42 : decode cX9_emit 42 = .ok (.getfield 22, 3) := dk_180 0 22 (dk_at dksX9_emit_1 20 rfl rfl)
theorem dX9_emit_45 : decode cX9_emit 45 = .ok (.aload_n 0, 1) := dk_42 (dk_at dksX9_emit_1 23 rfl rfl)
theorem dX9_emit_46 : decode cX9_emit 46 = .ok (.getfield 64, 3) := dk_180 0 64 (dk_at dksX9_emit_2 0 rfl rfl)
theorem dX9_emit_49 : decode cX9_emit 49 = .ok (.aload_n 0, 1) := dk_42 (dk_at dksX9_emit_2 3 rfl rfl)
theorem dX9_emit_50 : decode cX9_emit 50 = .ok (.getfield 70, 3) := dk_180 0 70 (dk_at dksX9_emit_2 4 rfl rfl)
theorem dX9_emit_53 : decode cX9_emit 53 = .ok (.iastore, 1) := dk_79 (dk_at dksX9_emit_2 7 rfl rfl)
theorem dX9_emit_54 : decode cX9_emit 54 = .ok (.aload_n 0, 1) := dk_42 (dk_at dksX9_emit_2 8 rfl rfl)
theorem dX9_emit_55 : decode cX9_emit 55 = .ok (.dup, 1) := dk_89 (dk_at dksX9_emit_2 9 rfl rfl)
theorem dX9_emit_56 : decode cX9_emit 56 = .ok (.getfield 64, 3) := dk_180 0 64 (dk_at dksX9_emit_2 10 rfl rfl)
theorem dX9_emit_59 : decode cX9_emit 59 = .ok (.iconst 1, 1) := dk_4 (dk_at dksX9_emit_2 13 rfl rfl)
theorem dX9_emit_60 : decode cX9_emit 60 = .ok (.iadd, 1) := dk_96 (dk_at dksX9_emit_2 14 rfl rfl)
theorem dX9_emit_61 : decode cX9_emit 61 = .ok (.putfield 64, 3) := dk_181 0 64 (dk_at dksX9_emit_2 15 rfl rfl)
theorem dX9_emit_64 : decode cX9_emit 64 = .ok (.aload_n 0, 1) := dk_42 (dk_at dksX9_emit_2 18 rfl rfl)
theorem dX9_emit_65 : decode cX9_emit 65 = .ok (.invokevirtual 73, 3) := dk_182 0 73 (dk_at dksX9_emit_2 19 rfl rfl)
theorem dX9_emit_68 : decode cX9_emit 68 = .ok (.dup, 1) := dk_89 (dk_at dksX9_emit_2 22 rfl rfl)
theorem dX9_emit_69 : decode cX9_emit 69 = .ok (.getfield 77, 3) := dk_180 0 77 (dk_at dksX9_emit_3 0 rfl rfl)
theorem dX9_emit_72 : decode cX9_emit 72 = .ok (.iconst 1, 1) := dk_4 (dk_at dksX9_emit_3 3 rfl rfl)
theorem dX9_emit_73 : decode cX9_emit 73 = .ok (.iadd, 1) := dk_96 (dk_at dksX9_emit_3 4 rfl rfl)
theorem dX9_emit_74 : decode cX9_emit 74 = .ok (.putfield 77, 3) := dk_181 0 77 (dk_at dksX9_emit_3 5 rfl rfl)
theorem dX9_emit_77 : decode cX9_emit 77 = .ok (.return_, 1) := dk_177 (dk_at dksX9_emit_3 8 rfl rfl)
abbrev cX9_takeItem : ByteArray := prog_10_method_16_code
def yX9_takeItem : MethodName := ⟨RX9, "takeItem", "()Z"⟩
def dkwX9_takeItem_5 : List UInt8 := [21, 6, 182, 0, 166, 4, 172]
abbrev dktX9_takeItem_5 : List UInt8 := dkwX9_takeItem_5 ++ []
def dkwX9_takeItem_4 : List UInt8 := [54, 4, 45, 182, 0, 192, 54, 5, 45, 182, 0, 194, 54, 6, 44, 182, 0, 196, 42, 21, 4, 21, 5]
abbrev dktX9_takeItem_4 : List UInt8 := dkwX9_takeItem_4 ++ dktX9_takeItem_5
def dkwX9_takeItem_3 : List UInt8 := [180, 0, 30, 182, 0, 183, 42, 182, 0, 132, 160, 0, 7, 42, 182, 0, 186, 4, 172, 45, 182, 0, 189]
abbrev dktX9_takeItem_3 : List UInt8 := dkwX9_takeItem_3 ++ dktX9_takeItem_4
def dkwX9_takeItem_2 : List UInt8 := [182, 0, 141, 78, 45, 180, 0, 172, 153, 0, 35, 44, 182, 0, 177, 42, 180, 0, 30, 27, 182, 0, 180, 42]
abbrev dktX9_takeItem_2 : List UInt8 := dkwX9_takeItem_2 ++ dktX9_takeItem_3
def dkwX9_takeItem_1 : List UInt8 := [181, 0, 135, 42, 180, 0, 3, 42, 180, 0, 41, 4, 100, 27, 42, 180, 0, 45, 182, 0, 108, 77, 44]
abbrev dktX9_takeItem_1 : List UInt8 := dkwX9_takeItem_1 ++ dktX9_takeItem_2
def dkwX9_takeItem_0 : List UInt8 := [42, 182, 0, 169, 60, 27, 18, 124, 160, 0, 5, 3, 172, 42, 27, 4, 96, 42, 182, 0, 132, 112]
abbrev dktX9_takeItem_0 : List UInt8 := dkwX9_takeItem_0 ++ dktX9_takeItem_1
theorem dksX9_takeItem_0 : cX9_takeItem.data.toList.drop 0 = dktX9_takeItem_0 := by decide +kernel
theorem dksX9_takeItem_1 : cX9_takeItem.data.toList.drop 22 = dktX9_takeItem_1 := dk_seg dksX9_takeItem_0 22 rfl rfl
theorem dksX9_takeItem_2 : cX9_takeItem.data.toList.drop 45 = dktX9_takeItem_2 := dk_seg dksX9_takeItem_1 23 rfl rfl
theorem dksX9_takeItem_3 : cX9_takeItem.data.toList.drop 69 = dktX9_takeItem_3 := dk_seg dksX9_takeItem_2 24 rfl rfl
theorem dksX9_takeItem_4 : cX9_takeItem.data.toList.drop 92 = dktX9_takeItem_4 := dk_seg dksX9_takeItem_3 23 rfl rfl
theorem dksX9_takeItem_5 : cX9_takeItem.data.toList.drop 115 = dktX9_takeItem_5 := dk_seg dksX9_takeItem_4 23 rfl rfl
theorem dX9_takeItem_0 : decode cX9_takeItem 0 = .ok (.aload_n 0, 1) := dk_42 (dk_at dksX9_takeItem_0 0 rfl rfl)
theorem dX9_takeItem_1 : decode cX9_takeItem 1 = .ok (.invokevirtual 169, 3) := dk_182 0 169 (dk_at dksX9_takeItem_0 1 rfl rfl)
theorem dX9_takeItem_4 : decode cX9_takeItem 4 = .ok (.istore_n 1, 1) := dk_60 (dk_at dksX9_takeItem_0 4 rfl rfl)
theorem dX9_takeItem_5 : decode cX9_takeItem 5 = .ok (.iload_n 1, 1) := dk_27 (dk_at dksX9_takeItem_0 5 rfl rfl)
theorem dX9_takeItem_6 : decode cX9_takeItem 6 = .ok (.ldc 124, 2) := dk_18 124 (dk_at dksX9_takeItem_0 6 rfl rfl)
theorem dX9_takeItem_8 : decode cX9_takeItem 8 = .ok (.if_icmp .ne 5, 3) := dk_160 0 5 (dk_at dksX9_takeItem_0 8 rfl rfl)
theorem dX9_takeItem_11 : decode cX9_takeItem 11 = .ok (.iconst 0, 1) := dk_3 (dk_at dksX9_takeItem_0 11 rfl rfl)
theorem dX9_takeItem_12 : decode cX9_takeItem 12 = .ok (.ireturn, 1) := dk_172 (dk_at dksX9_takeItem_0 12 rfl rfl)
theorem dX9_takeItem_13 : decode cX9_takeItem 13 = .ok (.aload_n 0, 1) := dk_42 (dk_at dksX9_takeItem_0 13 rfl rfl)
theorem dX9_takeItem_14 : decode cX9_takeItem 14 = .ok (.iload_n 1, 1) := dk_27 (dk_at dksX9_takeItem_0 14 rfl rfl)
theorem dX9_takeItem_15 : decode cX9_takeItem 15 = .ok (.iconst 1, 1) := dk_4 (dk_at dksX9_takeItem_0 15 rfl rfl)
theorem dX9_takeItem_16 : decode cX9_takeItem 16 = .ok (.iadd, 1) := dk_96 (dk_at dksX9_takeItem_0 16 rfl rfl)
theorem dX9_takeItem_17 : decode cX9_takeItem 17 = .ok (.aload_n 0, 1) := dk_42 (dk_at dksX9_takeItem_0 17 rfl rfl)
theorem dX9_takeItem_18 : decode cX9_takeItem 18 = .ok (.invokevirtual 132, 3) := dk_182 0 132 (dk_at dksX9_takeItem_0 18 rfl rfl)
theorem dX9_takeItem_21 : decode cX9_takeItem 21 = .ok (.irem, 1) := dk_112 (dk_at dksX9_takeItem_0 21 rfl rfl)
theorem dX9_takeItem_22 : decode cX9_takeItem 22 = .ok (.putfield 135, 3) := dk_181 0 135 (dk_at dksX9_takeItem_1 0 rfl rfl)
theorem dX9_takeItem_25 : decode cX9_takeItem 25 = .ok (.aload_n 0, 1) := dk_42 (dk_at dksX9_takeItem_1 3 rfl rfl)
theorem dX9_takeItem_26 : decode cX9_takeItem 26 = .ok (.getfield 3, 3) := dk_180 0 3 (dk_at dksX9_takeItem_1 4 rfl rfl)
theorem dX9_takeItem_29 : decode cX9_takeItem 29 = .ok (.aload_n 0, 1) := dk_42 (dk_at dksX9_takeItem_1 7 rfl rfl)
theorem dX9_takeItem_30 : decode cX9_takeItem 30 = .ok (.getfield 41, 3) := dk_180 0 41 (dk_at dksX9_takeItem_1 8 rfl rfl)
theorem dX9_takeItem_33 : decode cX9_takeItem 33 = .ok (.iconst 1, 1) := dk_4 (dk_at dksX9_takeItem_1 11 rfl rfl)
theorem dX9_takeItem_34 : decode cX9_takeItem 34 = .ok (.isub, 1) := dk_100 (dk_at dksX9_takeItem_1 12 rfl rfl)
theorem dX9_takeItem_35 : decode cX9_takeItem 35 = .ok (.iload_n 1, 1) := dk_27 (dk_at dksX9_takeItem_1 13 rfl rfl)
theorem dX9_takeItem_36 : decode cX9_takeItem 36 = .ok (.aload_n 0, 1) := dk_42 (dk_at dksX9_takeItem_1 14 rfl rfl)
theorem dX9_takeItem_37 : decode cX9_takeItem 37 = .ok (.getfield 45, 3) := dk_180 0 45 (dk_at dksX9_takeItem_1 15 rfl rfl)
theorem dX9_takeItem_40 : decode cX9_takeItem 40 = .ok (.invokevirtual 108, 3) := dk_182 0 108 (dk_at dksX9_takeItem_1 18 rfl rfl)
theorem dX9_takeItem_43 : decode cX9_takeItem 43 = .ok (.astore_n 2, 1) := dk_77 (dk_at dksX9_takeItem_1 21 rfl rfl)
theorem dX9_takeItem_44 : decode cX9_takeItem 44 = .ok (.aload_n 2, 1) := dk_44 (dk_at dksX9_takeItem_1 22 rfl rfl)
theorem dX9_takeItem_45 : decode cX9_takeItem 45 = .ok (.invokevirtual 141, 3) := dk_182 0 141 (dk_at dksX9_takeItem_2 0 rfl rfl)
theorem dX9_takeItem_48 : decode cX9_takeItem 48 = .ok (.astore_n 3, 1) := dk_78 (dk_at dksX9_takeItem_2 3 rfl rfl)
theorem dX9_takeItem_49 : decode cX9_takeItem 49 = .ok (.aload_n 3, 1) := dk_45 (dk_at dksX9_takeItem_2 4 rfl rfl)
theorem dX9_takeItem_50 : decode cX9_takeItem 50 = .ok (.getfield 172, 3) := dk_180 0 172 (dk_at dksX9_takeItem_2 5 rfl rfl)
theorem dX9_takeItem_53 : decode cX9_takeItem 53 = .ok (.ifCond .eq 35, 3) := dk_153 0 35 (dk_at dksX9_takeItem_2 8 rfl rfl)
theorem dX9_takeItem_56 : decode cX9_takeItem 56 = .ok (.aload_n 2, 1) := dk_44 (dk_at dksX9_takeItem_2 11 rfl rfl)
theorem dX9_takeItem_57 : decode cX9_takeItem 57 = .ok (.invokevirtual 177, 3) := dk_182 0 177 (dk_at dksX9_takeItem_2 12 rfl rfl)
theorem dX9_takeItem_60 : decode cX9_takeItem 60 = .ok (.aload_n 0, 1) := dk_42 (dk_at dksX9_takeItem_2 15 rfl rfl)
theorem dX9_takeItem_61 : decode cX9_takeItem 61 = .ok (.getfield 30, 3) := dk_180 0 30 (dk_at dksX9_takeItem_2 16 rfl rfl)
theorem dX9_takeItem_64 : decode cX9_takeItem 64 = .ok (.iload_n 1, 1) := dk_27 (dk_at dksX9_takeItem_2 19 rfl rfl)
theorem dX9_takeItem_65 : decode cX9_takeItem 65 = .ok (.invokevirtual 180, 3) := dk_182 0 180 (dk_at dksX9_takeItem_2 20 rfl rfl)
theorem dX9_takeItem_68 : decode cX9_takeItem 68 = .ok (.aload_n 0, 1) := dk_42 (dk_at dksX9_takeItem_2 23 rfl rfl)
theorem dX9_takeItem_69 : decode cX9_takeItem 69 = .ok (.getfield 30, 3) := dk_180 0 30 (dk_at dksX9_takeItem_3 0 rfl rfl)
theorem dX9_takeItem_72 : decode cX9_takeItem 72 = .ok (.invokevirtual 183, 3) := dk_182 0 183 (dk_at dksX9_takeItem_3 3 rfl rfl)
theorem dX9_takeItem_75 : decode cX9_takeItem 75 = .ok (.aload_n 0, 1) := dk_42 (dk_at dksX9_takeItem_3 6 rfl rfl)
theorem dX9_takeItem_76 : decode cX9_takeItem 76 = .ok (.invokevirtual 132, 3) := dk_182 0 132 (dk_at dksX9_takeItem_3 7 rfl rfl)
theorem dX9_takeItem_79 : decode cX9_takeItem 79 = .ok (.if_icmp .ne 7, 3) := dk_160 0 7 (dk_at dksX9_takeItem_3 10 rfl rfl)
theorem dX9_takeItem_82 : decode cX9_takeItem 82 = .ok (.aload_n 0, 1) := dk_42 (dk_at dksX9_takeItem_3 13 rfl rfl)
theorem dX9_takeItem_83 : decode cX9_takeItem 83 = .ok (.invokevirtual 186, 3) := dk_182 0 186 (dk_at dksX9_takeItem_3 14 rfl rfl)
theorem dX9_takeItem_86 : decode cX9_takeItem 86 = .ok (.iconst 1, 1) := dk_4 (dk_at dksX9_takeItem_3 17 rfl rfl)
theorem dX9_takeItem_87 : decode cX9_takeItem 87 = .ok (.ireturn, 1) := dk_172 (dk_at dksX9_takeItem_3 18 rfl rfl)
theorem dX9_takeItem_88 : decode cX9_takeItem 88 = .ok (.aload_n 3, 1) := dk_45 (dk_at dksX9_takeItem_3 19 rfl rfl)
theorem dX9_takeItem_89 : decode cX9_takeItem 89 = .ok (.invokevirtual 189, 3) := dk_182 0 189 (dk_at dksX9_takeItem_3 20 rfl rfl)
theorem dX9_takeItem_92 : decode cX9_takeItem 92 = .ok (.istore 4, 2) := dk_54 4 (dk_at dksX9_takeItem_4 0 rfl rfl)
theorem dX9_takeItem_94 : decode cX9_takeItem 94 = .ok (.aload_n 3, 1) := dk_45 (dk_at dksX9_takeItem_4 2 rfl rfl)
theorem dX9_takeItem_95 : decode cX9_takeItem 95 = .ok (.invokevirtual 192, 3) := dk_182 0 192 (dk_at dksX9_takeItem_4 3 rfl rfl)
theorem dX9_takeItem_98 : decode cX9_takeItem 98 = .ok (.istore 5, 2) := dk_54 5 (dk_at dksX9_takeItem_4 6 rfl rfl)
theorem dX9_takeItem_100 : decode cX9_takeItem 100 = .ok (.aload_n 3, 1) := dk_45 (dk_at dksX9_takeItem_4 8 rfl rfl)
theorem dX9_takeItem_101 : decode cX9_takeItem 101 = .ok (.invokevirtual 194, 3) := dk_182 0 194 (dk_at dksX9_takeItem_4 9 rfl rfl)
theorem dX9_takeItem_104 : decode cX9_takeItem 104 = .ok (.istore 6, 2) := dk_54 6 (dk_at dksX9_takeItem_4 12 rfl rfl)
theorem dX9_takeItem_106 : decode cX9_takeItem 106 = .ok (.aload_n 2, 1) := dk_44 (dk_at dksX9_takeItem_4 14 rfl rfl)
theorem dX9_takeItem_107 : decode cX9_takeItem 107 = .ok (.invokevirtual 196, 3) := dk_182 0 196 (dk_at dksX9_takeItem_4 15 rfl rfl)
theorem dX9_takeItem_110 : decode cX9_takeItem 110 = .ok (.aload_n 0, 1) := dk_42 (dk_at dksX9_takeItem_4 18 rfl rfl)
theorem dX9_takeItem_111 : decode cX9_takeItem 111 = .ok (.iload 4, 2) := dk_21 4 (dk_at dksX9_takeItem_4 19 rfl rfl)
theorem dX9_takeItem_113 : decode cX9_takeItem 113 = .ok (.iload 5, 2) := dk_21 5 (dk_at dksX9_takeItem_4 21 rfl rfl)
theorem dX9_takeItem_115 : decode cX9_takeItem 115 = .ok (.iload 6, 2) := dk_21 6 (dk_at dksX9_takeItem_5 0 rfl rfl)
theorem dX9_takeItem_117 : decode cX9_takeItem 117 = .ok (.invokevirtual 166, 3) := dk_182 0 166 (dk_at dksX9_takeItem_5 2 rfl rfl)
theorem dX9_takeItem_120 : decode cX9_takeItem 120 = .ok (.iconst 1, 1) := dk_4 (dk_at dksX9_takeItem_5 5 rfl rfl)
theorem dX9_takeItem_121 : decode cX9_takeItem 121 = .ok (.ireturn, 1) := dk_172 (dk_at dksX9_takeItem_5 6 rfl rfl)
abbrev cX9_input : ByteArray := prog_10_method_13_code
def yX9_input : MethodName := ⟨RX9, "input", "()I"⟩
def dkwX9_input_2 : List UInt8 := [180, 0, 45, 182, 0, 108, 182, 0, 141, 198, 0, 5, 28, 172, 132, 1, 1, 167, 255, 196, 18, 124, 172]
abbrev dktX9_input_2 : List UInt8 := dkwX9_input_2 ++ []
def dkwX9_input_1 : List UInt8 := [180, 0, 30, 28, 182, 0, 138, 154, 0, 29, 42, 180, 0, 3, 42, 180, 0, 41, 4, 100, 28, 42]
abbrev dktX9_input_1 : List UInt8 := dkwX9_input_1 ++ dktX9_input_2
def dkwX9_input_0 : List UInt8 := [3, 60, 27, 42, 182, 0, 132, 162, 0, 58, 42, 180, 0, 135, 27, 96, 42, 182, 0, 132, 112, 61, 42]
abbrev dktX9_input_0 : List UInt8 := dkwX9_input_0 ++ dktX9_input_1
theorem dksX9_input_0 : cX9_input.data.toList.drop 0 = dktX9_input_0 := by decide +kernel
theorem dksX9_input_1 : cX9_input.data.toList.drop 23 = dktX9_input_1 := dk_seg dksX9_input_0 23 rfl rfl
theorem dksX9_input_2 : cX9_input.data.toList.drop 45 = dktX9_input_2 := dk_seg dksX9_input_1 22 rfl rfl
theorem dX9_input_0 : decode cX9_input 0 = .ok (.iconst 0, 1) := dk_3 (dk_at dksX9_input_0 0 rfl rfl)
theorem dX9_input_1 : decode cX9_input 1 = .ok (.istore_n 1, 1) := dk_60 (dk_at dksX9_input_0 1 rfl rfl)
theorem dX9_input_2 : decode cX9_input 2 = .ok (.iload_n 1, 1) := dk_27 (dk_at dksX9_input_0 2 rfl rfl)
theorem dX9_input_3 : decode cX9_input 3 = .ok (.aload_n 0, 1) := dk_42 (dk_at dksX9_input_0 3 rfl rfl)
theorem dX9_input_4 : decode cX9_input 4 = .ok (.invokevirtual 132, 3) := dk_182 0 132 (dk_at dksX9_input_0 4 rfl rfl)
theorem dX9_input_7 : decode cX9_input 7 = .ok (.if_icmp .ge 58, 3) := dk_162 0 58 (dk_at dksX9_input_0 7 rfl rfl)
theorem dX9_input_10 : decode cX9_input 10 = .ok (.aload_n 0, 1) := dk_42 (dk_at dksX9_input_0 10 rfl rfl)
theorem dX9_input_11 : decode cX9_input 11 = .ok (.getfield 135, 3) := dk_180 0 135 (dk_at dksX9_input_0 11 rfl rfl)
theorem dX9_input_14 : decode cX9_input 14 = .ok (.iload_n 1, 1) := dk_27 (dk_at dksX9_input_0 14 rfl rfl)
theorem dX9_input_15 : decode cX9_input 15 = .ok (.iadd, 1) := dk_96 (dk_at dksX9_input_0 15 rfl rfl)
theorem dX9_input_16 : decode cX9_input 16 = .ok (.aload_n 0, 1) := dk_42 (dk_at dksX9_input_0 16 rfl rfl)
theorem dX9_input_17 : decode cX9_input 17 = .ok (.invokevirtual 132, 3) := dk_182 0 132 (dk_at dksX9_input_0 17 rfl rfl)
theorem dX9_input_20 : decode cX9_input 20 = .ok (.irem, 1) := dk_112 (dk_at dksX9_input_0 20 rfl rfl)
theorem dX9_input_21 : decode cX9_input 21 = .ok (.istore_n 2, 1) := dk_61 (dk_at dksX9_input_0 21 rfl rfl)
theorem dX9_input_22 : decode cX9_input 22 = .ok (.aload_n 0, 1) := dk_42 (dk_at dksX9_input_0 22 rfl rfl)
theorem dX9_input_23 : decode cX9_input 23 = .ok (.getfield 30, 3) := dk_180 0 30 (dk_at dksX9_input_1 0 rfl rfl)
theorem dX9_input_26 : decode cX9_input 26 = .ok (.iload_n 2, 1) := dk_28 (dk_at dksX9_input_1 3 rfl rfl)
theorem dX9_input_27 : decode cX9_input 27 = .ok (.invokevirtual 138, 3) := dk_182 0 138 (dk_at dksX9_input_1 4 rfl rfl)
theorem dX9_input_30 : decode cX9_input 30 = .ok (.ifCond .ne 29, 3) := dk_154 0 29 (dk_at dksX9_input_1 7 rfl rfl)
theorem dX9_input_33 : decode cX9_input 33 = .ok (.aload_n 0, 1) := dk_42 (dk_at dksX9_input_1 10 rfl rfl)
theorem dX9_input_34 : decode cX9_input 34 = .ok (.getfield 3, 3) := dk_180 0 3 (dk_at dksX9_input_1 11 rfl rfl)
theorem dX9_input_37 : decode cX9_input 37 = .ok (.aload_n 0, 1) := dk_42 (dk_at dksX9_input_1 14 rfl rfl)
theorem dX9_input_38 : decode cX9_input 38 = .ok (.getfield 41, 3) := dk_180 0 41 (dk_at dksX9_input_1 15 rfl rfl)
theorem dX9_input_41 : decode cX9_input 41 = .ok (.iconst 1, 1) := dk_4 (dk_at dksX9_input_1 18 rfl rfl)
theorem dX9_input_42 : decode cX9_input 42 = .ok (.isub, 1) := dk_100 (dk_at dksX9_input_1 19 rfl rfl)
theorem dX9_input_43 : decode cX9_input 43 = .ok (.iload_n 2, 1) := dk_28 (dk_at dksX9_input_1 20 rfl rfl)
theorem dX9_input_44 : decode cX9_input 44 = .ok (.aload_n 0, 1) := dk_42 (dk_at dksX9_input_1 21 rfl rfl)
theorem dX9_input_45 : decode cX9_input 45 = .ok (.getfield 45, 3) := dk_180 0 45 (dk_at dksX9_input_2 0 rfl rfl)
theorem dX9_input_48 : decode cX9_input 48 = .ok (.invokevirtual 108, 3) := dk_182 0 108 (dk_at dksX9_input_2 3 rfl rfl)
theorem dX9_input_51 : decode cX9_input 51 = .ok (.invokevirtual 141, 3) := dk_182 0 141 (dk_at dksX9_input_2 6 rfl rfl)
theorem dX9_input_54 : decode cX9_input 54 = .ok (.ifnull 5, 3) := dk_198 0 5 (dk_at dksX9_input_2 9 rfl rfl)
theorem dX9_input_57 : decode cX9_input 57 = .ok (.iload_n 2, 1) := dk_28 (dk_at dksX9_input_2 12 rfl rfl)
theorem dX9_input_58 : decode cX9_input 58 = .ok (.ireturn, 1) := dk_172 (dk_at dksX9_input_2 13 rfl rfl)
theorem dX9_input_59 : decode cX9_input 59 = .ok (.iinc 1 1, 3) := dk_132 1 1 (dk_at dksX9_input_2 14 rfl rfl)
theorem dX9_input_62 : decode cX9_input 62 = .ok (.goto (-60), 3) := dk_167 255 196 (dk_at dksX9_input_2 17 rfl rfl)
theorem dX9_input_65 : decode cX9_input 65 = .ok (.ldc 124, 2) := dk_18 124 (dk_at dksX9_input_2 20 rfl rfl)
theorem dX9_input_67 : decode cX9_input 67 = .ok (.ireturn, 1) := dk_172 (dk_at dksX9_input_2 22 rfl rfl)
abbrev cX9_inputs : ByteArray := prog_10_method_12_code
def yX9_inputs : MethodName := ⟨RX9, "inputs", "()I"⟩
def dkwX9_inputs_0 : List UInt8 := [42, 180, 0, 3, 180, 0, 48, 42, 180, 0, 41, 4, 100, 182, 0, 52, 192, 0, 58, 180, 0, 87, 172]
abbrev dktX9_inputs_0 : List UInt8 := dkwX9_inputs_0 ++ []
theorem dksX9_inputs_0 : cX9_inputs.data.toList.drop 0 = dktX9_inputs_0 := by decide +kernel
theorem dX9_inputs_0 : decode cX9_inputs 0 = .ok (.aload_n 0, 1) := dk_42 (dk_at dksX9_inputs_0 0 rfl rfl)
theorem dX9_inputs_1 : decode cX9_inputs 1 = .ok (.getfield 3, 3) := dk_180 0 3 (dk_at dksX9_inputs_0 1 rfl rfl)
theorem dX9_inputs_4 : decode cX9_inputs 4 = .ok (.getfield 48, 3) := dk_180 0 48 (dk_at dksX9_inputs_0 4 rfl rfl)
theorem dX9_inputs_7 : decode cX9_inputs 7 = .ok (.aload_n 0, 1) := dk_42 (dk_at dksX9_inputs_0 7 rfl rfl)
theorem dX9_inputs_8 : decode cX9_inputs 8 = .ok (.getfield 41, 3) := dk_180 0 41 (dk_at dksX9_inputs_0 8 rfl rfl)
theorem dX9_inputs_11 : decode cX9_inputs 11 = .ok (.iconst 1, 1) := dk_4 (dk_at dksX9_inputs_0 11 rfl rfl)
theorem dX9_inputs_12 : decode cX9_inputs 12 = .ok (.isub, 1) := dk_100 (dk_at dksX9_inputs_0 12 rfl rfl)
theorem dX9_inputs_13 : decode cX9_inputs 13 = .ok (.invokevirtual 52, 3) := dk_182 0 52 (dk_at dksX9_inputs_0 13 rfl rfl)
theorem dX9_inputs_16 : decode cX9_inputs 16 = .ok (.checkcast 58, 3) := dk_192 0 58 (dk_at dksX9_inputs_0 16 rfl rfl)
theorem dX9_inputs_19 : decode cX9_inputs 19 = .ok (.getfield 87, 3) := dk_180 0 87 (dk_at dksX9_inputs_0 19 rfl rfl)
theorem dX9_inputs_22 : decode cX9_inputs 22 = .ok (.ireturn, 1) := dk_172 (dk_at dksX9_inputs_0 22 rfl rfl)
abbrev cX9_align : ByteArray := prog_10_method_18_code
def yX9_align : MethodName := ⟨RX9, "align", "()V"⟩
def dkwX9_align_5 : List UInt8 := [4, 181, 0, 128, 177]
abbrev dktX9_align_5 : List UInt8 := dkwX9_align_5 ++ []
def dkwX9_align_4 : List UInt8 := [180, 0, 236, 42, 182, 0, 73, 180, 0, 87, 160, 0, 18, 42, 180, 0, 3, 182, 0, 239, 167, 0, 8, 42]
abbrev dktX9_align_4 : List UInt8 := dkwX9_align_4 ++ dktX9_align_5
def dkwX9_align_3 : List UInt8 := [182, 0, 199, 153, 0, 43, 42, 180, 0, 3, 89, 180, 0, 236, 4, 96, 181, 0, 236, 42, 180, 0, 3]
abbrev dktX9_align_3 : List UInt8 := dkwX9_align_3 ++ dktX9_align_4
def dkwX9_align_2 : List UInt8 := [180, 0, 38, 180, 0, 94, 192, 0, 100, 42, 180, 0, 38, 180, 0, 225, 192, 0, 100, 182, 0, 232, 42]
abbrev dktX9_align_2 : List UInt8 := dkwX9_align_2 ++ dktX9_align_3
def dkwX9_align_1 : List UInt8 := [180, 0, 214, 180, 0, 225, 192, 0, 217, 42, 180, 0, 45, 42, 182, 0, 73, 180, 0, 87, 182, 0, 228, 42]
abbrev dktX9_align_1 : List UInt8 := dkwX9_align_1 ++ dktX9_align_2
def dkwX9_align_0 : List UInt8 := [42, 180, 0, 30, 182, 0, 222, 42, 182, 0, 73, 180, 0, 214, 180, 0, 94, 192, 0, 217, 42, 182, 0, 73]
abbrev dktX9_align_0 : List UInt8 := dkwX9_align_0 ++ dktX9_align_1
theorem dksX9_align_0 : cX9_align.data.toList.drop 0 = dktX9_align_0 := by decide +kernel
theorem dksX9_align_1 : cX9_align.data.toList.drop 24 = dktX9_align_1 := dk_seg dksX9_align_0 24 rfl rfl
theorem dksX9_align_2 : cX9_align.data.toList.drop 48 = dktX9_align_2 := dk_seg dksX9_align_1 24 rfl rfl
theorem dksX9_align_3 : cX9_align.data.toList.drop 71 = dktX9_align_3 := dk_seg dksX9_align_2 23 rfl rfl
theorem dksX9_align_4 : cX9_align.data.toList.drop 94 = dktX9_align_4 := dk_seg dksX9_align_3 23 rfl rfl
theorem dksX9_align_5 : cX9_align.data.toList.drop 118 = dktX9_align_5 := dk_seg dksX9_align_4 24 rfl rfl
theorem dX9_align_0 : decode cX9_align 0 = .ok (.aload_n 0, 1) := dk_42 (dk_at dksX9_align_0 0 rfl rfl)
theorem dX9_align_1 : decode cX9_align 1 = .ok (.getfield 30, 3) := dk_180 0 30 (dk_at dksX9_align_0 1 rfl rfl)
theorem dX9_align_4 : decode cX9_align 4 = .ok (.invokevirtual 222, 3) := dk_182 0 222 (dk_at dksX9_align_0 4 rfl rfl)
theorem dX9_align_7 : decode cX9_align 7 = .ok (.aload_n 0, 1) := dk_42 (dk_at dksX9_align_0 7 rfl rfl)
theorem dX9_align_8 : decode cX9_align 8 = .ok (.invokevirtual 73, 3) := dk_182 0 73 (dk_at dksX9_align_0 8 rfl rfl)
theorem dX9_align_11 : decode cX9_align 11 = .ok (.getfield 214, 3) := dk_180 0 214 (dk_at dksX9_align_0 11 rfl rfl)
theorem dX9_align_14 : decode cX9_align 14 = .ok (.getfield 94, 3) := dk_180 0 94 (dk_at dksX9_align_0 14 rfl rfl)
theorem dX9_align_17 : decode cX9_align 17 = .ok (.checkcast 217, 3) := dk_192 0 217 (dk_at dksX9_align_0 17 rfl rfl)
theorem dX9_align_20 : decode cX9_align 20 = .ok (.aload_n 0, 1) := dk_42 (dk_at dksX9_align_0 20 rfl rfl)
theorem dX9_align_21 : decode cX9_align 21 = .ok (.invokevirtual 73, 3) := dk_182 0 73 (dk_at dksX9_align_0 21 rfl rfl)
theorem dX9_align_24 : decode cX9_align 24 = .ok (.getfield 214, 3) := dk_180 0 214 (dk_at dksX9_align_1 0 rfl rfl)
theorem dX9_align_27 : decode cX9_align 27 = .ok (.getfield 225, 3) := dk_180 0 225 (dk_at dksX9_align_1 3 rfl rfl)
theorem dX9_align_30 : decode cX9_align 30 = .ok (.checkcast 217, 3) := dk_192 0 217 (dk_at dksX9_align_1 6 rfl rfl)
theorem dX9_align_33 : decode cX9_align 33 = .ok (.aload_n 0, 1) := dk_42 (dk_at dksX9_align_1 9 rfl rfl)
theorem dX9_align_34 : decode cX9_align 34 = .ok (.getfield 45, 3) := dk_180 0 45 (dk_at dksX9_align_1 10 rfl rfl)
theorem dX9_align_37 : decode cX9_align 37 = .ok (.aload_n 0, 1) := dk_42 (dk_at dksX9_align_1 13 rfl rfl)
theorem dX9_align_38 : decode cX9_align 38 = .ok (.invokevirtual 73, 3) := dk_182 0 73 (dk_at dksX9_align_1 14 rfl rfl)
theorem dX9_align_41 : decode cX9_align 41 = .ok (.getfield 87, 3) := dk_180 0 87 (dk_at dksX9_align_1 17 rfl rfl)
theorem dX9_align_44 : decode cX9_align 44 = .ok (.invokevirtual 228, 3) := dk_182 0 228 (dk_at dksX9_align_1 20 rfl rfl)
theorem dX9_align_47 : decode cX9_align 47 = .ok (.aload_n 0, 1) := dk_42 (dk_at dksX9_align_1 23 rfl rfl)
theorem dX9_align_48 : decode cX9_align 48 = .ok (.getfield 38, 3) := dk_180 0 38 (dk_at dksX9_align_2 0 rfl rfl)
theorem dX9_align_51 : decode cX9_align 51 = .ok (.getfield 94, 3) := dk_180 0 94 (dk_at dksX9_align_2 3 rfl rfl)
theorem dX9_align_54 : decode cX9_align 54 = .ok (.checkcast 100, 3) := dk_192 0 100 (dk_at dksX9_align_2 6 rfl rfl)
theorem dX9_align_57 : decode cX9_align 57 = .ok (.aload_n 0, 1) := dk_42 (dk_at dksX9_align_2 9 rfl rfl)
theorem dX9_align_58 : decode cX9_align 58 = .ok (.getfield 38, 3) := dk_180 0 38 (dk_at dksX9_align_2 10 rfl rfl)
theorem dX9_align_61 : decode cX9_align 61 = .ok (.getfield 225, 3) := dk_180 0 225 (dk_at dksX9_align_2 13 rfl rfl)
theorem dX9_align_64 : decode cX9_align 64 = .ok (.checkcast 100, 3) := dk_192 0 100 (dk_at dksX9_align_2 16 rfl rfl)
theorem dX9_align_67 : decode cX9_align 67 = .ok (.invokevirtual 232, 3) := dk_182 0 232 (dk_at dksX9_align_2 19 rfl rfl)
theorem dX9_align_70 : decode cX9_align 70 = .ok (.aload_n 0, 1) := dk_42 (dk_at dksX9_align_2 22 rfl rfl)
theorem dX9_align_71 : decode cX9_align 71 = .ok (.invokevirtual 199, 3) := dk_182 0 199 (dk_at dksX9_align_3 0 rfl rfl)
theorem dX9_align_74 : decode cX9_align 74 = .ok (.ifCond .eq 43, 3) := dk_153 0 43 (dk_at dksX9_align_3 3 rfl rfl)
theorem dX9_align_77 : decode cX9_align 77 = .ok (.aload_n 0, 1) := dk_42 (dk_at dksX9_align_3 6 rfl rfl)
theorem dX9_align_78 : decode cX9_align 78 = .ok (.getfield 3, 3) := dk_180 0 3 (dk_at dksX9_align_3 7 rfl rfl)
theorem dX9_align_81 : decode cX9_align 81 = .ok (.dup, 1) := dk_89 (dk_at dksX9_align_3 10 rfl rfl)
theorem dX9_align_82 : decode cX9_align 82 = .ok (.getfield 236, 3) := dk_180 0 236 (dk_at dksX9_align_3 11 rfl rfl)
theorem dX9_align_85 : decode cX9_align 85 = .ok (.iconst 1, 1) := dk_4 (dk_at dksX9_align_3 14 rfl rfl)
theorem dX9_align_86 : decode cX9_align 86 = .ok (.iadd, 1) := dk_96 (dk_at dksX9_align_3 15 rfl rfl)
theorem dX9_align_87 : decode cX9_align 87 = .ok (.putfield 236, 3) := dk_181 0 236 (dk_at dksX9_align_3 16 rfl rfl)
theorem dX9_align_90 : decode cX9_align 90 = .ok (.aload_n 0, 1) := dk_42 (dk_at dksX9_align_3 19 rfl rfl)
theorem dX9_align_91 : decode cX9_align 91 = .ok (.getfield 3, 3) := dk_180 0 3 (dk_at dksX9_align_3 20 rfl rfl)
theorem dX9_align_94 : decode cX9_align 94 = .ok (.getfield 236, 3) := dk_180 0 236 (dk_at dksX9_align_4 0 rfl rfl)
theorem dX9_align_97 : decode cX9_align 97 = .ok (.aload_n 0, 1) := dk_42 (dk_at dksX9_align_4 3 rfl rfl)
theorem dX9_align_98 : decode cX9_align 98 = .ok (.invokevirtual 73, 3) := dk_182 0 73 (dk_at dksX9_align_4 4 rfl rfl)
theorem dX9_align_101 : decode cX9_align 101 = .ok (.getfield 87, 3) := dk_180 0 87 (dk_at dksX9_align_4 7 rfl rfl)
theorem dX9_align_104 : decode cX9_align 104 = .ok (.if_icmp .ne 18, 3) := dk_160 0 18 (dk_at dksX9_align_4 10 rfl rfl)
theorem dX9_align_107 : decode cX9_align 107 = .ok (.aload_n 0, 1) := dk_42 (dk_at dksX9_align_4 13 rfl rfl)
theorem dX9_align_108 : decode cX9_align 108 = .ok (.getfield 3, 3) := dk_180 0 3 (dk_at dksX9_align_4 14 rfl rfl)
theorem dX9_align_111 : decode cX9_align 111 = .ok (.invokevirtual 239, 3) := dk_182 0 239 (dk_at dksX9_align_4 17 rfl rfl)
theorem dX9_align_114 : decode cX9_align 114 = .ok (.goto 8, 3) := dk_167 0 8 (dk_at dksX9_align_4 20 rfl rfl)
theorem dX9_align_117 : decode cX9_align 117 = .ok (.aload_n 0, 1) := dk_42 (dk_at dksX9_align_4 23 rfl rfl)
theorem dX9_align_118 : decode cX9_align 118 = .ok (.iconst 1, 1) := dk_4 (dk_at dksX9_align_5 0 rfl rfl)
theorem dX9_align_119 : decode cX9_align 119 = .ok (.putfield 128, 3) := dk_181 0 128 (dk_at dksX9_align_5 1 rfl rfl)
theorem dX9_align_122 : decode cX9_align 122 = .ok (.return_, 1) := dk_177 (dk_at dksX9_align_5 4 rfl rfl)
abbrev cX9_drop : ByteArray := prog_10_method_21_code
def yX9_drop : MethodName := ⟨RX9, "drop", "()V"⟩
def dkwX9_drop_1 : List UInt8 := [181, 0, 135, 177]
abbrev dktX9_drop_1 : List UInt8 := dkwX9_drop_1 ++ []
def dkwX9_drop_0 : List UInt8 := [42, 3, 181, 0, 67, 42, 3, 181, 0, 64, 42, 3, 181, 0, 128, 42, 180, 0, 30, 182, 0, 222, 42, 3]
abbrev dktX9_drop_0 : List UInt8 := dkwX9_drop_0 ++ dktX9_drop_1
theorem dksX9_drop_0 : cX9_drop.data.toList.drop 0 = dktX9_drop_0 := by decide +kernel
theorem dksX9_drop_1 : cX9_drop.data.toList.drop 24 = dktX9_drop_1 := dk_seg dksX9_drop_0 24 rfl rfl
theorem dX9_drop_0 : decode cX9_drop 0 = .ok (.aload_n 0, 1) := dk_42 (dk_at dksX9_drop_0 0 rfl rfl)
theorem dX9_drop_1 : decode cX9_drop 1 = .ok (.iconst 0, 1) := dk_3 (dk_at dksX9_drop_0 1 rfl rfl)
theorem dX9_drop_2 : decode cX9_drop 2 = .ok (.putfield 67, 3) := dk_181 0 67 (dk_at dksX9_drop_0 2 rfl rfl)
theorem dX9_drop_5 : decode cX9_drop 5 = .ok (.aload_n 0, 1) := dk_42 (dk_at dksX9_drop_0 5 rfl rfl)
theorem dX9_drop_6 : decode cX9_drop 6 = .ok (.iconst 0, 1) := dk_3 (dk_at dksX9_drop_0 6 rfl rfl)
theorem dX9_drop_7 : decode cX9_drop 7 = .ok (.putfield 64, 3) := dk_181 0 64 (dk_at dksX9_drop_0 7 rfl rfl)
theorem dX9_drop_10 : decode cX9_drop 10 = .ok (.aload_n 0, 1) := dk_42 (dk_at dksX9_drop_0 10 rfl rfl)
theorem dX9_drop_11 : decode cX9_drop 11 = .ok (.iconst 0, 1) := dk_3 (dk_at dksX9_drop_0 11 rfl rfl)
theorem dX9_drop_12 : decode cX9_drop 12 = .ok (.putfield 128, 3) := dk_181 0 128 (dk_at dksX9_drop_0 12 rfl rfl)
theorem dX9_drop_15 : decode cX9_drop 15 = .ok (.aload_n 0, 1) := dk_42 (dk_at dksX9_drop_0 15 rfl rfl)
theorem dX9_drop_16 : decode cX9_drop 16 = .ok (.getfield 30, 3) := dk_180 0 30 (dk_at dksX9_drop_0 16 rfl rfl)
theorem dX9_drop_19 : decode cX9_drop 19 = .ok (.invokevirtual 222, 3) := dk_182 0 222 (dk_at dksX9_drop_0 19 rfl rfl)
theorem dX9_drop_22 : decode cX9_drop 22 = .ok (.aload_n 0, 1) := dk_42 (dk_at dksX9_drop_0 22 rfl rfl)
theorem dX9_drop_23 : decode cX9_drop 23 = .ok (.iconst 0, 1) := dk_3 (dk_at dksX9_drop_0 23 rfl rfl)
theorem dX9_drop_24 : decode cX9_drop 24 = .ok (.putfield 135, 3) := dk_181 0 135 (dk_at dksX9_drop_1 0 rfl rfl)
theorem dX9_drop_27 : decode cX9_drop 27 = .ok (.return_, 1) := dk_177 (dk_at dksX9_drop_1 3 rfl rfl)
abbrev cX9_stopped : ByteArray := prog_10_method_22_code
def yX9_stopped : MethodName := ⟨RX9, "stopped", "()I"⟩
def dkwX9_stopped_1 : List UInt8 := [167, 0, 4, 3, 128, 60, 132, 2, 1, 167, 255, 227, 27, 172]
abbrev dktX9_stopped_1 : List UInt8 := dkwX9_stopped_1 ++ []
def dkwX9_stopped_0 : List UInt8 := [3, 60, 3, 61, 28, 6, 162, 0, 30, 27, 42, 180, 0, 30, 28, 182, 0, 138, 153, 0, 9, 4, 28, 120]
abbrev dktX9_stopped_0 : List UInt8 := dkwX9_stopped_0 ++ dktX9_stopped_1
theorem dksX9_stopped_0 : cX9_stopped.data.toList.drop 0 = dktX9_stopped_0 := by decide +kernel
theorem dksX9_stopped_1 : cX9_stopped.data.toList.drop 24 = dktX9_stopped_1 := dk_seg dksX9_stopped_0 24 rfl rfl
theorem dX9_stopped_0 : decode cX9_stopped 0 = .ok (.iconst 0, 1) := dk_3 (dk_at dksX9_stopped_0 0 rfl rfl)
theorem dX9_stopped_1 : decode cX9_stopped 1 = .ok (.istore_n 1, 1) := dk_60 (dk_at dksX9_stopped_0 1 rfl rfl)
theorem dX9_stopped_2 : decode cX9_stopped 2 = .ok (.iconst 0, 1) := dk_3 (dk_at dksX9_stopped_0 2 rfl rfl)
theorem dX9_stopped_3 : decode cX9_stopped 3 = .ok (.istore_n 2, 1) := dk_61 (dk_at dksX9_stopped_0 3 rfl rfl)
theorem dX9_stopped_4 : decode cX9_stopped 4 = .ok (.iload_n 2, 1) := dk_28 (dk_at dksX9_stopped_0 4 rfl rfl)
theorem dX9_stopped_5 : decode cX9_stopped 5 = .ok (.iconst 3, 1) := dk_6 (dk_at dksX9_stopped_0 5 rfl rfl)
theorem dX9_stopped_6 : decode cX9_stopped 6 = .ok (.if_icmp .ge 30, 3) := dk_162 0 30 (dk_at dksX9_stopped_0 6 rfl rfl)
theorem dX9_stopped_9 : decode cX9_stopped 9 = .ok (.iload_n 1, 1) := dk_27 (dk_at dksX9_stopped_0 9 rfl rfl)
theorem dX9_stopped_10 : decode cX9_stopped 10 = .ok (.aload_n 0, 1) := dk_42 (dk_at dksX9_stopped_0 10 rfl rfl)
theorem dX9_stopped_11 : decode cX9_stopped 11 = .ok (.getfield 30, 3) := dk_180 0 30 (dk_at dksX9_stopped_0 11 rfl rfl)
theorem dX9_stopped_14 : decode cX9_stopped 14 = .ok (.iload_n 2, 1) := dk_28 (dk_at dksX9_stopped_0 14 rfl rfl)
theorem dX9_stopped_15 : decode cX9_stopped 15 = .ok (.invokevirtual 138, 3) := dk_182 0 138 (dk_at dksX9_stopped_0 15 rfl rfl)
theorem dX9_stopped_18 : decode cX9_stopped 18 = .ok (.ifCond .eq 9, 3) := dk_153 0 9 (dk_at dksX9_stopped_0 18 rfl rfl)
theorem dX9_stopped_21 : decode cX9_stopped 21 = .ok (.iconst 1, 1) := dk_4 (dk_at dksX9_stopped_0 21 rfl rfl)
theorem dX9_stopped_22 : decode cX9_stopped 22 = .ok (.iload_n 2, 1) := dk_28 (dk_at dksX9_stopped_0 22 rfl rfl)
theorem dX9_stopped_23 : decode cX9_stopped 23 = .ok (.ishl, 1) := dk_120 (dk_at dksX9_stopped_0 23 rfl rfl)
theorem dX9_stopped_24 : decode cX9_stopped 24 = .ok (.goto 4, 3) := dk_167 0 4 (dk_at dksX9_stopped_1 0 rfl rfl)
theorem dX9_stopped_27 : decode cX9_stopped 27 = .ok (.iconst 0, 1) := dk_3 (dk_at dksX9_stopped_1 3 rfl rfl)
theorem dX9_stopped_28 : decode cX9_stopped 28 = .ok (.ior, 1) := dk_128 (dk_at dksX9_stopped_1 4 rfl rfl)
theorem dX9_stopped_29 : decode cX9_stopped 29 = .ok (.istore_n 1, 1) := dk_60 (dk_at dksX9_stopped_1 5 rfl rfl)
theorem dX9_stopped_30 : decode cX9_stopped 30 = .ok (.iinc 2 1, 3) := dk_132 2 1 (dk_at dksX9_stopped_1 6 rfl rfl)
theorem dX9_stopped_33 : decode cX9_stopped 33 = .ok (.goto (-29), 3) := dk_167 255 227 (dk_at dksX9_stopped_1 9 rfl rfl)
theorem dX9_stopped_36 : decode cX9_stopped 36 = .ok (.iload_n 1, 1) := dk_27 (dk_at dksX9_stopped_1 12 rfl rfl)
theorem dX9_stopped_37 : decode cX9_stopped 37 = .ok (.ireturn, 1) := dk_172 (dk_at dksX9_stopped_1 13 rfl rfl)
abbrev cX9_keys : ByteArray := prog_10_method_23_code
def yX9_keys : MethodName := ⟨RX9, "keys", "()I"⟩
def dkwX9_keys_2 : List UInt8 := [160, 0, 7, 4, 167, 0, 4, 3, 96, 60, 132, 2, 1, 167, 255, 201, 27, 172]
abbrev dktX9_keys_2 : List UInt8 := dkwX9_keys_2 ++ []
def dkwX9_keys_1 : List UInt8 := [28, 182, 1, 13, 153, 0, 25, 28, 42, 182, 0, 73, 180, 0, 87, 184, 0, 90, 42, 180, 0, 45]
abbrev dktX9_keys_1 : List UInt8 := dkwX9_keys_1 ++ dktX9_keys_2
def dkwX9_keys_0 : List UInt8 := [3, 60, 3, 61, 28, 16, 16, 162, 0, 55, 27, 42, 182, 0, 73, 180, 0, 214, 180, 0, 94, 192, 0, 217]
abbrev dktX9_keys_0 : List UInt8 := dkwX9_keys_0 ++ dktX9_keys_1
theorem dksX9_keys_0 : cX9_keys.data.toList.drop 0 = dktX9_keys_0 := by decide +kernel
theorem dksX9_keys_1 : cX9_keys.data.toList.drop 24 = dktX9_keys_1 := dk_seg dksX9_keys_0 24 rfl rfl
theorem dksX9_keys_2 : cX9_keys.data.toList.drop 46 = dktX9_keys_2 := dk_seg dksX9_keys_1 22 rfl rfl
theorem dX9_keys_0 : decode cX9_keys 0 = .ok (.iconst 0, 1) := dk_3 (dk_at dksX9_keys_0 0 rfl rfl)
theorem dX9_keys_1 : decode cX9_keys 1 = .ok (.istore_n 1, 1) := dk_60 (dk_at dksX9_keys_0 1 rfl rfl)
theorem dX9_keys_2 : decode cX9_keys 2 = .ok (.iconst 0, 1) := dk_3 (dk_at dksX9_keys_0 2 rfl rfl)
theorem dX9_keys_3 : decode cX9_keys 3 = .ok (.istore_n 2, 1) := dk_61 (dk_at dksX9_keys_0 3 rfl rfl)
theorem dX9_keys_4 : decode cX9_keys 4 = .ok (.iload_n 2, 1) := dk_28 (dk_at dksX9_keys_0 4 rfl rfl)
theorem dX9_keys_5 : decode cX9_keys 5 = .ok (.bipush 16, 2) := dk_16 16 (dk_at dksX9_keys_0 5 rfl rfl)
theorem dX9_keys_7 : decode cX9_keys 7 = .ok (.if_icmp .ge 55, 3) := dk_162 0 55 (dk_at dksX9_keys_0 7 rfl rfl)
theorem dX9_keys_10 : decode cX9_keys 10 = .ok (.iload_n 1, 1) := dk_27 (dk_at dksX9_keys_0 10 rfl rfl)
theorem dX9_keys_11 : decode cX9_keys 11 = .ok (.aload_n 0, 1) := dk_42 (dk_at dksX9_keys_0 11 rfl rfl)
theorem dX9_keys_12 : decode cX9_keys 12 = .ok (.invokevirtual 73, 3) := dk_182 0 73 (dk_at dksX9_keys_0 12 rfl rfl)
theorem dX9_keys_15 : decode cX9_keys 15 = .ok (.getfield 214, 3) := dk_180 0 214 (dk_at dksX9_keys_0 15 rfl rfl)
theorem dX9_keys_18 : decode cX9_keys 18 = .ok (.getfield 94, 3) := dk_180 0 94 (dk_at dksX9_keys_0 18 rfl rfl)
theorem dX9_keys_21 : decode cX9_keys 21 = .ok (.checkcast 217, 3) := dk_192 0 217 (dk_at dksX9_keys_0 21 rfl rfl)
theorem dX9_keys_24 : decode cX9_keys 24 = .ok (.iload_n 2, 1) := dk_28 (dk_at dksX9_keys_1 0 rfl rfl)
theorem dX9_keys_25 : decode cX9_keys 25 = .ok (.invokevirtual 269, 3) := dk_182 1 13 (dk_at dksX9_keys_1 1 rfl rfl)
theorem dX9_keys_28 : decode cX9_keys 28 = .ok (.ifCond .eq 25, 3) := dk_153 0 25 (dk_at dksX9_keys_1 4 rfl rfl)
theorem dX9_keys_31 : decode cX9_keys 31 = .ok (.iload_n 2, 1) := dk_28 (dk_at dksX9_keys_1 7 rfl rfl)
theorem dX9_keys_32 : decode cX9_keys 32 = .ok (.aload_n 0, 1) := dk_42 (dk_at dksX9_keys_1 8 rfl rfl)
theorem dX9_keys_33 : decode cX9_keys 33 = .ok (.invokevirtual 73, 3) := dk_182 0 73 (dk_at dksX9_keys_1 9 rfl rfl)
theorem dX9_keys_36 : decode cX9_keys 36 = .ok (.getfield 87, 3) := dk_180 0 87 (dk_at dksX9_keys_1 12 rfl rfl)
theorem dX9_keys_39 : decode cX9_keys 39 = .ok (.invokestatic 90, 3) := dk_184 0 90 (dk_at dksX9_keys_1 15 rfl rfl)
theorem dX9_keys_42 : decode cX9_keys 42 = .ok (.aload_n 0, 1) := dk_42 (dk_at dksX9_keys_1 18 rfl rfl)
theorem dX9_keys_43 : decode cX9_keys 43 = .ok (.getfield 45, 3) := dk_180 0 45 (dk_at dksX9_keys_1 19 rfl rfl)
theorem dX9_keys_46 : decode cX9_keys 46 = .ok (.if_icmp .ne 7, 3) := dk_160 0 7 (dk_at dksX9_keys_2 0 rfl rfl)
theorem dX9_keys_49 : decode cX9_keys 49 = .ok (.iconst 1, 1) := dk_4 (dk_at dksX9_keys_2 3 rfl rfl)
theorem dX9_keys_50 : decode cX9_keys 50 = .ok (.goto 4, 3) := dk_167 0 4 (dk_at dksX9_keys_2 4 rfl rfl)
theorem dX9_keys_53 : decode cX9_keys 53 = .ok (.iconst 0, 1) := dk_3 (dk_at dksX9_keys_2 7 rfl rfl)
theorem dX9_keys_54 : decode cX9_keys 54 = .ok (.iadd, 1) := dk_96 (dk_at dksX9_keys_2 8 rfl rfl)
theorem dX9_keys_55 : decode cX9_keys 55 = .ok (.istore_n 1, 1) := dk_60 (dk_at dksX9_keys_2 9 rfl rfl)
theorem dX9_keys_56 : decode cX9_keys 56 = .ok (.iinc 2 1, 3) := dk_132 2 1 (dk_at dksX9_keys_2 10 rfl rfl)
theorem dX9_keys_59 : decode cX9_keys 59 = .ok (.goto (-55), 3) := dk_167 255 201 (dk_at dksX9_keys_2 13 rfl rfl)
theorem dX9_keys_62 : decode cX9_keys 62 = .ok (.iload_n 1, 1) := dk_27 (dk_at dksX9_keys_2 16 rfl rfl)
theorem dX9_keys_63 : decode cX9_keys 63 = .ok (.ireturn, 1) := dk_172 (dk_at dksX9_keys_2 17 rfl rfl)
abbrev cX9_explain : ByteArray := prog_10_method_27_code
def yX9_explain : MethodName := ⟨RX9, "explain", "(I)V"⟩
def dkwX9_explain_2 : List UInt8 := [96, 182, 1, 41, 167, 0, 14, 58, 4, 45, 25, 4, 182, 1, 44, 87, 45, 191, 177]
abbrev dktX9_explain_2 : List UInt8 := dkwX9_explain_2 ++ []
def dkwX9_explain_1 : List UInt8 := [183, 1, 34, 78, 28, 7, 162, 0, 9, 27, 16, 7, 160, 0, 5, 45, 191, 42, 28, 182, 1, 37, 27, 4]
abbrev dktX9_explain_1 : List UInt8 := dkwX9_explain_1 ++ dktX9_explain_2
def dkwX9_explain_0 : List UInt8 := [42, 182, 1, 29, 61, 187, 1, 32, 89, 16, 10, 42, 180, 0, 41, 104, 42, 180, 0, 45, 96, 28]
abbrev dktX9_explain_0 : List UInt8 := dkwX9_explain_0 ++ dktX9_explain_1
theorem dksX9_explain_0 : cX9_explain.data.toList.drop 0 = dktX9_explain_0 := by decide +kernel
theorem dksX9_explain_1 : cX9_explain.data.toList.drop 22 = dktX9_explain_1 := dk_seg dksX9_explain_0 22 rfl rfl
theorem dksX9_explain_2 : cX9_explain.data.toList.drop 46 = dktX9_explain_2 := dk_seg dksX9_explain_1 24 rfl rfl
theorem dX9_explain_0 : decode cX9_explain 0 = .ok (.aload_n 0, 1) := dk_42 (dk_at dksX9_explain_0 0 rfl rfl)
theorem dX9_explain_1 : decode cX9_explain 1 = .ok (.invokevirtual 285, 3) := dk_182 1 29 (dk_at dksX9_explain_0 1 rfl rfl)
theorem dX9_explain_4 : decode cX9_explain 4 = .ok (.istore_n 2, 1) := dk_61 (dk_at dksX9_explain_0 4 rfl rfl)
theorem dX9_explain_5 : decode cX9_explain 5 = .ok (.new 288, 3) := dk_187 1 32 (dk_at dksX9_explain_0 5 rfl rfl)
theorem dX9_explain_8 : decode cX9_explain 8 = .ok (.dup, 1) := dk_89 (dk_at dksX9_explain_0 8 rfl rfl)
theorem dX9_explain_9 : decode cX9_explain 9 = .ok (.bipush 10, 2) := dk_16 10 (dk_at dksX9_explain_0 9 rfl rfl)
theorem dX9_explain_11 : decode cX9_explain 11 = .ok (.aload_n 0, 1) := dk_42 (dk_at dksX9_explain_0 11 rfl rfl)
theorem dX9_explain_12 : decode cX9_explain 12 = .ok (.getfield 41, 3) := dk_180 0 41 (dk_at dksX9_explain_0 12 rfl rfl)
theorem dX9_explain_15 : decode cX9_explain 15 = .ok (.imul, 1) := dk_104 (dk_at dksX9_explain_0 15 rfl rfl)
theorem dX9_explain_16 : decode cX9_explain 16 = .ok (.aload_n 0, 1) := dk_42 (dk_at dksX9_explain_0 16 rfl rfl)
theorem dX9_explain_17 : decode cX9_explain 17 = .ok (.getfield 45, 3) := dk_180 0 45 (dk_at dksX9_explain_0 17 rfl rfl)
theorem dX9_explain_20 : decode cX9_explain 20 = .ok (.iadd, 1) := dk_96 (dk_at dksX9_explain_0 20 rfl rfl)
theorem dX9_explain_21 : decode cX9_explain 21 = .ok (.iload_n 2, 1) := dk_28 (dk_at dksX9_explain_0 21 rfl rfl)
theorem dX9_explain_22 : decode cX9_explain 22 = .ok (.invokespecial 290, 3) := dk_183 1 34 (dk_at dksX9_explain_1 0 rfl rfl)
theorem dX9_explain_25 : decode cX9_explain 25 = .ok (.astore_n 3, 1) := dk_78 (dk_at dksX9_explain_1 3 rfl rfl)
theorem dX9_explain_26 : decode cX9_explain 26 = .ok (.iload_n 2, 1) := dk_28 (dk_at dksX9_explain_1 4 rfl rfl)
theorem dX9_explain_27 : decode cX9_explain 27 = .ok (.iconst 4, 1) := dk_7 (dk_at dksX9_explain_1 5 rfl rfl)
theorem dX9_explain_28 : decode cX9_explain 28 = .ok (.if_icmp .ge 9, 3) := dk_162 0 9 (dk_at dksX9_explain_1 6 rfl rfl)
theorem dX9_explain_31 : decode cX9_explain 31 = .ok (.iload_n 1, 1) := dk_27 (dk_at dksX9_explain_1 9 rfl rfl)
theorem dX9_explain_32 : decode cX9_explain 32 = .ok (.bipush 7, 2) := dk_16 7 (dk_at dksX9_explain_1 10 rfl rfl)
theorem dX9_explain_34 : decode cX9_explain 34 = .ok (.if_icmp .ne 5, 3) := dk_160 0 5 (dk_at dksX9_explain_1 12 rfl rfl)
theorem dX9_explain_37 : decode cX9_explain 37 = .ok (.aload_n 3, 1) := dk_45 (dk_at dksX9_explain_1 15 rfl rfl)
theorem dX9_explain_38 : decode cX9_explain 38 = .ok (.athrow, 1) := dk_191 (dk_at dksX9_explain_1 16 rfl rfl)
theorem dX9_explain_39 : decode cX9_explain 39 = .ok (.aload_n 0, 1) := dk_42 (dk_at dksX9_explain_1 17 rfl rfl)
theorem dX9_explain_40 : decode cX9_explain 40 = .ok (.iload_n 2, 1) := dk_28 (dk_at dksX9_explain_1 18 rfl rfl)
theorem dX9_explain_41 : decode cX9_explain 41 = .ok (.invokevirtual 293, 3) := dk_182 1 37 (dk_at dksX9_explain_1 19 rfl rfl)
theorem dX9_explain_44 : decode cX9_explain 44 = .ok (.iload_n 1, 1) := dk_27 (dk_at dksX9_explain_1 22 rfl rfl)
theorem dX9_explain_45 : decode cX9_explain 45 = .ok (.iconst 1, 1) := dk_4 (dk_at dksX9_explain_1 23 rfl rfl)
theorem dX9_explain_46 : decode cX9_explain 46 = .ok (.iadd, 1) := dk_96 (dk_at dksX9_explain_2 0 rfl rfl)
theorem dX9_explain_47 : decode cX9_explain 47 = .ok (.invokevirtual 297, 3) := dk_182 1 41 (dk_at dksX9_explain_2 1 rfl rfl)
theorem dX9_explain_50 : decode cX9_explain 50 = .ok (.goto 14, 3) := dk_167 0 14 (dk_at dksX9_explain_2 4 rfl rfl)
theorem dX9_explain_53 : decode cX9_explain 53 = .ok (.astore 4, 2) := dk_58 4 (dk_at dksX9_explain_2 7 rfl rfl)
theorem dX9_explain_55 : decode cX9_explain 55 = .ok (.aload_n 3, 1) := dk_45 (dk_at dksX9_explain_2 9 rfl rfl)
theorem dX9_explain_56 : decode cX9_explain 56 = .ok (.aload 4, 2) := dk_25 4 (dk_at dksX9_explain_2 10 rfl rfl)
theorem dX9_explain_58 : decode cX9_explain 58 = .ok (.invokevirtual 300, 3) := dk_182 1 44 (dk_at dksX9_explain_2 12 rfl rfl)
theorem dX9_explain_61 : decode cX9_explain 61 = .ok (.pop, 1) := dk_87 (dk_at dksX9_explain_2 15 rfl rfl)
theorem dX9_explain_62 : decode cX9_explain 62 = .ok (.aload_n 3, 1) := dk_45 (dk_at dksX9_explain_2 16 rfl rfl)
theorem dX9_explain_63 : decode cX9_explain 63 = .ok (.athrow, 1) := dk_191 (dk_at dksX9_explain_2 17 rfl rfl)
theorem dX9_explain_64 : decode cX9_explain 64 = .ok (.return_, 1) := dk_177 (dk_at dksX9_explain_2 18 rfl rfl)
abbrev cX9_reason : ByteArray := prog_10_method_25_code
def yX9_reason : MethodName := ⟨RX9, "reason", "()I"⟩
def dkwX9_reason_2 : List UInt8 := [167, 0, 18, 42, 180, 0, 30, 182, 1, 19, 153, 0, 7, 7, 167, 0, 4, 6, 172]
abbrev dktX9_reason_2 : List UInt8 := dkwX9_reason_2 ++ []
def dkwX9_reason_1 : List UInt8 := [153, 0, 14, 42, 182, 0, 248, 18, 124, 159, 0, 5, 5, 172, 42, 182, 1, 16, 153, 0, 7, 8]
abbrev dktX9_reason_1 : List UInt8 := dkwX9_reason_1 ++ dktX9_reason_2
def dkwX9_reason_0 : List UInt8 := [42, 180, 0, 67, 42, 180, 0, 64, 162, 0, 12, 42, 182, 0, 242, 154, 0, 5, 4, 172, 42, 180, 0, 128]
abbrev dktX9_reason_0 : List UInt8 := dkwX9_reason_0 ++ dktX9_reason_1
theorem dksX9_reason_0 : cX9_reason.data.toList.drop 0 = dktX9_reason_0 := by decide +kernel
theorem dksX9_reason_1 : cX9_reason.data.toList.drop 24 = dktX9_reason_1 := dk_seg dksX9_reason_0 24 rfl rfl
theorem dksX9_reason_2 : cX9_reason.data.toList.drop 46 = dktX9_reason_2 := dk_seg dksX9_reason_1 22 rfl rfl
theorem dX9_reason_0 : decode cX9_reason 0 = .ok (.aload_n 0, 1) := dk_42 (dk_at dksX9_reason_0 0 rfl rfl)
theorem dX9_reason_1 : decode cX9_reason 1 = .ok (.getfield 67, 3) := dk_180 0 67 (dk_at dksX9_reason_0 1 rfl rfl)
theorem dX9_reason_4 : decode cX9_reason 4 = .ok (.aload_n 0, 1) := dk_42 (dk_at dksX9_reason_0 4 rfl rfl)
theorem dX9_reason_5 : decode cX9_reason 5 = .ok (.getfield 64, 3) := dk_180 0 64 (dk_at dksX9_reason_0 5 rfl rfl)
theorem dX9_reason_8 : decode cX9_reason 8 = .ok (.if_icmp .ge 12, 3) := dk_162 0 12 (dk_at dksX9_reason_0 8 rfl rfl)
theorem dX9_reason_11 : decode cX9_reason 11 = .ok (.aload_n 0, 1) := dk_42 (dk_at dksX9_reason_0 11 rfl rfl)
theorem dX9_reason_12 : decode cX9_reason 12 = .ok (.invokevirtual 242, 3) := dk_182 0 242 (dk_at dksX9_reason_0 12 rfl rfl)
theorem dX9_reason_15 : decode cX9_reason 15 = .ok (.ifCond .ne 5, 3) := dk_154 0 5 (dk_at dksX9_reason_0 15 rfl rfl)
theorem dX9_reason_18 : decode cX9_reason 18 = .ok (.iconst 1, 1) := dk_4 (dk_at dksX9_reason_0 18 rfl rfl)
theorem dX9_reason_19 : decode cX9_reason 19 = .ok (.ireturn, 1) := dk_172 (dk_at dksX9_reason_0 19 rfl rfl)
theorem dX9_reason_20 : decode cX9_reason 20 = .ok (.aload_n 0, 1) := dk_42 (dk_at dksX9_reason_0 20 rfl rfl)
theorem dX9_reason_21 : decode cX9_reason 21 = .ok (.getfield 128, 3) := dk_180 0 128 (dk_at dksX9_reason_0 21 rfl rfl)
theorem dX9_reason_24 : decode cX9_reason 24 = .ok (.ifCond .eq 14, 3) := dk_153 0 14 (dk_at dksX9_reason_1 0 rfl rfl)
theorem dX9_reason_27 : decode cX9_reason 27 = .ok (.aload_n 0, 1) := dk_42 (dk_at dksX9_reason_1 3 rfl rfl)
theorem dX9_reason_28 : decode cX9_reason 28 = .ok (.invokevirtual 248, 3) := dk_182 0 248 (dk_at dksX9_reason_1 4 rfl rfl)
theorem dX9_reason_31 : decode cX9_reason 31 = .ok (.ldc 124, 2) := dk_18 124 (dk_at dksX9_reason_1 7 rfl rfl)
theorem dX9_reason_33 : decode cX9_reason 33 = .ok (.if_icmp .eq 5, 3) := dk_159 0 5 (dk_at dksX9_reason_1 9 rfl rfl)
theorem dX9_reason_36 : decode cX9_reason 36 = .ok (.iconst 2, 1) := dk_5 (dk_at dksX9_reason_1 12 rfl rfl)
theorem dX9_reason_37 : decode cX9_reason 37 = .ok (.ireturn, 1) := dk_172 (dk_at dksX9_reason_1 13 rfl rfl)
theorem dX9_reason_38 : decode cX9_reason 38 = .ok (.aload_n 0, 1) := dk_42 (dk_at dksX9_reason_1 14 rfl rfl)
theorem dX9_reason_39 : decode cX9_reason 39 = .ok (.invokevirtual 272, 3) := dk_182 1 16 (dk_at dksX9_reason_1 15 rfl rfl)
theorem dX9_reason_42 : decode cX9_reason 42 = .ok (.ifCond .eq 7, 3) := dk_153 0 7 (dk_at dksX9_reason_1 18 rfl rfl)
theorem dX9_reason_45 : decode cX9_reason 45 = .ok (.iconst 5, 1) := dk_8 (dk_at dksX9_reason_1 21 rfl rfl)
theorem dX9_reason_46 : decode cX9_reason 46 = .ok (.goto 18, 3) := dk_167 0 18 (dk_at dksX9_reason_2 0 rfl rfl)
theorem dX9_reason_49 : decode cX9_reason 49 = .ok (.aload_n 0, 1) := dk_42 (dk_at dksX9_reason_2 3 rfl rfl)
theorem dX9_reason_50 : decode cX9_reason 50 = .ok (.getfield 30, 3) := dk_180 0 30 (dk_at dksX9_reason_2 4 rfl rfl)
theorem dX9_reason_53 : decode cX9_reason 53 = .ok (.invokevirtual 275, 3) := dk_182 1 19 (dk_at dksX9_reason_2 7 rfl rfl)
theorem dX9_reason_56 : decode cX9_reason 56 = .ok (.ifCond .eq 7, 3) := dk_153 0 7 (dk_at dksX9_reason_2 10 rfl rfl)
theorem dX9_reason_59 : decode cX9_reason 59 = .ok (.iconst 4, 1) := dk_7 (dk_at dksX9_reason_2 13 rfl rfl)
theorem dX9_reason_60 : decode cX9_reason 60 = .ok (.goto 4, 3) := dk_167 0 4 (dk_at dksX9_reason_2 14 rfl rfl)
theorem dX9_reason_63 : decode cX9_reason 63 = .ok (.iconst 3, 1) := dk_6 (dk_at dksX9_reason_2 17 rfl rfl)
theorem dX9_reason_64 : decode cX9_reason 64 = .ok (.ireturn, 1) := dk_172 (dk_at dksX9_reason_2 18 rfl rfl)
abbrev cX9_hasItem : ByteArray := prog_10_method_24_code
def yX9_hasItem : MethodName := ⟨RX9, "hasItem", "()Z"⟩
def dkwX9_hasItem_2 : List UInt8 := [159, 0, 7, 4, 167, 0, 4, 3, 172]
abbrev dktX9_hasItem_2 : List UInt8 := dkwX9_hasItem_2 ++ []
def dkwX9_hasItem_1 : List UInt8 := [180, 0, 3, 180, 0, 154, 162, 0, 7, 4, 167, 0, 21, 3, 167, 0, 17, 42, 182, 0, 169, 18, 124]
abbrev dktX9_hasItem_1 : List UInt8 := dkwX9_hasItem_1 ++ dktX9_hasItem_2
def dkwX9_hasItem_0 : List UInt8 := [42, 180, 0, 41, 154, 0, 37, 42, 180, 0, 3, 180, 0, 151, 180, 0, 94, 192, 0, 100, 180, 0, 102, 42]
abbrev dktX9_hasItem_0 : List UInt8 := dkwX9_hasItem_0 ++ dktX9_hasItem_1
theorem dksX9_hasItem_0 : cX9_hasItem.data.toList.drop 0 = dktX9_hasItem_0 := by decide +kernel
theorem dksX9_hasItem_1 : cX9_hasItem.data.toList.drop 24 = dktX9_hasItem_1 := dk_seg dksX9_hasItem_0 24 rfl rfl
theorem dksX9_hasItem_2 : cX9_hasItem.data.toList.drop 47 = dktX9_hasItem_2 := dk_seg dksX9_hasItem_1 23 rfl rfl
theorem dX9_hasItem_0 : decode cX9_hasItem 0 = .ok (.aload_n 0, 1) := dk_42 (dk_at dksX9_hasItem_0 0 rfl rfl)
theorem dX9_hasItem_1 : decode cX9_hasItem 1 = .ok (.getfield 41, 3) := dk_180 0 41 (dk_at dksX9_hasItem_0 1 rfl rfl)
theorem dX9_hasItem_4 : decode cX9_hasItem 4 = .ok (.ifCond .ne 37, 3) := dk_154 0 37 (dk_at dksX9_hasItem_0 4 rfl rfl)
theorem dX9_hasItem_7 : decode cX9_hasItem 7 = .ok (.aload_n 0, 1) := dk_42 (dk_at dksX9_hasItem_0 7 rfl rfl)
theorem dX9_hasItem_8 : decode cX9_hasItem 8 = .ok (.getfield 3, 3) := dk_180 0 3 (dk_at dksX9_hasItem_0 8 rfl rfl)
theorem dX9_hasItem_11 : decode cX9_hasItem 11 = .ok (.getfield 151, 3) := dk_180 0 151 (dk_at dksX9_hasItem_0 11 rfl rfl)
theorem dX9_hasItem_14 : decode cX9_hasItem 14 = .ok (.getfield 94, 3) := dk_180 0 94 (dk_at dksX9_hasItem_0 14 rfl rfl)
theorem dX9_hasItem_17 : decode cX9_hasItem 17 = .ok (.checkcast 100, 3) := dk_192 0 100 (dk_at dksX9_hasItem_0 17 rfl rfl)
theorem dX9_hasItem_20 : decode cX9_hasItem 20 = .ok (.getfield 102, 3) := dk_180 0 102 (dk_at dksX9_hasItem_0 20 rfl rfl)
theorem dX9_hasItem_23 : decode cX9_hasItem 23 = .ok (.aload_n 0, 1) := dk_42 (dk_at dksX9_hasItem_0 23 rfl rfl)
theorem dX9_hasItem_24 : decode cX9_hasItem 24 = .ok (.getfield 3, 3) := dk_180 0 3 (dk_at dksX9_hasItem_1 0 rfl rfl)
theorem dX9_hasItem_27 : decode cX9_hasItem 27 = .ok (.getfield 154, 3) := dk_180 0 154 (dk_at dksX9_hasItem_1 3 rfl rfl)
theorem dX9_hasItem_30 : decode cX9_hasItem 30 = .ok (.if_icmp .ge 7, 3) := dk_162 0 7 (dk_at dksX9_hasItem_1 6 rfl rfl)
theorem dX9_hasItem_33 : decode cX9_hasItem 33 = .ok (.iconst 1, 1) := dk_4 (dk_at dksX9_hasItem_1 9 rfl rfl)
theorem dX9_hasItem_34 : decode cX9_hasItem 34 = .ok (.goto 21, 3) := dk_167 0 21 (dk_at dksX9_hasItem_1 10 rfl rfl)
theorem dX9_hasItem_37 : decode cX9_hasItem 37 = .ok (.iconst 0, 1) := dk_3 (dk_at dksX9_hasItem_1 13 rfl rfl)
theorem dX9_hasItem_38 : decode cX9_hasItem 38 = .ok (.goto 17, 3) := dk_167 0 17 (dk_at dksX9_hasItem_1 14 rfl rfl)
theorem dX9_hasItem_41 : decode cX9_hasItem 41 = .ok (.aload_n 0, 1) := dk_42 (dk_at dksX9_hasItem_1 17 rfl rfl)
theorem dX9_hasItem_42 : decode cX9_hasItem 42 = .ok (.invokevirtual 169, 3) := dk_182 0 169 (dk_at dksX9_hasItem_1 18 rfl rfl)
theorem dX9_hasItem_45 : decode cX9_hasItem 45 = .ok (.ldc 124, 2) := dk_18 124 (dk_at dksX9_hasItem_1 21 rfl rfl)
theorem dX9_hasItem_47 : decode cX9_hasItem 47 = .ok (.if_icmp .eq 7, 3) := dk_159 0 7 (dk_at dksX9_hasItem_2 0 rfl rfl)
theorem dX9_hasItem_50 : decode cX9_hasItem 50 = .ok (.iconst 1, 1) := dk_4 (dk_at dksX9_hasItem_2 3 rfl rfl)
theorem dX9_hasItem_51 : decode cX9_hasItem 51 = .ok (.goto 4, 3) := dk_167 0 4 (dk_at dksX9_hasItem_2 4 rfl rfl)
theorem dX9_hasItem_54 : decode cX9_hasItem 54 = .ok (.iconst 0, 1) := dk_3 (dk_at dksX9_hasItem_2 7 rfl rfl)
theorem dX9_hasItem_55 : decode cX9_hasItem 55 = .ok (.ireturn, 1) := dk_172 (dk_at dksX9_hasItem_2 8 rfl rfl)
abbrev cX9_waitsFor : ByteArray := prog_10_method_26_code
def yX9_waitsFor : MethodName := ⟨RX9, "waitsFor", "(I)LPipelineSimulator$Instance;"⟩
def dkwX9_waitsFor_3 : List UInt8 := [182, 1, 25, 50, 176]
abbrev dktX9_waitsFor_3 : List UInt8 := dkwX9_waitsFor_3 ++ []
def dkwX9_waitsFor_2 : List UInt8 := [50, 167, 0, 26, 42, 180, 0, 3, 180, 1, 22, 42, 180, 0, 41, 4, 100, 50, 42, 180, 0, 30, 3]
abbrev dktX9_waitsFor_2 : List UInt8 := dkwX9_waitsFor_2 ++ dktX9_waitsFor_3
def dkwX9_waitsFor_1 : List UInt8 := [176, 27, 5, 160, 0, 25, 42, 180, 0, 3, 180, 1, 22, 42, 180, 0, 41, 4, 96, 50, 42, 182, 0, 248]
abbrev dktX9_waitsFor_1 : List UInt8 := dkwX9_waitsFor_1 ++ dktX9_waitsFor_2
def dkwX9_waitsFor_0 : List UInt8 := [27, 4, 160, 0, 23, 42, 180, 0, 3, 180, 1, 22, 42, 180, 0, 41, 4, 96, 50, 42, 182, 0, 105, 50]
abbrev dktX9_waitsFor_0 : List UInt8 := dkwX9_waitsFor_0 ++ dktX9_waitsFor_1
theorem dksX9_waitsFor_0 : cX9_waitsFor.data.toList.drop 0 = dktX9_waitsFor_0 := by decide +kernel
theorem dksX9_waitsFor_1 : cX9_waitsFor.data.toList.drop 24 = dktX9_waitsFor_1 := dk_seg dksX9_waitsFor_0 24 rfl rfl
theorem dksX9_waitsFor_2 : cX9_waitsFor.data.toList.drop 48 = dktX9_waitsFor_2 := dk_seg dksX9_waitsFor_1 24 rfl rfl
theorem dksX9_waitsFor_3 : cX9_waitsFor.data.toList.drop 71 = dktX9_waitsFor_3 := dk_seg dksX9_waitsFor_2 23 rfl rfl
theorem dX9_waitsFor_0 : decode cX9_waitsFor 0 = .ok (.iload_n 1, 1) := dk_27 (dk_at dksX9_waitsFor_0 0 rfl rfl)
theorem dX9_waitsFor_1 : decode cX9_waitsFor 1 = .ok (.iconst 1, 1) := dk_4 (dk_at dksX9_waitsFor_0 1 rfl rfl)
theorem dX9_waitsFor_2 : decode cX9_waitsFor 2 = .ok (.if_icmp .ne 23, 3) := dk_160 0 23 (dk_at dksX9_waitsFor_0 2 rfl rfl)
theorem dX9_waitsFor_5 : decode cX9_waitsFor 5 = .ok (.aload_n 0, 1) := dk_42 (dk_at dksX9_waitsFor_0 5 rfl rfl)
theorem dX9_waitsFor_6 : decode cX9_waitsFor 6 = .ok (.getfield 3, 3) := dk_180 0 3 (dk_at dksX9_waitsFor_0 6 rfl rfl)
theorem dX9_waitsFor_9 : decode cX9_waitsFor 9 = .ok (.getfield 278, 3) := dk_180 1 22 (dk_at dksX9_waitsFor_0 9 rfl rfl)
theorem dX9_waitsFor_12 : decode cX9_waitsFor 12 = .ok (.aload_n 0, 1) := dk_42 (dk_at dksX9_waitsFor_0 12 rfl rfl)
theorem dX9_waitsFor_13 : decode cX9_waitsFor 13 = .ok (.getfield 41, 3) := dk_180 0 41 (dk_at dksX9_waitsFor_0 13 rfl rfl)
theorem dX9_waitsFor_16 : decode cX9_waitsFor 16 = .ok (.iconst 1, 1) := dk_4 (dk_at dksX9_waitsFor_0 16 rfl rfl)
theorem dX9_waitsFor_17 : decode cX9_waitsFor 17 = .ok (.iadd, 1) := dk_96 (dk_at dksX9_waitsFor_0 17 rfl rfl)
theorem dX9_waitsFor_18 : decode cX9_waitsFor 18 = .ok (.aaload, 1) := dk_50 (dk_at dksX9_waitsFor_0 18 rfl rfl)
theorem dX9_waitsFor_19 : decode cX9_waitsFor 19 = .ok (.aload_n 0, 1) := dk_42 (dk_at dksX9_waitsFor_0 19 rfl rfl)
theorem dX9_waitsFor_20 : decode cX9_waitsFor 20 = .ok (.invokevirtual 105, 3) := dk_182 0 105 (dk_at dksX9_waitsFor_0 20 rfl rfl)
theorem dX9_waitsFor_23 : decode cX9_waitsFor 23 = .ok (.aaload, 1) := dk_50 (dk_at dksX9_waitsFor_0 23 rfl rfl)
theorem dX9_waitsFor_24 : decode cX9_waitsFor 24 = .ok (.areturn, 1) := dk_176 (dk_at dksX9_waitsFor_1 0 rfl rfl)
theorem dX9_waitsFor_25 : decode cX9_waitsFor 25 = .ok (.iload_n 1, 1) := dk_27 (dk_at dksX9_waitsFor_1 1 rfl rfl)
theorem dX9_waitsFor_26 : decode cX9_waitsFor 26 = .ok (.iconst 2, 1) := dk_5 (dk_at dksX9_waitsFor_1 2 rfl rfl)
theorem dX9_waitsFor_27 : decode cX9_waitsFor 27 = .ok (.if_icmp .ne 25, 3) := dk_160 0 25 (dk_at dksX9_waitsFor_1 3 rfl rfl)
theorem dX9_waitsFor_30 : decode cX9_waitsFor 30 = .ok (.aload_n 0, 1) := dk_42 (dk_at dksX9_waitsFor_1 6 rfl rfl)
theorem dX9_waitsFor_31 : decode cX9_waitsFor 31 = .ok (.getfield 3, 3) := dk_180 0 3 (dk_at dksX9_waitsFor_1 7 rfl rfl)
theorem dX9_waitsFor_34 : decode cX9_waitsFor 34 = .ok (.getfield 278, 3) := dk_180 1 22 (dk_at dksX9_waitsFor_1 10 rfl rfl)
theorem dX9_waitsFor_37 : decode cX9_waitsFor 37 = .ok (.aload_n 0, 1) := dk_42 (dk_at dksX9_waitsFor_1 13 rfl rfl)
theorem dX9_waitsFor_38 : decode cX9_waitsFor 38 = .ok (.getfield 41, 3) := dk_180 0 41 (dk_at dksX9_waitsFor_1 14 rfl rfl)
theorem dX9_waitsFor_41 : decode cX9_waitsFor 41 = .ok (.iconst 1, 1) := dk_4 (dk_at dksX9_waitsFor_1 17 rfl rfl)
theorem dX9_waitsFor_42 : decode cX9_waitsFor 42 = .ok (.iadd, 1) := dk_96 (dk_at dksX9_waitsFor_1 18 rfl rfl)
theorem dX9_waitsFor_43 : decode cX9_waitsFor 43 = .ok (.aaload, 1) := dk_50 (dk_at dksX9_waitsFor_1 19 rfl rfl)
theorem dX9_waitsFor_44 : decode cX9_waitsFor 44 = .ok (.aload_n 0, 1) := dk_42 (dk_at dksX9_waitsFor_1 20 rfl rfl)
theorem dX9_waitsFor_45 : decode cX9_waitsFor 45 = .ok (.invokevirtual 248, 3) := dk_182 0 248 (dk_at dksX9_waitsFor_1 21 rfl rfl)
theorem dX9_waitsFor_48 : decode cX9_waitsFor 48 = .ok (.aaload, 1) := dk_50 (dk_at dksX9_waitsFor_2 0 rfl rfl)
theorem dX9_waitsFor_49 : decode cX9_waitsFor 49 = .ok (.goto 26, 3) := dk_167 0 26 (dk_at dksX9_waitsFor_2 1 rfl rfl)
theorem dX9_waitsFor_52 : decode cX9_waitsFor 52 = .ok (.aload_n 0, 1) := dk_42 (dk_at dksX9_waitsFor_2 4 rfl rfl)
theorem dX9_waitsFor_53 : decode cX9_waitsFor 53 = .ok (.getfield 3, 3) := dk_180 0 3 (dk_at dksX9_waitsFor_2 5 rfl rfl)
theorem dX9_waitsFor_56 : decode cX9_waitsFor 56 = .ok (.getfield 278, 3) := dk_180 1 22 (dk_at dksX9_waitsFor_2 8 rfl rfl)
theorem dX9_waitsFor_59 : decode cX9_waitsFor 59 = .ok (.aload_n 0, 1) := dk_42 (dk_at dksX9_waitsFor_2 11 rfl rfl)
theorem dX9_waitsFor_60 : decode cX9_waitsFor 60 = .ok (.getfield 41, 3) := dk_180 0 41 (dk_at dksX9_waitsFor_2 12 rfl rfl)
theorem dX9_waitsFor_63 : decode cX9_waitsFor 63 = .ok (.iconst 1, 1) := dk_4 (dk_at dksX9_waitsFor_2 15 rfl rfl)
theorem dX9_waitsFor_64 : decode cX9_waitsFor 64 = .ok (.isub, 1) := dk_100 (dk_at dksX9_waitsFor_2 16 rfl rfl)
theorem dX9_waitsFor_65 : decode cX9_waitsFor 65 = .ok (.aaload, 1) := dk_50 (dk_at dksX9_waitsFor_2 17 rfl rfl)
theorem dX9_waitsFor_66 : decode cX9_waitsFor 66 = .ok (.aload_n 0, 1) := dk_42 (dk_at dksX9_waitsFor_2 18 rfl rfl)
theorem dX9_waitsFor_67 : decode cX9_waitsFor 67 = .ok (.getfield 30, 3) := dk_180 0 30 (dk_at dksX9_waitsFor_2 19 rfl rfl)
theorem dX9_waitsFor_70 : decode cX9_waitsFor 70 = .ok (.iconst 0, 1) := dk_3 (dk_at dksX9_waitsFor_2 22 rfl rfl)
theorem dX9_waitsFor_71 : decode cX9_waitsFor 71 = .ok (.invokevirtual 281, 3) := dk_182 1 25 (dk_at dksX9_waitsFor_3 0 rfl rfl)
theorem dX9_waitsFor_74 : decode cX9_waitsFor 74 = .ok (.aaload, 1) := dk_50 (dk_at dksX9_waitsFor_3 3 rfl rfl)
theorem dX9_waitsFor_75 : decode cX9_waitsFor 75 = .ok (.areturn, 1) := dk_176 (dk_at dksX9_waitsFor_3 4 rfl rfl)
theorem q119 : (Jvm.Cond.initialized "PipelineSimulator$Instance") ∈ lw_all := lw_g (lw_at lw_m1 22 rfl) rfl
theorem q230 : (Jvm.Cond.fieldLink "PipelineSimulator$Instance" (102 : Nat) "PipelineSimulator$Counter" "value" "I") ∈ lw_all := lw_g (lw_at lw_m1 133 rfl) rfl
theorem q240 : (Jvm.Cond.fieldLink "PipelineSimulator$Instance" (94 : Nat) "PipelineSimulator$Versions" "present" "LPipelineSimulator$Copyable;") ∈ lw_all := lw_g (lw_at lw_m1 143 rfl) rfl
theorem q243 : (Jvm.Cond.fieldLink "PipelineSimulator$Instance" (225 : Nat) "PipelineSimulator$Versions" "running" "LPipelineSimulator$Copyable;") ∈ lw_all := lw_g (lw_at lw_m1 146 rfl) rfl
theorem q357 : (Jvm.Cond.fieldLink "PipelineSimulator$Instance" (87 : Nat) "PipelineSimulator$Operator" "instances" "I") ∈ lw_all := lw_g (lw_at lw_m2 20 rfl) rfl
theorem q361 : (Jvm.Cond.fieldLink "PipelineSimulator$Instance" (214 : Nat) "PipelineSimulator$Operator" "states" "LPipelineSimulator$Versions;") ∈ lw_all := lw_g (lw_at lw_m2 24 rfl) rfl
theorem q363 : (Jvm.Cond.fieldLink "PipelineSimulator$Instance" (211 : Nat) "PipelineSimulator$Operator" "processed" "I") ∈ lw_all := lw_g (lw_at lw_m2 26 rfl) rfl
theorem q366 : (Jvm.Cond.fieldLink "PipelineSimulator$Instance" (77 : Nat) "PipelineSimulator$Operator" "emitted" "I") ∈ lw_all := lw_g (lw_at lw_m2 29 rfl) rfl
theorem q369 : (Jvm.Cond.fieldLink "PipelineSimulator$Instance" (260 : Nat) "PipelineSimulator$Operator" "blocked" "I") ∈ lw_all := lw_g (lw_at lw_m2 32 rfl) rfl
theorem q372 : (Jvm.Cond.fieldLink "PipelineSimulator$Instance" (266 : Nat) "PipelineSimulator$Operator" "idle" "I") ∈ lw_all := lw_g (lw_at lw_m2 35 rfl) rfl
theorem q433 : (Jvm.Cond.selects "PipelineSimulator$Instance" ({ cls := "java/lang/Object", name := "getClass", desc := "()Ljava/lang/Class;" } : Jvm.MethodName) ({ cls := "java/lang/Object", name := "getClass", desc := "()Ljava/lang/Class;" } : Jvm.MethodName)) ∈ lw_all := lw_g (lw_at lw_m2 96 rfl) rfl
theorem q522 : (Jvm.Cond.instantiable "PipelineSimulator$Instance" (13 : Nat)) ∈ lw_all := lw_g (lw_at lw_m2 185 rfl) rfl
theorem q524 : (Jvm.Cond.instanceMethod ({ cls := "PipelineSimulator$Instance", name := "<init>", desc := "(LPipelineSimulator;II)V" } : Jvm.MethodName)) ∈ lw_all := lw_g (lw_at lw_m2 187 rfl) rfl
theorem q525 : (Jvm.Cond.code ({ cls := "PipelineSimulator$Instance", name := "<init>", desc := "(LPipelineSimulator;II)V" } : Jvm.MethodName) prog_10_method_1_code (4 : Nat) (Option.none : Option Jvm.ClassFile.FieldType)) ∈ lw_all := lw_g (lw_at lw_m2 188 rfl) rfl
theorem q526 : (Jvm.Cond.methodLink "PipelineSimulator$Instance" (9 : Nat) ({ cls := "java/lang/Object", name := "<init>", desc := "()V" } : Jvm.MethodName)) ∈ lw_all := lw_g (lw_at lw_m2 189 rfl) rfl
theorem q527 : (Jvm.Cond.classLink "PipelineSimulator$Instance" (25 : Nat) "java/util/BitSet") ∈ lw_all := lw_g (lw_at lw_m2 190 rfl) rfl
theorem q528 : (Jvm.Cond.methodLink "PipelineSimulator$Instance" (27 : Nat) ({ cls := "java/util/BitSet", name := "<init>", desc := "(I)V" } : Jvm.MethodName)) ∈ lw_all := lw_g (lw_at lw_m2 191 rfl) rfl
theorem q529 : (Jvm.Cond.methodLinkNest "PipelineSimulator$Instance" (34 : Nat) ({ cls := "PipelineSimulator", name := "counter", desc := "()LPipelineSimulator$Versions;" } : Jvm.MethodName) "PipelineSimulator") ∈ lw_tbl := lw_at lw_m2 192 rfl
theorem q530 : (Jvm.Cond.fieldLink "PipelineSimulator$Instance" (41 : Nat) "PipelineSimulator$Instance" "operator" "I") ∈ lw_all := lw_g (lw_at lw_m2 193 rfl) rfl
theorem q531 : (Jvm.Cond.fieldLink "PipelineSimulator$Instance" (45 : Nat) "PipelineSimulator$Instance" "number" "I") ∈ lw_all := lw_g (lw_at lw_m2 194 rfl) rfl
theorem q532 : (Jvm.Cond.fieldLink "PipelineSimulator$Instance" (15 : Nat) "PipelineSimulator$Instance" "keys" "[I") ∈ lw_all := lw_g (lw_at lw_m2 195 rfl) rfl
theorem q533 : (Jvm.Cond.fieldLink "PipelineSimulator$Instance" (19 : Nat) "PipelineSimulator$Instance" "values" "[I") ∈ lw_all := lw_g (lw_at lw_m2 196 rfl) rfl
theorem q534 : (Jvm.Cond.fieldLink "PipelineSimulator$Instance" (22 : Nat) "PipelineSimulator$Instance" "births" "[I") ∈ lw_all := lw_g (lw_at lw_m2 197 rfl) rfl
theorem q535 : (Jvm.Cond.fieldLink "PipelineSimulator$Instance" (67 : Nat) "PipelineSimulator$Instance" "from" "I") ∈ lw_all := lw_g (lw_at lw_m2 198 rfl) rfl
theorem q536 : (Jvm.Cond.fieldLink "PipelineSimulator$Instance" (64 : Nat) "PipelineSimulator$Instance" "till" "I") ∈ lw_all := lw_g (lw_at lw_m2 199 rfl) rfl
theorem q537 : (Jvm.Cond.fieldLink "PipelineSimulator$Instance" (70 : Nat) "PipelineSimulator$Instance" "birth" "I") ∈ lw_all := lw_g (lw_at lw_m2 200 rfl) rfl
theorem q538 : (Jvm.Cond.fieldLink "PipelineSimulator$Instance" (128 : Nat) "PipelineSimulator$Instance" "holdsBarrier" "Z") ∈ lw_all := lw_g (lw_at lw_m2 201 rfl) rfl
theorem q540 : (Jvm.Cond.fieldLink "PipelineSimulator$Instance" (30 : Nat) "PipelineSimulator$Instance" "stopped" "Ljava/util/BitSet;") ∈ lw_all := lw_g (lw_at lw_m2 203 rfl) rfl
theorem q541 : (Jvm.Cond.fieldLink "PipelineSimulator$Instance" (135 : Nat) "PipelineSimulator$Instance" "pointer" "I") ∈ lw_all := lw_g (lw_at lw_m2 204 rfl) rfl
theorem q543 : (Jvm.Cond.fieldLink "PipelineSimulator$Instance" (38 : Nat) "PipelineSimulator$Instance" "counter" "LPipelineSimulator$Versions;") ∈ lw_all := lw_g (lw_at lw_m2 206 rfl) rfl
theorem q545 : (Jvm.Cond.fieldLink "PipelineSimulator$Instance" (3 : Nat) "PipelineSimulator$Instance" "this$0" "LPipelineSimulator;") ∈ lw_all := lw_g (lw_at lw_m2 208 rfl) rfl
theorem q546 : (Jvm.Cond.laysFinal "PipelineSimulator$Instance" "PipelineSimulator$Instance" "operator" "I") ∈ lw_all := lw_g (lw_at lw_m2 209 rfl) rfl
theorem q547 : (Jvm.Cond.soleField "PipelineSimulator$Instance" "operator") ∈ lw_all := lw_g (lw_at lw_m2 210 rfl) rfl
theorem q548 : (Jvm.Cond.laysFinal "PipelineSimulator$Instance" "PipelineSimulator$Instance" "number" "I") ∈ lw_all := lw_g (lw_at lw_m2 211 rfl) rfl
theorem q549 : (Jvm.Cond.soleField "PipelineSimulator$Instance" "number") ∈ lw_all := lw_g (lw_at lw_m2 212 rfl) rfl
theorem q550 : (Jvm.Cond.laysFinal "PipelineSimulator$Instance" "PipelineSimulator$Instance" "keys" "[I") ∈ lw_all := lw_g (lw_at lw_m2 213 rfl) rfl
theorem q551 : (Jvm.Cond.soleField "PipelineSimulator$Instance" "keys") ∈ lw_all := lw_g (lw_at lw_m2 214 rfl) rfl
theorem q552 : (Jvm.Cond.laysFinal "PipelineSimulator$Instance" "PipelineSimulator$Instance" "values" "[I") ∈ lw_all := lw_g (lw_at lw_m2 215 rfl) rfl
theorem q553 : (Jvm.Cond.soleField "PipelineSimulator$Instance" "values") ∈ lw_all := lw_g (lw_at lw_m2 216 rfl) rfl
theorem q554 : (Jvm.Cond.laysFinal "PipelineSimulator$Instance" "PipelineSimulator$Instance" "births" "[I") ∈ lw_all := lw_g (lw_at lw_m2 217 rfl) rfl
theorem q555 : (Jvm.Cond.soleField "PipelineSimulator$Instance" "births") ∈ lw_all := lw_g (lw_at lw_m2 218 rfl) rfl
theorem q556 : (Jvm.Cond.lays "PipelineSimulator$Instance" "PipelineSimulator$Instance" "from" "I") ∈ lw_all := lw_g (lw_at lw_m2 219 rfl) rfl
theorem q557 : (Jvm.Cond.soleField "PipelineSimulator$Instance" "from") ∈ lw_all := lw_g (lw_at lw_m2 220 rfl) rfl
theorem q558 : (Jvm.Cond.lays "PipelineSimulator$Instance" "PipelineSimulator$Instance" "till" "I") ∈ lw_all := lw_g (lw_at lw_m2 221 rfl) rfl
theorem q559 : (Jvm.Cond.soleField "PipelineSimulator$Instance" "till") ∈ lw_all := lw_g (lw_at lw_m2 222 rfl) rfl
theorem q560 : (Jvm.Cond.lays "PipelineSimulator$Instance" "PipelineSimulator$Instance" "birth" "I") ∈ lw_all := lw_g (lw_at lw_m2 223 rfl) rfl
theorem q561 : (Jvm.Cond.soleField "PipelineSimulator$Instance" "birth") ∈ lw_all := lw_g (lw_at lw_m2 224 rfl) rfl
theorem q562 : (Jvm.Cond.lays "PipelineSimulator$Instance" "PipelineSimulator$Instance" "holdsBarrier" "Z") ∈ lw_all := lw_g (lw_at lw_m2 225 rfl) rfl
theorem q563 : (Jvm.Cond.soleField "PipelineSimulator$Instance" "holdsBarrier") ∈ lw_all := lw_g (lw_at lw_m2 226 rfl) rfl
theorem q564 : (Jvm.Cond.laysFinal "PipelineSimulator$Instance" "PipelineSimulator$Instance" "stopped" "Ljava/util/BitSet;") ∈ lw_all := lw_g (lw_at lw_m2 227 rfl) rfl
theorem q565 : (Jvm.Cond.soleField "PipelineSimulator$Instance" "stopped") ∈ lw_all := lw_g (lw_at lw_m2 228 rfl) rfl
theorem q566 : (Jvm.Cond.lays "PipelineSimulator$Instance" "PipelineSimulator$Instance" "pointer" "I") ∈ lw_all := lw_g (lw_at lw_m2 229 rfl) rfl
theorem q567 : (Jvm.Cond.soleField "PipelineSimulator$Instance" "pointer") ∈ lw_all := lw_g (lw_at lw_m2 230 rfl) rfl
theorem q568 : (Jvm.Cond.laysFinal "PipelineSimulator$Instance" "PipelineSimulator$Instance" "counter" "LPipelineSimulator$Versions;") ∈ lw_all := lw_g (lw_at lw_m2 231 rfl) rfl
theorem q569 : (Jvm.Cond.soleField "PipelineSimulator$Instance" "counter") ∈ lw_all := lw_g (lw_at lw_m2 232 rfl) rfl
theorem q570 : (Jvm.Cond.laysFinal "PipelineSimulator$Instance" "PipelineSimulator$Instance" "this$0" "LPipelineSimulator;") ∈ lw_all := lw_g (lw_at lw_m2 233 rfl) rfl
theorem q571 : (Jvm.Cond.soleField "PipelineSimulator$Instance" "this$0") ∈ lw_all := lw_g (lw_at lw_m2 234 rfl) rfl
theorem q572 : (Jvm.Cond.superclass "PipelineSimulator$Instance" "java/lang/Object") ∈ lw_all := lw_g (lw_at lw_m2 235 rfl) rfl
theorem q635 : (Jvm.Cond.fieldLink "PipelineSimulator$Instance" (172 : Nat) "PipelineSimulator$Batch" "isBarrier" "Z") ∈ lw_all := lw_g (lw_at lw_m3 58 rfl) rfl
theorem q723 : (Jvm.Cond.fieldLinkNest "PipelineSimulator$Instance" (254 : Nat) "PipelineSimulator" "rate" "I" "PipelineSimulator") ∈ lw_tbl := lw_at lw_m3 146 rfl
theorem q725 : (Jvm.Cond.fieldLinkNest "PipelineSimulator$Instance" (157 : Nat) "PipelineSimulator" "inputKeys" "[I" "PipelineSimulator") ∈ lw_tbl := lw_at lw_m3 148 rfl
theorem q727 : (Jvm.Cond.fieldLinkNest "PipelineSimulator$Instance" (160 : Nat) "PipelineSimulator" "inputValues" "[I" "PipelineSimulator") ∈ lw_tbl := lw_at lw_m3 150 rfl
theorem q729 : (Jvm.Cond.fieldLinkNest "PipelineSimulator$Instance" (154 : Nat) "PipelineSimulator" "inputSize" "I" "PipelineSimulator") ∈ lw_tbl := lw_at lw_m3 152 rfl
theorem q731 : (Jvm.Cond.fieldLinkNest "PipelineSimulator$Instance" (48 : Nat) "PipelineSimulator" "operators" "Ljava/util/ArrayList;" "PipelineSimulator") ∈ lw_tbl := lw_at lw_m3 154 rfl
theorem q734 : (Jvm.Cond.fieldLinkNest "PipelineSimulator$Instance" (151 : Nat) "PipelineSimulator" "offset" "LPipelineSimulator$Versions;" "PipelineSimulator") ∈ lw_tbl := lw_at lw_m3 157 rfl
theorem q737 : (Jvm.Cond.fieldLinkNest "PipelineSimulator$Instance" (278 : Nat) "PipelineSimulator" "instances" "[[LPipelineSimulator$Instance;" "PipelineSimulator") ∈ lw_tbl := lw_at lw_m3 160 rfl
theorem q740 : (Jvm.Cond.fieldLinkNest "PipelineSimulator$Instance" (202 : Nat) "PipelineSimulator" "latencies" "LPipelineSimulator$Latencies;" "PipelineSimulator") ∈ lw_tbl := lw_at lw_m3 163 rfl
theorem q742 : (Jvm.Cond.fieldLinkNest "PipelineSimulator$Instance" (163 : Nat) "PipelineSimulator" "ticks" "I" "PipelineSimulator") ∈ lw_tbl := lw_at lw_m3 165 rfl
theorem q746 : (Jvm.Cond.fieldLinkNest "PipelineSimulator$Instance" (236 : Nat) "PipelineSimulator" "alignedSinks" "I" "PipelineSimulator") ∈ lw_tbl := lw_at lw_m3 169 rfl
theorem q1272 : (Jvm.Cond.instanceMethod ({ cls := "PipelineSimulator$Instance", name := "waiting", desc := "()I" } : Jvm.MethodName)) ∈ lw_all := lw_g (lw_at lw_m5 215 rfl) rfl
theorem q1273 : (Jvm.Cond.selects "PipelineSimulator$Instance" ({ cls := "PipelineSimulator$Instance", name := "waiting", desc := "()I" } : Jvm.MethodName) ({ cls := "PipelineSimulator$Instance", name := "waiting", desc := "()I" } : Jvm.MethodName)) ∈ lw_all := lw_g (lw_at lw_m5 216 rfl) rfl
theorem q1274 : (Jvm.Cond.code ({ cls := "PipelineSimulator$Instance", name := "waiting", desc := "()I" } : Jvm.MethodName) prog_10_method_5_code (1 : Nat) (Option.some Jvm.ClassFile.FieldType.int)) ∈ lw_all := lw_g (lw_at lw_m5 217 rfl) rfl
theorem q1314 : (Jvm.Cond.instanceMethod ({ cls := "PipelineSimulator$Instance", name := "work", desc := "()V" } : Jvm.MethodName)) ∈ lw_all := lw_g (lw_at lw_m6 17 rfl) rfl
theorem q1315 : (Jvm.Cond.selects "PipelineSimulator$Instance" ({ cls := "PipelineSimulator$Instance", name := "work", desc := "()V" } : Jvm.MethodName) ({ cls := "PipelineSimulator$Instance", name := "work", desc := "()V" } : Jvm.MethodName)) ∈ lw_all := lw_g (lw_at lw_m6 18 rfl) rfl
theorem q1316 : (Jvm.Cond.code ({ cls := "PipelineSimulator$Instance", name := "work", desc := "()V" } : Jvm.MethodName) prog_10_method_20_code (2 : Nat) (Option.none : Option Jvm.ClassFile.FieldType)) ∈ lw_all := lw_g (lw_at lw_m6 19 rfl) rfl
theorem q1317 : (Jvm.Cond.methodLink "PipelineSimulator$Instance" (257 : Nat) ({ cls := "PipelineSimulator$Instance", name := "flush", desc := "()Z" } : Jvm.MethodName)) ∈ lw_all := lw_g (lw_at lw_m6 20 rfl) rfl
theorem q1318 : (Jvm.Cond.privateMethod ({ cls := "PipelineSimulator$Instance", name := "flush", desc := "()Z" } : Jvm.MethodName)) ∈ lw_tbl := lw_at lw_m6 21 rfl
theorem q1319 : (Jvm.Cond.instanceMethod ({ cls := "PipelineSimulator$Instance", name := "flush", desc := "()Z" } : Jvm.MethodName)) ∈ lw_all := lw_g (lw_at lw_m6 22 rfl) rfl
theorem q1320 : (Jvm.Cond.code ({ cls := "PipelineSimulator$Instance", name := "flush", desc := "()Z" } : Jvm.MethodName) prog_10_method_19_code (1 : Nat) (Option.some Jvm.ClassFile.FieldType.boolean)) ∈ lw_all := lw_g (lw_at lw_m6 23 rfl) rfl
theorem q1321 : (Jvm.Cond.methodLink "PipelineSimulator$Instance" (242 : Nat) ({ cls := "PipelineSimulator$Instance", name := "canSend", desc := "()Z" } : Jvm.MethodName)) ∈ lw_all := lw_g (lw_at lw_m6 24 rfl) rfl
theorem q1322 : (Jvm.Cond.privateMethod ({ cls := "PipelineSimulator$Instance", name := "canSend", desc := "()Z" } : Jvm.MethodName)) ∈ lw_tbl := lw_at lw_m6 25 rfl
theorem q1323 : (Jvm.Cond.instanceMethod ({ cls := "PipelineSimulator$Instance", name := "canSend", desc := "()Z" } : Jvm.MethodName)) ∈ lw_all := lw_g (lw_at lw_m6 26 rfl) rfl
theorem q1324 : (Jvm.Cond.code ({ cls := "PipelineSimulator$Instance", name := "canSend", desc := "()Z" } : Jvm.MethodName) prog_10_method_8_code (1 : Nat) (Option.some Jvm.ClassFile.FieldType.boolean)) ∈ lw_all := lw_g (lw_at lw_m6 27 rfl) rfl
theorem q1325 : (Jvm.Cond.methodLink "PipelineSimulator$Instance" (105 : Nat) ({ cls := "PipelineSimulator$Instance", name := "target", desc := "()I" } : Jvm.MethodName)) ∈ lw_all := lw_g (lw_at lw_m6 28 rfl) rfl
theorem q1326 : (Jvm.Cond.privateMethod ({ cls := "PipelineSimulator$Instance", name := "target", desc := "()I" } : Jvm.MethodName)) ∈ lw_tbl := lw_at lw_m6 29 rfl
theorem q1327 : (Jvm.Cond.instanceMethod ({ cls := "PipelineSimulator$Instance", name := "target", desc := "()I" } : Jvm.MethodName)) ∈ lw_all := lw_g (lw_at lw_m6 30 rfl) rfl
theorem q1328 : (Jvm.Cond.code ({ cls := "PipelineSimulator$Instance", name := "target", desc := "()I" } : Jvm.MethodName) prog_10_method_7_code (1 : Nat) (Option.some Jvm.ClassFile.FieldType.int)) ∈ lw_all := lw_g (lw_at lw_m6 31 rfl) rfl
theorem q1329 : (Jvm.Cond.methodLink "PipelineSimulator$Instance" (80 : Nat) ({ cls := "PipelineSimulator$Instance", name := "next", desc := "()LPipelineSimulator$Operator;" } : Jvm.MethodName)) ∈ lw_all := lw_g (lw_at lw_m6 32 rfl) rfl
theorem q1330 : (Jvm.Cond.privateMethod ({ cls := "PipelineSimulator$Instance", name := "next", desc := "()LPipelineSimulator$Operator;" } : Jvm.MethodName)) ∈ lw_tbl := lw_at lw_m6 33 rfl
theorem q1331 : (Jvm.Cond.instanceMethod ({ cls := "PipelineSimulator$Instance", name := "next", desc := "()LPipelineSimulator$Operator;" } : Jvm.MethodName)) ∈ lw_all := lw_g (lw_at lw_m6 34 rfl) rfl
theorem q1332 : (Jvm.Cond.code ({ cls := "PipelineSimulator$Instance", name := "next", desc := "()LPipelineSimulator$Operator;" } : Jvm.MethodName) prog_10_method_3_code (1 : Nat) (Option.some (Jvm.ClassFile.FieldType.object "PipelineSimulator$Operator"))) ∈ lw_all := lw_g (lw_at lw_m6 35 rfl) rfl
theorem q1333 : (Jvm.Cond.methodLink "PipelineSimulator$Instance" (52 : Nat) ({ cls := "java/util/ArrayList", name := "get", desc := "(I)Ljava/lang/Object;" } : Jvm.MethodName)) ∈ lw_all := lw_g (lw_at lw_m6 36 rfl) rfl
theorem q1334 : (Jvm.Cond.classLink "PipelineSimulator$Instance" (58 : Nat) "PipelineSimulator$Operator") ∈ lw_all := lw_g (lw_at lw_m6 37 rfl) rfl
theorem q1335 : (Jvm.Cond.methodLink "PipelineSimulator$Instance" (83 : Nat) ({ cls := "PipelineSimulator$Operator", name := "isKeyed", desc := "()Z" } : Jvm.MethodName)) ∈ lw_all := lw_g (lw_at lw_m6 38 rfl) rfl
theorem q1350 : (Jvm.Cond.methodLinkNest "PipelineSimulator$Instance" (90 : Nat) ({ cls := "PipelineSimulator", name := "home", desc := "(II)I" } : Jvm.MethodName) "PipelineSimulator") ∈ lw_tbl := lw_at lw_m6 53 rfl
theorem q1353 : (Jvm.Cond.classLink "PipelineSimulator$Instance" (100 : Nat) "PipelineSimulator$Counter") ∈ lw_all := lw_g (lw_at lw_m6 56 rfl) rfl
theorem q1354 : (Jvm.Cond.methodLinkNest "PipelineSimulator$Instance" (108 : Nat) ({ cls := "PipelineSimulator", name := "channel", desc := "(III)LPipelineSimulator$Channel;" } : Jvm.MethodName) "PipelineSimulator") ∈ lw_tbl := lw_at lw_m6 57 rfl
theorem q1358 : (Jvm.Cond.methodLink "PipelineSimulator$Instance" (112 : Nat) ({ cls := "PipelineSimulator$Channel", name := "canPut", desc := "()Z" } : Jvm.MethodName)) ∈ lw_all := lw_g (lw_at lw_m6 61 rfl) rfl
theorem q1362 : (Jvm.Cond.methodLink "PipelineSimulator$Instance" (245 : Nat) ({ cls := "PipelineSimulator$Instance", name := "send", desc := "()V" } : Jvm.MethodName)) ∈ lw_all := lw_g (lw_at lw_m6 65 rfl) rfl
theorem q1363 : (Jvm.Cond.privateMethod ({ cls := "PipelineSimulator$Instance", name := "send", desc := "()V" } : Jvm.MethodName)) ∈ lw_tbl := lw_at lw_m6 66 rfl
theorem q1364 : (Jvm.Cond.instanceMethod ({ cls := "PipelineSimulator$Instance", name := "send", desc := "()V" } : Jvm.MethodName)) ∈ lw_all := lw_g (lw_at lw_m6 67 rfl) rfl
theorem q1365 : (Jvm.Cond.code ({ cls := "PipelineSimulator$Instance", name := "send", desc := "()V" } : Jvm.MethodName) prog_10_method_9_code (2 : Nat) (Option.none : Option Jvm.ClassFile.FieldType)) ∈ lw_all := lw_g (lw_at lw_m6 68 rfl) rfl
theorem q1366 : (Jvm.Cond.methodLink "PipelineSimulator$Instance" (117 : Nat) ({ cls := "PipelineSimulator$Channel", name := "put", desc := "(III)V" } : Jvm.MethodName)) ∈ lw_all := lw_g (lw_at lw_m6 69 rfl) rfl
theorem q1374 : (Jvm.Cond.methodLink "PipelineSimulator$Instance" (248 : Nat) ({ cls := "PipelineSimulator$Instance", name := "barred", desc := "()I" } : Jvm.MethodName)) ∈ lw_all := lw_g (lw_at lw_m6 77 rfl) rfl
theorem q1375 : (Jvm.Cond.privateMethod ({ cls := "PipelineSimulator$Instance", name := "barred", desc := "()I" } : Jvm.MethodName)) ∈ lw_tbl := lw_at lw_m6 78 rfl
theorem q1376 : (Jvm.Cond.instanceMethod ({ cls := "PipelineSimulator$Instance", name := "barred", desc := "()I" } : Jvm.MethodName)) ∈ lw_all := lw_g (lw_at lw_m6 79 rfl) rfl
theorem q1377 : (Jvm.Cond.code ({ cls := "PipelineSimulator$Instance", name := "barred", desc := "()I" } : Jvm.MethodName) prog_10_method_10_code (2 : Nat) (Option.some Jvm.ClassFile.FieldType.int)) ∈ lw_all := lw_g (lw_at lw_m6 80 rfl) rfl
theorem q1378 : (Jvm.Cond.methodLink "PipelineSimulator$Instance" (121 : Nat) ({ cls := "PipelineSimulator$Channel", name := "canPutBarrier", desc := "()Z" } : Jvm.MethodName)) ∈ lw_all := lw_g (lw_at lw_m6 81 rfl) rfl
theorem q1382 : (Jvm.Cond.constant "PipelineSimulator$Instance" (124 : Nat) (-1000000001 : Int32)) ∈ lw_all := lw_g (lw_at lw_m6 85 rfl) rfl
theorem q1383 : (Jvm.Cond.methodLink "PipelineSimulator$Instance" (251 : Nat) ({ cls := "PipelineSimulator$Instance", name := "sendBarrier", desc := "()V" } : Jvm.MethodName)) ∈ lw_all := lw_g (lw_at lw_m6 86 rfl) rfl
theorem q1384 : (Jvm.Cond.privateMethod ({ cls := "PipelineSimulator$Instance", name := "sendBarrier", desc := "()V" } : Jvm.MethodName)) ∈ lw_tbl := lw_at lw_m6 87 rfl
theorem q1385 : (Jvm.Cond.instanceMethod ({ cls := "PipelineSimulator$Instance", name := "sendBarrier", desc := "()V" } : Jvm.MethodName)) ∈ lw_all := lw_g (lw_at lw_m6 88 rfl) rfl
theorem q1386 : (Jvm.Cond.code ({ cls := "PipelineSimulator$Instance", name := "sendBarrier", desc := "()V" } : Jvm.MethodName) prog_10_method_11_code (2 : Nat) (Option.none : Option Jvm.ClassFile.FieldType)) ∈ lw_all := lw_g (lw_at lw_m6 89 rfl) rfl
theorem q1387 : (Jvm.Cond.methodLink "PipelineSimulator$Instance" (125 : Nat) ({ cls := "PipelineSimulator$Channel", name := "putBarrier", desc := "()V" } : Jvm.MethodName)) ∈ lw_all := lw_g (lw_at lw_m6 90 rfl) rfl
theorem q1391 : (Jvm.Cond.methodLink "PipelineSimulator$Instance" (73 : Nat) ({ cls := "PipelineSimulator$Instance", name := "self", desc := "()LPipelineSimulator$Operator;" } : Jvm.MethodName)) ∈ lw_all := lw_g (lw_at lw_m6 94 rfl) rfl
theorem q1392 : (Jvm.Cond.privateMethod ({ cls := "PipelineSimulator$Instance", name := "self", desc := "()LPipelineSimulator$Operator;" } : Jvm.MethodName)) ∈ lw_tbl := lw_at lw_m6 95 rfl
theorem q1393 : (Jvm.Cond.instanceMethod ({ cls := "PipelineSimulator$Instance", name := "self", desc := "()LPipelineSimulator$Operator;" } : Jvm.MethodName)) ∈ lw_all := lw_g (lw_at lw_m6 96 rfl) rfl
theorem q1394 : (Jvm.Cond.code ({ cls := "PipelineSimulator$Instance", name := "self", desc := "()LPipelineSimulator$Operator;" } : Jvm.MethodName) prog_10_method_2_code (1 : Nat) (Option.some (Jvm.ClassFile.FieldType.object "PipelineSimulator$Operator"))) ∈ lw_all := lw_g (lw_at lw_m6 97 rfl) rfl
theorem q1395 : (Jvm.Cond.methodLink "PipelineSimulator$Instance" (263 : Nat) ({ cls := "PipelineSimulator$Instance", name := "take", desc := "()Z" } : Jvm.MethodName)) ∈ lw_all := lw_g (lw_at lw_m6 98 rfl) rfl
theorem q1396 : (Jvm.Cond.privateMethod ({ cls := "PipelineSimulator$Instance", name := "take", desc := "()Z" } : Jvm.MethodName)) ∈ lw_tbl := lw_at lw_m6 99 rfl
theorem q1397 : (Jvm.Cond.instanceMethod ({ cls := "PipelineSimulator$Instance", name := "take", desc := "()Z" } : Jvm.MethodName)) ∈ lw_all := lw_g (lw_at lw_m6 100 rfl) rfl
theorem q1398 : (Jvm.Cond.code ({ cls := "PipelineSimulator$Instance", name := "take", desc := "()Z" } : Jvm.MethodName) prog_10_method_14_code (1 : Nat) (Option.some Jvm.ClassFile.FieldType.boolean)) ∈ lw_all := lw_g (lw_at lw_m6 101 rfl) rfl
theorem q1399 : (Jvm.Cond.methodLink "PipelineSimulator$Instance" (145 : Nat) ({ cls := "PipelineSimulator$Instance", name := "takeInput", desc := "()Z" } : Jvm.MethodName)) ∈ lw_all := lw_g (lw_at lw_m6 102 rfl) rfl
theorem q1400 : (Jvm.Cond.privateMethod ({ cls := "PipelineSimulator$Instance", name := "takeInput", desc := "()Z" } : Jvm.MethodName)) ∈ lw_tbl := lw_at lw_m6 103 rfl
theorem q1401 : (Jvm.Cond.instanceMethod ({ cls := "PipelineSimulator$Instance", name := "takeInput", desc := "()Z" } : Jvm.MethodName)) ∈ lw_all := lw_g (lw_at lw_m6 104 rfl) rfl
theorem q1402 : (Jvm.Cond.code ({ cls := "PipelineSimulator$Instance", name := "takeInput", desc := "()Z" } : Jvm.MethodName) prog_10_method_15_code (2 : Nat) (Option.some Jvm.ClassFile.FieldType.boolean)) ∈ lw_all := lw_g (lw_at lw_m6 105 rfl) rfl
theorem q1403 : (Jvm.Cond.methodLink "PipelineSimulator$Instance" (166 : Nat) ({ cls := "PipelineSimulator$Instance", name := "process", desc := "(III)V" } : Jvm.MethodName)) ∈ lw_all := lw_g (lw_at lw_m6 106 rfl) rfl
theorem q1404 : (Jvm.Cond.privateMethod ({ cls := "PipelineSimulator$Instance", name := "process", desc := "(III)V" } : Jvm.MethodName)) ∈ lw_tbl := lw_at lw_m6 107 rfl
theorem q1405 : (Jvm.Cond.instanceMethod ({ cls := "PipelineSimulator$Instance", name := "process", desc := "(III)V" } : Jvm.MethodName)) ∈ lw_all := lw_g (lw_at lw_m6 108 rfl) rfl
theorem q1406 : (Jvm.Cond.code ({ cls := "PipelineSimulator$Instance", name := "process", desc := "(III)V" } : Jvm.MethodName) prog_10_method_17_code (4 : Nat) (Option.none : Option Jvm.ClassFile.FieldType)) ∈ lw_all := lw_g (lw_at lw_m6 109 rfl) rfl
theorem q1407 : (Jvm.Cond.methodLink "PipelineSimulator$Instance" (199 : Nat) ({ cls := "PipelineSimulator$Instance", name := "isLast", desc := "()Z" } : Jvm.MethodName)) ∈ lw_all := lw_g (lw_at lw_m6 110 rfl) rfl
theorem q1408 : (Jvm.Cond.privateMethod ({ cls := "PipelineSimulator$Instance", name := "isLast", desc := "()Z" } : Jvm.MethodName)) ∈ lw_tbl := lw_at lw_m6 111 rfl
theorem q1409 : (Jvm.Cond.instanceMethod ({ cls := "PipelineSimulator$Instance", name := "isLast", desc := "()Z" } : Jvm.MethodName)) ∈ lw_all := lw_g (lw_at lw_m6 112 rfl) rfl
theorem q1410 : (Jvm.Cond.code ({ cls := "PipelineSimulator$Instance", name := "isLast", desc := "()Z" } : Jvm.MethodName) prog_10_method_4_code (1 : Nat) (Option.some Jvm.ClassFile.FieldType.boolean)) ∈ lw_all := lw_g (lw_at lw_m6 113 rfl) rfl
theorem q1411 : (Jvm.Cond.methodLink "PipelineSimulator$Instance" (60 : Nat) ({ cls := "java/util/ArrayList", name := "size", desc := "()I" } : Jvm.MethodName)) ∈ lw_all := lw_g (lw_at lw_m6 114 rfl) rfl
theorem q1412 : (Jvm.Cond.methodLink "PipelineSimulator$Instance" (206 : Nat) ({ cls := "PipelineSimulator$Latencies", name := "add", desc := "(I)V" } : Jvm.MethodName)) ∈ lw_all := lw_g (lw_at lw_m6 115 rfl) rfl
theorem q1418 : (Jvm.Cond.classLink "PipelineSimulator$Instance" (217 : Nat) "PipelineSimulator$KeyStates") ∈ lw_all := lw_g (lw_at lw_m6 121 rfl) rfl
theorem q1419 : (Jvm.Cond.methodLink "PipelineSimulator$Instance" (219 : Nat) ({ cls := "PipelineSimulator$Operator", name := "process", desc := "(IILPipelineSimulator$KeyStates;LPipelineSimulator$Output;)V" } : Jvm.MethodName)) ∈ lw_all := lw_g (lw_at lw_m6 122 rfl) rfl
theorem q1473 : (Jvm.Cond.castable "PipelineSimulator$Instance" "PipelineSimulator$Output") ∈ lw_tbl := lw_at lw_m6 176 rfl
theorem q1474 : (Jvm.Cond.selects "PipelineSimulator$Instance" ({ cls := "PipelineSimulator$Output", name := "emit", desc := "(II)V" } : Jvm.MethodName) ({ cls := "PipelineSimulator$Instance", name := "emit", desc := "(II)V" } : Jvm.MethodName)) ∈ lw_all := lw_g (lw_at lw_m6 177 rfl) rfl
theorem q1475 : (Jvm.Cond.unhidden "PipelineSimulator$Instance" "emit" "(II)V") ∈ lw_tbl := lw_at lw_m6 178 rfl
theorem q1476 : (Jvm.Cond.instanceMethod ({ cls := "PipelineSimulator$Instance", name := "emit", desc := "(II)V" } : Jvm.MethodName)) ∈ lw_all := lw_g (lw_at lw_m6 179 rfl) rfl
theorem q1477 : (Jvm.Cond.publicMethod ({ cls := "PipelineSimulator$Instance", name := "emit", desc := "(II)V" } : Jvm.MethodName)) ∈ lw_tbl := lw_at lw_m6 180 rfl
theorem q1478 : (Jvm.Cond.code ({ cls := "PipelineSimulator$Instance", name := "emit", desc := "(II)V" } : Jvm.MethodName) prog_10_method_6_code (3 : Nat) (Option.none : Option Jvm.ClassFile.FieldType)) ∈ lw_all := lw_g (lw_at lw_m6 181 rfl) rfl
theorem q1558 : (Jvm.Cond.methodLink "PipelineSimulator$Instance" (148 : Nat) ({ cls := "PipelineSimulator$Instance", name := "takeItem", desc := "()Z" } : Jvm.MethodName)) ∈ lw_all := lw_g (lw_at lw_m7 21 rfl) rfl
theorem q1559 : (Jvm.Cond.privateMethod ({ cls := "PipelineSimulator$Instance", name := "takeItem", desc := "()Z" } : Jvm.MethodName)) ∈ lw_tbl := lw_at lw_m7 22 rfl
theorem q1560 : (Jvm.Cond.instanceMethod ({ cls := "PipelineSimulator$Instance", name := "takeItem", desc := "()Z" } : Jvm.MethodName)) ∈ lw_all := lw_g (lw_at lw_m7 23 rfl) rfl
theorem q1561 : (Jvm.Cond.code ({ cls := "PipelineSimulator$Instance", name := "takeItem", desc := "()Z" } : Jvm.MethodName) prog_10_method_16_code (7 : Nat) (Option.some Jvm.ClassFile.FieldType.boolean)) ∈ lw_all := lw_g (lw_at lw_m7 24 rfl) rfl
theorem q1562 : (Jvm.Cond.methodLink "PipelineSimulator$Instance" (169 : Nat) ({ cls := "PipelineSimulator$Instance", name := "input", desc := "()I" } : Jvm.MethodName)) ∈ lw_all := lw_g (lw_at lw_m7 25 rfl) rfl
theorem q1563 : (Jvm.Cond.privateMethod ({ cls := "PipelineSimulator$Instance", name := "input", desc := "()I" } : Jvm.MethodName)) ∈ lw_tbl := lw_at lw_m7 26 rfl
theorem q1564 : (Jvm.Cond.instanceMethod ({ cls := "PipelineSimulator$Instance", name := "input", desc := "()I" } : Jvm.MethodName)) ∈ lw_all := lw_g (lw_at lw_m7 27 rfl) rfl
theorem q1565 : (Jvm.Cond.code ({ cls := "PipelineSimulator$Instance", name := "input", desc := "()I" } : Jvm.MethodName) prog_10_method_13_code (3 : Nat) (Option.some Jvm.ClassFile.FieldType.int)) ∈ lw_all := lw_g (lw_at lw_m7 28 rfl) rfl
theorem q1566 : (Jvm.Cond.methodLink "PipelineSimulator$Instance" (132 : Nat) ({ cls := "PipelineSimulator$Instance", name := "inputs", desc := "()I" } : Jvm.MethodName)) ∈ lw_all := lw_g (lw_at lw_m7 29 rfl) rfl
theorem q1567 : (Jvm.Cond.privateMethod ({ cls := "PipelineSimulator$Instance", name := "inputs", desc := "()I" } : Jvm.MethodName)) ∈ lw_tbl := lw_at lw_m7 30 rfl
theorem q1568 : (Jvm.Cond.instanceMethod ({ cls := "PipelineSimulator$Instance", name := "inputs", desc := "()I" } : Jvm.MethodName)) ∈ lw_all := lw_g (lw_at lw_m7 31 rfl) rfl
theorem q1569 : (Jvm.Cond.code ({ cls := "PipelineSimulator$Instance", name := "inputs", desc := "()I" } : Jvm.MethodName) prog_10_method_12_code (1 : Nat) (Option.some Jvm.ClassFile.FieldType.int)) ∈ lw_all := lw_g (lw_at lw_m7 32 rfl) rfl
theorem q1570 : (Jvm.Cond.methodLink "PipelineSimulator$Instance" (138 : Nat) ({ cls := "java/util/BitSet", name := "get", desc := "(I)Z" } : Jvm.MethodName)) ∈ lw_all := lw_g (lw_at lw_m7 33 rfl) rfl
theorem q1571 : (Jvm.Cond.methodLink "PipelineSimulator$Instance" (141 : Nat) ({ cls := "PipelineSimulator$Channel", name := "first", desc := "()LPipelineSimulator$Batch;" } : Jvm.MethodName)) ∈ lw_all := lw_g (lw_at lw_m7 34 rfl) rfl
theorem q1583 : (Jvm.Cond.methodLink "PipelineSimulator$Instance" (177 : Nat) ({ cls := "PipelineSimulator$Channel", name := "removeFirst", desc := "()V" } : Jvm.MethodName)) ∈ lw_all := lw_g (lw_at lw_m7 46 rfl) rfl
theorem q1624 : (Jvm.Cond.methodLink "PipelineSimulator$Instance" (180 : Nat) ({ cls := "java/util/BitSet", name := "set", desc := "(I)V" } : Jvm.MethodName)) ∈ lw_all := lw_g (lw_at lw_m7 87 rfl) rfl
theorem q1625 : (Jvm.Cond.methodLink "PipelineSimulator$Instance" (183 : Nat) ({ cls := "java/util/BitSet", name := "cardinality", desc := "()I" } : Jvm.MethodName)) ∈ lw_all := lw_g (lw_at lw_m7 88 rfl) rfl
theorem q1635 : (Jvm.Cond.methodLink "PipelineSimulator$Instance" (186 : Nat) ({ cls := "PipelineSimulator$Instance", name := "align", desc := "()V" } : Jvm.MethodName)) ∈ lw_all := lw_g (lw_at lw_m7 98 rfl) rfl
theorem q1636 : (Jvm.Cond.privateMethod ({ cls := "PipelineSimulator$Instance", name := "align", desc := "()V" } : Jvm.MethodName)) ∈ lw_tbl := lw_at lw_m7 99 rfl
theorem q1637 : (Jvm.Cond.instanceMethod ({ cls := "PipelineSimulator$Instance", name := "align", desc := "()V" } : Jvm.MethodName)) ∈ lw_all := lw_g (lw_at lw_m7 100 rfl) rfl
theorem q1638 : (Jvm.Cond.code ({ cls := "PipelineSimulator$Instance", name := "align", desc := "()V" } : Jvm.MethodName) prog_10_method_18_code (1 : Nat) (Option.none : Option Jvm.ClassFile.FieldType)) ∈ lw_all := lw_g (lw_at lw_m7 101 rfl) rfl
theorem q1639 : (Jvm.Cond.methodLink "PipelineSimulator$Instance" (222 : Nat) ({ cls := "java/util/BitSet", name := "clear", desc := "()V" } : Jvm.MethodName)) ∈ lw_all := lw_g (lw_at lw_m7 102 rfl) rfl
theorem q1640 : (Jvm.Cond.methodLink "PipelineSimulator$Instance" (228 : Nat) ({ cls := "PipelineSimulator$KeyStates", name := "copyKeys", desc := "(LPipelineSimulator$KeyStates;II)V" } : Jvm.MethodName)) ∈ lw_all := lw_g (lw_at lw_m7 103 rfl) rfl
theorem q1647 : (Jvm.Cond.methodLink "PipelineSimulator$Instance" (232 : Nat) ({ cls := "PipelineSimulator$Counter", name := "copyTo", desc := "(LPipelineSimulator$Counter;)V" } : Jvm.MethodName)) ∈ lw_all := lw_g (lw_at lw_m7 110 rfl) rfl
theorem q1651 : (Jvm.Cond.methodLinkNest "PipelineSimulator$Instance" (239 : Nat) ({ cls := "PipelineSimulator", name := "complete", desc := "()V" } : Jvm.MethodName) "PipelineSimulator") ∈ lw_tbl := lw_at lw_m7 114 rfl
theorem q1789 : (Jvm.Cond.methodLink "PipelineSimulator$Instance" (189 : Nat) ({ cls := "PipelineSimulator$Batch", name := "key", desc := "()I" } : Jvm.MethodName)) ∈ lw_all := lw_g (lw_at lw_m8 12 rfl) rfl
theorem q1793 : (Jvm.Cond.methodLink "PipelineSimulator$Instance" (192 : Nat) ({ cls := "PipelineSimulator$Batch", name := "value", desc := "()I" } : Jvm.MethodName)) ∈ lw_all := lw_g (lw_at lw_m8 16 rfl) rfl
theorem q1797 : (Jvm.Cond.methodLink "PipelineSimulator$Instance" (194 : Nat) ({ cls := "PipelineSimulator$Batch", name := "birth", desc := "()I" } : Jvm.MethodName)) ∈ lw_all := lw_g (lw_at lw_m8 20 rfl) rfl
theorem q1801 : (Jvm.Cond.methodLink "PipelineSimulator$Instance" (196 : Nat) ({ cls := "PipelineSimulator$Channel", name := "takeRecord", desc := "()V" } : Jvm.MethodName)) ∈ lw_all := lw_g (lw_at lw_m8 24 rfl) rfl
theorem q1830 : (Jvm.Cond.instanceMethod ({ cls := "PipelineSimulator$Instance", name := "drop", desc := "()V" } : Jvm.MethodName)) ∈ lw_all := lw_g (lw_at lw_m8 53 rfl) rfl
theorem q1831 : (Jvm.Cond.selects "PipelineSimulator$Instance" ({ cls := "PipelineSimulator$Instance", name := "drop", desc := "()V" } : Jvm.MethodName) ({ cls := "PipelineSimulator$Instance", name := "drop", desc := "()V" } : Jvm.MethodName)) ∈ lw_all := lw_g (lw_at lw_m8 54 rfl) rfl
theorem q1832 : (Jvm.Cond.code ({ cls := "PipelineSimulator$Instance", name := "drop", desc := "()V" } : Jvm.MethodName) prog_10_method_21_code (1 : Nat) (Option.none : Option Jvm.ClassFile.FieldType)) ∈ lw_all := lw_g (lw_at lw_m8 55 rfl) rfl
theorem q1888 : (Jvm.Cond.instanceMethod ({ cls := "PipelineSimulator$Instance", name := "stopped", desc := "()I" } : Jvm.MethodName)) ∈ lw_all := lw_g (lw_at lw_m8 111 rfl) rfl
theorem q1889 : (Jvm.Cond.selects "PipelineSimulator$Instance" ({ cls := "PipelineSimulator$Instance", name := "stopped", desc := "()I" } : Jvm.MethodName) ({ cls := "PipelineSimulator$Instance", name := "stopped", desc := "()I" } : Jvm.MethodName)) ∈ lw_all := lw_g (lw_at lw_m8 112 rfl) rfl
theorem q1890 : (Jvm.Cond.code ({ cls := "PipelineSimulator$Instance", name := "stopped", desc := "()I" } : Jvm.MethodName) prog_10_method_22_code (3 : Nat) (Option.some Jvm.ClassFile.FieldType.int)) ∈ lw_all := lw_g (lw_at lw_m8 113 rfl) rfl
theorem q1892 : (Jvm.Cond.instanceMethod ({ cls := "PipelineSimulator$Instance", name := "keys", desc := "()I" } : Jvm.MethodName)) ∈ lw_all := lw_g (lw_at lw_m8 115 rfl) rfl
theorem q1893 : (Jvm.Cond.selects "PipelineSimulator$Instance" ({ cls := "PipelineSimulator$Instance", name := "keys", desc := "()I" } : Jvm.MethodName) ({ cls := "PipelineSimulator$Instance", name := "keys", desc := "()I" } : Jvm.MethodName)) ∈ lw_all := lw_g (lw_at lw_m8 116 rfl) rfl
theorem q1894 : (Jvm.Cond.code ({ cls := "PipelineSimulator$Instance", name := "keys", desc := "()I" } : Jvm.MethodName) prog_10_method_23_code (3 : Nat) (Option.some Jvm.ClassFile.FieldType.int)) ∈ lw_all := lw_g (lw_at lw_m8 117 rfl) rfl
theorem q1895 : (Jvm.Cond.methodLink "PipelineSimulator$Instance" (269 : Nat) ({ cls := "PipelineSimulator$KeyStates", name := "has", desc := "(I)Z" } : Jvm.MethodName)) ∈ lw_all := lw_g (lw_at lw_m8 118 rfl) rfl
theorem q1964 : (Jvm.Cond.instanceMethod ({ cls := "PipelineSimulator$Instance", name := "explain", desc := "(I)V" } : Jvm.MethodName)) ∈ lw_all := lw_g (lw_at lw_m8 187 rfl) rfl
theorem q1965 : (Jvm.Cond.selects "PipelineSimulator$Instance" ({ cls := "PipelineSimulator$Instance", name := "explain", desc := "(I)V" } : Jvm.MethodName) ({ cls := "PipelineSimulator$Instance", name := "explain", desc := "(I)V" } : Jvm.MethodName)) ∈ lw_all := lw_g (lw_at lw_m8 188 rfl) rfl
theorem q1966 : (Jvm.Cond.codeWith ({ cls := "PipelineSimulator$Instance", name := "explain", desc := "(I)V" } : Jvm.MethodName) prog_10_method_27_code (5 : Nat) (Option.none : Option Jvm.ClassFile.FieldType) [((39 : Nat), (50 : Nat), (53 : Nat), (288 : Nat))]) ∈ lw_all := lw_g (lw_at lw_m8 189 rfl) rfl
theorem q1967 : (Jvm.Cond.classLink "PipelineSimulator$Instance" (288 : Nat) "PipelineSimulator$WaitException") ∈ lw_all := lw_g (lw_at lw_m8 190 rfl) rfl
theorem q1968 : (Jvm.Cond.methodLink "PipelineSimulator$Instance" (285 : Nat) ({ cls := "PipelineSimulator$Instance", name := "reason", desc := "()I" } : Jvm.MethodName)) ∈ lw_all := lw_g (lw_at lw_m8 191 rfl) rfl
theorem q1969 : (Jvm.Cond.privateMethod ({ cls := "PipelineSimulator$Instance", name := "reason", desc := "()I" } : Jvm.MethodName)) ∈ lw_tbl := lw_at lw_m8 192 rfl
theorem q1970 : (Jvm.Cond.instanceMethod ({ cls := "PipelineSimulator$Instance", name := "reason", desc := "()I" } : Jvm.MethodName)) ∈ lw_all := lw_g (lw_at lw_m8 193 rfl) rfl
theorem q1971 : (Jvm.Cond.code ({ cls := "PipelineSimulator$Instance", name := "reason", desc := "()I" } : Jvm.MethodName) prog_10_method_25_code (1 : Nat) (Option.some Jvm.ClassFile.FieldType.int)) ∈ lw_all := lw_g (lw_at lw_m8 194 rfl) rfl
theorem q1972 : (Jvm.Cond.methodLink "PipelineSimulator$Instance" (272 : Nat) ({ cls := "PipelineSimulator$Instance", name := "hasItem", desc := "()Z" } : Jvm.MethodName)) ∈ lw_all := lw_g (lw_at lw_m8 195 rfl) rfl
theorem q1973 : (Jvm.Cond.privateMethod ({ cls := "PipelineSimulator$Instance", name := "hasItem", desc := "()Z" } : Jvm.MethodName)) ∈ lw_tbl := lw_at lw_m8 196 rfl
theorem q1974 : (Jvm.Cond.instanceMethod ({ cls := "PipelineSimulator$Instance", name := "hasItem", desc := "()Z" } : Jvm.MethodName)) ∈ lw_all := lw_g (lw_at lw_m8 197 rfl) rfl
theorem q1975 : (Jvm.Cond.code ({ cls := "PipelineSimulator$Instance", name := "hasItem", desc := "()Z" } : Jvm.MethodName) prog_10_method_24_code (1 : Nat) (Option.some Jvm.ClassFile.FieldType.boolean)) ∈ lw_all := lw_g (lw_at lw_m8 198 rfl) rfl
theorem q1976 : (Jvm.Cond.methodLink "PipelineSimulator$Instance" (275 : Nat) ({ cls := "java/util/BitSet", name := "isEmpty", desc := "()Z" } : Jvm.MethodName)) ∈ lw_all := lw_g (lw_at lw_m8 199 rfl) rfl
theorem q1988 : (Jvm.Cond.methodLink "PipelineSimulator$Instance" (290 : Nat) ({ cls := "PipelineSimulator$WaitException", name := "<init>", desc := "(II)V" } : Jvm.MethodName)) ∈ lw_all := lw_g (lw_at lw_m8 211 rfl) rfl
theorem q2005 : (Jvm.Cond.methodLink "PipelineSimulator$Instance" (293 : Nat) ({ cls := "PipelineSimulator$Instance", name := "waitsFor", desc := "(I)LPipelineSimulator$Instance;" } : Jvm.MethodName)) ∈ lw_all := lw_g (lw_at lw_m8 228 rfl) rfl
theorem q2006 : (Jvm.Cond.privateMethod ({ cls := "PipelineSimulator$Instance", name := "waitsFor", desc := "(I)LPipelineSimulator$Instance;" } : Jvm.MethodName)) ∈ lw_tbl := lw_at lw_m8 229 rfl
theorem q2007 : (Jvm.Cond.instanceMethod ({ cls := "PipelineSimulator$Instance", name := "waitsFor", desc := "(I)LPipelineSimulator$Instance;" } : Jvm.MethodName)) ∈ lw_all := lw_g (lw_at lw_m8 230 rfl) rfl
theorem q2008 : (Jvm.Cond.code ({ cls := "PipelineSimulator$Instance", name := "waitsFor", desc := "(I)LPipelineSimulator$Instance;" } : Jvm.MethodName) prog_10_method_26_code (2 : Nat) (Option.some (Jvm.ClassFile.FieldType.object "PipelineSimulator$Instance"))) ∈ lw_all := lw_g (lw_at lw_m8 231 rfl) rfl
theorem q2009 : (Jvm.Cond.methodLink "PipelineSimulator$Instance" (281 : Nat) ({ cls := "java/util/BitSet", name := "nextClearBit", desc := "(I)I" } : Jvm.MethodName)) ∈ lw_all := lw_g (lw_at lw_m8 232 rfl) rfl
theorem q2020 : (Jvm.Cond.methodLink "PipelineSimulator$Instance" (297 : Nat) ({ cls := "PipelineSimulator$Instance", name := "explain", desc := "(I)V" } : Jvm.MethodName)) ∈ lw_all := lw_g (lw_at lw_m9 3 rfl) rfl
theorem q2021 : (Jvm.Cond.methodLink "PipelineSimulator$Instance" (300 : Nat) ({ cls := "PipelineSimulator$WaitException", name := "initCause", desc := "(Ljava/lang/Throwable;)Ljava/lang/Throwable;" } : Jvm.MethodName)) ∈ lw_all := lw_g (lw_at lw_m9 4 rfl) rfl
theorem q2944 : (Jvm.Cond.castable "PipelineSimulator$Instance" "java/lang/Object") ∈ lw_tbl := lw_at lw_m12 207 rfl
theorem in_X9 : ∀ w ∈ wsX90, w ∈ lw_all := lw_in wsX90 [546, 548, 550, 552, 554, 556, 558, 560, 562, 564, 566, 568, 570] (by decide +kernel) (by decide +kernel)
