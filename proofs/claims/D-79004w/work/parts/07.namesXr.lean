/-! PipelineSimulator$Versions -/
set_option maxRecDepth 100000
def RX1 : String := "PipelineSimulator$Versions"
def TX1 : u_T := fun k => match k with
  | 0 => ("PipelineSimulator$Versions", "present", "LPipelineSimulator$Copyable;", true)
  | 1 => ("PipelineSimulator$Versions", "running", "LPipelineSimulator$Copyable;", true)
  | _ => ("PipelineSimulator$Versions", "complete", "LPipelineSimulator$Copyable;", true)
def tyX1 : Nat → FieldType := fun k => match k with
  | 0 => .object "PipelineSimulator$Copyable"
  | 1 => .object "PipelineSimulator$Copyable"
  | _ => .object "PipelineSimulator$Copyable"
abbrev wsX10 : List Cond := u_ws RX1 TX1 3
theorem nmX1 : ∀ a, a < 3 → ∀ b, b < 3 → a ≠ b → (TX1 a).2.1 ≠ (TX1 b).2.1 := by decide +kernel
theorem tyX1_ok : ∀ k, k < 3 → parseFieldDescriptor (TX1 k).2.2.1 = some (tyX1 k) := by decide +kernel
abbrev cX1_init : ByteArray := prog_24_method_1_code
def yX1_init : MethodName := ⟨RX1, "<init>", "(LPipelineSimulator$Copyable;LPipelineSimulator$Copyable;LPipelineSimulator$Copyable;)V"⟩
def dkwX1_init_0 : List UInt8 := [42, 183, 0, 1, 42, 43, 181, 0, 7, 42, 44, 181, 0, 13, 42, 45, 181, 0, 16, 177]
abbrev dktX1_init_0 : List UInt8 := dkwX1_init_0 ++ []
theorem dksX1_init_0 : cX1_init.data.toList.drop 0 = dktX1_init_0 := by decide +kernel
theorem dX1_init_0 : decode cX1_init 0 = .ok (.aload_n 0, 1) := dk_42 (dk_at dksX1_init_0 0 rfl rfl)
theorem dX1_init_1 : decode cX1_init 1 = .ok (.invokespecial 1, 3) := dk_183 0 1 (dk_at dksX1_init_0 1 rfl rfl)
theorem dX1_init_4 : decode cX1_init 4 = .ok (.aload_n 0, 1) := dk_42 (dk_at dksX1_init_0 4 rfl rfl)
theorem dX1_init_5 : decode cX1_init 5 = .ok (.aload_n 1, 1) := dk_43 (dk_at dksX1_init_0 5 rfl rfl)
theorem dX1_init_6 : decode cX1_init 6 = .ok (.putfield 7, 3) := dk_181 0 7 (dk_at dksX1_init_0 6 rfl rfl)
theorem dX1_init_9 : decode cX1_init 9 = .ok (.aload_n 0, 1) := dk_42 (dk_at dksX1_init_0 9 rfl rfl)
theorem dX1_init_10 : decode cX1_init 10 = .ok (.aload_n 2, 1) := dk_44 (dk_at dksX1_init_0 10 rfl rfl)
theorem dX1_init_11 : decode cX1_init 11 = .ok (.putfield 13, 3) := dk_181 0 13 (dk_at dksX1_init_0 11 rfl rfl)
theorem dX1_init_14 : decode cX1_init 14 = .ok (.aload_n 0, 1) := dk_42 (dk_at dksX1_init_0 14 rfl rfl)
theorem dX1_init_15 : decode cX1_init 15 = .ok (.aload_n 3, 1) := dk_45 (dk_at dksX1_init_0 15 rfl rfl)
theorem dX1_init_16 : decode cX1_init 16 = .ok (.putfield 16, 3) := dk_181 0 16 (dk_at dksX1_init_0 16 rfl rfl)
theorem dX1_init_19 : decode cX1_init 19 = .ok (.return_, 1) := dk_177 (dk_at dksX1_init_0 19 rfl rfl)
abbrev cX1_reset : ByteArray := prog_24_method_4_code
def yX1_reset : MethodName := ⟨RX1, "reset", "()V"⟩
def dkwX1_reset_1 : List UInt8 := [185, 0, 25, 1, 0, 177]
abbrev dktX1_reset_1 : List UInt8 := dkwX1_reset_1 ++ []
def dkwX1_reset_0 : List UInt8 := [42, 180, 0, 7, 185, 0, 25, 1, 0, 42, 180, 0, 13, 185, 0, 25, 1, 0, 42, 180, 0, 16]
abbrev dktX1_reset_0 : List UInt8 := dkwX1_reset_0 ++ dktX1_reset_1
theorem dksX1_reset_0 : cX1_reset.data.toList.drop 0 = dktX1_reset_0 := by decide +kernel
theorem dksX1_reset_1 : cX1_reset.data.toList.drop 22 = dktX1_reset_1 := dk_seg dksX1_reset_0 22 rfl rfl
theorem dX1_reset_0 : decode cX1_reset 0 = .ok (.aload_n 0, 1) := dk_42 (dk_at dksX1_reset_0 0 rfl rfl)
theorem dX1_reset_1 : decode cX1_reset 1 = .ok (.getfield 7, 3) := dk_180 0 7 (dk_at dksX1_reset_0 1 rfl rfl)
theorem dX1_reset_4 : decode cX1_reset 4 = .ok (.invokeinterface 25 1, 5) := by decide +kernel
theorem dX1_reset_9 : decode cX1_reset 9 = .ok (.aload_n 0, 1) := dk_42 (dk_at dksX1_reset_0 9 rfl rfl)
theorem dX1_reset_10 : decode cX1_reset 10 = .ok (.getfield 13, 3) := dk_180 0 13 (dk_at dksX1_reset_0 10 rfl rfl)
theorem dX1_reset_13 : decode cX1_reset 13 = .ok (.invokeinterface 25 1, 5) := by decide +kernel
theorem dX1_reset_18 : decode cX1_reset 18 = .ok (.aload_n 0, 1) := dk_42 (dk_at dksX1_reset_0 18 rfl rfl)
theorem dX1_reset_19 : decode cX1_reset 19 = .ok (.getfield 16, 3) := dk_180 0 16 (dk_at dksX1_reset_0 19 rfl rfl)
theorem dX1_reset_22 : decode cX1_reset 22 = .ok (.invokeinterface 25 1, 5) := by decide +kernel
theorem dX1_reset_27 : decode cX1_reset 27 = .ok (.return_, 1) := dk_177 (dk_at dksX1_reset_1 5 rfl rfl)
abbrev cX1_finish : ByteArray := prog_24_method_2_code
def yX1_finish : MethodName := ⟨RX1, "finish", "()V"⟩
def dkwX1_finish_0 : List UInt8 := [42, 180, 0, 13, 42, 180, 0, 16, 185, 0, 19, 2, 0, 177]
abbrev dktX1_finish_0 : List UInt8 := dkwX1_finish_0 ++ []
theorem dksX1_finish_0 : cX1_finish.data.toList.drop 0 = dktX1_finish_0 := by decide +kernel
theorem dX1_finish_0 : decode cX1_finish 0 = .ok (.aload_n 0, 1) := dk_42 (dk_at dksX1_finish_0 0 rfl rfl)
theorem dX1_finish_1 : decode cX1_finish 1 = .ok (.getfield 13, 3) := dk_180 0 13 (dk_at dksX1_finish_0 1 rfl rfl)
theorem dX1_finish_4 : decode cX1_finish 4 = .ok (.aload_n 0, 1) := dk_42 (dk_at dksX1_finish_0 4 rfl rfl)
theorem dX1_finish_5 : decode cX1_finish 5 = .ok (.getfield 16, 3) := dk_180 0 16 (dk_at dksX1_finish_0 5 rfl rfl)
theorem dX1_finish_8 : decode cX1_finish 8 = .ok (.invokeinterface 19 2, 5) := by decide +kernel
theorem dX1_finish_13 : decode cX1_finish 13 = .ok (.return_, 1) := dk_177 (dk_at dksX1_finish_0 13 rfl rfl)
abbrev cX1_restore : ByteArray := prog_24_method_3_code
def yX1_restore : MethodName := ⟨RX1, "restore", "()V"⟩
def dkwX1_restore_0 : List UInt8 := [42, 180, 0, 16, 42, 180, 0, 7, 185, 0, 19, 2, 0, 177]
abbrev dktX1_restore_0 : List UInt8 := dkwX1_restore_0 ++ []
theorem dksX1_restore_0 : cX1_restore.data.toList.drop 0 = dktX1_restore_0 := by decide +kernel
theorem dX1_restore_0 : decode cX1_restore 0 = .ok (.aload_n 0, 1) := dk_42 (dk_at dksX1_restore_0 0 rfl rfl)
theorem dX1_restore_1 : decode cX1_restore 1 = .ok (.getfield 16, 3) := dk_180 0 16 (dk_at dksX1_restore_0 1 rfl rfl)
theorem dX1_restore_4 : decode cX1_restore 4 = .ok (.aload_n 0, 1) := dk_42 (dk_at dksX1_restore_0 4 rfl rfl)
theorem dX1_restore_5 : decode cX1_restore 5 = .ok (.getfield 7, 3) := dk_180 0 7 (dk_at dksX1_restore_0 5 rfl rfl)
theorem dX1_restore_8 : decode cX1_restore 8 = .ok (.invokeinterface 19 2, 5) := by decide +kernel
theorem dX1_restore_13 : decode cX1_restore 13 = .ok (.return_, 1) := dk_177 (dk_at dksX1_restore_0 13 rfl rfl)
theorem q104 : (Jvm.Cond.initialized "PipelineSimulator$Versions") ∈ lw_all := lw_g (lw_at lw_m1 7 rfl) rfl
theorem q222 : (Jvm.Cond.instantiable "PipelineSimulator$Versions" (3 : Nat)) ∈ lw_all := lw_g (lw_at lw_m1 125 rfl) rfl
theorem q236 : (Jvm.Cond.instanceMethod ({ cls := "PipelineSimulator$Versions", name := "<init>", desc := "(LPipelineSimulator$Copyable;LPipelineSimulator$Copyable;LPipelineSimulator$Copyable;)V" } : Jvm.MethodName)) ∈ lw_all := lw_g (lw_at lw_m1 139 rfl) rfl
theorem q237 : (Jvm.Cond.code ({ cls := "PipelineSimulator$Versions", name := "<init>", desc := "(LPipelineSimulator$Copyable;LPipelineSimulator$Copyable;LPipelineSimulator$Copyable;)V" } : Jvm.MethodName) prog_24_method_1_code (4 : Nat) (Option.none : Option Jvm.ClassFile.FieldType)) ∈ lw_all := lw_g (lw_at lw_m1 140 rfl) rfl
theorem q238 : (Jvm.Cond.methodLink "PipelineSimulator$Versions" (1 : Nat) ({ cls := "java/lang/Object", name := "<init>", desc := "()V" } : Jvm.MethodName)) ∈ lw_all := lw_g (lw_at lw_m1 141 rfl) rfl
theorem q239 : (Jvm.Cond.fieldLink "PipelineSimulator$Versions" (7 : Nat) "PipelineSimulator$Versions" "present" "LPipelineSimulator$Copyable;") ∈ lw_all := lw_g (lw_at lw_m1 142 rfl) rfl
theorem q242 : (Jvm.Cond.fieldLink "PipelineSimulator$Versions" (13 : Nat) "PipelineSimulator$Versions" "running" "LPipelineSimulator$Copyable;") ∈ lw_all := lw_g (lw_at lw_m1 145 rfl) rfl
theorem q245 : (Jvm.Cond.fieldLink "PipelineSimulator$Versions" (16 : Nat) "PipelineSimulator$Versions" "complete" "LPipelineSimulator$Copyable;") ∈ lw_all := lw_g (lw_at lw_m1 148 rfl) rfl
theorem q247 : (Jvm.Cond.laysFinal "PipelineSimulator$Versions" "PipelineSimulator$Versions" "present" "LPipelineSimulator$Copyable;") ∈ lw_all := lw_g (lw_at lw_m1 150 rfl) rfl
theorem q248 : (Jvm.Cond.soleField "PipelineSimulator$Versions" "present") ∈ lw_all := lw_g (lw_at lw_m1 151 rfl) rfl
theorem q249 : (Jvm.Cond.laysFinal "PipelineSimulator$Versions" "PipelineSimulator$Versions" "running" "LPipelineSimulator$Copyable;") ∈ lw_all := lw_g (lw_at lw_m1 152 rfl) rfl
theorem q250 : (Jvm.Cond.soleField "PipelineSimulator$Versions" "running") ∈ lw_all := lw_g (lw_at lw_m1 153 rfl) rfl
theorem q251 : (Jvm.Cond.laysFinal "PipelineSimulator$Versions" "PipelineSimulator$Versions" "complete" "LPipelineSimulator$Copyable;") ∈ lw_all := lw_g (lw_at lw_m1 154 rfl) rfl
theorem q252 : (Jvm.Cond.soleField "PipelineSimulator$Versions" "complete") ∈ lw_all := lw_g (lw_at lw_m1 155 rfl) rfl
theorem q253 : (Jvm.Cond.superclass "PipelineSimulator$Versions" "java/lang/Object") ∈ lw_all := lw_g (lw_at lw_m1 156 rfl) rfl
theorem q444 : (Jvm.Cond.selects "PipelineSimulator$Versions" ({ cls := "java/lang/Object", name := "getClass", desc := "()Ljava/lang/Class;" } : Jvm.MethodName) ({ cls := "java/lang/Object", name := "getClass", desc := "()Ljava/lang/Class;" } : Jvm.MethodName)) ∈ lw_all := lw_g (lw_at lw_m2 107 rfl) rfl
theorem q1213 : (Jvm.Cond.instanceMethod ({ cls := "PipelineSimulator$Versions", name := "reset", desc := "()V" } : Jvm.MethodName)) ∈ lw_all := lw_g (lw_at lw_m5 156 rfl) rfl
theorem q1214 : (Jvm.Cond.selects "PipelineSimulator$Versions" ({ cls := "PipelineSimulator$Versions", name := "reset", desc := "()V" } : Jvm.MethodName) ({ cls := "PipelineSimulator$Versions", name := "reset", desc := "()V" } : Jvm.MethodName)) ∈ lw_all := lw_g (lw_at lw_m5 157 rfl) rfl
theorem q1215 : (Jvm.Cond.code ({ cls := "PipelineSimulator$Versions", name := "reset", desc := "()V" } : Jvm.MethodName) prog_24_method_4_code (1 : Nat) (Option.none : Option Jvm.ClassFile.FieldType)) ∈ lw_all := lw_g (lw_at lw_m5 158 rfl) rfl
theorem q1216 : (Jvm.Cond.interfaceEntry "PipelineSimulator$Versions" (25 : Nat)) ∈ lw_tbl := lw_at lw_m5 159 rfl
theorem q1217 : (Jvm.Cond.methodLink "PipelineSimulator$Versions" (25 : Nat) ({ cls := "PipelineSimulator$Copyable", name := "reset", desc := "()V" } : Jvm.MethodName)) ∈ lw_all := lw_g (lw_at lw_m5 160 rfl) rfl
theorem q1764 : (Jvm.Cond.instanceMethod ({ cls := "PipelineSimulator$Versions", name := "finish", desc := "()V" } : Jvm.MethodName)) ∈ lw_all := lw_g (lw_at lw_m7 227 rfl) rfl
theorem q1765 : (Jvm.Cond.selects "PipelineSimulator$Versions" ({ cls := "PipelineSimulator$Versions", name := "finish", desc := "()V" } : Jvm.MethodName) ({ cls := "PipelineSimulator$Versions", name := "finish", desc := "()V" } : Jvm.MethodName)) ∈ lw_all := lw_g (lw_at lw_m7 228 rfl) rfl
theorem q1766 : (Jvm.Cond.code ({ cls := "PipelineSimulator$Versions", name := "finish", desc := "()V" } : Jvm.MethodName) prog_24_method_2_code (1 : Nat) (Option.none : Option Jvm.ClassFile.FieldType)) ∈ lw_all := lw_g (lw_at lw_m7 229 rfl) rfl
theorem q1767 : (Jvm.Cond.interfaceEntry "PipelineSimulator$Versions" (19 : Nat)) ∈ lw_tbl := lw_at lw_m7 230 rfl
theorem q1768 : (Jvm.Cond.methodLink "PipelineSimulator$Versions" (19 : Nat) ({ cls := "PipelineSimulator$Copyable", name := "copyTo", desc := "(Ljava/lang/Object;)V" } : Jvm.MethodName)) ∈ lw_all := lw_g (lw_at lw_m7 231 rfl) rfl
theorem q1846 : (Jvm.Cond.instanceMethod ({ cls := "PipelineSimulator$Versions", name := "restore", desc := "()V" } : Jvm.MethodName)) ∈ lw_all := lw_g (lw_at lw_m8 69 rfl) rfl
theorem q1847 : (Jvm.Cond.selects "PipelineSimulator$Versions" ({ cls := "PipelineSimulator$Versions", name := "restore", desc := "()V" } : Jvm.MethodName) ({ cls := "PipelineSimulator$Versions", name := "restore", desc := "()V" } : Jvm.MethodName)) ∈ lw_all := lw_g (lw_at lw_m8 70 rfl) rfl
theorem q1848 : (Jvm.Cond.code ({ cls := "PipelineSimulator$Versions", name := "restore", desc := "()V" } : Jvm.MethodName) prog_24_method_3_code (1 : Nat) (Option.none : Option Jvm.ClassFile.FieldType)) ∈ lw_all := lw_g (lw_at lw_m8 71 rfl) rfl
theorem q2949 : (Jvm.Cond.castable "PipelineSimulator$Versions" "java/lang/Object") ∈ lw_tbl := lw_at lw_m12 212 rfl
theorem in_X1 : ∀ w ∈ wsX10, w ∈ lw_all := lw_in wsX10 [247, 249, 251] (by decide +kernel) (by decide +kernel)
/-! PipelineSimulator$Channel -/
set_option maxRecDepth 100000
def RX10 : String := "PipelineSimulator$Channel"
def TX10 : u_T := fun k => match k with
  | 0 => ("PipelineSimulator$Channel", "queue", "Ljava/util/ArrayDeque;", true)
  | 1 => ("PipelineSimulator$Channel", "open", "LPipelineSimulator$Batch;", false)
  | 2 => ("PipelineSimulator$Channel", "age", "I", false)
  | 3 => ("PipelineSimulator$Channel", "records", "I", false)
  | _ => ("PipelineSimulator$Channel", "this$0", "LPipelineSimulator;", true)
def tyX10 : Nat → FieldType := fun k => match k with
  | 0 => .object "java/util/ArrayDeque"
  | 1 => .object "PipelineSimulator$Batch"
  | 2 => .int
  | 3 => .int
  | _ => .object "PipelineSimulator"
abbrev wsX100 : List Cond := u_ws RX10 TX10 5
theorem nmX10 : ∀ a, a < 5 → ∀ b, b < 5 → a ≠ b → (TX10 a).2.1 ≠ (TX10 b).2.1 := by decide +kernel
theorem tyX10_ok : ∀ k, k < 5 → parseFieldDescriptor (TX10 k).2.2.1 = some (tyX10 k) := by decide +kernel
abbrev cX10_init : ByteArray := prog_4_method_1_code
def yX10_init : MethodName := ⟨RX10, "<init>", "(LPipelineSimulator;)V"⟩
def dkwX10_init_1 : List UInt8 := [180, 0, 1, 182, 0, 20, 181, 0, 26, 177]
abbrev dktX10_init_1 : List UInt8 := dkwX10_init_1 ++ []
def dkwX10_init_0 : List UInt8 := [42, 43, 181, 0, 1, 42, 183, 0, 7, 42, 187, 0, 13, 89, 183, 0, 15, 181, 0, 16, 42, 42]
abbrev dktX10_init_0 : List UInt8 := dkwX10_init_0 ++ dktX10_init_1
theorem dksX10_init_0 : cX10_init.data.toList.drop 0 = dktX10_init_0 := by decide +kernel
theorem dksX10_init_1 : cX10_init.data.toList.drop 22 = dktX10_init_1 := dk_seg dksX10_init_0 22 rfl rfl
theorem dX10_init_0 : decode cX10_init 0 = .ok (.aload_n 0, 1) := dk_42 (dk_at dksX10_init_0 0 rfl rfl)
theorem dX10_init_1 : decode cX10_init 1 = .ok (.aload_n 1, 1) := dk_43 (dk_at dksX10_init_0 1 rfl rfl)
theorem dX10_init_2 : decode cX10_init 2 = .ok (.putfield 1, 3) := dk_181 0 1 (dk_at dksX10_init_0 2 rfl rfl)
theorem dX10_init_5 : decode cX10_init 5 = .ok (.aload_n 0, 1) := dk_42 (dk_at dksX10_init_0 5 rfl rfl)
theorem dX10_init_6 : decode cX10_init 6 = .ok (.invokespecial 7, 3) := dk_183 0 7 (dk_at dksX10_init_0 6 rfl rfl)
theorem dX10_init_9 : decode cX10_init 9 = .ok (.aload_n 0, 1) := dk_42 (dk_at dksX10_init_0 9 rfl rfl)
theorem dX10_init_10 : decode cX10_init 10 = .ok (.new 13, 3) := dk_187 0 13 (dk_at dksX10_init_0 10 rfl rfl)
theorem dX10_init_13 : decode cX10_init 13 = .ok (.dup, 1) := dk_89 (dk_at dksX10_init_0 13 rfl rfl)
theorem dX10_init_14 : decode cX10_init 14 = .ok (.invokespecial 15, 3) := dk_183 0 15 (dk_at dksX10_init_0 14 rfl rfl)
theorem dX10_init_17 : decode cX10_init 17 = .ok (.putfield 16, 3) := dk_181 0 16 (dk_at dksX10_init_0 17 rfl rfl)
theorem dX10_init_20 : decode cX10_init 20 = .ok (.aload_n 0, 1) := dk_42 (dk_at dksX10_init_0 20 rfl rfl)
theorem dX10_init_21 : decode cX10_init 21 = .ok (.aload_n 0, 1) := dk_42 (dk_at dksX10_init_0 21 rfl rfl)
theorem dX10_init_22 : decode cX10_init 22 = .ok (.getfield 1, 3) := dk_180 0 1 (dk_at dksX10_init_1 0 rfl rfl)
theorem dX10_init_25 : decode cX10_init 25 = .ok (.invokevirtual 20, 3) := dk_182 0 20 (dk_at dksX10_init_1 3 rfl rfl)
theorem dX10_init_28 : decode cX10_init 28 = .ok (.putfield 26, 3) := dk_181 0 26 (dk_at dksX10_init_1 6 rfl rfl)
theorem dX10_init_31 : decode cX10_init 31 = .ok (.return_, 1) := dk_177 (dk_at dksX10_init_1 9 rfl rfl)
abbrev cX10_grow : ByteArray := prog_4_method_8_code
def yX10_grow : MethodName := ⟨RX10, "grow", "()V"⟩
def dkwX10_grow_2 : List UInt8 := [177]
abbrev dktX10_grow_2 : List UInt8 := dkwX10_grow_2 ++ []
def dkwX10_grow_1 : List UInt8 := [180, 0, 42, 42, 180, 0, 1, 180, 0, 68, 161, 0, 14, 42, 182, 0, 50, 153, 0, 7, 42, 182, 0, 54]
abbrev dktX10_grow_1 : List UInt8 := dkwX10_grow_1 ++ dktX10_grow_2
def dkwX10_grow_0 : List UInt8 := [42, 180, 0, 26, 182, 0, 45, 154, 0, 4, 177, 42, 89, 180, 0, 42, 4, 96, 181, 0, 42, 42]
abbrev dktX10_grow_0 : List UInt8 := dkwX10_grow_0 ++ dktX10_grow_1
theorem dksX10_grow_0 : cX10_grow.data.toList.drop 0 = dktX10_grow_0 := by decide +kernel
theorem dksX10_grow_1 : cX10_grow.data.toList.drop 22 = dktX10_grow_1 := dk_seg dksX10_grow_0 22 rfl rfl
theorem dksX10_grow_2 : cX10_grow.data.toList.drop 46 = dktX10_grow_2 := dk_seg dksX10_grow_1 24 rfl rfl
theorem dX10_grow_0 : decode cX10_grow 0 = .ok (.aload_n 0, 1) := dk_42 (dk_at dksX10_grow_0 0 rfl rfl)
theorem dX10_grow_1 : decode cX10_grow 1 = .ok (.getfield 26, 3) := dk_180 0 26 (dk_at dksX10_grow_0 1 rfl rfl)
theorem dX10_grow_4 : decode cX10_grow 4 = .ok (.invokevirtual 45, 3) := dk_182 0 45 (dk_at dksX10_grow_0 4 rfl rfl)
theorem dX10_grow_7 : decode cX10_grow 7 = .ok (.ifCond .ne 4, 3) := dk_154 0 4 (dk_at dksX10_grow_0 7 rfl rfl)
theorem dX10_grow_10 : decode cX10_grow 10 = .ok (.return_, 1) := dk_177 (dk_at dksX10_grow_0 10 rfl rfl)
theorem dX10_grow_11 : decode cX10_grow 11 = .ok (.aload_n 0, 1) := dk_42 (dk_at dksX10_grow_0 11 rfl rfl)
theorem dX10_grow_12 : decode cX10_grow 12 = .ok (.dup, 1) := dk_89 (dk_at dksX10_grow_0 12 rfl rfl)
theorem dX10_grow_13 : decode cX10_grow 13 = .ok (.getfield 42, 3) := dk_180 0 42 (dk_at dksX10_grow_0 13 rfl rfl)
theorem dX10_grow_16 : decode cX10_grow 16 = .ok (.iconst 1, 1) := dk_4 (dk_at dksX10_grow_0 16 rfl rfl)
theorem dX10_grow_17 : decode cX10_grow 17 = .ok (.iadd, 1) := dk_96 (dk_at dksX10_grow_0 17 rfl rfl)
theorem dX10_grow_18 : decode cX10_grow 18 = .ok (.putfield 42, 3) := dk_181 0 42 (dk_at dksX10_grow_0 18 rfl rfl)
theorem dX10_grow_21 : decode cX10_grow 21 = .ok (.aload_n 0, 1) := dk_42 (dk_at dksX10_grow_0 21 rfl rfl)
theorem dX10_grow_22 : decode cX10_grow 22 = .ok (.getfield 42, 3) := dk_180 0 42 (dk_at dksX10_grow_1 0 rfl rfl)
theorem dX10_grow_25 : decode cX10_grow 25 = .ok (.aload_n 0, 1) := dk_42 (dk_at dksX10_grow_1 3 rfl rfl)
theorem dX10_grow_26 : decode cX10_grow 26 = .ok (.getfield 1, 3) := dk_180 0 1 (dk_at dksX10_grow_1 4 rfl rfl)
theorem dX10_grow_29 : decode cX10_grow 29 = .ok (.getfield 68, 3) := dk_180 0 68 (dk_at dksX10_grow_1 7 rfl rfl)
theorem dX10_grow_32 : decode cX10_grow 32 = .ok (.if_icmp .lt 14, 3) := dk_161 0 14 (dk_at dksX10_grow_1 10 rfl rfl)
theorem dX10_grow_35 : decode cX10_grow 35 = .ok (.aload_n 0, 1) := dk_42 (dk_at dksX10_grow_1 13 rfl rfl)
theorem dX10_grow_36 : decode cX10_grow 36 = .ok (.invokevirtual 50, 3) := dk_182 0 50 (dk_at dksX10_grow_1 14 rfl rfl)
theorem dX10_grow_39 : decode cX10_grow 39 = .ok (.ifCond .eq 7, 3) := dk_153 0 7 (dk_at dksX10_grow_1 17 rfl rfl)
theorem dX10_grow_42 : decode cX10_grow 42 = .ok (.aload_n 0, 1) := dk_42 (dk_at dksX10_grow_1 20 rfl rfl)
theorem dX10_grow_43 : decode cX10_grow 43 = .ok (.invokevirtual 54, 3) := dk_182 0 54 (dk_at dksX10_grow_1 21 rfl rfl)
theorem dX10_grow_46 : decode cX10_grow 46 = .ok (.return_, 1) := dk_177 (dk_at dksX10_grow_2 0 rfl rfl)
abbrev cX10_hasRoom : ByteArray := prog_4_method_2_code
def yX10_hasRoom : MethodName := ⟨RX10, "hasRoom", "()Z"⟩
def dkwX10_hasRoom_0 : List UInt8 := [42, 180, 0, 16, 182, 0, 30, 42, 180, 0, 1, 180, 0, 34, 162, 0, 7, 4, 167, 0, 4, 3, 172]
abbrev dktX10_hasRoom_0 : List UInt8 := dkwX10_hasRoom_0 ++ []
theorem dksX10_hasRoom_0 : cX10_hasRoom.data.toList.drop 0 = dktX10_hasRoom_0 := by decide +kernel
theorem dX10_hasRoom_0 : decode cX10_hasRoom 0 = .ok (.aload_n 0, 1) := dk_42 (dk_at dksX10_hasRoom_0 0 rfl rfl)
theorem dX10_hasRoom_1 : decode cX10_hasRoom 1 = .ok (.getfield 16, 3) := dk_180 0 16 (dk_at dksX10_hasRoom_0 1 rfl rfl)
theorem dX10_hasRoom_4 : decode cX10_hasRoom 4 = .ok (.invokevirtual 30, 3) := dk_182 0 30 (dk_at dksX10_hasRoom_0 4 rfl rfl)
theorem dX10_hasRoom_7 : decode cX10_hasRoom 7 = .ok (.aload_n 0, 1) := dk_42 (dk_at dksX10_hasRoom_0 7 rfl rfl)
theorem dX10_hasRoom_8 : decode cX10_hasRoom 8 = .ok (.getfield 1, 3) := dk_180 0 1 (dk_at dksX10_hasRoom_0 8 rfl rfl)
theorem dX10_hasRoom_11 : decode cX10_hasRoom 11 = .ok (.getfield 34, 3) := dk_180 0 34 (dk_at dksX10_hasRoom_0 11 rfl rfl)
theorem dX10_hasRoom_14 : decode cX10_hasRoom 14 = .ok (.if_icmp .ge 7, 3) := dk_162 0 7 (dk_at dksX10_hasRoom_0 14 rfl rfl)
theorem dX10_hasRoom_17 : decode cX10_hasRoom 17 = .ok (.iconst 1, 1) := dk_4 (dk_at dksX10_hasRoom_0 17 rfl rfl)
theorem dX10_hasRoom_18 : decode cX10_hasRoom 18 = .ok (.goto 4, 3) := dk_167 0 4 (dk_at dksX10_hasRoom_0 18 rfl rfl)
theorem dX10_hasRoom_21 : decode cX10_hasRoom 21 = .ok (.iconst 0, 1) := dk_3 (dk_at dksX10_hasRoom_0 21 rfl rfl)
theorem dX10_hasRoom_22 : decode cX10_hasRoom 22 = .ok (.ireturn, 1) := dk_172 (dk_at dksX10_hasRoom_0 22 rfl rfl)
abbrev cX10_close : ByteArray := prog_4_method_3_code
def yX10_close : MethodName := ⟨RX10, "close", "()V"⟩
def dkwX10_close_1 : List UInt8 := [181, 0, 42, 177]
abbrev dktX10_close_1 : List UInt8 := dkwX10_close_1 ++ []
def dkwX10_close_0 : List UInt8 := [42, 180, 0, 16, 42, 180, 0, 26, 182, 0, 38, 42, 42, 180, 0, 1, 182, 0, 20, 181, 0, 26, 42, 3]
abbrev dktX10_close_0 : List UInt8 := dkwX10_close_0 ++ dktX10_close_1
theorem dksX10_close_0 : cX10_close.data.toList.drop 0 = dktX10_close_0 := by decide +kernel
theorem dksX10_close_1 : cX10_close.data.toList.drop 24 = dktX10_close_1 := dk_seg dksX10_close_0 24 rfl rfl
theorem dX10_close_0 : decode cX10_close 0 = .ok (.aload_n 0, 1) := dk_42 (dk_at dksX10_close_0 0 rfl rfl)
theorem dX10_close_1 : decode cX10_close 1 = .ok (.getfield 16, 3) := dk_180 0 16 (dk_at dksX10_close_0 1 rfl rfl)
theorem dX10_close_4 : decode cX10_close 4 = .ok (.aload_n 0, 1) := dk_42 (dk_at dksX10_close_0 4 rfl rfl)
theorem dX10_close_5 : decode cX10_close 5 = .ok (.getfield 26, 3) := dk_180 0 26 (dk_at dksX10_close_0 5 rfl rfl)
theorem dX10_close_8 : decode cX10_close 8 = .ok (.invokevirtual 38, 3) := dk_182 0 38 (dk_at dksX10_close_0 8 rfl rfl)
theorem dX10_close_11 : decode cX10_close 11 = .ok (.aload_n 0, 1) := dk_42 (dk_at dksX10_close_0 11 rfl rfl)
theorem dX10_close_12 : decode cX10_close 12 = .ok (.aload_n 0, 1) := dk_42 (dk_at dksX10_close_0 12 rfl rfl)
theorem dX10_close_13 : decode cX10_close 13 = .ok (.getfield 1, 3) := dk_180 0 1 (dk_at dksX10_close_0 13 rfl rfl)
theorem dX10_close_16 : decode cX10_close 16 = .ok (.invokevirtual 20, 3) := dk_182 0 20 (dk_at dksX10_close_0 16 rfl rfl)
theorem dX10_close_19 : decode cX10_close 19 = .ok (.putfield 26, 3) := dk_181 0 26 (dk_at dksX10_close_0 19 rfl rfl)
theorem dX10_close_22 : decode cX10_close 22 = .ok (.aload_n 0, 1) := dk_42 (dk_at dksX10_close_0 22 rfl rfl)
theorem dX10_close_23 : decode cX10_close 23 = .ok (.iconst 0, 1) := dk_3 (dk_at dksX10_close_0 23 rfl rfl)
theorem dX10_close_24 : decode cX10_close 24 = .ok (.putfield 42, 3) := dk_181 0 42 (dk_at dksX10_close_1 0 rfl rfl)
theorem dX10_close_27 : decode cX10_close 27 = .ok (.return_, 1) := dk_177 (dk_at dksX10_close_1 3 rfl rfl)
abbrev cX10_canPut : ByteArray := prog_4_method_4_code
def yX10_canPut : MethodName := ⟨RX10, "canPut", "()Z"⟩
def dkwX10_canPut_1 : List UInt8 := [4, 167, 0, 4, 3, 172]
abbrev dktX10_canPut_1 : List UInt8 := dkwX10_canPut_1 ++ []
def dkwX10_canPut_0 : List UInt8 := [42, 180, 0, 26, 182, 0, 45, 42, 180, 0, 1, 180, 0, 48, 161, 0, 10, 42, 182, 0, 50, 153, 0, 7]
abbrev dktX10_canPut_0 : List UInt8 := dkwX10_canPut_0 ++ dktX10_canPut_1
theorem dksX10_canPut_0 : cX10_canPut.data.toList.drop 0 = dktX10_canPut_0 := by decide +kernel
theorem dksX10_canPut_1 : cX10_canPut.data.toList.drop 24 = dktX10_canPut_1 := dk_seg dksX10_canPut_0 24 rfl rfl
theorem dX10_canPut_0 : decode cX10_canPut 0 = .ok (.aload_n 0, 1) := dk_42 (dk_at dksX10_canPut_0 0 rfl rfl)
theorem dX10_canPut_1 : decode cX10_canPut 1 = .ok (.getfield 26, 3) := dk_180 0 26 (dk_at dksX10_canPut_0 1 rfl rfl)
theorem dX10_canPut_4 : decode cX10_canPut 4 = .ok (.invokevirtual 45, 3) := dk_182 0 45 (dk_at dksX10_canPut_0 4 rfl rfl)
theorem dX10_canPut_7 : decode cX10_canPut 7 = .ok (.aload_n 0, 1) := dk_42 (dk_at dksX10_canPut_0 7 rfl rfl)
theorem dX10_canPut_8 : decode cX10_canPut 8 = .ok (.getfield 1, 3) := dk_180 0 1 (dk_at dksX10_canPut_0 8 rfl rfl)
theorem dX10_canPut_11 : decode cX10_canPut 11 = .ok (.getfield 48, 3) := dk_180 0 48 (dk_at dksX10_canPut_0 11 rfl rfl)
theorem dX10_canPut_14 : decode cX10_canPut 14 = .ok (.if_icmp .lt 10, 3) := dk_161 0 10 (dk_at dksX10_canPut_0 14 rfl rfl)
theorem dX10_canPut_17 : decode cX10_canPut 17 = .ok (.aload_n 0, 1) := dk_42 (dk_at dksX10_canPut_0 17 rfl rfl)
theorem dX10_canPut_18 : decode cX10_canPut 18 = .ok (.invokevirtual 50, 3) := dk_182 0 50 (dk_at dksX10_canPut_0 18 rfl rfl)
theorem dX10_canPut_21 : decode cX10_canPut 21 = .ok (.ifCond .eq 7, 3) := dk_153 0 7 (dk_at dksX10_canPut_0 21 rfl rfl)
theorem dX10_canPut_24 : decode cX10_canPut 24 = .ok (.iconst 1, 1) := dk_4 (dk_at dksX10_canPut_1 0 rfl rfl)
theorem dX10_canPut_25 : decode cX10_canPut 25 = .ok (.goto 4, 3) := dk_167 0 4 (dk_at dksX10_canPut_1 1 rfl rfl)
theorem dX10_canPut_28 : decode cX10_canPut 28 = .ok (.iconst 0, 1) := dk_3 (dk_at dksX10_canPut_1 4 rfl rfl)
theorem dX10_canPut_29 : decode cX10_canPut 29 = .ok (.ireturn, 1) := dk_172 (dk_at dksX10_canPut_1 5 rfl rfl)
abbrev cX10_put : ByteArray := prog_4_method_5_code
def yX10_put : MethodName := ⟨RX10, "put", "(III)V"⟩
def dkwX10_put_3 : List UInt8 := [177]
abbrev dktX10_put_3 : List UInt8 := dkwX10_put_3 ++ []
def dkwX10_put_2 : List UInt8 := [182, 0, 45, 42, 180, 0, 1, 180, 0, 48, 160, 0, 14, 42, 182, 0, 50, 153, 0, 7, 42, 182, 0, 54]
abbrev dktX10_put_2 : List UInt8 := dkwX10_put_2 ++ dktX10_put_3
def dkwX10_put_1 : List UInt8 := [180, 0, 26, 27, 28, 29, 182, 0, 57, 42, 89, 180, 0, 61, 4, 96, 181, 0, 61, 42, 180, 0, 26]
abbrev dktX10_put_1 : List UInt8 := dkwX10_put_1 ++ dktX10_put_2
def dkwX10_put_0 : List UInt8 := [42, 180, 0, 26, 182, 0, 45, 42, 180, 0, 1, 180, 0, 48, 160, 0, 7, 42, 182, 0, 54, 42]
abbrev dktX10_put_0 : List UInt8 := dkwX10_put_0 ++ dktX10_put_1
theorem dksX10_put_0 : cX10_put.data.toList.drop 0 = dktX10_put_0 := by decide +kernel
theorem dksX10_put_1 : cX10_put.data.toList.drop 22 = dktX10_put_1 := dk_seg dksX10_put_0 22 rfl rfl
theorem dksX10_put_2 : cX10_put.data.toList.drop 45 = dktX10_put_2 := dk_seg dksX10_put_1 23 rfl rfl
theorem dksX10_put_3 : cX10_put.data.toList.drop 69 = dktX10_put_3 := dk_seg dksX10_put_2 24 rfl rfl
theorem dX10_put_0 : decode cX10_put 0 = .ok (.aload_n 0, 1) := dk_42 (dk_at dksX10_put_0 0 rfl rfl)
theorem dX10_put_1 : decode cX10_put 1 = .ok (.getfield 26, 3) := dk_180 0 26 (dk_at dksX10_put_0 1 rfl rfl)
theorem dX10_put_4 : decode cX10_put 4 = .ok (.invokevirtual 45, 3) := dk_182 0 45 (dk_at dksX10_put_0 4 rfl rfl)
theorem dX10_put_7 : decode cX10_put 7 = .ok (.aload_n 0, 1) := dk_42 (dk_at dksX10_put_0 7 rfl rfl)
theorem dX10_put_8 : decode cX10_put 8 = .ok (.getfield 1, 3) := dk_180 0 1 (dk_at dksX10_put_0 8 rfl rfl)
theorem dX10_put_11 : decode cX10_put 11 = .ok (.getfield 48, 3) := dk_180 0 48 (dk_at dksX10_put_0 11 rfl rfl)
theorem dX10_put_14 : decode cX10_put 14 = .ok (.if_icmp .ne 7, 3) := dk_160 0 7 (dk_at dksX10_put_0 14 rfl rfl)
theorem dX10_put_17 : decode cX10_put 17 = .ok (.aload_n 0, 1) := dk_42 (dk_at dksX10_put_0 17 rfl rfl)
theorem dX10_put_18 : decode cX10_put 18 = .ok (.invokevirtual 54, 3) := dk_182 0 54 (dk_at dksX10_put_0 18 rfl rfl)
theorem dX10_put_21 : decode cX10_put 21 = .ok (.aload_n 0, 1) := dk_42 (dk_at dksX10_put_0 21 rfl rfl)
theorem dX10_put_22 : decode cX10_put 22 = .ok (.getfield 26, 3) := dk_180 0 26 (dk_at dksX10_put_1 0 rfl rfl)
theorem dX10_put_25 : decode cX10_put 25 = .ok (.iload_n 1, 1) := dk_27 (dk_at dksX10_put_1 3 rfl rfl)
theorem dX10_put_26 : decode cX10_put 26 = .ok (.iload_n 2, 1) := dk_28 (dk_at dksX10_put_1 4 rfl rfl)
theorem dX10_put_27 : decode cX10_put 27 = .ok (.iload_n 3, 1) := dk_29 (dk_at dksX10_put_1 5 rfl rfl)
theorem dX10_put_28 : decode cX10_put 28 = .ok (.invokevirtual 57, 3) := dk_182 0 57 (dk_at dksX10_put_1 6 rfl rfl)
theorem dX10_put_31 : decode cX10_put 31 = .ok (.aload_n 0, 1) := dk_42 (dk_at dksX10_put_1 9 rfl rfl)
theorem dX10_put_32 : decode cX10_put 32 = .ok (.dup, 1) := dk_89 (dk_at dksX10_put_1 10 rfl rfl)
theorem dX10_put_33 : decode cX10_put 33 = .ok (.getfield 61, 3) := dk_180 0 61 (dk_at dksX10_put_1 11 rfl rfl)
theorem dX10_put_36 : decode cX10_put 36 = .ok (.iconst 1, 1) := dk_4 (dk_at dksX10_put_1 14 rfl rfl)
theorem dX10_put_37 : decode cX10_put 37 = .ok (.iadd, 1) := dk_96 (dk_at dksX10_put_1 15 rfl rfl)
theorem dX10_put_38 : decode cX10_put 38 = .ok (.putfield 61, 3) := dk_181 0 61 (dk_at dksX10_put_1 16 rfl rfl)
theorem dX10_put_41 : decode cX10_put 41 = .ok (.aload_n 0, 1) := dk_42 (dk_at dksX10_put_1 19 rfl rfl)
theorem dX10_put_42 : decode cX10_put 42 = .ok (.getfield 26, 3) := dk_180 0 26 (dk_at dksX10_put_1 20 rfl rfl)
theorem dX10_put_45 : decode cX10_put 45 = .ok (.invokevirtual 45, 3) := dk_182 0 45 (dk_at dksX10_put_2 0 rfl rfl)
theorem dX10_put_48 : decode cX10_put 48 = .ok (.aload_n 0, 1) := dk_42 (dk_at dksX10_put_2 3 rfl rfl)
theorem dX10_put_49 : decode cX10_put 49 = .ok (.getfield 1, 3) := dk_180 0 1 (dk_at dksX10_put_2 4 rfl rfl)
theorem dX10_put_52 : decode cX10_put 52 = .ok (.getfield 48, 3) := dk_180 0 48 (dk_at dksX10_put_2 7 rfl rfl)
theorem dX10_put_55 : decode cX10_put 55 = .ok (.if_icmp .ne 14, 3) := dk_160 0 14 (dk_at dksX10_put_2 10 rfl rfl)
theorem dX10_put_58 : decode cX10_put 58 = .ok (.aload_n 0, 1) := dk_42 (dk_at dksX10_put_2 13 rfl rfl)
theorem dX10_put_59 : decode cX10_put 59 = .ok (.invokevirtual 50, 3) := dk_182 0 50 (dk_at dksX10_put_2 14 rfl rfl)
theorem dX10_put_62 : decode cX10_put 62 = .ok (.ifCond .eq 7, 3) := dk_153 0 7 (dk_at dksX10_put_2 17 rfl rfl)
theorem dX10_put_65 : decode cX10_put 65 = .ok (.aload_n 0, 1) := dk_42 (dk_at dksX10_put_2 20 rfl rfl)
theorem dX10_put_66 : decode cX10_put 66 = .ok (.invokevirtual 54, 3) := dk_182 0 54 (dk_at dksX10_put_2 21 rfl rfl)
theorem dX10_put_69 : decode cX10_put 69 = .ok (.return_, 1) := dk_177 (dk_at dksX10_put_3 0 rfl rfl)
abbrev cX10_canPutBarrier : ByteArray := prog_4_method_6_code
def yX10_canPutBarrier : MethodName := ⟨RX10, "canPutBarrier", "()Z"⟩
def dkwX10_canPutBarrier_1 : List UInt8 := [180, 0, 1, 180, 0, 34, 163, 0, 7, 4, 167, 0, 4, 3, 172]
abbrev dktX10_canPutBarrier_1 : List UInt8 := dkwX10_canPutBarrier_1 ++ []
def dkwX10_canPutBarrier_0 : List UInt8 := [42, 180, 0, 16, 182, 0, 30, 42, 180, 0, 26, 182, 0, 45, 158, 0, 7, 5, 167, 0, 4, 4, 96, 42]
abbrev dktX10_canPutBarrier_0 : List UInt8 := dkwX10_canPutBarrier_0 ++ dktX10_canPutBarrier_1
theorem dksX10_canPutBarrier_0 : cX10_canPutBarrier.data.toList.drop 0 = dktX10_canPutBarrier_0 := by decide +kernel
theorem dksX10_canPutBarrier_1 : cX10_canPutBarrier.data.toList.drop 24 = dktX10_canPutBarrier_1 := dk_seg dksX10_canPutBarrier_0 24 rfl rfl
theorem dX10_canPutBarrier_0 : decode cX10_canPutBarrier 0 = .ok (.aload_n 0, 1) := dk_42 (dk_at dksX10_canPutBarrier_0 0 rfl rfl)
theorem dX10_canPutBarrier_1 : decode cX10_canPutBarrier 1 = .ok (.getfield 16, 3) := dk_180 0 16 (dk_at dksX10_canPutBarrier_0 1 rfl rfl)
theorem dX10_canPutBarrier_4 : decode cX10_canPutBarrier 4 = .ok (.invokevirtual 30, 3) := dk_182 0 30 (dk_at dksX10_canPutBarrier_0 4 rfl rfl)
theorem dX10_canPutBarrier_7 : decode cX10_canPutBarrier 7 = .ok (.aload_n 0, 1) := dk_42 (dk_at dksX10_canPutBarrier_0 7 rfl rfl)
theorem dX10_canPutBarrier_8 : decode cX10_canPutBarrier 8 = .ok (.getfield 26, 3) := dk_180 0 26 (dk_at dksX10_canPutBarrier_0 8 rfl rfl)
theorem dX10_canPutBarrier_11 : decode cX10_canPutBarrier 11 = .ok (.invokevirtual 45, 3) := dk_182 0 45 (dk_at dksX10_canPutBarrier_0 11 rfl rfl)
theorem dX10_canPutBarrier_14 : decode cX10_canPutBarrier 14 = .ok (.ifCond .le 7, 3) := dk_158 0 7 (dk_at dksX10_canPutBarrier_0 14 rfl rfl)
theorem dX10_canPutBarrier_17 : decode cX10_canPutBarrier 17 = .ok (.iconst 2, 1) := dk_5 (dk_at dksX10_canPutBarrier_0 17 rfl rfl)
theorem dX10_canPutBarrier_18 : decode cX10_canPutBarrier 18 = .ok (.goto 4, 3) := dk_167 0 4 (dk_at dksX10_canPutBarrier_0 18 rfl rfl)
theorem dX10_canPutBarrier_21 : decode cX10_canPutBarrier 21 = .ok (.iconst 1, 1) := dk_4 (dk_at dksX10_canPutBarrier_0 21 rfl rfl)
theorem dX10_canPutBarrier_22 : decode cX10_canPutBarrier 22 = .ok (.iadd, 1) := dk_96 (dk_at dksX10_canPutBarrier_0 22 rfl rfl)
theorem dX10_canPutBarrier_23 : decode cX10_canPutBarrier 23 = .ok (.aload_n 0, 1) := dk_42 (dk_at dksX10_canPutBarrier_0 23 rfl rfl)
theorem dX10_canPutBarrier_24 : decode cX10_canPutBarrier 24 = .ok (.getfield 1, 3) := dk_180 0 1 (dk_at dksX10_canPutBarrier_1 0 rfl rfl)
theorem dX10_canPutBarrier_27 : decode cX10_canPutBarrier 27 = .ok (.getfield 34, 3) := dk_180 0 34 (dk_at dksX10_canPutBarrier_1 3 rfl rfl)
theorem dX10_canPutBarrier_30 : decode cX10_canPutBarrier 30 = .ok (.if_icmp .gt 7, 3) := dk_163 0 7 (dk_at dksX10_canPutBarrier_1 6 rfl rfl)
theorem dX10_canPutBarrier_33 : decode cX10_canPutBarrier 33 = .ok (.iconst 1, 1) := dk_4 (dk_at dksX10_canPutBarrier_1 9 rfl rfl)
theorem dX10_canPutBarrier_34 : decode cX10_canPutBarrier 34 = .ok (.goto 4, 3) := dk_167 0 4 (dk_at dksX10_canPutBarrier_1 10 rfl rfl)
theorem dX10_canPutBarrier_37 : decode cX10_canPutBarrier 37 = .ok (.iconst 0, 1) := dk_3 (dk_at dksX10_canPutBarrier_1 13 rfl rfl)
theorem dX10_canPutBarrier_38 : decode cX10_canPutBarrier 38 = .ok (.ireturn, 1) := dk_172 (dk_at dksX10_canPutBarrier_1 14 rfl rfl)
abbrev cX10_putBarrier : ByteArray := prog_4_method_7_code
def yX10_putBarrier : MethodName := ⟨RX10, "putBarrier", "()V"⟩
def dkwX10_putBarrier_1 : List UInt8 := [182, 0, 54, 177]
abbrev dktX10_putBarrier_1 : List UInt8 := dkwX10_putBarrier_1 ++ []
def dkwX10_putBarrier_0 : List UInt8 := [42, 180, 0, 26, 182, 0, 45, 158, 0, 7, 42, 182, 0, 54, 42, 180, 0, 26, 4, 181, 0, 64, 42]
abbrev dktX10_putBarrier_0 : List UInt8 := dkwX10_putBarrier_0 ++ dktX10_putBarrier_1
theorem dksX10_putBarrier_0 : cX10_putBarrier.data.toList.drop 0 = dktX10_putBarrier_0 := by decide +kernel
theorem dksX10_putBarrier_1 : cX10_putBarrier.data.toList.drop 23 = dktX10_putBarrier_1 := dk_seg dksX10_putBarrier_0 23 rfl rfl
theorem dX10_putBarrier_0 : decode cX10_putBarrier 0 = .ok (.aload_n 0, 1) := dk_42 (dk_at dksX10_putBarrier_0 0 rfl rfl)
theorem dX10_putBarrier_1 : decode cX10_putBarrier 1 = .ok (.getfield 26, 3) := dk_180 0 26 (dk_at dksX10_putBarrier_0 1 rfl rfl)
theorem dX10_putBarrier_4 : decode cX10_putBarrier 4 = .ok (.invokevirtual 45, 3) := dk_182 0 45 (dk_at dksX10_putBarrier_0 4 rfl rfl)
theorem dX10_putBarrier_7 : decode cX10_putBarrier 7 = .ok (.ifCond .le 7, 3) := dk_158 0 7 (dk_at dksX10_putBarrier_0 7 rfl rfl)
theorem dX10_putBarrier_10 : decode cX10_putBarrier 10 = .ok (.aload_n 0, 1) := dk_42 (dk_at dksX10_putBarrier_0 10 rfl rfl)
theorem dX10_putBarrier_11 : decode cX10_putBarrier 11 = .ok (.invokevirtual 54, 3) := dk_182 0 54 (dk_at dksX10_putBarrier_0 11 rfl rfl)
theorem dX10_putBarrier_14 : decode cX10_putBarrier 14 = .ok (.aload_n 0, 1) := dk_42 (dk_at dksX10_putBarrier_0 14 rfl rfl)
theorem dX10_putBarrier_15 : decode cX10_putBarrier 15 = .ok (.getfield 26, 3) := dk_180 0 26 (dk_at dksX10_putBarrier_0 15 rfl rfl)
theorem dX10_putBarrier_18 : decode cX10_putBarrier 18 = .ok (.iconst 1, 1) := dk_4 (dk_at dksX10_putBarrier_0 18 rfl rfl)
theorem dX10_putBarrier_19 : decode cX10_putBarrier 19 = .ok (.putfield 64, 3) := dk_181 0 64 (dk_at dksX10_putBarrier_0 19 rfl rfl)
theorem dX10_putBarrier_22 : decode cX10_putBarrier 22 = .ok (.aload_n 0, 1) := dk_42 (dk_at dksX10_putBarrier_0 22 rfl rfl)
theorem dX10_putBarrier_23 : decode cX10_putBarrier 23 = .ok (.invokevirtual 54, 3) := dk_182 0 54 (dk_at dksX10_putBarrier_1 0 rfl rfl)
theorem dX10_putBarrier_26 : decode cX10_putBarrier 26 = .ok (.return_, 1) := dk_177 (dk_at dksX10_putBarrier_1 3 rfl rfl)
abbrev cX10_first : ByteArray := prog_4_method_9_code
def yX10_first : MethodName := ⟨RX10, "first", "()LPipelineSimulator$Batch;"⟩
def dkwX10_first_0 : List UInt8 := [42, 180, 0, 16, 182, 0, 71, 192, 0, 46, 176]
abbrev dktX10_first_0 : List UInt8 := dkwX10_first_0 ++ []
theorem dksX10_first_0 : cX10_first.data.toList.drop 0 = dktX10_first_0 := by decide +kernel
theorem dX10_first_0 : decode cX10_first 0 = .ok (.aload_n 0, 1) := dk_42 (dk_at dksX10_first_0 0 rfl rfl)
theorem dX10_first_1 : decode cX10_first 1 = .ok (.getfield 16, 3) := dk_180 0 16 (dk_at dksX10_first_0 1 rfl rfl)
theorem dX10_first_4 : decode cX10_first 4 = .ok (.invokevirtual 71, 3) := dk_182 0 71 (dk_at dksX10_first_0 4 rfl rfl)
theorem dX10_first_7 : decode cX10_first 7 = .ok (.checkcast 46, 3) := dk_192 0 46 (dk_at dksX10_first_0 7 rfl rfl)
theorem dX10_first_10 : decode cX10_first 10 = .ok (.areturn, 1) := dk_176 (dk_at dksX10_first_0 10 rfl rfl)
abbrev cX10_removeFirst : ByteArray := prog_4_method_10_code
def yX10_removeFirst : MethodName := ⟨RX10, "removeFirst", "()V"⟩
def dkwX10_removeFirst_0 : List UInt8 := [42, 180, 0, 1, 180, 0, 75, 42, 180, 0, 16, 182, 0, 79, 192, 0, 46, 182, 0, 82, 177]
abbrev dktX10_removeFirst_0 : List UInt8 := dkwX10_removeFirst_0 ++ []
theorem dksX10_removeFirst_0 : cX10_removeFirst.data.toList.drop 0 = dktX10_removeFirst_0 := by decide +kernel
theorem dX10_removeFirst_0 : decode cX10_removeFirst 0 = .ok (.aload_n 0, 1) := dk_42 (dk_at dksX10_removeFirst_0 0 rfl rfl)
theorem dX10_removeFirst_1 : decode cX10_removeFirst 1 = .ok (.getfield 1, 3) := dk_180 0 1 (dk_at dksX10_removeFirst_0 1 rfl rfl)
theorem dX10_removeFirst_4 : decode cX10_removeFirst 4 = .ok (.getfield 75, 3) := dk_180 0 75 (dk_at dksX10_removeFirst_0 4 rfl rfl)
theorem dX10_removeFirst_7 : decode cX10_removeFirst 7 = .ok (.aload_n 0, 1) := dk_42 (dk_at dksX10_removeFirst_0 7 rfl rfl)
theorem dX10_removeFirst_8 : decode cX10_removeFirst 8 = .ok (.getfield 16, 3) := dk_180 0 16 (dk_at dksX10_removeFirst_0 8 rfl rfl)
theorem dX10_removeFirst_11 : decode cX10_removeFirst 11 = .ok (.invokevirtual 79, 3) := dk_182 0 79 (dk_at dksX10_removeFirst_0 11 rfl rfl)
theorem dX10_removeFirst_14 : decode cX10_removeFirst 14 = .ok (.checkcast 46, 3) := dk_192 0 46 (dk_at dksX10_removeFirst_0 14 rfl rfl)
theorem dX10_removeFirst_17 : decode cX10_removeFirst 17 = .ok (.invokevirtual 82, 3) := dk_182 0 82 (dk_at dksX10_removeFirst_0 17 rfl rfl)
theorem dX10_removeFirst_20 : decode cX10_removeFirst 20 = .ok (.return_, 1) := dk_177 (dk_at dksX10_removeFirst_0 20 rfl rfl)
abbrev cX10_takeRecord : ByteArray := prog_4_method_11_code
def yX10_takeRecord : MethodName := ⟨RX10, "takeRecord", "()V"⟩
def dkwX10_takeRecord_1 : List UInt8 := [153, 0, 7, 42, 182, 0, 94, 177]
abbrev dktX10_takeRecord_1 : List UInt8 := dkwX10_takeRecord_1 ++ []
def dkwX10_takeRecord_0 : List UInt8 := [42, 89, 180, 0, 61, 4, 100, 181, 0, 61, 42, 182, 0, 85, 182, 0, 88, 42, 182, 0, 85, 182, 0, 91]
abbrev dktX10_takeRecord_0 : List UInt8 := dkwX10_takeRecord_0 ++ dktX10_takeRecord_1
theorem dksX10_takeRecord_0 : cX10_takeRecord.data.toList.drop 0 = dktX10_takeRecord_0 := by decide +kernel
theorem dksX10_takeRecord_1 : cX10_takeRecord.data.toList.drop 24 = dktX10_takeRecord_1 := dk_seg dksX10_takeRecord_0 24 rfl rfl
theorem dX10_takeRecord_0 : decode cX10_takeRecord 0 = .ok (.aload_n 0, 1) := dk_42 (dk_at dksX10_takeRecord_0 0 rfl rfl)
theorem dX10_takeRecord_1 : decode cX10_takeRecord 1 = .ok (.dup, 1) := dk_89 (dk_at dksX10_takeRecord_0 1 rfl rfl)
theorem dX10_takeRecord_2 : decode cX10_takeRecord 2 = .ok (.getfield 61, 3) := dk_180 0 61 (dk_at dksX10_takeRecord_0 2 rfl rfl)
theorem dX10_takeRecord_5 : decode cX10_takeRecord 5 = .ok (.iconst 1, 1) := dk_4 (dk_at dksX10_takeRecord_0 5 rfl rfl)
theorem dX10_takeRecord_6 : decode cX10_takeRecord 6 = .ok (.isub, 1) := dk_100 (dk_at dksX10_takeRecord_0 6 rfl rfl)
theorem dX10_takeRecord_7 : decode cX10_takeRecord 7 = .ok (.putfield 61, 3) := dk_181 0 61 (dk_at dksX10_takeRecord_0 7 rfl rfl)
theorem dX10_takeRecord_10 : decode cX10_takeRecord 10 = .ok (.aload_n 0, 1) := dk_42 (dk_at dksX10_takeRecord_0 10 rfl rfl)
theorem dX10_takeRecord_11 : decode cX10_takeRecord 11 = .ok (.invokevirtual 85, 3) := dk_182 0 85 (dk_at dksX10_takeRecord_0 11 rfl rfl)
theorem dX10_takeRecord_14 : decode cX10_takeRecord 14 = .ok (.invokevirtual 88, 3) := dk_182 0 88 (dk_at dksX10_takeRecord_0 14 rfl rfl)
theorem dX10_takeRecord_17 : decode cX10_takeRecord 17 = .ok (.aload_n 0, 1) := dk_42 (dk_at dksX10_takeRecord_0 17 rfl rfl)
theorem dX10_takeRecord_18 : decode cX10_takeRecord 18 = .ok (.invokevirtual 85, 3) := dk_182 0 85 (dk_at dksX10_takeRecord_0 18 rfl rfl)
theorem dX10_takeRecord_21 : decode cX10_takeRecord 21 = .ok (.invokevirtual 91, 3) := dk_182 0 91 (dk_at dksX10_takeRecord_0 21 rfl rfl)
theorem dX10_takeRecord_24 : decode cX10_takeRecord 24 = .ok (.ifCond .eq 7, 3) := dk_153 0 7 (dk_at dksX10_takeRecord_1 0 rfl rfl)
theorem dX10_takeRecord_27 : decode cX10_takeRecord 27 = .ok (.aload_n 0, 1) := dk_42 (dk_at dksX10_takeRecord_1 3 rfl rfl)
theorem dX10_takeRecord_28 : decode cX10_takeRecord 28 = .ok (.invokevirtual 94, 3) := dk_182 0 94 (dk_at dksX10_takeRecord_1 4 rfl rfl)
theorem dX10_takeRecord_31 : decode cX10_takeRecord 31 = .ok (.return_, 1) := dk_177 (dk_at dksX10_takeRecord_1 7 rfl rfl)
abbrev cX10_clear : ByteArray := prog_4_method_12_code
def yX10_clear : MethodName := ⟨RX10, "clear", "()V"⟩
def dkwX10_clear_1 : List UInt8 := [87, 42, 3, 181, 0, 42, 42, 3, 181, 0, 61, 177]
abbrev dktX10_clear_1 : List UInt8 := dkwX10_clear_1 ++ []
def dkwX10_clear_0 : List UInt8 := [42, 180, 0, 16, 182, 0, 96, 154, 0, 10, 42, 182, 0, 94, 167, 255, 242, 42, 180, 0, 26, 182, 0, 99]
abbrev dktX10_clear_0 : List UInt8 := dkwX10_clear_0 ++ dktX10_clear_1
theorem dksX10_clear_0 : cX10_clear.data.toList.drop 0 = dktX10_clear_0 := by decide +kernel
theorem dksX10_clear_1 : cX10_clear.data.toList.drop 24 = dktX10_clear_1 := dk_seg dksX10_clear_0 24 rfl rfl
theorem dX10_clear_0 : decode cX10_clear 0 = .ok (.aload_n 0, 1) := dk_42 (dk_at dksX10_clear_0 0 rfl rfl)
theorem dX10_clear_1 : decode cX10_clear 1 = .ok (.getfield 16, 3) := dk_180 0 16 (dk_at dksX10_clear_0 1 rfl rfl)
theorem dX10_clear_4 : decode cX10_clear 4 = .ok (.invokevirtual 96, 3) := dk_182 0 96 (dk_at dksX10_clear_0 4 rfl rfl)
theorem dX10_clear_7 : decode cX10_clear 7 = .ok (.ifCond .ne 10, 3) := dk_154 0 10 (dk_at dksX10_clear_0 7 rfl rfl)
theorem dX10_clear_10 : decode cX10_clear 10 = .ok (.aload_n 0, 1) := dk_42 (dk_at dksX10_clear_0 10 rfl rfl)
theorem dX10_clear_11 : decode cX10_clear 11 = .ok (.invokevirtual 94, 3) := dk_182 0 94 (dk_at dksX10_clear_0 11 rfl rfl)
theorem dX10_clear_14 : decode cX10_clear 14 = .ok (.goto (-14), 3) := dk_167 255 242 (dk_at dksX10_clear_0 14 rfl rfl)
theorem dX10_clear_17 : decode cX10_clear 17 = .ok (.aload_n 0, 1) := dk_42 (dk_at dksX10_clear_0 17 rfl rfl)
theorem dX10_clear_18 : decode cX10_clear 18 = .ok (.getfield 26, 3) := dk_180 0 26 (dk_at dksX10_clear_0 18 rfl rfl)
theorem dX10_clear_21 : decode cX10_clear 21 = .ok (.invokevirtual 99, 3) := dk_182 0 99 (dk_at dksX10_clear_0 21 rfl rfl)
theorem dX10_clear_24 : decode cX10_clear 24 = .ok (.pop, 1) := dk_87 (dk_at dksX10_clear_1 0 rfl rfl)
theorem dX10_clear_25 : decode cX10_clear 25 = .ok (.aload_n 0, 1) := dk_42 (dk_at dksX10_clear_1 1 rfl rfl)
theorem dX10_clear_26 : decode cX10_clear 26 = .ok (.iconst 0, 1) := dk_3 (dk_at dksX10_clear_1 2 rfl rfl)
theorem dX10_clear_27 : decode cX10_clear 27 = .ok (.putfield 42, 3) := dk_181 0 42 (dk_at dksX10_clear_1 3 rfl rfl)
theorem dX10_clear_30 : decode cX10_clear 30 = .ok (.aload_n 0, 1) := dk_42 (dk_at dksX10_clear_1 6 rfl rfl)
theorem dX10_clear_31 : decode cX10_clear 31 = .ok (.iconst 0, 1) := dk_3 (dk_at dksX10_clear_1 7 rfl rfl)
theorem dX10_clear_32 : decode cX10_clear 32 = .ok (.putfield 61, 3) := dk_181 0 61 (dk_at dksX10_clear_1 8 rfl rfl)
theorem dX10_clear_35 : decode cX10_clear 35 = .ok (.return_, 1) := dk_177 (dk_at dksX10_clear_1 11 rfl rfl)
theorem q120 : (Jvm.Cond.initialized "PipelineSimulator$Channel") ∈ lw_all := lw_g (lw_at lw_m1 23 rfl) rfl
theorem q428 : (Jvm.Cond.selects "PipelineSimulator$Channel" ({ cls := "java/lang/Object", name := "getClass", desc := "()Ljava/lang/Class;" } : Jvm.MethodName) ({ cls := "java/lang/Object", name := "getClass", desc := "()Ljava/lang/Class;" } : Jvm.MethodName)) ∈ lw_all := lw_g (lw_at lw_m2 91 rfl) rfl
theorem q575 : (Jvm.Cond.instantiable "PipelineSimulator$Channel" (5 : Nat)) ∈ lw_all := lw_g (lw_at lw_m2 238 rfl) rfl
theorem q577 : (Jvm.Cond.instanceMethod ({ cls := "PipelineSimulator$Channel", name := "<init>", desc := "(LPipelineSimulator;)V" } : Jvm.MethodName)) ∈ lw_all := lw_g (lw_at lw_m3 0 rfl) rfl
theorem q578 : (Jvm.Cond.code ({ cls := "PipelineSimulator$Channel", name := "<init>", desc := "(LPipelineSimulator;)V" } : Jvm.MethodName) prog_4_method_1_code (2 : Nat) (Option.none : Option Jvm.ClassFile.FieldType)) ∈ lw_all := lw_g (lw_at lw_m3 1 rfl) rfl
theorem q579 : (Jvm.Cond.methodLink "PipelineSimulator$Channel" (7 : Nat) ({ cls := "java/lang/Object", name := "<init>", desc := "()V" } : Jvm.MethodName)) ∈ lw_all := lw_g (lw_at lw_m3 2 rfl) rfl
theorem q580 : (Jvm.Cond.classLink "PipelineSimulator$Channel" (13 : Nat) "java/util/ArrayDeque") ∈ lw_all := lw_g (lw_at lw_m3 3 rfl) rfl
theorem q582 : (Jvm.Cond.methodLink "PipelineSimulator$Channel" (15 : Nat) ({ cls := "java/util/ArrayDeque", name := "<init>", desc := "()V" } : Jvm.MethodName)) ∈ lw_all := lw_g (lw_at lw_m3 5 rfl) rfl
theorem q599 : (Jvm.Cond.methodLinkNest "PipelineSimulator$Channel" (20 : Nat) ({ cls := "PipelineSimulator", name := "batch", desc := "()LPipelineSimulator$Batch;" } : Jvm.MethodName) "PipelineSimulator") ∈ lw_tbl := lw_at lw_m3 22 rfl
theorem q634 : (Jvm.Cond.fieldLink "PipelineSimulator$Channel" (64 : Nat) "PipelineSimulator$Batch" "isBarrier" "Z") ∈ lw_all := lw_g (lw_at lw_m3 57 rfl) rfl
theorem q661 : (Jvm.Cond.fieldLink "PipelineSimulator$Channel" (16 : Nat) "PipelineSimulator$Channel" "queue" "Ljava/util/ArrayDeque;") ∈ lw_all := lw_g (lw_at lw_m3 84 rfl) rfl
theorem q663 : (Jvm.Cond.fieldLink "PipelineSimulator$Channel" (26 : Nat) "PipelineSimulator$Channel" "open" "LPipelineSimulator$Batch;") ∈ lw_all := lw_g (lw_at lw_m3 86 rfl) rfl
theorem q665 : (Jvm.Cond.fieldLink "PipelineSimulator$Channel" (42 : Nat) "PipelineSimulator$Channel" "age" "I") ∈ lw_all := lw_g (lw_at lw_m3 88 rfl) rfl
theorem q667 : (Jvm.Cond.fieldLink "PipelineSimulator$Channel" (61 : Nat) "PipelineSimulator$Channel" "records" "I") ∈ lw_all := lw_g (lw_at lw_m3 90 rfl) rfl
theorem q669 : (Jvm.Cond.fieldLink "PipelineSimulator$Channel" (1 : Nat) "PipelineSimulator$Channel" "this$0" "LPipelineSimulator;") ∈ lw_all := lw_g (lw_at lw_m3 92 rfl) rfl
theorem q670 : (Jvm.Cond.laysFinal "PipelineSimulator$Channel" "PipelineSimulator$Channel" "queue" "Ljava/util/ArrayDeque;") ∈ lw_all := lw_g (lw_at lw_m3 93 rfl) rfl
theorem q671 : (Jvm.Cond.soleField "PipelineSimulator$Channel" "queue") ∈ lw_all := lw_g (lw_at lw_m3 94 rfl) rfl
theorem q672 : (Jvm.Cond.lays "PipelineSimulator$Channel" "PipelineSimulator$Channel" "open" "LPipelineSimulator$Batch;") ∈ lw_all := lw_g (lw_at lw_m3 95 rfl) rfl
theorem q673 : (Jvm.Cond.soleField "PipelineSimulator$Channel" "open") ∈ lw_all := lw_g (lw_at lw_m3 96 rfl) rfl
theorem q674 : (Jvm.Cond.lays "PipelineSimulator$Channel" "PipelineSimulator$Channel" "age" "I") ∈ lw_all := lw_g (lw_at lw_m3 97 rfl) rfl
theorem q675 : (Jvm.Cond.soleField "PipelineSimulator$Channel" "age") ∈ lw_all := lw_g (lw_at lw_m3 98 rfl) rfl
theorem q676 : (Jvm.Cond.lays "PipelineSimulator$Channel" "PipelineSimulator$Channel" "records" "I") ∈ lw_all := lw_g (lw_at lw_m3 99 rfl) rfl
theorem q677 : (Jvm.Cond.soleField "PipelineSimulator$Channel" "records") ∈ lw_all := lw_g (lw_at lw_m3 100 rfl) rfl
theorem q678 : (Jvm.Cond.laysFinal "PipelineSimulator$Channel" "PipelineSimulator$Channel" "this$0" "LPipelineSimulator;") ∈ lw_all := lw_g (lw_at lw_m3 101 rfl) rfl
theorem q679 : (Jvm.Cond.soleField "PipelineSimulator$Channel" "this$0") ∈ lw_all := lw_g (lw_at lw_m3 102 rfl) rfl
theorem q680 : (Jvm.Cond.superclass "PipelineSimulator$Channel" "java/lang/Object") ∈ lw_all := lw_g (lw_at lw_m3 103 rfl) rfl
theorem q715 : (Jvm.Cond.fieldLinkNest "PipelineSimulator$Channel" (75 : Nat) "PipelineSimulator" "spare" "Ljava/util/LinkedList;" "PipelineSimulator") ∈ lw_tbl := lw_at lw_m3 138 rfl
theorem q716 : (Jvm.Cond.fieldLinkNest "PipelineSimulator$Channel" (48 : Nat) "PipelineSimulator" "size" "I" "PipelineSimulator") ∈ lw_tbl := lw_at lw_m3 139 rfl
theorem q718 : (Jvm.Cond.fieldLinkNest "PipelineSimulator$Channel" (68 : Nat) "PipelineSimulator" "greatestAge" "I" "PipelineSimulator") ∈ lw_tbl := lw_at lw_m3 141 rfl
theorem q720 : (Jvm.Cond.fieldLinkNest "PipelineSimulator$Channel" (34 : Nat) "PipelineSimulator" "credits" "I" "PipelineSimulator") ∈ lw_tbl := lw_at lw_m3 143 rfl
theorem q1280 : (Jvm.Cond.instanceMethod ({ cls := "PipelineSimulator$Channel", name := "grow", desc := "()V" } : Jvm.MethodName)) ∈ lw_all := lw_g (lw_at lw_m5 223 rfl) rfl
theorem q1281 : (Jvm.Cond.selects "PipelineSimulator$Channel" ({ cls := "PipelineSimulator$Channel", name := "grow", desc := "()V" } : Jvm.MethodName) ({ cls := "PipelineSimulator$Channel", name := "grow", desc := "()V" } : Jvm.MethodName)) ∈ lw_all := lw_g (lw_at lw_m5 224 rfl) rfl
theorem q1282 : (Jvm.Cond.code ({ cls := "PipelineSimulator$Channel", name := "grow", desc := "()V" } : Jvm.MethodName) prog_4_method_8_code (1 : Nat) (Option.none : Option Jvm.ClassFile.FieldType)) ∈ lw_all := lw_g (lw_at lw_m5 225 rfl) rfl
theorem q1283 : (Jvm.Cond.methodLink "PipelineSimulator$Channel" (45 : Nat) ({ cls := "PipelineSimulator$Batch", name := "size", desc := "()I" } : Jvm.MethodName)) ∈ lw_all := lw_g (lw_at lw_m5 226 rfl) rfl
theorem q1287 : (Jvm.Cond.methodLink "PipelineSimulator$Channel" (50 : Nat) ({ cls := "PipelineSimulator$Channel", name := "hasRoom", desc := "()Z" } : Jvm.MethodName)) ∈ lw_all := lw_g (lw_at lw_m5 230 rfl) rfl
theorem q1288 : (Jvm.Cond.instanceMethod ({ cls := "PipelineSimulator$Channel", name := "hasRoom", desc := "()Z" } : Jvm.MethodName)) ∈ lw_all := lw_g (lw_at lw_m5 231 rfl) rfl
theorem q1289 : (Jvm.Cond.selects "PipelineSimulator$Channel" ({ cls := "PipelineSimulator$Channel", name := "hasRoom", desc := "()Z" } : Jvm.MethodName) ({ cls := "PipelineSimulator$Channel", name := "hasRoom", desc := "()Z" } : Jvm.MethodName)) ∈ lw_all := lw_g (lw_at lw_m5 232 rfl) rfl
theorem q1290 : (Jvm.Cond.code ({ cls := "PipelineSimulator$Channel", name := "hasRoom", desc := "()Z" } : Jvm.MethodName) prog_4_method_2_code (1 : Nat) (Option.some Jvm.ClassFile.FieldType.boolean)) ∈ lw_all := lw_g (lw_at lw_m5 233 rfl) rfl
theorem q1291 : (Jvm.Cond.methodLink "PipelineSimulator$Channel" (30 : Nat) ({ cls := "java/util/ArrayDeque", name := "size", desc := "()I" } : Jvm.MethodName)) ∈ lw_all := lw_g (lw_at lw_m5 234 rfl) rfl
theorem q1292 : (Jvm.Cond.methodLink "PipelineSimulator$Channel" (54 : Nat) ({ cls := "PipelineSimulator$Channel", name := "close", desc := "()V" } : Jvm.MethodName)) ∈ lw_all := lw_g (lw_at lw_m5 235 rfl) rfl
theorem q1293 : (Jvm.Cond.privateMethod ({ cls := "PipelineSimulator$Channel", name := "close", desc := "()V" } : Jvm.MethodName)) ∈ lw_tbl := lw_at lw_m5 236 rfl
theorem q1294 : (Jvm.Cond.instanceMethod ({ cls := "PipelineSimulator$Channel", name := "close", desc := "()V" } : Jvm.MethodName)) ∈ lw_all := lw_g (lw_at lw_m5 237 rfl) rfl
theorem q1295 : (Jvm.Cond.code ({ cls := "PipelineSimulator$Channel", name := "close", desc := "()V" } : Jvm.MethodName) prog_4_method_3_code (1 : Nat) (Option.none : Option Jvm.ClassFile.FieldType)) ∈ lw_all := lw_g (lw_at lw_m5 238 rfl) rfl
theorem q1296 : (Jvm.Cond.methodLink "PipelineSimulator$Channel" (38 : Nat) ({ cls := "java/util/ArrayDeque", name := "addLast", desc := "(Ljava/lang/Object;)V" } : Jvm.MethodName)) ∈ lw_all := lw_g (lw_at lw_m5 239 rfl) rfl
theorem q1359 : (Jvm.Cond.instanceMethod ({ cls := "PipelineSimulator$Channel", name := "canPut", desc := "()Z" } : Jvm.MethodName)) ∈ lw_all := lw_g (lw_at lw_m6 62 rfl) rfl
theorem q1360 : (Jvm.Cond.selects "PipelineSimulator$Channel" ({ cls := "PipelineSimulator$Channel", name := "canPut", desc := "()Z" } : Jvm.MethodName) ({ cls := "PipelineSimulator$Channel", name := "canPut", desc := "()Z" } : Jvm.MethodName)) ∈ lw_all := lw_g (lw_at lw_m6 63 rfl) rfl
theorem q1361 : (Jvm.Cond.code ({ cls := "PipelineSimulator$Channel", name := "canPut", desc := "()Z" } : Jvm.MethodName) prog_4_method_4_code (1 : Nat) (Option.some Jvm.ClassFile.FieldType.boolean)) ∈ lw_all := lw_g (lw_at lw_m6 64 rfl) rfl
theorem q1367 : (Jvm.Cond.instanceMethod ({ cls := "PipelineSimulator$Channel", name := "put", desc := "(III)V" } : Jvm.MethodName)) ∈ lw_all := lw_g (lw_at lw_m6 70 rfl) rfl
theorem q1368 : (Jvm.Cond.selects "PipelineSimulator$Channel" ({ cls := "PipelineSimulator$Channel", name := "put", desc := "(III)V" } : Jvm.MethodName) ({ cls := "PipelineSimulator$Channel", name := "put", desc := "(III)V" } : Jvm.MethodName)) ∈ lw_all := lw_g (lw_at lw_m6 71 rfl) rfl
theorem q1369 : (Jvm.Cond.code ({ cls := "PipelineSimulator$Channel", name := "put", desc := "(III)V" } : Jvm.MethodName) prog_4_method_5_code (4 : Nat) (Option.none : Option Jvm.ClassFile.FieldType)) ∈ lw_all := lw_g (lw_at lw_m6 72 rfl) rfl
theorem q1370 : (Jvm.Cond.methodLink "PipelineSimulator$Channel" (57 : Nat) ({ cls := "PipelineSimulator$Batch", name := "add", desc := "(III)V" } : Jvm.MethodName)) ∈ lw_all := lw_g (lw_at lw_m6 73 rfl) rfl
theorem q1379 : (Jvm.Cond.instanceMethod ({ cls := "PipelineSimulator$Channel", name := "canPutBarrier", desc := "()Z" } : Jvm.MethodName)) ∈ lw_all := lw_g (lw_at lw_m6 82 rfl) rfl
theorem q1380 : (Jvm.Cond.selects "PipelineSimulator$Channel" ({ cls := "PipelineSimulator$Channel", name := "canPutBarrier", desc := "()Z" } : Jvm.MethodName) ({ cls := "PipelineSimulator$Channel", name := "canPutBarrier", desc := "()Z" } : Jvm.MethodName)) ∈ lw_all := lw_g (lw_at lw_m6 83 rfl) rfl
theorem q1381 : (Jvm.Cond.code ({ cls := "PipelineSimulator$Channel", name := "canPutBarrier", desc := "()Z" } : Jvm.MethodName) prog_4_method_6_code (1 : Nat) (Option.some Jvm.ClassFile.FieldType.boolean)) ∈ lw_all := lw_g (lw_at lw_m6 84 rfl) rfl
theorem q1388 : (Jvm.Cond.instanceMethod ({ cls := "PipelineSimulator$Channel", name := "putBarrier", desc := "()V" } : Jvm.MethodName)) ∈ lw_all := lw_g (lw_at lw_m6 91 rfl) rfl
theorem q1389 : (Jvm.Cond.selects "PipelineSimulator$Channel" ({ cls := "PipelineSimulator$Channel", name := "putBarrier", desc := "()V" } : Jvm.MethodName) ({ cls := "PipelineSimulator$Channel", name := "putBarrier", desc := "()V" } : Jvm.MethodName)) ∈ lw_all := lw_g (lw_at lw_m6 92 rfl) rfl
theorem q1390 : (Jvm.Cond.code ({ cls := "PipelineSimulator$Channel", name := "putBarrier", desc := "()V" } : Jvm.MethodName) prog_4_method_7_code (1 : Nat) (Option.none : Option Jvm.ClassFile.FieldType)) ∈ lw_all := lw_g (lw_at lw_m6 93 rfl) rfl
theorem q1572 : (Jvm.Cond.instanceMethod ({ cls := "PipelineSimulator$Channel", name := "first", desc := "()LPipelineSimulator$Batch;" } : Jvm.MethodName)) ∈ lw_all := lw_g (lw_at lw_m7 35 rfl) rfl
theorem q1573 : (Jvm.Cond.selects "PipelineSimulator$Channel" ({ cls := "PipelineSimulator$Channel", name := "first", desc := "()LPipelineSimulator$Batch;" } : Jvm.MethodName) ({ cls := "PipelineSimulator$Channel", name := "first", desc := "()LPipelineSimulator$Batch;" } : Jvm.MethodName)) ∈ lw_all := lw_g (lw_at lw_m7 36 rfl) rfl
theorem q1574 : (Jvm.Cond.code ({ cls := "PipelineSimulator$Channel", name := "first", desc := "()LPipelineSimulator$Batch;" } : Jvm.MethodName) prog_4_method_9_code (1 : Nat) (Option.some (Jvm.ClassFile.FieldType.object "PipelineSimulator$Batch"))) ∈ lw_all := lw_g (lw_at lw_m7 37 rfl) rfl
theorem q1575 : (Jvm.Cond.methodLink "PipelineSimulator$Channel" (71 : Nat) ({ cls := "java/util/ArrayDeque", name := "peekFirst", desc := "()Ljava/lang/Object;" } : Jvm.MethodName)) ∈ lw_all := lw_g (lw_at lw_m7 38 rfl) rfl
theorem q1582 : (Jvm.Cond.classLink "PipelineSimulator$Channel" (46 : Nat) "PipelineSimulator$Batch") ∈ lw_all := lw_g (lw_at lw_m7 45 rfl) rfl
theorem q1584 : (Jvm.Cond.instanceMethod ({ cls := "PipelineSimulator$Channel", name := "removeFirst", desc := "()V" } : Jvm.MethodName)) ∈ lw_all := lw_g (lw_at lw_m7 47 rfl) rfl
theorem q1585 : (Jvm.Cond.selects "PipelineSimulator$Channel" ({ cls := "PipelineSimulator$Channel", name := "removeFirst", desc := "()V" } : Jvm.MethodName) ({ cls := "PipelineSimulator$Channel", name := "removeFirst", desc := "()V" } : Jvm.MethodName)) ∈ lw_all := lw_g (lw_at lw_m7 48 rfl) rfl
theorem q1586 : (Jvm.Cond.code ({ cls := "PipelineSimulator$Channel", name := "removeFirst", desc := "()V" } : Jvm.MethodName) prog_4_method_10_code (1 : Nat) (Option.none : Option Jvm.ClassFile.FieldType)) ∈ lw_all := lw_g (lw_at lw_m7 49 rfl) rfl
theorem q1587 : (Jvm.Cond.methodLink "PipelineSimulator$Channel" (79 : Nat) ({ cls := "java/util/ArrayDeque", name := "removeFirst", desc := "()Ljava/lang/Object;" } : Jvm.MethodName)) ∈ lw_all := lw_g (lw_at lw_m7 50 rfl) rfl
theorem q1595 : (Jvm.Cond.methodLink "PipelineSimulator$Channel" (82 : Nat) ({ cls := "java/util/LinkedList", name := "addLast", desc := "(Ljava/lang/Object;)V" } : Jvm.MethodName)) ∈ lw_all := lw_g (lw_at lw_m7 58 rfl) rfl
theorem q1802 : (Jvm.Cond.instanceMethod ({ cls := "PipelineSimulator$Channel", name := "takeRecord", desc := "()V" } : Jvm.MethodName)) ∈ lw_all := lw_g (lw_at lw_m8 25 rfl) rfl
theorem q1803 : (Jvm.Cond.selects "PipelineSimulator$Channel" ({ cls := "PipelineSimulator$Channel", name := "takeRecord", desc := "()V" } : Jvm.MethodName) ({ cls := "PipelineSimulator$Channel", name := "takeRecord", desc := "()V" } : Jvm.MethodName)) ∈ lw_all := lw_g (lw_at lw_m8 26 rfl) rfl
theorem q1804 : (Jvm.Cond.code ({ cls := "PipelineSimulator$Channel", name := "takeRecord", desc := "()V" } : Jvm.MethodName) prog_4_method_11_code (1 : Nat) (Option.none : Option Jvm.ClassFile.FieldType)) ∈ lw_all := lw_g (lw_at lw_m8 27 rfl) rfl
theorem q1805 : (Jvm.Cond.methodLink "PipelineSimulator$Channel" (85 : Nat) ({ cls := "PipelineSimulator$Channel", name := "first", desc := "()LPipelineSimulator$Batch;" } : Jvm.MethodName)) ∈ lw_all := lw_g (lw_at lw_m8 28 rfl) rfl
theorem q1806 : (Jvm.Cond.methodLink "PipelineSimulator$Channel" (88 : Nat) ({ cls := "PipelineSimulator$Batch", name := "take", desc := "()V" } : Jvm.MethodName)) ∈ lw_all := lw_g (lw_at lw_m8 29 rfl) rfl
theorem q1810 : (Jvm.Cond.methodLink "PipelineSimulator$Channel" (91 : Nat) ({ cls := "PipelineSimulator$Batch", name := "isUsed", desc := "()Z" } : Jvm.MethodName)) ∈ lw_all := lw_g (lw_at lw_m8 33 rfl) rfl
theorem q1814 : (Jvm.Cond.methodLink "PipelineSimulator$Channel" (94 : Nat) ({ cls := "PipelineSimulator$Channel", name := "removeFirst", desc := "()V" } : Jvm.MethodName)) ∈ lw_all := lw_g (lw_at lw_m8 37 rfl) rfl
theorem q1834 : (Jvm.Cond.instanceMethod ({ cls := "PipelineSimulator$Channel", name := "clear", desc := "()V" } : Jvm.MethodName)) ∈ lw_all := lw_g (lw_at lw_m8 57 rfl) rfl
theorem q1835 : (Jvm.Cond.selects "PipelineSimulator$Channel" ({ cls := "PipelineSimulator$Channel", name := "clear", desc := "()V" } : Jvm.MethodName) ({ cls := "PipelineSimulator$Channel", name := "clear", desc := "()V" } : Jvm.MethodName)) ∈ lw_all := lw_g (lw_at lw_m8 58 rfl) rfl
theorem q1836 : (Jvm.Cond.code ({ cls := "PipelineSimulator$Channel", name := "clear", desc := "()V" } : Jvm.MethodName) prog_4_method_12_code (1 : Nat) (Option.none : Option Jvm.ClassFile.FieldType)) ∈ lw_all := lw_g (lw_at lw_m8 59 rfl) rfl
theorem q1837 : (Jvm.Cond.methodLink "PipelineSimulator$Channel" (96 : Nat) ({ cls := "java/util/ArrayDeque", name := "isEmpty", desc := "()Z" } : Jvm.MethodName)) ∈ lw_all := lw_g (lw_at lw_m8 60 rfl) rfl
theorem q1841 : (Jvm.Cond.methodLink "PipelineSimulator$Channel" (99 : Nat) ({ cls := "PipelineSimulator$Batch", name := "clear", desc := "()LPipelineSimulator$Batch;" } : Jvm.MethodName)) ∈ lw_all := lw_g (lw_at lw_m8 64 rfl) rfl
theorem q2945 : (Jvm.Cond.castable "PipelineSimulator$Channel" "java/lang/Object") ∈ lw_tbl := lw_at lw_m12 208 rfl
theorem in_X10 : ∀ w ∈ wsX100, w ∈ lw_all := lw_in wsX100 [670, 672, 674, 676, 678] (by decide +kernel) (by decide +kernel)
/-! PipelineSimulator$Batch -/
set_option maxRecDepth 100000
def RX11 : String := "PipelineSimulator$Batch"
def TX11 : u_T := fun k => match k with
  | 0 => ("PipelineSimulator$Batch", "keys", "[I", true)
  | 1 => ("PipelineSimulator$Batch", "values", "[I", true)
  | 2 => ("PipelineSimulator$Batch", "births", "[I", true)
  | 3 => ("PipelineSimulator$Batch", "taken", "I", false)
  | 4 => ("PipelineSimulator$Batch", "size", "I", false)
  | _ => ("PipelineSimulator$Batch", "isBarrier", "Z", false)
def tyX11 : Nat → FieldType := fun k => match k with
  | 0 => .array .int
  | 1 => .array .int
  | 2 => .array .int
  | 3 => .int
  | 4 => .int
  | _ => .boolean
abbrev wsX110 : List Cond := u_ws RX11 TX11 6
theorem nmX11 : ∀ a, a < 6 → ∀ b, b < 6 → a ≠ b → (TX11 a).2.1 ≠ (TX11 b).2.1 := by decide +kernel
theorem tyX11_ok : ∀ k, k < 6 → parseFieldDescriptor (TX11 k).2.2.1 = some (tyX11 k) := by decide +kernel
abbrev cX11_init : ByteArray := prog_2_method_1_code
def yX11_init : MethodName := ⟨RX11, "<init>", "()V"⟩
def dkwX11_init_1 : List UInt8 := [181, 0, 18, 177]
abbrev dktX11_init_1 : List UInt8 := dkwX11_init_1 ++ []
def dkwX11_init_0 : List UInt8 := [42, 183, 0, 3, 42, 7, 188, 10, 181, 0, 9, 42, 7, 188, 10, 181, 0, 15, 42, 7, 188, 10]
abbrev dktX11_init_0 : List UInt8 := dkwX11_init_0 ++ dktX11_init_1
theorem dksX11_init_0 : cX11_init.data.toList.drop 0 = dktX11_init_0 := by decide +kernel
theorem dksX11_init_1 : cX11_init.data.toList.drop 22 = dktX11_init_1 := dk_seg dksX11_init_0 22 rfl rfl
theorem dX11_init_0 : decode cX11_init 0 = .ok (.aload_n 0, 1) := dk_42 (dk_at dksX11_init_0 0 rfl rfl)
theorem dX11_init_1 : decode cX11_init 1 = .ok (.invokespecial 3, 3) := dk_183 0 3 (dk_at dksX11_init_0 1 rfl rfl)
theorem dX11_init_4 : decode cX11_init 4 = .ok (.aload_n 0, 1) := dk_42 (dk_at dksX11_init_0 4 rfl rfl)
theorem dX11_init_5 : decode cX11_init 5 = .ok (.iconst 4, 1) := dk_7 (dk_at dksX11_init_0 5 rfl rfl)
theorem dX11_init_6 : decode cX11_init 6 = .ok (.newarray .int, 2) := dk_188_10 (dk_at dksX11_init_0 6 rfl rfl)
theorem dX11_init_8 : decode cX11_init 8 = .ok (.putfield 9, 3) := dk_181 0 9 (dk_at dksX11_init_0 8 rfl rfl)
theorem dX11_init_11 : decode cX11_init 11 = .ok (.aload_n 0, 1) := dk_42 (dk_at dksX11_init_0 11 rfl rfl)
theorem dX11_init_12 : decode cX11_init 12 = .ok (.iconst 4, 1) := dk_7 (dk_at dksX11_init_0 12 rfl rfl)
theorem dX11_init_13 : decode cX11_init 13 = .ok (.newarray .int, 2) := dk_188_10 (dk_at dksX11_init_0 13 rfl rfl)
theorem dX11_init_15 : decode cX11_init 15 = .ok (.putfield 15, 3) := dk_181 0 15 (dk_at dksX11_init_0 15 rfl rfl)
theorem dX11_init_18 : decode cX11_init 18 = .ok (.aload_n 0, 1) := dk_42 (dk_at dksX11_init_0 18 rfl rfl)
theorem dX11_init_19 : decode cX11_init 19 = .ok (.iconst 4, 1) := dk_7 (dk_at dksX11_init_0 19 rfl rfl)
theorem dX11_init_20 : decode cX11_init 20 = .ok (.newarray .int, 2) := dk_188_10 (dk_at dksX11_init_0 20 rfl rfl)
theorem dX11_init_22 : decode cX11_init 22 = .ok (.putfield 18, 3) := dk_181 0 18 (dk_at dksX11_init_1 0 rfl rfl)
theorem dX11_init_25 : decode cX11_init 25 = .ok (.return_, 1) := dk_177 (dk_at dksX11_init_1 3 rfl rfl)
abbrev cX11_clear : ByteArray := prog_2_method_2_code
def yX11_clear : MethodName := ⟨RX11, "clear", "()LPipelineSimulator$Batch;"⟩
def dkwX11_clear_0 : List UInt8 := [42, 3, 181, 0, 21, 42, 3, 181, 0, 25, 42, 3, 181, 0, 28, 42, 176]
abbrev dktX11_clear_0 : List UInt8 := dkwX11_clear_0 ++ []
theorem dksX11_clear_0 : cX11_clear.data.toList.drop 0 = dktX11_clear_0 := by decide +kernel
theorem dX11_clear_0 : decode cX11_clear 0 = .ok (.aload_n 0, 1) := dk_42 (dk_at dksX11_clear_0 0 rfl rfl)
theorem dX11_clear_1 : decode cX11_clear 1 = .ok (.iconst 0, 1) := dk_3 (dk_at dksX11_clear_0 1 rfl rfl)
theorem dX11_clear_2 : decode cX11_clear 2 = .ok (.putfield 21, 3) := dk_181 0 21 (dk_at dksX11_clear_0 2 rfl rfl)
theorem dX11_clear_5 : decode cX11_clear 5 = .ok (.aload_n 0, 1) := dk_42 (dk_at dksX11_clear_0 5 rfl rfl)
theorem dX11_clear_6 : decode cX11_clear 6 = .ok (.iconst 0, 1) := dk_3 (dk_at dksX11_clear_0 6 rfl rfl)
theorem dX11_clear_7 : decode cX11_clear 7 = .ok (.putfield 25, 3) := dk_181 0 25 (dk_at dksX11_clear_0 7 rfl rfl)
theorem dX11_clear_10 : decode cX11_clear 10 = .ok (.aload_n 0, 1) := dk_42 (dk_at dksX11_clear_0 10 rfl rfl)
theorem dX11_clear_11 : decode cX11_clear 11 = .ok (.iconst 0, 1) := dk_3 (dk_at dksX11_clear_0 11 rfl rfl)
theorem dX11_clear_12 : decode cX11_clear 12 = .ok (.putfield 28, 3) := dk_181 0 28 (dk_at dksX11_clear_0 12 rfl rfl)
theorem dX11_clear_15 : decode cX11_clear 15 = .ok (.aload_n 0, 1) := dk_42 (dk_at dksX11_clear_0 15 rfl rfl)
theorem dX11_clear_16 : decode cX11_clear 16 = .ok (.areturn, 1) := dk_176 (dk_at dksX11_clear_0 16 rfl rfl)
abbrev cX11_size : ByteArray := prog_2_method_4_code
def yX11_size : MethodName := ⟨RX11, "size", "()I"⟩
def dkwX11_size_0 : List UInt8 := [42, 180, 0, 25, 42, 180, 0, 21, 100, 172]
abbrev dktX11_size_0 : List UInt8 := dkwX11_size_0 ++ []
theorem dksX11_size_0 : cX11_size.data.toList.drop 0 = dktX11_size_0 := by decide +kernel
theorem dX11_size_0 : decode cX11_size 0 = .ok (.aload_n 0, 1) := dk_42 (dk_at dksX11_size_0 0 rfl rfl)
theorem dX11_size_1 : decode cX11_size 1 = .ok (.getfield 25, 3) := dk_180 0 25 (dk_at dksX11_size_0 1 rfl rfl)
theorem dX11_size_4 : decode cX11_size 4 = .ok (.aload_n 0, 1) := dk_42 (dk_at dksX11_size_0 4 rfl rfl)
theorem dX11_size_5 : decode cX11_size 5 = .ok (.getfield 21, 3) := dk_180 0 21 (dk_at dksX11_size_0 5 rfl rfl)
theorem dX11_size_8 : decode cX11_size 8 = .ok (.isub, 1) := dk_100 (dk_at dksX11_size_0 8 rfl rfl)
theorem dX11_size_9 : decode cX11_size 9 = .ok (.ireturn, 1) := dk_172 (dk_at dksX11_size_0 9 rfl rfl)
abbrev cX11_add : ByteArray := prog_2_method_3_code
def yX11_add : MethodName := ⟨RX11, "add", "(III)V"⟩
def dkwX11_add_1 : List UInt8 := [42, 180, 0, 25, 29, 79, 42, 89, 180, 0, 25, 4, 96, 181, 0, 25, 177]
abbrev dktX11_add_1 : List UInt8 := dkwX11_add_1 ++ []
def dkwX11_add_0 : List UInt8 := [42, 180, 0, 9, 42, 180, 0, 25, 27, 79, 42, 180, 0, 15, 42, 180, 0, 25, 28, 79, 42, 180, 0, 18]
abbrev dktX11_add_0 : List UInt8 := dkwX11_add_0 ++ dktX11_add_1
theorem dksX11_add_0 : cX11_add.data.toList.drop 0 = dktX11_add_0 := by decide +kernel
theorem dksX11_add_1 : cX11_add.data.toList.drop 24 = dktX11_add_1 := dk_seg dksX11_add_0 24 rfl rfl
theorem dX11_add_0 : decode cX11_add 0 = .ok (.aload_n 0, 1) := dk_42 (dk_at dksX11_add_0 0 rfl rfl)
theorem dX11_add_1 : decode cX11_add 1 = .ok (.getfield 9, 3) := dk_180 0 9 (dk_at dksX11_add_0 1 rfl rfl)
theorem dX11_add_4 : decode cX11_add 4 = .ok (.aload_n 0, 1) := dk_42 (dk_at dksX11_add_0 4 rfl rfl)
theorem dX11_add_5 : decode cX11_add 5 = .ok (.getfield 25, 3) := dk_180 0 25 (dk_at dksX11_add_0 5 rfl rfl)
theorem dX11_add_8 : decode cX11_add 8 = .ok (.iload_n 1, 1) := dk_27 (dk_at dksX11_add_0 8 rfl rfl)
theorem dX11_add_9 : decode cX11_add 9 = .ok (.iastore, 1) := dk_79 (dk_at dksX11_add_0 9 rfl rfl)
theorem dX11_add_10 : decode cX11_add 10 = .ok (.aload_n 0, 1) := dk_42 (dk_at dksX11_add_0 10 rfl rfl)
theorem dX11_add_11 : decode cX11_add 11 = .ok (.getfield 15, 3) := dk_180 0 15 (dk_at dksX11_add_0 11 rfl rfl)
theorem dX11_add_14 : decode cX11_add 14 = .ok (.aload_n 0, 1) := dk_42 (dk_at dksX11_add_0 14 rfl rfl)
theorem dX11_add_15 : decode cX11_add 15 = .ok (.getfield 25, 3) := dk_180 0 25 (dk_at dksX11_add_0 15 rfl rfl)
theorem dX11_add_18 : decode cX11_add 18 = .ok (.iload_n 2, 1) := dk_28 (dk_at dksX11_add_0 18 rfl rfl)
theorem dX11_add_19 : decode cX11_add 19 = .ok (.iastore, 1) := dk_79 (dk_at dksX11_add_0 19 rfl rfl)
theorem dX11_add_20 : decode cX11_add 20 = .ok (.aload_n 0, 1) := dk_42 (dk_at dksX11_add_0 20 rfl rfl)
theorem dX11_add_21 : decode cX11_add 21 = .ok (.getfield 18, 3) := dk_180 0 18 (dk_at dksX11_add_0 21 rfl rfl)
theorem dX11_add_24 : decode cX11_add 24 = .ok (.aload_n 0, 1) := dk_42 (dk_at dksX11_add_1 0 rfl rfl)
theorem dX11_add_25 : decode cX11_add 25 = .ok (.getfield 25, 3) := dk_180 0 25 (dk_at dksX11_add_1 1 rfl rfl)
theorem dX11_add_28 : decode cX11_add 28 = .ok (.iload_n 3, 1) := dk_29 (dk_at dksX11_add_1 4 rfl rfl)
theorem dX11_add_29 : decode cX11_add 29 = .ok (.iastore, 1) := dk_79 (dk_at dksX11_add_1 5 rfl rfl)
theorem dX11_add_30 : decode cX11_add 30 = .ok (.aload_n 0, 1) := dk_42 (dk_at dksX11_add_1 6 rfl rfl)
theorem dX11_add_31 : decode cX11_add 31 = .ok (.dup, 1) := dk_89 (dk_at dksX11_add_1 7 rfl rfl)
theorem dX11_add_32 : decode cX11_add 32 = .ok (.getfield 25, 3) := dk_180 0 25 (dk_at dksX11_add_1 8 rfl rfl)
theorem dX11_add_35 : decode cX11_add 35 = .ok (.iconst 1, 1) := dk_4 (dk_at dksX11_add_1 11 rfl rfl)
theorem dX11_add_36 : decode cX11_add 36 = .ok (.iadd, 1) := dk_96 (dk_at dksX11_add_1 12 rfl rfl)
theorem dX11_add_37 : decode cX11_add 37 = .ok (.putfield 25, 3) := dk_181 0 25 (dk_at dksX11_add_1 13 rfl rfl)
theorem dX11_add_40 : decode cX11_add 40 = .ok (.return_, 1) := dk_177 (dk_at dksX11_add_1 16 rfl rfl)
abbrev cX11_key : ByteArray := prog_2_method_6_code
def yX11_key : MethodName := ⟨RX11, "key", "()I"⟩
def dkwX11_key_0 : List UInt8 := [42, 180, 0, 9, 42, 180, 0, 21, 46, 172]
abbrev dktX11_key_0 : List UInt8 := dkwX11_key_0 ++ []
theorem dksX11_key_0 : cX11_key.data.toList.drop 0 = dktX11_key_0 := by decide +kernel
theorem dX11_key_0 : decode cX11_key 0 = .ok (.aload_n 0, 1) := dk_42 (dk_at dksX11_key_0 0 rfl rfl)
theorem dX11_key_1 : decode cX11_key 1 = .ok (.getfield 9, 3) := dk_180 0 9 (dk_at dksX11_key_0 1 rfl rfl)
theorem dX11_key_4 : decode cX11_key 4 = .ok (.aload_n 0, 1) := dk_42 (dk_at dksX11_key_0 4 rfl rfl)
theorem dX11_key_5 : decode cX11_key 5 = .ok (.getfield 21, 3) := dk_180 0 21 (dk_at dksX11_key_0 5 rfl rfl)
theorem dX11_key_8 : decode cX11_key 8 = .ok (.iaload, 1) := dk_46 (dk_at dksX11_key_0 8 rfl rfl)
theorem dX11_key_9 : decode cX11_key 9 = .ok (.ireturn, 1) := dk_172 (dk_at dksX11_key_0 9 rfl rfl)
abbrev cX11_value : ByteArray := prog_2_method_7_code
def yX11_value : MethodName := ⟨RX11, "value", "()I"⟩
def dkwX11_value_0 : List UInt8 := [42, 180, 0, 15, 42, 180, 0, 21, 46, 172]
abbrev dktX11_value_0 : List UInt8 := dkwX11_value_0 ++ []
theorem dksX11_value_0 : cX11_value.data.toList.drop 0 = dktX11_value_0 := by decide +kernel
theorem dX11_value_0 : decode cX11_value 0 = .ok (.aload_n 0, 1) := dk_42 (dk_at dksX11_value_0 0 rfl rfl)
theorem dX11_value_1 : decode cX11_value 1 = .ok (.getfield 15, 3) := dk_180 0 15 (dk_at dksX11_value_0 1 rfl rfl)
theorem dX11_value_4 : decode cX11_value 4 = .ok (.aload_n 0, 1) := dk_42 (dk_at dksX11_value_0 4 rfl rfl)
theorem dX11_value_5 : decode cX11_value 5 = .ok (.getfield 21, 3) := dk_180 0 21 (dk_at dksX11_value_0 5 rfl rfl)
theorem dX11_value_8 : decode cX11_value 8 = .ok (.iaload, 1) := dk_46 (dk_at dksX11_value_0 8 rfl rfl)
theorem dX11_value_9 : decode cX11_value 9 = .ok (.ireturn, 1) := dk_172 (dk_at dksX11_value_0 9 rfl rfl)
abbrev cX11_birth : ByteArray := prog_2_method_5_code
def yX11_birth : MethodName := ⟨RX11, "birth", "()I"⟩
def dkwX11_birth_0 : List UInt8 := [42, 180, 0, 18, 42, 180, 0, 21, 46, 172]
abbrev dktX11_birth_0 : List UInt8 := dkwX11_birth_0 ++ []
theorem dksX11_birth_0 : cX11_birth.data.toList.drop 0 = dktX11_birth_0 := by decide +kernel
theorem dX11_birth_0 : decode cX11_birth 0 = .ok (.aload_n 0, 1) := dk_42 (dk_at dksX11_birth_0 0 rfl rfl)
theorem dX11_birth_1 : decode cX11_birth 1 = .ok (.getfield 18, 3) := dk_180 0 18 (dk_at dksX11_birth_0 1 rfl rfl)
theorem dX11_birth_4 : decode cX11_birth 4 = .ok (.aload_n 0, 1) := dk_42 (dk_at dksX11_birth_0 4 rfl rfl)
theorem dX11_birth_5 : decode cX11_birth 5 = .ok (.getfield 21, 3) := dk_180 0 21 (dk_at dksX11_birth_0 5 rfl rfl)
theorem dX11_birth_8 : decode cX11_birth 8 = .ok (.iaload, 1) := dk_46 (dk_at dksX11_birth_0 8 rfl rfl)
theorem dX11_birth_9 : decode cX11_birth 9 = .ok (.ireturn, 1) := dk_172 (dk_at dksX11_birth_0 9 rfl rfl)
abbrev cX11_take : ByteArray := prog_2_method_8_code
def yX11_take : MethodName := ⟨RX11, "take", "()V"⟩
def dkwX11_take_0 : List UInt8 := [42, 89, 180, 0, 21, 4, 96, 181, 0, 21, 177]
abbrev dktX11_take_0 : List UInt8 := dkwX11_take_0 ++ []
theorem dksX11_take_0 : cX11_take.data.toList.drop 0 = dktX11_take_0 := by decide +kernel
theorem dX11_take_0 : decode cX11_take 0 = .ok (.aload_n 0, 1) := dk_42 (dk_at dksX11_take_0 0 rfl rfl)
theorem dX11_take_1 : decode cX11_take 1 = .ok (.dup, 1) := dk_89 (dk_at dksX11_take_0 1 rfl rfl)
theorem dX11_take_2 : decode cX11_take 2 = .ok (.getfield 21, 3) := dk_180 0 21 (dk_at dksX11_take_0 2 rfl rfl)
theorem dX11_take_5 : decode cX11_take 5 = .ok (.iconst 1, 1) := dk_4 (dk_at dksX11_take_0 5 rfl rfl)
theorem dX11_take_6 : decode cX11_take 6 = .ok (.iadd, 1) := dk_96 (dk_at dksX11_take_0 6 rfl rfl)
theorem dX11_take_7 : decode cX11_take 7 = .ok (.putfield 21, 3) := dk_181 0 21 (dk_at dksX11_take_0 7 rfl rfl)
theorem dX11_take_10 : decode cX11_take 10 = .ok (.return_, 1) := dk_177 (dk_at dksX11_take_0 10 rfl rfl)
abbrev cX11_isUsed : ByteArray := prog_2_method_9_code
def yX11_isUsed : MethodName := ⟨RX11, "isUsed", "()Z"⟩
def dkwX11_isUsed_0 : List UInt8 := [42, 180, 0, 21, 42, 180, 0, 25, 160, 0, 7, 4, 167, 0, 4, 3, 172]
abbrev dktX11_isUsed_0 : List UInt8 := dkwX11_isUsed_0 ++ []
theorem dksX11_isUsed_0 : cX11_isUsed.data.toList.drop 0 = dktX11_isUsed_0 := by decide +kernel
theorem dX11_isUsed_0 : decode cX11_isUsed 0 = .ok (.aload_n 0, 1) := dk_42 (dk_at dksX11_isUsed_0 0 rfl rfl)
theorem dX11_isUsed_1 : decode cX11_isUsed 1 = .ok (.getfield 21, 3) := dk_180 0 21 (dk_at dksX11_isUsed_0 1 rfl rfl)
theorem dX11_isUsed_4 : decode cX11_isUsed 4 = .ok (.aload_n 0, 1) := dk_42 (dk_at dksX11_isUsed_0 4 rfl rfl)
theorem dX11_isUsed_5 : decode cX11_isUsed 5 = .ok (.getfield 25, 3) := dk_180 0 25 (dk_at dksX11_isUsed_0 5 rfl rfl)
theorem dX11_isUsed_8 : decode cX11_isUsed 8 = .ok (.if_icmp .ne 7, 3) := dk_160 0 7 (dk_at dksX11_isUsed_0 8 rfl rfl)
theorem dX11_isUsed_11 : decode cX11_isUsed 11 = .ok (.iconst 1, 1) := dk_4 (dk_at dksX11_isUsed_0 11 rfl rfl)
theorem dX11_isUsed_12 : decode cX11_isUsed 12 = .ok (.goto 4, 3) := dk_167 0 4 (dk_at dksX11_isUsed_0 12 rfl rfl)
theorem dX11_isUsed_15 : decode cX11_isUsed 15 = .ok (.iconst 0, 1) := dk_3 (dk_at dksX11_isUsed_0 15 rfl rfl)
theorem dX11_isUsed_16 : decode cX11_isUsed 16 = .ok (.ireturn, 1) := dk_172 (dk_at dksX11_isUsed_0 16 rfl rfl)
theorem q122 : (Jvm.Cond.initialized "PipelineSimulator$Batch") ∈ lw_all := lw_g (lw_at lw_m1 25 rfl) rfl
theorem q426 : (Jvm.Cond.selects "PipelineSimulator$Batch" ({ cls := "java/lang/Object", name := "getClass", desc := "()Ljava/lang/Class;" } : Jvm.MethodName) ({ cls := "java/lang/Object", name := "getClass", desc := "()Ljava/lang/Class;" } : Jvm.MethodName)) ∈ lw_all := lw_g (lw_at lw_m2 89 rfl) rfl
theorem q623 : (Jvm.Cond.instantiable "PipelineSimulator$Batch" (6 : Nat)) ∈ lw_all := lw_g (lw_at lw_m3 46 rfl) rfl
theorem q625 : (Jvm.Cond.instanceMethod ({ cls := "PipelineSimulator$Batch", name := "<init>", desc := "()V" } : Jvm.MethodName)) ∈ lw_all := lw_g (lw_at lw_m3 48 rfl) rfl
theorem q626 : (Jvm.Cond.code ({ cls := "PipelineSimulator$Batch", name := "<init>", desc := "()V" } : Jvm.MethodName) prog_2_method_1_code (1 : Nat) (Option.none : Option Jvm.ClassFile.FieldType)) ∈ lw_all := lw_g (lw_at lw_m3 49 rfl) rfl
theorem q627 : (Jvm.Cond.methodLink "PipelineSimulator$Batch" (3 : Nat) ({ cls := "java/lang/Object", name := "<init>", desc := "()V" } : Jvm.MethodName)) ∈ lw_all := lw_g (lw_at lw_m3 50 rfl) rfl
theorem q628 : (Jvm.Cond.fieldLink "PipelineSimulator$Batch" (9 : Nat) "PipelineSimulator$Batch" "keys" "[I") ∈ lw_all := lw_g (lw_at lw_m3 51 rfl) rfl
theorem q629 : (Jvm.Cond.fieldLink "PipelineSimulator$Batch" (15 : Nat) "PipelineSimulator$Batch" "values" "[I") ∈ lw_all := lw_g (lw_at lw_m3 52 rfl) rfl
theorem q630 : (Jvm.Cond.fieldLink "PipelineSimulator$Batch" (18 : Nat) "PipelineSimulator$Batch" "births" "[I") ∈ lw_all := lw_g (lw_at lw_m3 53 rfl) rfl
theorem q631 : (Jvm.Cond.fieldLink "PipelineSimulator$Batch" (21 : Nat) "PipelineSimulator$Batch" "taken" "I") ∈ lw_all := lw_g (lw_at lw_m3 54 rfl) rfl
theorem q632 : (Jvm.Cond.fieldLink "PipelineSimulator$Batch" (25 : Nat) "PipelineSimulator$Batch" "size" "I") ∈ lw_all := lw_g (lw_at lw_m3 55 rfl) rfl
theorem q633 : (Jvm.Cond.fieldLink "PipelineSimulator$Batch" (28 : Nat) "PipelineSimulator$Batch" "isBarrier" "Z") ∈ lw_all := lw_g (lw_at lw_m3 56 rfl) rfl
theorem q636 : (Jvm.Cond.laysFinal "PipelineSimulator$Batch" "PipelineSimulator$Batch" "keys" "[I") ∈ lw_all := lw_g (lw_at lw_m3 59 rfl) rfl
theorem q637 : (Jvm.Cond.soleField "PipelineSimulator$Batch" "keys") ∈ lw_all := lw_g (lw_at lw_m3 60 rfl) rfl
theorem q638 : (Jvm.Cond.laysFinal "PipelineSimulator$Batch" "PipelineSimulator$Batch" "values" "[I") ∈ lw_all := lw_g (lw_at lw_m3 61 rfl) rfl
theorem q639 : (Jvm.Cond.soleField "PipelineSimulator$Batch" "values") ∈ lw_all := lw_g (lw_at lw_m3 62 rfl) rfl
theorem q640 : (Jvm.Cond.laysFinal "PipelineSimulator$Batch" "PipelineSimulator$Batch" "births" "[I") ∈ lw_all := lw_g (lw_at lw_m3 63 rfl) rfl
theorem q641 : (Jvm.Cond.soleField "PipelineSimulator$Batch" "births") ∈ lw_all := lw_g (lw_at lw_m3 64 rfl) rfl
theorem q642 : (Jvm.Cond.lays "PipelineSimulator$Batch" "PipelineSimulator$Batch" "taken" "I") ∈ lw_all := lw_g (lw_at lw_m3 65 rfl) rfl
theorem q643 : (Jvm.Cond.soleField "PipelineSimulator$Batch" "taken") ∈ lw_all := lw_g (lw_at lw_m3 66 rfl) rfl
theorem q644 : (Jvm.Cond.lays "PipelineSimulator$Batch" "PipelineSimulator$Batch" "size" "I") ∈ lw_all := lw_g (lw_at lw_m3 67 rfl) rfl
theorem q645 : (Jvm.Cond.soleField "PipelineSimulator$Batch" "size") ∈ lw_all := lw_g (lw_at lw_m3 68 rfl) rfl
theorem q646 : (Jvm.Cond.lays "PipelineSimulator$Batch" "PipelineSimulator$Batch" "isBarrier" "Z") ∈ lw_all := lw_g (lw_at lw_m3 69 rfl) rfl
theorem q647 : (Jvm.Cond.soleField "PipelineSimulator$Batch" "isBarrier") ∈ lw_all := lw_g (lw_at lw_m3 70 rfl) rfl
theorem q648 : (Jvm.Cond.superclass "PipelineSimulator$Batch" "java/lang/Object") ∈ lw_all := lw_g (lw_at lw_m3 71 rfl) rfl
theorem q658 : (Jvm.Cond.instanceMethod ({ cls := "PipelineSimulator$Batch", name := "clear", desc := "()LPipelineSimulator$Batch;" } : Jvm.MethodName)) ∈ lw_all := lw_g (lw_at lw_m3 81 rfl) rfl
theorem q659 : (Jvm.Cond.selects "PipelineSimulator$Batch" ({ cls := "PipelineSimulator$Batch", name := "clear", desc := "()LPipelineSimulator$Batch;" } : Jvm.MethodName) ({ cls := "PipelineSimulator$Batch", name := "clear", desc := "()LPipelineSimulator$Batch;" } : Jvm.MethodName)) ∈ lw_all := lw_g (lw_at lw_m3 82 rfl) rfl
theorem q660 : (Jvm.Cond.code ({ cls := "PipelineSimulator$Batch", name := "clear", desc := "()LPipelineSimulator$Batch;" } : Jvm.MethodName) prog_2_method_2_code (1 : Nat) (Option.some (Jvm.ClassFile.FieldType.object "PipelineSimulator$Batch"))) ∈ lw_all := lw_g (lw_at lw_m3 83 rfl) rfl
theorem q1284 : (Jvm.Cond.instanceMethod ({ cls := "PipelineSimulator$Batch", name := "size", desc := "()I" } : Jvm.MethodName)) ∈ lw_all := lw_g (lw_at lw_m5 227 rfl) rfl
theorem q1285 : (Jvm.Cond.selects "PipelineSimulator$Batch" ({ cls := "PipelineSimulator$Batch", name := "size", desc := "()I" } : Jvm.MethodName) ({ cls := "PipelineSimulator$Batch", name := "size", desc := "()I" } : Jvm.MethodName)) ∈ lw_all := lw_g (lw_at lw_m5 228 rfl) rfl
theorem q1286 : (Jvm.Cond.code ({ cls := "PipelineSimulator$Batch", name := "size", desc := "()I" } : Jvm.MethodName) prog_2_method_4_code (1 : Nat) (Option.some Jvm.ClassFile.FieldType.int)) ∈ lw_all := lw_g (lw_at lw_m5 229 rfl) rfl
theorem q1371 : (Jvm.Cond.instanceMethod ({ cls := "PipelineSimulator$Batch", name := "add", desc := "(III)V" } : Jvm.MethodName)) ∈ lw_all := lw_g (lw_at lw_m6 74 rfl) rfl
theorem q1372 : (Jvm.Cond.selects "PipelineSimulator$Batch" ({ cls := "PipelineSimulator$Batch", name := "add", desc := "(III)V" } : Jvm.MethodName) ({ cls := "PipelineSimulator$Batch", name := "add", desc := "(III)V" } : Jvm.MethodName)) ∈ lw_all := lw_g (lw_at lw_m6 75 rfl) rfl
theorem q1373 : (Jvm.Cond.code ({ cls := "PipelineSimulator$Batch", name := "add", desc := "(III)V" } : Jvm.MethodName) prog_2_method_3_code (4 : Nat) (Option.none : Option Jvm.ClassFile.FieldType)) ∈ lw_all := lw_g (lw_at lw_m6 76 rfl) rfl
theorem q1790 : (Jvm.Cond.instanceMethod ({ cls := "PipelineSimulator$Batch", name := "key", desc := "()I" } : Jvm.MethodName)) ∈ lw_all := lw_g (lw_at lw_m8 13 rfl) rfl
theorem q1791 : (Jvm.Cond.selects "PipelineSimulator$Batch" ({ cls := "PipelineSimulator$Batch", name := "key", desc := "()I" } : Jvm.MethodName) ({ cls := "PipelineSimulator$Batch", name := "key", desc := "()I" } : Jvm.MethodName)) ∈ lw_all := lw_g (lw_at lw_m8 14 rfl) rfl
theorem q1792 : (Jvm.Cond.code ({ cls := "PipelineSimulator$Batch", name := "key", desc := "()I" } : Jvm.MethodName) prog_2_method_6_code (1 : Nat) (Option.some Jvm.ClassFile.FieldType.int)) ∈ lw_all := lw_g (lw_at lw_m8 15 rfl) rfl
theorem q1794 : (Jvm.Cond.instanceMethod ({ cls := "PipelineSimulator$Batch", name := "value", desc := "()I" } : Jvm.MethodName)) ∈ lw_all := lw_g (lw_at lw_m8 17 rfl) rfl
theorem q1795 : (Jvm.Cond.selects "PipelineSimulator$Batch" ({ cls := "PipelineSimulator$Batch", name := "value", desc := "()I" } : Jvm.MethodName) ({ cls := "PipelineSimulator$Batch", name := "value", desc := "()I" } : Jvm.MethodName)) ∈ lw_all := lw_g (lw_at lw_m8 18 rfl) rfl
theorem q1796 : (Jvm.Cond.code ({ cls := "PipelineSimulator$Batch", name := "value", desc := "()I" } : Jvm.MethodName) prog_2_method_7_code (1 : Nat) (Option.some Jvm.ClassFile.FieldType.int)) ∈ lw_all := lw_g (lw_at lw_m8 19 rfl) rfl
theorem q1798 : (Jvm.Cond.instanceMethod ({ cls := "PipelineSimulator$Batch", name := "birth", desc := "()I" } : Jvm.MethodName)) ∈ lw_all := lw_g (lw_at lw_m8 21 rfl) rfl
theorem q1799 : (Jvm.Cond.selects "PipelineSimulator$Batch" ({ cls := "PipelineSimulator$Batch", name := "birth", desc := "()I" } : Jvm.MethodName) ({ cls := "PipelineSimulator$Batch", name := "birth", desc := "()I" } : Jvm.MethodName)) ∈ lw_all := lw_g (lw_at lw_m8 22 rfl) rfl
theorem q1800 : (Jvm.Cond.code ({ cls := "PipelineSimulator$Batch", name := "birth", desc := "()I" } : Jvm.MethodName) prog_2_method_5_code (1 : Nat) (Option.some Jvm.ClassFile.FieldType.int)) ∈ lw_all := lw_g (lw_at lw_m8 23 rfl) rfl
theorem q1807 : (Jvm.Cond.instanceMethod ({ cls := "PipelineSimulator$Batch", name := "take", desc := "()V" } : Jvm.MethodName)) ∈ lw_all := lw_g (lw_at lw_m8 30 rfl) rfl
theorem q1808 : (Jvm.Cond.selects "PipelineSimulator$Batch" ({ cls := "PipelineSimulator$Batch", name := "take", desc := "()V" } : Jvm.MethodName) ({ cls := "PipelineSimulator$Batch", name := "take", desc := "()V" } : Jvm.MethodName)) ∈ lw_all := lw_g (lw_at lw_m8 31 rfl) rfl
theorem q1809 : (Jvm.Cond.code ({ cls := "PipelineSimulator$Batch", name := "take", desc := "()V" } : Jvm.MethodName) prog_2_method_8_code (1 : Nat) (Option.none : Option Jvm.ClassFile.FieldType)) ∈ lw_all := lw_g (lw_at lw_m8 32 rfl) rfl
theorem q1811 : (Jvm.Cond.instanceMethod ({ cls := "PipelineSimulator$Batch", name := "isUsed", desc := "()Z" } : Jvm.MethodName)) ∈ lw_all := lw_g (lw_at lw_m8 34 rfl) rfl
theorem q1812 : (Jvm.Cond.selects "PipelineSimulator$Batch" ({ cls := "PipelineSimulator$Batch", name := "isUsed", desc := "()Z" } : Jvm.MethodName) ({ cls := "PipelineSimulator$Batch", name := "isUsed", desc := "()Z" } : Jvm.MethodName)) ∈ lw_all := lw_g (lw_at lw_m8 35 rfl) rfl
theorem q1813 : (Jvm.Cond.code ({ cls := "PipelineSimulator$Batch", name := "isUsed", desc := "()Z" } : Jvm.MethodName) prog_2_method_9_code (1 : Nat) (Option.some Jvm.ClassFile.FieldType.boolean)) ∈ lw_all := lw_g (lw_at lw_m8 36 rfl) rfl
theorem q2957 : (Jvm.Cond.castable "PipelineSimulator$Batch" "java/lang/Object") ∈ lw_tbl := lw_at lw_m12 220 rfl
theorem in_X11 : ∀ w ∈ wsX110, w ∈ lw_all := lw_in wsX110 [636, 638, 640, 642, 644, 646] (by decide +kernel) (by decide +kernel)
/-! PipelineSimulator$Parser -/
set_option maxRecDepth 100000
def RX13 : String := "PipelineSimulator$Parser"
def TX13 : u_T := fun k => match k with
  | 0 => ("PipelineSimulator$Parser", "parsed", "Ljava/util/ArrayList;", true)
  | 1 => ("PipelineSimulator$Parser", "next", "I", false)
  | _ => ("PipelineSimulator$Parser", "this$0", "LPipelineSimulator;", true)
def tyX13 : Nat → FieldType := fun k => match k with
  | 0 => .object "java/util/ArrayList"
  | 1 => .int
  | _ => .object "PipelineSimulator"
abbrev wsX130 : List Cond := u_ws RX13 TX13 3
theorem nmX13 : ∀ a, a < 3 → ∀ b, b < 3 → a ≠ b → (TX13 a).2.1 ≠ (TX13 b).2.1 := by decide +kernel
theorem tyX13_ok : ∀ k, k < 3 → parseFieldDescriptor (TX13 k).2.2.1 = some (tyX13 k) := by decide +kernel
abbrev cX13_init : ByteArray := prog_17_method_1_code
def yX13_init : MethodName := ⟨RX13, "<init>", "(LPipelineSimulator;)V"⟩
def dkwX13_init_0 : List UInt8 := [42, 43, 181, 0, 3, 42, 183, 0, 9, 42, 187, 0, 15, 89, 183, 0, 17, 181, 0, 18, 177]
abbrev dktX13_init_0 : List UInt8 := dkwX13_init_0 ++ []
theorem dksX13_init_0 : cX13_init.data.toList.drop 0 = dktX13_init_0 := by decide +kernel
theorem dX13_init_0 : decode cX13_init 0 = .ok (.aload_n 0, 1) := dk_42 (dk_at dksX13_init_0 0 rfl rfl)
theorem dX13_init_1 : decode cX13_init 1 = .ok (.aload_n 1, 1) := dk_43 (dk_at dksX13_init_0 1 rfl rfl)
theorem dX13_init_2 : decode cX13_init 2 = .ok (.putfield 3, 3) := dk_181 0 3 (dk_at dksX13_init_0 2 rfl rfl)
theorem dX13_init_5 : decode cX13_init 5 = .ok (.aload_n 0, 1) := dk_42 (dk_at dksX13_init_0 5 rfl rfl)
theorem dX13_init_6 : decode cX13_init 6 = .ok (.invokespecial 9, 3) := dk_183 0 9 (dk_at dksX13_init_0 6 rfl rfl)
theorem dX13_init_9 : decode cX13_init 9 = .ok (.aload_n 0, 1) := dk_42 (dk_at dksX13_init_0 9 rfl rfl)
theorem dX13_init_10 : decode cX13_init 10 = .ok (.new 15, 3) := dk_187 0 15 (dk_at dksX13_init_0 10 rfl rfl)
theorem dX13_init_13 : decode cX13_init 13 = .ok (.dup, 1) := dk_89 (dk_at dksX13_init_0 13 rfl rfl)
theorem dX13_init_14 : decode cX13_init 14 = .ok (.invokespecial 17, 3) := dk_183 0 17 (dk_at dksX13_init_0 14 rfl rfl)
theorem dX13_init_17 : decode cX13_init 17 = .ok (.putfield 18, 3) := dk_181 0 18 (dk_at dksX13_init_0 17 rfl rfl)
theorem dX13_init_20 : decode cX13_init 20 = .ok (.return_, 1) := dk_177 (dk_at dksX13_init_0 20 rfl rfl)
abbrev cX13_parse : ByteArray := prog_17_method_9_code
def yX13_parse : MethodName := ⟨RX13, "parse", "()Ljava/util/ArrayList;"⟩
def dkwX13_parse_6 : List UInt8 := [180, 0, 18, 176]
abbrev dktX13_parse_6 : List UInt8 := dkwX13_parse_6 ++ []
def dkwX13_parse_5 : List UInt8 := [180, 0, 26, 182, 0, 30, 162, 0, 15, 187, 0, 52, 89, 42, 180, 0, 22, 183, 0, 54, 191, 42]
abbrev dktX13_parse_5 : List UInt8 := dkwX13_parse_5 ++ dktX13_parse_6
def dkwX13_parse_4 : List UInt8 := [16, 51, 182, 0, 57, 167, 0, 4, 4, 183, 0, 99, 182, 0, 84, 87, 42, 180, 0, 22, 42, 180, 0, 3]
abbrev dktX13_parse_4 : List UInt8 := dkwX13_parse_4 ++ dktX13_parse_5
def dkwX13_parse_3 : List UInt8 := [167, 255, 232, 42, 180, 0, 18, 187, 0, 97, 89, 42, 16, 36, 182, 0, 48, 153, 0, 14, 42, 16, 49]
abbrev dktX13_parse_3 : List UInt8 := dkwX13_parse_3 ++ dktX13_parse_4
def dkwX13_parse_2 : List UInt8 := [42, 180, 0, 18, 182, 0, 94, 7, 163, 0, 19, 42, 16, 124, 182, 0, 48, 153, 0, 10, 42, 182, 0, 91]
abbrev dktX13_parse_2 : List UInt8 := dkwX13_parse_2 ++ dktX13_parse_3
def dkwX13_parse_1 : List UInt8 := [180, 0, 26, 182, 0, 30, 162, 0, 45, 42, 16, 36, 16, 36, 182, 0, 44, 154, 0, 34, 42, 182, 0, 91]
abbrev dktX13_parse_1 : List UInt8 := dkwX13_parse_1 ++ dktX13_parse_2
def dkwX13_parse_0 : List UInt8 := [42, 180, 0, 18, 187, 0, 88, 89, 183, 0, 90, 182, 0, 84, 87, 42, 180, 0, 22, 42, 180, 0, 3]
abbrev dktX13_parse_0 : List UInt8 := dkwX13_parse_0 ++ dktX13_parse_1
theorem dksX13_parse_0 : cX13_parse.data.toList.drop 0 = dktX13_parse_0 := by decide +kernel
theorem dksX13_parse_1 : cX13_parse.data.toList.drop 23 = dktX13_parse_1 := dk_seg dksX13_parse_0 23 rfl rfl
theorem dksX13_parse_2 : cX13_parse.data.toList.drop 47 = dktX13_parse_2 := dk_seg dksX13_parse_1 24 rfl rfl
theorem dksX13_parse_3 : cX13_parse.data.toList.drop 71 = dktX13_parse_3 := dk_seg dksX13_parse_2 24 rfl rfl
theorem dksX13_parse_4 : cX13_parse.data.toList.drop 94 = dktX13_parse_4 := dk_seg dksX13_parse_3 23 rfl rfl
theorem dksX13_parse_5 : cX13_parse.data.toList.drop 118 = dktX13_parse_5 := dk_seg dksX13_parse_4 24 rfl rfl
theorem dksX13_parse_6 : cX13_parse.data.toList.drop 140 = dktX13_parse_6 := dk_seg dksX13_parse_5 22 rfl rfl
theorem dX13_parse_0 : decode cX13_parse 0 = .ok (.aload_n 0, 1) := dk_42 (dk_at dksX13_parse_0 0 rfl rfl)
theorem dX13_parse_1 : decode cX13_parse 1 = .ok (.getfield 18, 3) := dk_180 0 18 (dk_at dksX13_parse_0 1 rfl rfl)
theorem dX13_parse_4 : decode cX13_parse 4 = .ok (.new 88, 3) := dk_187 0 88 (dk_at dksX13_parse_0 4 rfl rfl)
theorem dX13_parse_7 : decode cX13_parse 7 = .ok (.dup, 1) := dk_89 (dk_at dksX13_parse_0 7 rfl rfl)
theorem dX13_parse_8 : decode cX13_parse 8 = .ok (.invokespecial 90, 3) := dk_183 0 90 (dk_at dksX13_parse_0 8 rfl rfl)
theorem dX13_parse_11 : decode cX13_parse 11 = .ok (.invokevirtual 84, 3) := dk_182 0 84 (dk_at dksX13_parse_0 11 rfl rfl)
theorem dX13_parse_14 : decode cX13_parse 14 = .ok (.pop, 1) := dk_87 (dk_at dksX13_parse_0 14 rfl rfl)
theorem dX13_parse_15 : decode cX13_parse 15 = .ok (.aload_n 0, 1) := dk_42 (dk_at dksX13_parse_0 15 rfl rfl)
theorem dX13_parse_16 : decode cX13_parse 16 = .ok (.getfield 22, 3) := dk_180 0 22 (dk_at dksX13_parse_0 16 rfl rfl)
theorem dX13_parse_19 : decode cX13_parse 19 = .ok (.aload_n 0, 1) := dk_42 (dk_at dksX13_parse_0 19 rfl rfl)
theorem dX13_parse_20 : decode cX13_parse 20 = .ok (.getfield 3, 3) := dk_180 0 3 (dk_at dksX13_parse_0 20 rfl rfl)
theorem dX13_parse_23 : decode cX13_parse 23 = .ok (.getfield 26, 3) := dk_180 0 26 (dk_at dksX13_parse_1 0 rfl rfl)
theorem dX13_parse_26 : decode cX13_parse 26 = .ok (.invokevirtual 30, 3) := dk_182 0 30 (dk_at dksX13_parse_1 3 rfl rfl)
theorem dX13_parse_29 : decode cX13_parse 29 = .ok (.if_icmp .ge 45, 3) := dk_162 0 45 (dk_at dksX13_parse_1 6 rfl rfl)
theorem dX13_parse_32 : decode cX13_parse 32 = .ok (.aload_n 0, 1) := dk_42 (dk_at dksX13_parse_1 9 rfl rfl)
theorem dX13_parse_33 : decode cX13_parse 33 = .ok (.bipush 36, 2) := dk_16 36 (dk_at dksX13_parse_1 10 rfl rfl)
theorem dX13_parse_35 : decode cX13_parse 35 = .ok (.bipush 36, 2) := dk_16 36 (dk_at dksX13_parse_1 12 rfl rfl)
theorem dX13_parse_37 : decode cX13_parse 37 = .ok (.invokevirtual 44, 3) := dk_182 0 44 (dk_at dksX13_parse_1 14 rfl rfl)
theorem dX13_parse_40 : decode cX13_parse 40 = .ok (.ifCond .ne 34, 3) := dk_154 0 34 (dk_at dksX13_parse_1 17 rfl rfl)
theorem dX13_parse_43 : decode cX13_parse 43 = .ok (.aload_n 0, 1) := dk_42 (dk_at dksX13_parse_1 20 rfl rfl)
theorem dX13_parse_44 : decode cX13_parse 44 = .ok (.invokevirtual 91, 3) := dk_182 0 91 (dk_at dksX13_parse_1 21 rfl rfl)
theorem dX13_parse_47 : decode cX13_parse 47 = .ok (.aload_n 0, 1) := dk_42 (dk_at dksX13_parse_2 0 rfl rfl)
theorem dX13_parse_48 : decode cX13_parse 48 = .ok (.getfield 18, 3) := dk_180 0 18 (dk_at dksX13_parse_2 1 rfl rfl)
theorem dX13_parse_51 : decode cX13_parse 51 = .ok (.invokevirtual 94, 3) := dk_182 0 94 (dk_at dksX13_parse_2 4 rfl rfl)
theorem dX13_parse_54 : decode cX13_parse 54 = .ok (.iconst 4, 1) := dk_7 (dk_at dksX13_parse_2 7 rfl rfl)
theorem dX13_parse_55 : decode cX13_parse 55 = .ok (.if_icmp .gt 19, 3) := dk_163 0 19 (dk_at dksX13_parse_2 8 rfl rfl)
theorem dX13_parse_58 : decode cX13_parse 58 = .ok (.aload_n 0, 1) := dk_42 (dk_at dksX13_parse_2 11 rfl rfl)
theorem dX13_parse_59 : decode cX13_parse 59 = .ok (.bipush 124, 2) := dk_16 124 (dk_at dksX13_parse_2 12 rfl rfl)
theorem dX13_parse_61 : decode cX13_parse 61 = .ok (.invokevirtual 48, 3) := dk_182 0 48 (dk_at dksX13_parse_2 14 rfl rfl)
theorem dX13_parse_64 : decode cX13_parse 64 = .ok (.ifCond .eq 10, 3) := dk_153 0 10 (dk_at dksX13_parse_2 17 rfl rfl)
theorem dX13_parse_67 : decode cX13_parse 67 = .ok (.aload_n 0, 1) := dk_42 (dk_at dksX13_parse_2 20 rfl rfl)
theorem dX13_parse_68 : decode cX13_parse 68 = .ok (.invokevirtual 91, 3) := dk_182 0 91 (dk_at dksX13_parse_2 21 rfl rfl)
theorem dX13_parse_71 : decode cX13_parse 71 = .ok (.goto (-24), 3) := dk_167 255 232 (dk_at dksX13_parse_3 0 rfl rfl)
theorem dX13_parse_74 : decode cX13_parse 74 = .ok (.aload_n 0, 1) := dk_42 (dk_at dksX13_parse_3 3 rfl rfl)
theorem dX13_parse_75 : decode cX13_parse 75 = .ok (.getfield 18, 3) := dk_180 0 18 (dk_at dksX13_parse_3 4 rfl rfl)
theorem dX13_parse_78 : decode cX13_parse 78 = .ok (.new 97, 3) := dk_187 0 97 (dk_at dksX13_parse_3 7 rfl rfl)
theorem dX13_parse_81 : decode cX13_parse 81 = .ok (.dup, 1) := dk_89 (dk_at dksX13_parse_3 10 rfl rfl)
theorem dX13_parse_82 : decode cX13_parse 82 = .ok (.aload_n 0, 1) := dk_42 (dk_at dksX13_parse_3 11 rfl rfl)
theorem dX13_parse_83 : decode cX13_parse 83 = .ok (.bipush 36, 2) := dk_16 36 (dk_at dksX13_parse_3 12 rfl rfl)
theorem dX13_parse_85 : decode cX13_parse 85 = .ok (.invokevirtual 48, 3) := dk_182 0 48 (dk_at dksX13_parse_3 14 rfl rfl)
theorem dX13_parse_88 : decode cX13_parse 88 = .ok (.ifCond .eq 14, 3) := dk_153 0 14 (dk_at dksX13_parse_3 17 rfl rfl)
theorem dX13_parse_91 : decode cX13_parse 91 = .ok (.aload_n 0, 1) := dk_42 (dk_at dksX13_parse_3 20 rfl rfl)
theorem dX13_parse_92 : decode cX13_parse 92 = .ok (.bipush 49, 2) := dk_16 49 (dk_at dksX13_parse_3 21 rfl rfl)
theorem dX13_parse_94 : decode cX13_parse 94 = .ok (.bipush 51, 2) := dk_16 51 (dk_at dksX13_parse_4 0 rfl rfl)
theorem dX13_parse_96 : decode cX13_parse 96 = .ok (.invokevirtual 57, 3) := dk_182 0 57 (dk_at dksX13_parse_4 2 rfl rfl)
theorem dX13_parse_99 : decode cX13_parse 99 = .ok (.goto 4, 3) := dk_167 0 4 (dk_at dksX13_parse_4 5 rfl rfl)
theorem dX13_parse_102 : decode cX13_parse 102 = .ok (.iconst 1, 1) := dk_4 (dk_at dksX13_parse_4 8 rfl rfl)
theorem dX13_parse_103 : decode cX13_parse 103 = .ok (.invokespecial 99, 3) := dk_183 0 99 (dk_at dksX13_parse_4 9 rfl rfl)
theorem dX13_parse_106 : decode cX13_parse 106 = .ok (.invokevirtual 84, 3) := dk_182 0 84 (dk_at dksX13_parse_4 12 rfl rfl)
theorem dX13_parse_109 : decode cX13_parse 109 = .ok (.pop, 1) := dk_87 (dk_at dksX13_parse_4 15 rfl rfl)
theorem dX13_parse_110 : decode cX13_parse 110 = .ok (.aload_n 0, 1) := dk_42 (dk_at dksX13_parse_4 16 rfl rfl)
theorem dX13_parse_111 : decode cX13_parse 111 = .ok (.getfield 22, 3) := dk_180 0 22 (dk_at dksX13_parse_4 17 rfl rfl)
theorem dX13_parse_114 : decode cX13_parse 114 = .ok (.aload_n 0, 1) := dk_42 (dk_at dksX13_parse_4 20 rfl rfl)
theorem dX13_parse_115 : decode cX13_parse 115 = .ok (.getfield 3, 3) := dk_180 0 3 (dk_at dksX13_parse_4 21 rfl rfl)
theorem dX13_parse_118 : decode cX13_parse 118 = .ok (.getfield 26, 3) := dk_180 0 26 (dk_at dksX13_parse_5 0 rfl rfl)
theorem dX13_parse_121 : decode cX13_parse 121 = .ok (.invokevirtual 30, 3) := dk_182 0 30 (dk_at dksX13_parse_5 3 rfl rfl)
theorem dX13_parse_124 : decode cX13_parse 124 = .ok (.if_icmp .ge 15, 3) := dk_162 0 15 (dk_at dksX13_parse_5 6 rfl rfl)
theorem dX13_parse_127 : decode cX13_parse 127 = .ok (.new 52, 3) := dk_187 0 52 (dk_at dksX13_parse_5 9 rfl rfl)
theorem dX13_parse_130 : decode cX13_parse 130 = .ok (.dup, 1) := dk_89 (dk_at dksX13_parse_5 12 rfl rfl)
theorem dX13_parse_131 : decode cX13_parse 131 = .ok (.aload_n 0, 1) := dk_42 (dk_at dksX13_parse_5 13 rfl rfl)
theorem dX13_parse_132 : decode cX13_parse 132 = .ok (.getfield 22, 3) := dk_180 0 22 (dk_at dksX13_parse_5 14 rfl rfl)
theorem dX13_parse_135 : decode cX13_parse 135 = .ok (.invokespecial 54, 3) := dk_183 0 54 (dk_at dksX13_parse_5 17 rfl rfl)
theorem dX13_parse_138 : decode cX13_parse 138 = .ok (.athrow, 1) := dk_191 (dk_at dksX13_parse_5 20 rfl rfl)
theorem dX13_parse_139 : decode cX13_parse 139 = .ok (.aload_n 0, 1) := dk_42 (dk_at dksX13_parse_5 21 rfl rfl)
theorem dX13_parse_140 : decode cX13_parse 140 = .ok (.getfield 18, 3) := dk_180 0 18 (dk_at dksX13_parse_6 0 rfl rfl)
theorem dX13_parse_143 : decode cX13_parse 143 = .ok (.areturn, 1) := dk_176 (dk_at dksX13_parse_6 3 rfl rfl)
abbrev cX13_isAt : ByteArray := prog_17_method_2_code
def yX13_isAt : MethodName := ⟨RX13, "isAt", "(CC)Z"⟩
def dkwX13_isAt_1 : List UInt8 := [42, 180, 0, 22, 182, 0, 36, 133, 27, 133, 28, 133, 184, 0, 40, 153, 0, 7, 4, 167, 0, 4, 3, 172]
abbrev dktX13_isAt_1 : List UInt8 := dkwX13_isAt_1 ++ []
def dkwX13_isAt_0 : List UInt8 := [42, 180, 0, 22, 42, 180, 0, 3, 180, 0, 26, 182, 0, 30, 162, 0, 32, 42, 180, 0, 3, 180, 0, 26]
abbrev dktX13_isAt_0 : List UInt8 := dkwX13_isAt_0 ++ dktX13_isAt_1
theorem dksX13_isAt_0 : cX13_isAt.data.toList.drop 0 = dktX13_isAt_0 := by decide +kernel
theorem dksX13_isAt_1 : cX13_isAt.data.toList.drop 24 = dktX13_isAt_1 := dk_seg dksX13_isAt_0 24 rfl rfl
theorem dX13_isAt_0 : decode cX13_isAt 0 = .ok (.aload_n 0, 1) := dk_42 (dk_at dksX13_isAt_0 0 rfl rfl)
theorem dX13_isAt_1 : decode cX13_isAt 1 = .ok (.getfield 22, 3) := dk_180 0 22 (dk_at dksX13_isAt_0 1 rfl rfl)
theorem dX13_isAt_4 : decode cX13_isAt 4 = .ok (.aload_n 0, 1) := dk_42 (dk_at dksX13_isAt_0 4 rfl rfl)
theorem dX13_isAt_5 : decode cX13_isAt 5 = .ok (.getfield 3, 3) := dk_180 0 3 (dk_at dksX13_isAt_0 5 rfl rfl)
theorem dX13_isAt_8 : decode cX13_isAt 8 = .ok (.getfield 26, 3) := dk_180 0 26 (dk_at dksX13_isAt_0 8 rfl rfl)
theorem dX13_isAt_11 : decode cX13_isAt 11 = .ok (.invokevirtual 30, 3) := dk_182 0 30 (dk_at dksX13_isAt_0 11 rfl rfl)
theorem dX13_isAt_14 : decode cX13_isAt 14 = .ok (.if_icmp .ge 32, 3) := dk_162 0 32 (dk_at dksX13_isAt_0 14 rfl rfl)
theorem dX13_isAt_17 : decode cX13_isAt 17 = .ok (.aload_n 0, 1) := dk_42 (dk_at dksX13_isAt_0 17 rfl rfl)
theorem dX13_isAt_18 : decode cX13_isAt 18 = .ok (.getfield 3, 3) := dk_180 0 3 (dk_at dksX13_isAt_0 18 rfl rfl)
theorem dX13_isAt_21 : decode cX13_isAt 21 = .ok (.getfield 26, 3) := dk_180 0 26 (dk_at dksX13_isAt_0 21 rfl rfl)
theorem dX13_isAt_24 : decode cX13_isAt 24 = .ok (.aload_n 0, 1) := dk_42 (dk_at dksX13_isAt_1 0 rfl rfl)
theorem dX13_isAt_25 : decode cX13_isAt 25 = .ok (.getfield 22, 3) := dk_180 0 22 (dk_at dksX13_isAt_1 1 rfl rfl)
theorem dX13_isAt_28 : decode cX13_isAt 28 = .ok (.invokevirtual 36, 3) := dk_182 0 36 (dk_at dksX13_isAt_1 4 rfl rfl)
theorem dX13_isAt_31 : decode cX13_isAt 31 = .ok (.i2l, 1) := dk_133 (dk_at dksX13_isAt_1 7 rfl rfl)
theorem dX13_isAt_32 : decode cX13_isAt 32 = .ok (.iload_n 1, 1) := dk_27 (dk_at dksX13_isAt_1 8 rfl rfl)
theorem dX13_isAt_33 : decode cX13_isAt 33 = .ok (.i2l, 1) := dk_133 (dk_at dksX13_isAt_1 9 rfl rfl)
theorem dX13_isAt_34 : decode cX13_isAt 34 = .ok (.iload_n 2, 1) := dk_28 (dk_at dksX13_isAt_1 10 rfl rfl)
theorem dX13_isAt_35 : decode cX13_isAt 35 = .ok (.i2l, 1) := dk_133 (dk_at dksX13_isAt_1 11 rfl rfl)
theorem dX13_isAt_36 : decode cX13_isAt 36 = .ok (.invokestatic 40, 3) := dk_184 0 40 (dk_at dksX13_isAt_1 12 rfl rfl)
theorem dX13_isAt_39 : decode cX13_isAt 39 = .ok (.ifCond .eq 7, 3) := dk_153 0 7 (dk_at dksX13_isAt_1 15 rfl rfl)
theorem dX13_isAt_42 : decode cX13_isAt 42 = .ok (.iconst 1, 1) := dk_4 (dk_at dksX13_isAt_1 18 rfl rfl)
theorem dX13_isAt_43 : decode cX13_isAt 43 = .ok (.goto 4, 3) := dk_167 0 4 (dk_at dksX13_isAt_1 19 rfl rfl)
theorem dX13_isAt_46 : decode cX13_isAt 46 = .ok (.iconst 0, 1) := dk_3 (dk_at dksX13_isAt_1 22 rfl rfl)
theorem dX13_isAt_47 : decode cX13_isAt 47 = .ok (.ireturn, 1) := dk_172 (dk_at dksX13_isAt_1 23 rfl rfl)
abbrev cX13_stage : ByteArray := prog_17_method_8_code
def yX13_stage : MethodName := ⟨RX13, "stage", "()V"⟩
def dkwX13_stage_5 : List UInt8 := [42, 16, 49, 16, 51, 182, 0, 57, 167, 0, 4, 4, 184, 0, 80, 182, 0, 84, 87, 177]
abbrev dktX13_stage_5 : List UInt8 := dkwX13_stage_5 ++ []
def dkwX13_stage_4 : List UInt8 := [42, 16, 41, 182, 0, 72, 42, 180, 0, 18, 27, 28, 29, 42, 16, 49, 16, 51, 182, 0, 44, 153, 0, 14]
abbrev dktX13_stage_4 : List UInt8 := dkwX13_stage_4 ++ dktX13_stage_5
def dkwX13_stage_3 : List UInt8 := [182, 0, 76, 61, 27, 5, 163, 0, 18, 42, 16, 44, 182, 0, 72, 42, 16, 157, 16, 99, 182, 0, 76, 62]
abbrev dktX13_stage_3 : List UInt8 := dkwX13_stage_3 ++ dktX13_stage_4
def dkwX13_stage_2 : List UInt8 := [167, 0, 25, 27, 7, 160, 0, 12, 42, 4, 8, 182, 0, 76, 167, 0, 11, 42, 16, 157, 16, 99]
abbrev dktX13_stage_2 : List UInt8 := dkwX13_stage_2 ++ dktX13_stage_3
def dkwX13_stage_1 : List UInt8 := [160, 0, 12, 42, 3, 5, 182, 0, 76, 167, 0, 39, 27, 6, 160, 0, 12, 42, 3, 6, 182, 0, 76]
abbrev dktX13_stage_1 : List UInt8 := dkwX13_stage_1 ++ dktX13_stage_2
def dkwX13_stage_0 : List UInt8 := [42, 182, 0, 69, 60, 3, 61, 3, 62, 27, 7, 163, 0, 86, 42, 16, 40, 182, 0, 72, 27, 4]
abbrev dktX13_stage_0 : List UInt8 := dkwX13_stage_0 ++ dktX13_stage_1
theorem dksX13_stage_0 : cX13_stage.data.toList.drop 0 = dktX13_stage_0 := by decide +kernel
theorem dksX13_stage_1 : cX13_stage.data.toList.drop 22 = dktX13_stage_1 := dk_seg dksX13_stage_0 22 rfl rfl
theorem dksX13_stage_2 : cX13_stage.data.toList.drop 45 = dktX13_stage_2 := dk_seg dksX13_stage_1 23 rfl rfl
theorem dksX13_stage_3 : cX13_stage.data.toList.drop 67 = dktX13_stage_3 := dk_seg dksX13_stage_2 22 rfl rfl
theorem dksX13_stage_4 : cX13_stage.data.toList.drop 91 = dktX13_stage_4 := dk_seg dksX13_stage_3 24 rfl rfl
theorem dksX13_stage_5 : cX13_stage.data.toList.drop 115 = dktX13_stage_5 := dk_seg dksX13_stage_4 24 rfl rfl
theorem dX13_stage_0 : decode cX13_stage 0 = .ok (.aload_n 0, 1) := dk_42 (dk_at dksX13_stage_0 0 rfl rfl)
theorem dX13_stage_1 : decode cX13_stage 1 = .ok (.invokevirtual 69, 3) := dk_182 0 69 (dk_at dksX13_stage_0 1 rfl rfl)
theorem dX13_stage_4 : decode cX13_stage 4 = .ok (.istore_n 1, 1) := dk_60 (dk_at dksX13_stage_0 4 rfl rfl)
theorem dX13_stage_5 : decode cX13_stage 5 = .ok (.iconst 0, 1) := dk_3 (dk_at dksX13_stage_0 5 rfl rfl)
theorem dX13_stage_6 : decode cX13_stage 6 = .ok (.istore_n 2, 1) := dk_61 (dk_at dksX13_stage_0 6 rfl rfl)
theorem dX13_stage_7 : decode cX13_stage 7 = .ok (.iconst 0, 1) := dk_3 (dk_at dksX13_stage_0 7 rfl rfl)
theorem dX13_stage_8 : decode cX13_stage 8 = .ok (.istore_n 3, 1) := dk_62 (dk_at dksX13_stage_0 8 rfl rfl)
theorem dX13_stage_9 : decode cX13_stage 9 = .ok (.iload_n 1, 1) := dk_27 (dk_at dksX13_stage_0 9 rfl rfl)
theorem dX13_stage_10 : decode cX13_stage 10 = .ok (.iconst 4, 1) := dk_7 (dk_at dksX13_stage_0 10 rfl rfl)
theorem dX13_stage_11 : decode cX13_stage 11 = .ok (.if_icmp .gt 86, 3) := dk_163 0 86 (dk_at dksX13_stage_0 11 rfl rfl)
theorem dX13_stage_14 : decode cX13_stage 14 = .ok (.aload_n 0, 1) := dk_42 (dk_at dksX13_stage_0 14 rfl rfl)
theorem dX13_stage_15 : decode cX13_stage 15 = .ok (.bipush 40, 2) := dk_16 40 (dk_at dksX13_stage_0 15 rfl rfl)
theorem dX13_stage_17 : decode cX13_stage 17 = .ok (.invokevirtual 72, 3) := dk_182 0 72 (dk_at dksX13_stage_0 17 rfl rfl)
theorem dX13_stage_20 : decode cX13_stage 20 = .ok (.iload_n 1, 1) := dk_27 (dk_at dksX13_stage_0 20 rfl rfl)
theorem dX13_stage_21 : decode cX13_stage 21 = .ok (.iconst 1, 1) := dk_4 (dk_at dksX13_stage_0 21 rfl rfl)
theorem dX13_stage_22 : decode cX13_stage 22 = .ok (.if_icmp .ne 12, 3) := dk_160 0 12 (dk_at dksX13_stage_1 0 rfl rfl)
theorem dX13_stage_25 : decode cX13_stage 25 = .ok (.aload_n 0, 1) := dk_42 (dk_at dksX13_stage_1 3 rfl rfl)
theorem dX13_stage_26 : decode cX13_stage 26 = .ok (.iconst 0, 1) := dk_3 (dk_at dksX13_stage_1 4 rfl rfl)
theorem dX13_stage_27 : decode cX13_stage 27 = .ok (.iconst 2, 1) := dk_5 (dk_at dksX13_stage_1 5 rfl rfl)
theorem dX13_stage_28 : decode cX13_stage 28 = .ok (.invokevirtual 76, 3) := dk_182 0 76 (dk_at dksX13_stage_1 6 rfl rfl)
theorem dX13_stage_31 : decode cX13_stage 31 = .ok (.goto 39, 3) := dk_167 0 39 (dk_at dksX13_stage_1 9 rfl rfl)
theorem dX13_stage_34 : decode cX13_stage 34 = .ok (.iload_n 1, 1) := dk_27 (dk_at dksX13_stage_1 12 rfl rfl)
theorem dX13_stage_35 : decode cX13_stage 35 = .ok (.iconst 3, 1) := dk_6 (dk_at dksX13_stage_1 13 rfl rfl)
theorem dX13_stage_36 : decode cX13_stage 36 = .ok (.if_icmp .ne 12, 3) := dk_160 0 12 (dk_at dksX13_stage_1 14 rfl rfl)
theorem dX13_stage_39 : decode cX13_stage 39 = .ok (.aload_n 0, 1) := dk_42 (dk_at dksX13_stage_1 17 rfl rfl)
theorem dX13_stage_40 : decode cX13_stage 40 = .ok (.iconst 0, 1) := dk_3 (dk_at dksX13_stage_1 18 rfl rfl)
theorem dX13_stage_41 : decode cX13_stage 41 = .ok (.iconst 3, 1) := dk_6 (dk_at dksX13_stage_1 19 rfl rfl)
theorem dX13_stage_42 : decode cX13_stage 42 = .ok (.invokevirtual 76, 3) := dk_182 0 76 (dk_at dksX13_stage_1 20 rfl rfl)
theorem dX13_stage_45 : decode cX13_stage 45 = .ok (.goto 25, 3) := dk_167 0 25 (dk_at dksX13_stage_2 0 rfl rfl)
theorem dX13_stage_48 : decode cX13_stage 48 = .ok (.iload_n 1, 1) := dk_27 (dk_at dksX13_stage_2 3 rfl rfl)
theorem dX13_stage_49 : decode cX13_stage 49 = .ok (.iconst 4, 1) := dk_7 (dk_at dksX13_stage_2 4 rfl rfl)
theorem dX13_stage_50 : decode cX13_stage 50 = .ok (.if_icmp .ne 12, 3) := dk_160 0 12 (dk_at dksX13_stage_2 5 rfl rfl)
theorem dX13_stage_53 : decode cX13_stage 53 = .ok (.aload_n 0, 1) := dk_42 (dk_at dksX13_stage_2 8 rfl rfl)
theorem dX13_stage_54 : decode cX13_stage 54 = .ok (.iconst 1, 1) := dk_4 (dk_at dksX13_stage_2 9 rfl rfl)
theorem dX13_stage_55 : decode cX13_stage 55 = .ok (.iconst 5, 1) := dk_8 (dk_at dksX13_stage_2 10 rfl rfl)
theorem dX13_stage_56 : decode cX13_stage 56 = .ok (.invokevirtual 76, 3) := dk_182 0 76 (dk_at dksX13_stage_2 11 rfl rfl)
theorem dX13_stage_59 : decode cX13_stage 59 = .ok (.goto 11, 3) := dk_167 0 11 (dk_at dksX13_stage_2 14 rfl rfl)
theorem dX13_stage_62 : decode cX13_stage 62 = .ok (.aload_n 0, 1) := dk_42 (dk_at dksX13_stage_2 17 rfl rfl)
theorem dX13_stage_63 : decode cX13_stage 63 = .ok (.bipush (-99), 2) := dk_16 157 (dk_at dksX13_stage_2 18 rfl rfl)
theorem dX13_stage_65 : decode cX13_stage 65 = .ok (.bipush 99, 2) := dk_16 99 (dk_at dksX13_stage_2 20 rfl rfl)
theorem dX13_stage_67 : decode cX13_stage 67 = .ok (.invokevirtual 76, 3) := dk_182 0 76 (dk_at dksX13_stage_3 0 rfl rfl)
theorem dX13_stage_70 : decode cX13_stage 70 = .ok (.istore_n 2, 1) := dk_61 (dk_at dksX13_stage_3 3 rfl rfl)
theorem dX13_stage_71 : decode cX13_stage 71 = .ok (.iload_n 1, 1) := dk_27 (dk_at dksX13_stage_3 4 rfl rfl)
theorem dX13_stage_72 : decode cX13_stage 72 = .ok (.iconst 2, 1) := dk_5 (dk_at dksX13_stage_3 5 rfl rfl)
theorem dX13_stage_73 : decode cX13_stage 73 = .ok (.if_icmp .gt 18, 3) := dk_163 0 18 (dk_at dksX13_stage_3 6 rfl rfl)
theorem dX13_stage_76 : decode cX13_stage 76 = .ok (.aload_n 0, 1) := dk_42 (dk_at dksX13_stage_3 9 rfl rfl)
theorem dX13_stage_77 : decode cX13_stage 77 = .ok (.bipush 44, 2) := dk_16 44 (dk_at dksX13_stage_3 10 rfl rfl)
theorem dX13_stage_79 : decode cX13_stage 79 = .ok (.invokevirtual 72, 3) := dk_182 0 72 (dk_at dksX13_stage_3 12 rfl rfl)
theorem dX13_stage_82 : decode cX13_stage 82 = .ok (.aload_n 0, 1) := dk_42 (dk_at dksX13_stage_3 15 rfl rfl)
theorem dX13_stage_83 : decode cX13_stage 83 = .ok (.bipush (-99), 2) := dk_16 157 (dk_at dksX13_stage_3 16 rfl rfl)
theorem dX13_stage_85 : decode cX13_stage 85 = .ok (.bipush 99, 2) := dk_16 99 (dk_at dksX13_stage_3 18 rfl rfl)
theorem dX13_stage_87 : decode cX13_stage 87 = .ok (.invokevirtual 76, 3) := dk_182 0 76 (dk_at dksX13_stage_3 20 rfl rfl)
theorem dX13_stage_90 : decode cX13_stage 90 = .ok (.istore_n 3, 1) := dk_62 (dk_at dksX13_stage_3 23 rfl rfl)
theorem dX13_stage_91 : decode cX13_stage 91 = .ok (.aload_n 0, 1) := dk_42 (dk_at dksX13_stage_4 0 rfl rfl)
theorem dX13_stage_92 : decode cX13_stage 92 = .ok (.bipush 41, 2) := dk_16 41 (dk_at dksX13_stage_4 1 rfl rfl)
theorem dX13_stage_94 : decode cX13_stage 94 = .ok (.invokevirtual 72, 3) := dk_182 0 72 (dk_at dksX13_stage_4 3 rfl rfl)
theorem dX13_stage_97 : decode cX13_stage 97 = .ok (.aload_n 0, 1) := dk_42 (dk_at dksX13_stage_4 6 rfl rfl)
theorem dX13_stage_98 : decode cX13_stage 98 = .ok (.getfield 18, 3) := dk_180 0 18 (dk_at dksX13_stage_4 7 rfl rfl)
theorem dX13_stage_101 : decode cX13_stage 101 = .ok (.iload_n 1, 1) := dk_27 (dk_at dksX13_stage_4 10 rfl rfl)
theorem dX13_stage_102 : decode cX13_stage 102 = .ok (.iload_n 2, 1) := dk_28 (dk_at dksX13_stage_4 11 rfl rfl)
theorem dX13_stage_103 : decode cX13_stage 103 = .ok (.iload_n 3, 1) := dk_29 (dk_at dksX13_stage_4 12 rfl rfl)
theorem dX13_stage_104 : decode cX13_stage 104 = .ok (.aload_n 0, 1) := dk_42 (dk_at dksX13_stage_4 13 rfl rfl)
theorem dX13_stage_105 : decode cX13_stage 105 = .ok (.bipush 49, 2) := dk_16 49 (dk_at dksX13_stage_4 14 rfl rfl)
theorem dX13_stage_107 : decode cX13_stage 107 = .ok (.bipush 51, 2) := dk_16 51 (dk_at dksX13_stage_4 16 rfl rfl)
theorem dX13_stage_109 : decode cX13_stage 109 = .ok (.invokevirtual 44, 3) := dk_182 0 44 (dk_at dksX13_stage_4 18 rfl rfl)
theorem dX13_stage_112 : decode cX13_stage 112 = .ok (.ifCond .eq 14, 3) := dk_153 0 14 (dk_at dksX13_stage_4 21 rfl rfl)
theorem dX13_stage_115 : decode cX13_stage 115 = .ok (.aload_n 0, 1) := dk_42 (dk_at dksX13_stage_5 0 rfl rfl)
theorem dX13_stage_116 : decode cX13_stage 116 = .ok (.bipush 49, 2) := dk_16 49 (dk_at dksX13_stage_5 1 rfl rfl)
theorem dX13_stage_118 : decode cX13_stage 118 = .ok (.bipush 51, 2) := dk_16 51 (dk_at dksX13_stage_5 3 rfl rfl)
theorem dX13_stage_120 : decode cX13_stage 120 = .ok (.invokevirtual 57, 3) := dk_182 0 57 (dk_at dksX13_stage_5 5 rfl rfl)
theorem dX13_stage_123 : decode cX13_stage 123 = .ok (.goto 4, 3) := dk_167 0 4 (dk_at dksX13_stage_5 8 rfl rfl)
theorem dX13_stage_126 : decode cX13_stage 126 = .ok (.iconst 1, 1) := dk_4 (dk_at dksX13_stage_5 11 rfl rfl)
theorem dX13_stage_127 : decode cX13_stage 127 = .ok (.invokestatic 80, 3) := dk_184 0 80 (dk_at dksX13_stage_5 12 rfl rfl)
theorem dX13_stage_130 : decode cX13_stage 130 = .ok (.invokevirtual 84, 3) := dk_182 0 84 (dk_at dksX13_stage_5 15 rfl rfl)
theorem dX13_stage_133 : decode cX13_stage 133 = .ok (.pop, 1) := dk_87 (dk_at dksX13_stage_5 18 rfl rfl)
theorem dX13_stage_134 : decode cX13_stage 134 = .ok (.return_, 1) := dk_177 (dk_at dksX13_stage_5 19 rfl rfl)
abbrev cX13_kind : ByteArray := prog_17_method_7_code
def yX13_kind : MethodName := ⟨RX13, "kind", "()I"⟩
def dkwX13_kind_2 : List UInt8 := [187, 0, 52, 89, 42, 180, 0, 22, 183, 0, 54, 191, 42, 89, 180, 0, 22, 4, 96, 181, 0, 22, 27, 172]
abbrev dktX13_kind_2 : List UInt8 := dkwX13_kind_2 ++ []
def dkwX13_kind_1 : List UInt8 := [180, 0, 26, 42, 180, 0, 22, 182, 0, 36, 182, 0, 63, 167, 0, 4, 2, 60, 27, 156, 0, 15]
abbrev dktX13_kind_1 : List UInt8 := dkwX13_kind_1 ++ dktX13_kind_2
def dkwX13_kind_0 : List UInt8 := [42, 180, 0, 22, 42, 180, 0, 3, 180, 0, 26, 182, 0, 30, 162, 0, 25, 18, 61, 42, 180, 0, 3]
abbrev dktX13_kind_0 : List UInt8 := dkwX13_kind_0 ++ dktX13_kind_1
theorem dksX13_kind_0 : cX13_kind.data.toList.drop 0 = dktX13_kind_0 := by decide +kernel
theorem dksX13_kind_1 : cX13_kind.data.toList.drop 23 = dktX13_kind_1 := dk_seg dksX13_kind_0 23 rfl rfl
theorem dksX13_kind_2 : cX13_kind.data.toList.drop 45 = dktX13_kind_2 := dk_seg dksX13_kind_1 22 rfl rfl
theorem dX13_kind_0 : decode cX13_kind 0 = .ok (.aload_n 0, 1) := dk_42 (dk_at dksX13_kind_0 0 rfl rfl)
theorem dX13_kind_1 : decode cX13_kind 1 = .ok (.getfield 22, 3) := dk_180 0 22 (dk_at dksX13_kind_0 1 rfl rfl)
theorem dX13_kind_4 : decode cX13_kind 4 = .ok (.aload_n 0, 1) := dk_42 (dk_at dksX13_kind_0 4 rfl rfl)
theorem dX13_kind_5 : decode cX13_kind 5 = .ok (.getfield 3, 3) := dk_180 0 3 (dk_at dksX13_kind_0 5 rfl rfl)
theorem dX13_kind_8 : decode cX13_kind 8 = .ok (.getfield 26, 3) := dk_180 0 26 (dk_at dksX13_kind_0 8 rfl rfl)
theorem dX13_kind_11 : decode cX13_kind 11 = .ok (.invokevirtual 30, 3) := dk_182 0 30 (dk_at dksX13_kind_0 11 rfl rfl)
theorem dX13_kind_14 : decode cX13_kind 14 = .ok (.if_icmp .ge 25, 3) := dk_162 0 25 (dk_at dksX13_kind_0 14 rfl rfl)
theorem dX13_kind_17 : decode cX13_kind 17 = .ok (.ldc 61, 2) := dk_18 61 (dk_at dksX13_kind_0 17 rfl rfl)
theorem dX13_kind_19 : decode cX13_kind 19 = .ok (.aload_n 0, 1) := dk_42 (dk_at dksX13_kind_0 19 rfl rfl)
theorem dX13_kind_20 : decode cX13_kind 20 = .ok (.getfield 3, 3) := dk_180 0 3 (dk_at dksX13_kind_0 20 rfl rfl)
theorem dX13_kind_23 : decode cX13_kind 23 = .ok (.getfield 26, 3) := dk_180 0 26 (dk_at dksX13_kind_1 0 rfl rfl)
theorem dX13_kind_26 : decode cX13_kind 26 = .ok (.aload_n 0, 1) := dk_42 (dk_at dksX13_kind_1 3 rfl rfl)
theorem dX13_kind_27 : decode cX13_kind 27 = .ok (.getfield 22, 3) := dk_180 0 22 (dk_at dksX13_kind_1 4 rfl rfl)
theorem dX13_kind_30 : decode cX13_kind 30 = .ok (.invokevirtual 36, 3) := dk_182 0 36 (dk_at dksX13_kind_1 7 rfl rfl)
theorem dX13_kind_33 : decode cX13_kind 33 = .ok (.invokevirtual 63, 3) := dk_182 0 63 (dk_at dksX13_kind_1 10 rfl rfl)
theorem dX13_kind_36 : decode cX13_kind 36 = .ok (.goto 4, 3) := dk_167 0 4 (dk_at dksX13_kind_1 13 rfl rfl)
theorem dX13_kind_39 : decode cX13_kind 39 = .ok (.iconst (-1), 1) := dk_2 (dk_at dksX13_kind_1 16 rfl rfl)
theorem dX13_kind_40 : decode cX13_kind 40 = .ok (.istore_n 1, 1) := dk_60 (dk_at dksX13_kind_1 17 rfl rfl)
theorem dX13_kind_41 : decode cX13_kind 41 = .ok (.iload_n 1, 1) := dk_27 (dk_at dksX13_kind_1 18 rfl rfl)
theorem dX13_kind_42 : decode cX13_kind 42 = .ok (.ifCond .ge 15, 3) := dk_156 0 15 (dk_at dksX13_kind_1 19 rfl rfl)
theorem dX13_kind_45 : decode cX13_kind 45 = .ok (.new 52, 3) := dk_187 0 52 (dk_at dksX13_kind_2 0 rfl rfl)
theorem dX13_kind_48 : decode cX13_kind 48 = .ok (.dup, 1) := dk_89 (dk_at dksX13_kind_2 3 rfl rfl)
theorem dX13_kind_49 : decode cX13_kind 49 = .ok (.aload_n 0, 1) := dk_42 (dk_at dksX13_kind_2 4 rfl rfl)
theorem dX13_kind_50 : decode cX13_kind 50 = .ok (.getfield 22, 3) := dk_180 0 22 (dk_at dksX13_kind_2 5 rfl rfl)
theorem dX13_kind_53 : decode cX13_kind 53 = .ok (.invokespecial 54, 3) := dk_183 0 54 (dk_at dksX13_kind_2 8 rfl rfl)
theorem dX13_kind_56 : decode cX13_kind 56 = .ok (.athrow, 1) := dk_191 (dk_at dksX13_kind_2 11 rfl rfl)
theorem dX13_kind_57 : decode cX13_kind 57 = .ok (.aload_n 0, 1) := dk_42 (dk_at dksX13_kind_2 12 rfl rfl)
theorem dX13_kind_58 : decode cX13_kind 58 = .ok (.dup, 1) := dk_89 (dk_at dksX13_kind_2 13 rfl rfl)
theorem dX13_kind_59 : decode cX13_kind 59 = .ok (.getfield 22, 3) := dk_180 0 22 (dk_at dksX13_kind_2 14 rfl rfl)
theorem dX13_kind_62 : decode cX13_kind 62 = .ok (.iconst 1, 1) := dk_4 (dk_at dksX13_kind_2 17 rfl rfl)
theorem dX13_kind_63 : decode cX13_kind 63 = .ok (.iadd, 1) := dk_96 (dk_at dksX13_kind_2 18 rfl rfl)
theorem dX13_kind_64 : decode cX13_kind 64 = .ok (.putfield 22, 3) := dk_181 0 22 (dk_at dksX13_kind_2 19 rfl rfl)
theorem dX13_kind_67 : decode cX13_kind 67 = .ok (.iload_n 1, 1) := dk_27 (dk_at dksX13_kind_2 22 rfl rfl)
theorem dX13_kind_68 : decode cX13_kind 68 = .ok (.ireturn, 1) := dk_172 (dk_at dksX13_kind_2 23 rfl rfl)
abbrev cX13_expect : ByteArray := prog_17_method_4_code
def yX13_expect : MethodName := ⟨RX13, "expect", "(C)V"⟩
def dkwX13_expect_0 : List UInt8 := [42, 27, 182, 0, 48, 154, 0, 15, 187, 0, 52, 89, 42, 180, 0, 22, 183, 0, 54, 191, 177]
abbrev dktX13_expect_0 : List UInt8 := dkwX13_expect_0 ++ []
theorem dksX13_expect_0 : cX13_expect.data.toList.drop 0 = dktX13_expect_0 := by decide +kernel
theorem dX13_expect_0 : decode cX13_expect 0 = .ok (.aload_n 0, 1) := dk_42 (dk_at dksX13_expect_0 0 rfl rfl)
theorem dX13_expect_1 : decode cX13_expect 1 = .ok (.iload_n 1, 1) := dk_27 (dk_at dksX13_expect_0 1 rfl rfl)
theorem dX13_expect_2 : decode cX13_expect 2 = .ok (.invokevirtual 48, 3) := dk_182 0 48 (dk_at dksX13_expect_0 2 rfl rfl)
theorem dX13_expect_5 : decode cX13_expect 5 = .ok (.ifCond .ne 15, 3) := dk_154 0 15 (dk_at dksX13_expect_0 5 rfl rfl)
theorem dX13_expect_8 : decode cX13_expect 8 = .ok (.new 52, 3) := dk_187 0 52 (dk_at dksX13_expect_0 8 rfl rfl)
theorem dX13_expect_11 : decode cX13_expect 11 = .ok (.dup, 1) := dk_89 (dk_at dksX13_expect_0 11 rfl rfl)
theorem dX13_expect_12 : decode cX13_expect 12 = .ok (.aload_n 0, 1) := dk_42 (dk_at dksX13_expect_0 12 rfl rfl)
theorem dX13_expect_13 : decode cX13_expect 13 = .ok (.getfield 22, 3) := dk_180 0 22 (dk_at dksX13_expect_0 13 rfl rfl)
theorem dX13_expect_16 : decode cX13_expect 16 = .ok (.invokespecial 54, 3) := dk_183 0 54 (dk_at dksX13_expect_0 16 rfl rfl)
theorem dX13_expect_19 : decode cX13_expect 19 = .ok (.athrow, 1) := dk_191 (dk_at dksX13_expect_0 19 rfl rfl)
theorem dX13_expect_20 : decode cX13_expect 20 = .ok (.return_, 1) := dk_177 (dk_at dksX13_expect_0 20 rfl rfl)
abbrev cX13_isNext : ByteArray := prog_17_method_3_code
def yX13_isNext : MethodName := ⟨RX13, "isNext", "(C)Z"⟩
def dkwX13_isNext_0 : List UInt8 := [42, 27, 27, 182, 0, 44, 154, 0, 5, 3, 172, 42, 89, 180, 0, 22, 4, 96, 181, 0, 22, 4, 172]
abbrev dktX13_isNext_0 : List UInt8 := dkwX13_isNext_0 ++ []
theorem dksX13_isNext_0 : cX13_isNext.data.toList.drop 0 = dktX13_isNext_0 := by decide +kernel
theorem dX13_isNext_0 : decode cX13_isNext 0 = .ok (.aload_n 0, 1) := dk_42 (dk_at dksX13_isNext_0 0 rfl rfl)
theorem dX13_isNext_1 : decode cX13_isNext 1 = .ok (.iload_n 1, 1) := dk_27 (dk_at dksX13_isNext_0 1 rfl rfl)
theorem dX13_isNext_2 : decode cX13_isNext 2 = .ok (.iload_n 1, 1) := dk_27 (dk_at dksX13_isNext_0 2 rfl rfl)
theorem dX13_isNext_3 : decode cX13_isNext 3 = .ok (.invokevirtual 44, 3) := dk_182 0 44 (dk_at dksX13_isNext_0 3 rfl rfl)
theorem dX13_isNext_6 : decode cX13_isNext 6 = .ok (.ifCond .ne 5, 3) := dk_154 0 5 (dk_at dksX13_isNext_0 6 rfl rfl)
theorem dX13_isNext_9 : decode cX13_isNext 9 = .ok (.iconst 0, 1) := dk_3 (dk_at dksX13_isNext_0 9 rfl rfl)
theorem dX13_isNext_10 : decode cX13_isNext 10 = .ok (.ireturn, 1) := dk_172 (dk_at dksX13_isNext_0 10 rfl rfl)
theorem dX13_isNext_11 : decode cX13_isNext 11 = .ok (.aload_n 0, 1) := dk_42 (dk_at dksX13_isNext_0 11 rfl rfl)
theorem dX13_isNext_12 : decode cX13_isNext 12 = .ok (.dup, 1) := dk_89 (dk_at dksX13_isNext_0 12 rfl rfl)
theorem dX13_isNext_13 : decode cX13_isNext 13 = .ok (.getfield 22, 3) := dk_180 0 22 (dk_at dksX13_isNext_0 13 rfl rfl)
theorem dX13_isNext_16 : decode cX13_isNext 16 = .ok (.iconst 1, 1) := dk_4 (dk_at dksX13_isNext_0 16 rfl rfl)
theorem dX13_isNext_17 : decode cX13_isNext 17 = .ok (.iadd, 1) := dk_96 (dk_at dksX13_isNext_0 17 rfl rfl)
theorem dX13_isNext_18 : decode cX13_isNext 18 = .ok (.putfield 22, 3) := dk_181 0 22 (dk_at dksX13_isNext_0 18 rfl rfl)
theorem dX13_isNext_21 : decode cX13_isNext 21 = .ok (.iconst 1, 1) := dk_4 (dk_at dksX13_isNext_0 21 rfl rfl)
theorem dX13_isNext_22 : decode cX13_isNext 22 = .ok (.ireturn, 1) := dk_172 (dk_at dksX13_isNext_0 22 rfl rfl)
abbrev cX13_number : ByteArray := prog_17_method_6_code
def yX13_number : MethodName := ⟨RX13, "number", "(II)I"⟩
def dkwX13_number_3 : List UInt8 := [89, 42, 180, 0, 22, 183, 0, 54, 191, 21, 4, 172]
abbrev dktX13_number_3 : List UInt8 := dkwX13_number_3 ++ []
def dkwX13_number_2 : List UInt8 := [153, 0, 8, 21, 4, 116, 54, 4, 21, 4, 133, 27, 133, 28, 133, 184, 0, 40, 154, 0, 15, 187, 0, 52]
abbrev dktX13_number_2 : List UInt8 := dkwX13_number_2 ++ dktX13_number_3
def dkwX13_number_1 : List UInt8 := [182, 0, 44, 153, 0, 19, 16, 10, 21, 4, 104, 42, 16, 48, 16, 57, 182, 0, 57, 96, 54, 4, 29]
abbrev dktX13_number_1 : List UInt8 := dkwX13_number_1 ++ dktX13_number_2
def dkwX13_number_0 : List UInt8 := [42, 16, 45, 182, 0, 48, 62, 42, 16, 48, 16, 57, 182, 0, 57, 54, 4, 42, 16, 48, 16, 57]
abbrev dktX13_number_0 : List UInt8 := dkwX13_number_0 ++ dktX13_number_1
theorem dksX13_number_0 : cX13_number.data.toList.drop 0 = dktX13_number_0 := by decide +kernel
theorem dksX13_number_1 : cX13_number.data.toList.drop 22 = dktX13_number_1 := dk_seg dksX13_number_0 22 rfl rfl
theorem dksX13_number_2 : cX13_number.data.toList.drop 45 = dktX13_number_2 := dk_seg dksX13_number_1 23 rfl rfl
theorem dksX13_number_3 : cX13_number.data.toList.drop 69 = dktX13_number_3 := dk_seg dksX13_number_2 24 rfl rfl
theorem dX13_number_0 : decode cX13_number 0 = .ok (.aload_n 0, 1) := dk_42 (dk_at dksX13_number_0 0 rfl rfl)
theorem dX13_number_1 : decode cX13_number 1 = .ok (.bipush 45, 2) := dk_16 45 (dk_at dksX13_number_0 1 rfl rfl)
theorem dX13_number_3 : decode cX13_number 3 = .ok (.invokevirtual 48, 3) := dk_182 0 48 (dk_at dksX13_number_0 3 rfl rfl)
theorem dX13_number_6 : decode cX13_number 6 = .ok (.istore_n 3, 1) := dk_62 (dk_at dksX13_number_0 6 rfl rfl)
theorem dX13_number_7 : decode cX13_number 7 = .ok (.aload_n 0, 1) := dk_42 (dk_at dksX13_number_0 7 rfl rfl)
theorem dX13_number_8 : decode cX13_number 8 = .ok (.bipush 48, 2) := dk_16 48 (dk_at dksX13_number_0 8 rfl rfl)
theorem dX13_number_10 : decode cX13_number 10 = .ok (.bipush 57, 2) := dk_16 57 (dk_at dksX13_number_0 10 rfl rfl)
theorem dX13_number_12 : decode cX13_number 12 = .ok (.invokevirtual 57, 3) := dk_182 0 57 (dk_at dksX13_number_0 12 rfl rfl)
theorem dX13_number_15 : decode cX13_number 15 = .ok (.istore 4, 2) := dk_54 4 (dk_at dksX13_number_0 15 rfl rfl)
theorem dX13_number_17 : decode cX13_number 17 = .ok (.aload_n 0, 1) := dk_42 (dk_at dksX13_number_0 17 rfl rfl)
theorem dX13_number_18 : decode cX13_number 18 = .ok (.bipush 48, 2) := dk_16 48 (dk_at dksX13_number_0 18 rfl rfl)
theorem dX13_number_20 : decode cX13_number 20 = .ok (.bipush 57, 2) := dk_16 57 (dk_at dksX13_number_0 20 rfl rfl)
theorem dX13_number_22 : decode cX13_number 22 = .ok (.invokevirtual 44, 3) := dk_182 0 44 (dk_at dksX13_number_1 0 rfl rfl)
theorem dX13_number_25 : decode cX13_number 25 = .ok (.ifCond .eq 19, 3) := dk_153 0 19 (dk_at dksX13_number_1 3 rfl rfl)
theorem dX13_number_28 : decode cX13_number 28 = .ok (.bipush 10, 2) := dk_16 10 (dk_at dksX13_number_1 6 rfl rfl)
theorem dX13_number_30 : decode cX13_number 30 = .ok (.iload 4, 2) := dk_21 4 (dk_at dksX13_number_1 8 rfl rfl)
theorem dX13_number_32 : decode cX13_number 32 = .ok (.imul, 1) := dk_104 (dk_at dksX13_number_1 10 rfl rfl)
theorem dX13_number_33 : decode cX13_number 33 = .ok (.aload_n 0, 1) := dk_42 (dk_at dksX13_number_1 11 rfl rfl)
theorem dX13_number_34 : decode cX13_number 34 = .ok (.bipush 48, 2) := dk_16 48 (dk_at dksX13_number_1 12 rfl rfl)
theorem dX13_number_36 : decode cX13_number 36 = .ok (.bipush 57, 2) := dk_16 57 (dk_at dksX13_number_1 14 rfl rfl)
theorem dX13_number_38 : decode cX13_number 38 = .ok (.invokevirtual 57, 3) := dk_182 0 57 (dk_at dksX13_number_1 16 rfl rfl)
theorem dX13_number_41 : decode cX13_number 41 = .ok (.iadd, 1) := dk_96 (dk_at dksX13_number_1 19 rfl rfl)
theorem dX13_number_42 : decode cX13_number 42 = .ok (.istore 4, 2) := dk_54 4 (dk_at dksX13_number_1 20 rfl rfl)
theorem dX13_number_44 : decode cX13_number 44 = .ok (.iload_n 3, 1) := dk_29 (dk_at dksX13_number_1 22 rfl rfl)
theorem dX13_number_45 : decode cX13_number 45 = .ok (.ifCond .eq 8, 3) := dk_153 0 8 (dk_at dksX13_number_2 0 rfl rfl)
theorem dX13_number_48 : decode cX13_number 48 = .ok (.iload 4, 2) := dk_21 4 (dk_at dksX13_number_2 3 rfl rfl)
theorem dX13_number_50 : decode cX13_number 50 = .ok (.ineg, 1) := dk_116 (dk_at dksX13_number_2 5 rfl rfl)
theorem dX13_number_51 : decode cX13_number 51 = .ok (.istore 4, 2) := dk_54 4 (dk_at dksX13_number_2 6 rfl rfl)
theorem dX13_number_53 : decode cX13_number 53 = .ok (.iload 4, 2) := dk_21 4 (dk_at dksX13_number_2 8 rfl rfl)
theorem dX13_number_55 : decode cX13_number 55 = .ok (.i2l, 1) := dk_133 (dk_at dksX13_number_2 10 rfl rfl)
theorem dX13_number_56 : decode cX13_number 56 = .ok (.iload_n 1, 1) := dk_27 (dk_at dksX13_number_2 11 rfl rfl)
theorem dX13_number_57 : decode cX13_number 57 = .ok (.i2l, 1) := dk_133 (dk_at dksX13_number_2 12 rfl rfl)
theorem dX13_number_58 : decode cX13_number 58 = .ok (.iload_n 2, 1) := dk_28 (dk_at dksX13_number_2 13 rfl rfl)
theorem dX13_number_59 : decode cX13_number 59 = .ok (.i2l, 1) := dk_133 (dk_at dksX13_number_2 14 rfl rfl)
theorem dX13_number_60 : decode cX13_number 60 = .ok (.invokestatic 40, 3) := dk_184 0 40 (dk_at dksX13_number_2 15 rfl rfl)
theorem dX13_number_63 : decode cX13_number 63 = .ok (.ifCond .ne 15, 3) := dk_154 0 15 (dk_at dksX13_number_2 18 rfl rfl)
theorem dX13_number_66 : decode cX13_number 66 = .ok (.new 52, 3) := dk_187 0 52 (dk_at dksX13_number_2 21 rfl rfl)
theorem dX13_number_69 : decode cX13_number 69 = .ok (.dup, 1) := dk_89 (dk_at dksX13_number_3 0 rfl rfl)
theorem dX13_number_70 : decode cX13_number 70 = .ok (.aload_n 0, 1) := dk_42 (dk_at dksX13_number_3 1 rfl rfl)
theorem dX13_number_71 : decode cX13_number 71 = .ok (.getfield 22, 3) := dk_180 0 22 (dk_at dksX13_number_3 2 rfl rfl)
theorem dX13_number_74 : decode cX13_number 74 = .ok (.invokespecial 54, 3) := dk_183 0 54 (dk_at dksX13_number_3 5 rfl rfl)
theorem dX13_number_77 : decode cX13_number 77 = .ok (.athrow, 1) := dk_191 (dk_at dksX13_number_3 8 rfl rfl)
theorem dX13_number_78 : decode cX13_number 78 = .ok (.iload 4, 2) := dk_21 4 (dk_at dksX13_number_3 9 rfl rfl)
theorem dX13_number_80 : decode cX13_number 80 = .ok (.ireturn, 1) := dk_172 (dk_at dksX13_number_3 11 rfl rfl)
abbrev cX13_digit : ByteArray := prog_17_method_5_code
def yX13_digit : MethodName := ⟨RX13, "digit", "(CC)I"⟩
def dkwX13_digit_2 : List UInt8 := [16, 48, 100, 172]
abbrev dktX13_digit_2 : List UInt8 := dkwX13_digit_2 ++ []
def dkwX13_digit_1 : List UInt8 := [180, 0, 22, 4, 96, 181, 0, 22, 42, 180, 0, 3, 180, 0, 26, 42, 180, 0, 22, 4, 100, 182, 0, 36]
abbrev dktX13_digit_1 : List UInt8 := dkwX13_digit_1 ++ dktX13_digit_2
def dkwX13_digit_0 : List UInt8 := [42, 27, 28, 182, 0, 44, 154, 0, 15, 187, 0, 52, 89, 42, 180, 0, 22, 183, 0, 54, 191, 42, 89]
abbrev dktX13_digit_0 : List UInt8 := dkwX13_digit_0 ++ dktX13_digit_1
theorem dksX13_digit_0 : cX13_digit.data.toList.drop 0 = dktX13_digit_0 := by decide +kernel
theorem dksX13_digit_1 : cX13_digit.data.toList.drop 23 = dktX13_digit_1 := dk_seg dksX13_digit_0 23 rfl rfl
theorem dksX13_digit_2 : cX13_digit.data.toList.drop 47 = dktX13_digit_2 := dk_seg dksX13_digit_1 24 rfl rfl
theorem dX13_digit_0 : decode cX13_digit 0 = .ok (.aload_n 0, 1) := dk_42 (dk_at dksX13_digit_0 0 rfl rfl)
theorem dX13_digit_1 : decode cX13_digit 1 = .ok (.iload_n 1, 1) := dk_27 (dk_at dksX13_digit_0 1 rfl rfl)
theorem dX13_digit_2 : decode cX13_digit 2 = .ok (.iload_n 2, 1) := dk_28 (dk_at dksX13_digit_0 2 rfl rfl)
theorem dX13_digit_3 : decode cX13_digit 3 = .ok (.invokevirtual 44, 3) := dk_182 0 44 (dk_at dksX13_digit_0 3 rfl rfl)
theorem dX13_digit_6 : decode cX13_digit 6 = .ok (.ifCond .ne 15, 3) := dk_154 0 15 (dk_at dksX13_digit_0 6 rfl rfl)
theorem dX13_digit_9 : decode cX13_digit 9 = .ok (.new 52, 3) := dk_187 0 52 (dk_at dksX13_digit_0 9 rfl rfl)
theorem dX13_digit_12 : decode cX13_digit 12 = .ok (.dup, 1) := dk_89 (dk_at dksX13_digit_0 12 rfl rfl)
theorem dX13_digit_13 : decode cX13_digit 13 = .ok (.aload_n 0, 1) := dk_42 (dk_at dksX13_digit_0 13 rfl rfl)
theorem dX13_digit_14 : decode cX13_digit 14 = .ok (.getfield 22, 3) := dk_180 0 22 (dk_at dksX13_digit_0 14 rfl rfl)
theorem dX13_digit_17 : decode cX13_digit 17 = .ok (.invokespecial 54, 3) := dk_183 0 54 (dk_at dksX13_digit_0 17 rfl rfl)
theorem dX13_digit_20 : decode cX13_digit 20 = .ok (.athrow, 1) := dk_191 (dk_at dksX13_digit_0 20 rfl rfl)
theorem dX13_digit_21 : decode cX13_digit 21 = .ok (.aload_n 0, 1) := dk_42 (dk_at dksX13_digit_0 21 rfl rfl)
theorem dX13_digit_22 : decode cX13_digit 22 = .ok (.dup, 1) := dk_89 (dk_at dksX13_digit_0 22 rfl rfl)
theorem dX13_digit_23 : decode cX13_digit 23 = .ok (.getfield 22, 3) := dk_180 0 22 (dk_at dksX13_digit_1 0 rfl rfl)
theorem dX13_digit_26 : decode cX13_digit 26 = .ok (.iconst 1, 1) := dk_4 (dk_at dksX13_digit_1 3 rfl rfl)
theorem dX13_digit_27 : decode cX13_digit 27 = .ok (.iadd, 1) := dk_96 (dk_at dksX13_digit_1 4 rfl rfl)
theorem dX13_digit_28 : decode cX13_digit 28 = .ok (.putfield 22, 3) := dk_181 0 22 (dk_at dksX13_digit_1 5 rfl rfl)
theorem dX13_digit_31 : decode cX13_digit 31 = .ok (.aload_n 0, 1) := dk_42 (dk_at dksX13_digit_1 8 rfl rfl)
theorem dX13_digit_32 : decode cX13_digit 32 = .ok (.getfield 3, 3) := dk_180 0 3 (dk_at dksX13_digit_1 9 rfl rfl)
theorem dX13_digit_35 : decode cX13_digit 35 = .ok (.getfield 26, 3) := dk_180 0 26 (dk_at dksX13_digit_1 12 rfl rfl)
theorem dX13_digit_38 : decode cX13_digit 38 = .ok (.aload_n 0, 1) := dk_42 (dk_at dksX13_digit_1 15 rfl rfl)
theorem dX13_digit_39 : decode cX13_digit 39 = .ok (.getfield 22, 3) := dk_180 0 22 (dk_at dksX13_digit_1 16 rfl rfl)
theorem dX13_digit_42 : decode cX13_digit 42 = .ok (.iconst 1, 1) := dk_4 (dk_at dksX13_digit_1 19 rfl rfl)
theorem dX13_digit_43 : decode cX13_digit 43 = .ok (.isub, 1) := dk_100 (dk_at dksX13_digit_1 20 rfl rfl)
theorem dX13_digit_44 : decode cX13_digit 44 = .ok (.invokevirtual 36, 3) := dk_182 0 36 (dk_at dksX13_digit_1 21 rfl rfl)
theorem dX13_digit_47 : decode cX13_digit 47 = .ok (.bipush 48, 2) := dk_16 48 (dk_at dksX13_digit_2 0 rfl rfl)
theorem dX13_digit_49 : decode cX13_digit 49 = .ok (.isub, 1) := dk_100 (dk_at dksX13_digit_2 2 rfl rfl)
theorem dX13_digit_50 : decode cX13_digit 50 = .ok (.ireturn, 1) := dk_172 (dk_at dksX13_digit_2 3 rfl rfl)
theorem q129 : (Jvm.Cond.initialized "PipelineSimulator$Parser") ∈ lw_all := lw_g (lw_at lw_m1 32 rfl) rfl
theorem q437 : (Jvm.Cond.selects "PipelineSimulator$Parser" ({ cls := "java/lang/Object", name := "getClass", desc := "()Ljava/lang/Class;" } : Jvm.MethodName) ({ cls := "java/lang/Object", name := "getClass", desc := "()Ljava/lang/Class;" } : Jvm.MethodName)) ∈ lw_all := lw_g (lw_at lw_m2 100 rfl) rfl
theorem q750 : (Jvm.Cond.fieldLinkNest "PipelineSimulator$Parser" (26 : Nat) "PipelineSimulator" "text" "Ljava/lang/StringBuilder;" "PipelineSimulator") ∈ lw_tbl := lw_at lw_m3 173 rfl
theorem q2071 : (Jvm.Cond.instantiable "PipelineSimulator$Parser" (3 : Nat)) ∈ lw_all := lw_g (lw_at lw_m9 54 rfl) rfl
theorem q2073 : (Jvm.Cond.instanceMethod ({ cls := "PipelineSimulator$Parser", name := "<init>", desc := "(LPipelineSimulator;)V" } : Jvm.MethodName)) ∈ lw_all := lw_g (lw_at lw_m9 56 rfl) rfl
theorem q2074 : (Jvm.Cond.code ({ cls := "PipelineSimulator$Parser", name := "<init>", desc := "(LPipelineSimulator;)V" } : Jvm.MethodName) prog_17_method_1_code (2 : Nat) (Option.none : Option Jvm.ClassFile.FieldType)) ∈ lw_all := lw_g (lw_at lw_m9 57 rfl) rfl
theorem q2075 : (Jvm.Cond.methodLink "PipelineSimulator$Parser" (9 : Nat) ({ cls := "java/lang/Object", name := "<init>", desc := "()V" } : Jvm.MethodName)) ∈ lw_all := lw_g (lw_at lw_m9 58 rfl) rfl
theorem q2076 : (Jvm.Cond.classLink "PipelineSimulator$Parser" (15 : Nat) "java/util/ArrayList") ∈ lw_all := lw_g (lw_at lw_m9 59 rfl) rfl
theorem q2077 : (Jvm.Cond.methodLink "PipelineSimulator$Parser" (17 : Nat) ({ cls := "java/util/ArrayList", name := "<init>", desc := "()V" } : Jvm.MethodName)) ∈ lw_all := lw_g (lw_at lw_m9 60 rfl) rfl
theorem q2078 : (Jvm.Cond.fieldLink "PipelineSimulator$Parser" (18 : Nat) "PipelineSimulator$Parser" "parsed" "Ljava/util/ArrayList;") ∈ lw_all := lw_g (lw_at lw_m9 61 rfl) rfl
theorem q2079 : (Jvm.Cond.fieldLink "PipelineSimulator$Parser" (22 : Nat) "PipelineSimulator$Parser" "next" "I") ∈ lw_all := lw_g (lw_at lw_m9 62 rfl) rfl
theorem q2080 : (Jvm.Cond.fieldLink "PipelineSimulator$Parser" (3 : Nat) "PipelineSimulator$Parser" "this$0" "LPipelineSimulator;") ∈ lw_all := lw_g (lw_at lw_m9 63 rfl) rfl
theorem q2081 : (Jvm.Cond.laysFinal "PipelineSimulator$Parser" "PipelineSimulator$Parser" "parsed" "Ljava/util/ArrayList;") ∈ lw_all := lw_g (lw_at lw_m9 64 rfl) rfl
theorem q2082 : (Jvm.Cond.soleField "PipelineSimulator$Parser" "parsed") ∈ lw_all := lw_g (lw_at lw_m9 65 rfl) rfl
theorem q2083 : (Jvm.Cond.lays "PipelineSimulator$Parser" "PipelineSimulator$Parser" "next" "I") ∈ lw_all := lw_g (lw_at lw_m9 66 rfl) rfl
theorem q2084 : (Jvm.Cond.soleField "PipelineSimulator$Parser" "next") ∈ lw_all := lw_g (lw_at lw_m9 67 rfl) rfl
theorem q2085 : (Jvm.Cond.laysFinal "PipelineSimulator$Parser" "PipelineSimulator$Parser" "this$0" "LPipelineSimulator;") ∈ lw_all := lw_g (lw_at lw_m9 68 rfl) rfl
theorem q2086 : (Jvm.Cond.soleField "PipelineSimulator$Parser" "this$0") ∈ lw_all := lw_g (lw_at lw_m9 69 rfl) rfl
theorem q2087 : (Jvm.Cond.superclass "PipelineSimulator$Parser" "java/lang/Object") ∈ lw_all := lw_g (lw_at lw_m9 70 rfl) rfl
theorem q2089 : (Jvm.Cond.instanceMethod ({ cls := "PipelineSimulator$Parser", name := "parse", desc := "()Ljava/util/ArrayList;" } : Jvm.MethodName)) ∈ lw_all := lw_g (lw_at lw_m9 72 rfl) rfl
theorem q2090 : (Jvm.Cond.selects "PipelineSimulator$Parser" ({ cls := "PipelineSimulator$Parser", name := "parse", desc := "()Ljava/util/ArrayList;" } : Jvm.MethodName) ({ cls := "PipelineSimulator$Parser", name := "parse", desc := "()Ljava/util/ArrayList;" } : Jvm.MethodName)) ∈ lw_all := lw_g (lw_at lw_m9 73 rfl) rfl
theorem q2091 : (Jvm.Cond.code ({ cls := "PipelineSimulator$Parser", name := "parse", desc := "()Ljava/util/ArrayList;" } : Jvm.MethodName) prog_17_method_9_code (1 : Nat) (Option.some (Jvm.ClassFile.FieldType.object "java/util/ArrayList"))) ∈ lw_all := lw_g (lw_at lw_m9 74 rfl) rfl
theorem q2092 : (Jvm.Cond.classLink "PipelineSimulator$Parser" (88 : Nat) "PipelineSimulator$Source") ∈ lw_all := lw_g (lw_at lw_m9 75 rfl) rfl
theorem q2093 : (Jvm.Cond.methodLink "PipelineSimulator$Parser" (90 : Nat) ({ cls := "PipelineSimulator$Source", name := "<init>", desc := "()V" } : Jvm.MethodName)) ∈ lw_all := lw_g (lw_at lw_m9 76 rfl) rfl
theorem q2094 : (Jvm.Cond.methodLink "PipelineSimulator$Parser" (84 : Nat) ({ cls := "java/util/ArrayList", name := "add", desc := "(Ljava/lang/Object;)Z" } : Jvm.MethodName)) ∈ lw_all := lw_g (lw_at lw_m9 77 rfl) rfl
theorem q2095 : (Jvm.Cond.methodLink "PipelineSimulator$Parser" (30 : Nat) ({ cls := "java/lang/StringBuilder", name := "length", desc := "()I" } : Jvm.MethodName)) ∈ lw_all := lw_g (lw_at lw_m9 78 rfl) rfl
theorem q2096 : (Jvm.Cond.methodLink "PipelineSimulator$Parser" (44 : Nat) ({ cls := "PipelineSimulator$Parser", name := "isAt", desc := "(CC)Z" } : Jvm.MethodName)) ∈ lw_all := lw_g (lw_at lw_m9 79 rfl) rfl
theorem q2097 : (Jvm.Cond.privateMethod ({ cls := "PipelineSimulator$Parser", name := "isAt", desc := "(CC)Z" } : Jvm.MethodName)) ∈ lw_tbl := lw_at lw_m9 80 rfl
theorem q2098 : (Jvm.Cond.instanceMethod ({ cls := "PipelineSimulator$Parser", name := "isAt", desc := "(CC)Z" } : Jvm.MethodName)) ∈ lw_all := lw_g (lw_at lw_m9 81 rfl) rfl
theorem q2099 : (Jvm.Cond.code ({ cls := "PipelineSimulator$Parser", name := "isAt", desc := "(CC)Z" } : Jvm.MethodName) prog_17_method_2_code (3 : Nat) (Option.some Jvm.ClassFile.FieldType.boolean)) ∈ lw_all := lw_g (lw_at lw_m9 82 rfl) rfl
theorem q2100 : (Jvm.Cond.methodLink "PipelineSimulator$Parser" (36 : Nat) ({ cls := "java/lang/StringBuilder", name := "charAt", desc := "(I)C" } : Jvm.MethodName)) ∈ lw_all := lw_g (lw_at lw_m9 83 rfl) rfl
theorem q2110 : (Jvm.Cond.methodLinkNest "PipelineSimulator$Parser" (40 : Nat) ({ cls := "PipelineSimulator", name := "isBetween", desc := "(JJJ)Z" } : Jvm.MethodName) "PipelineSimulator") ∈ lw_tbl := lw_at lw_m9 93 rfl
theorem q2111 : (Jvm.Cond.methodLink "PipelineSimulator$Parser" (91 : Nat) ({ cls := "PipelineSimulator$Parser", name := "stage", desc := "()V" } : Jvm.MethodName)) ∈ lw_all := lw_g (lw_at lw_m9 94 rfl) rfl
theorem q2112 : (Jvm.Cond.privateMethod ({ cls := "PipelineSimulator$Parser", name := "stage", desc := "()V" } : Jvm.MethodName)) ∈ lw_tbl := lw_at lw_m9 95 rfl
theorem q2113 : (Jvm.Cond.instanceMethod ({ cls := "PipelineSimulator$Parser", name := "stage", desc := "()V" } : Jvm.MethodName)) ∈ lw_all := lw_g (lw_at lw_m9 96 rfl) rfl
theorem q2114 : (Jvm.Cond.code ({ cls := "PipelineSimulator$Parser", name := "stage", desc := "()V" } : Jvm.MethodName) prog_17_method_8_code (4 : Nat) (Option.none : Option Jvm.ClassFile.FieldType)) ∈ lw_all := lw_g (lw_at lw_m9 97 rfl) rfl
theorem q2115 : (Jvm.Cond.methodLink "PipelineSimulator$Parser" (69 : Nat) ({ cls := "PipelineSimulator$Parser", name := "kind", desc := "()I" } : Jvm.MethodName)) ∈ lw_all := lw_g (lw_at lw_m9 98 rfl) rfl
theorem q2116 : (Jvm.Cond.privateMethod ({ cls := "PipelineSimulator$Parser", name := "kind", desc := "()I" } : Jvm.MethodName)) ∈ lw_tbl := lw_at lw_m9 99 rfl
theorem q2117 : (Jvm.Cond.instanceMethod ({ cls := "PipelineSimulator$Parser", name := "kind", desc := "()I" } : Jvm.MethodName)) ∈ lw_all := lw_g (lw_at lw_m9 100 rfl) rfl
theorem q2118 : (Jvm.Cond.code ({ cls := "PipelineSimulator$Parser", name := "kind", desc := "()I" } : Jvm.MethodName) prog_17_method_7_code (2 : Nat) (Option.some Jvm.ClassFile.FieldType.int)) ∈ lw_all := lw_g (lw_at lw_m9 101 rfl) rfl
theorem q2119 : (Jvm.Cond.stringRef "PipelineSimulator$Parser" (61 : Nat) "mfkcsdr") ∈ lw_tbl := lw_at lw_m9 102 rfl
theorem q2120 : (Jvm.Cond.methodLink "PipelineSimulator$Parser" (63 : Nat) ({ cls := "java/lang/String", name := "indexOf", desc := "(I)I" } : Jvm.MethodName)) ∈ lw_all := lw_g (lw_at lw_m9 103 rfl) rfl
theorem q2170 : (Jvm.Cond.classLink "PipelineSimulator$Parser" (52 : Nat) "PipelineSimulator$SyntaxException") ∈ lw_all := lw_g (lw_at lw_m9 153 rfl) rfl
theorem q2179 : (Jvm.Cond.methodLink "PipelineSimulator$Parser" (54 : Nat) ({ cls := "PipelineSimulator$SyntaxException", name := "<init>", desc := "(I)V" } : Jvm.MethodName)) ∈ lw_all := lw_g (lw_at lw_m9 162 rfl) rfl
theorem q2189 : (Jvm.Cond.methodLink "PipelineSimulator$Parser" (72 : Nat) ({ cls := "PipelineSimulator$Parser", name := "expect", desc := "(C)V" } : Jvm.MethodName)) ∈ lw_all := lw_g (lw_at lw_m9 172 rfl) rfl
theorem q2190 : (Jvm.Cond.privateMethod ({ cls := "PipelineSimulator$Parser", name := "expect", desc := "(C)V" } : Jvm.MethodName)) ∈ lw_tbl := lw_at lw_m9 173 rfl
theorem q2191 : (Jvm.Cond.instanceMethod ({ cls := "PipelineSimulator$Parser", name := "expect", desc := "(C)V" } : Jvm.MethodName)) ∈ lw_all := lw_g (lw_at lw_m9 174 rfl) rfl
theorem q2192 : (Jvm.Cond.code ({ cls := "PipelineSimulator$Parser", name := "expect", desc := "(C)V" } : Jvm.MethodName) prog_17_method_4_code (2 : Nat) (Option.none : Option Jvm.ClassFile.FieldType)) ∈ lw_all := lw_g (lw_at lw_m9 175 rfl) rfl
theorem q2193 : (Jvm.Cond.methodLink "PipelineSimulator$Parser" (48 : Nat) ({ cls := "PipelineSimulator$Parser", name := "isNext", desc := "(C)Z" } : Jvm.MethodName)) ∈ lw_all := lw_g (lw_at lw_m9 176 rfl) rfl
theorem q2194 : (Jvm.Cond.privateMethod ({ cls := "PipelineSimulator$Parser", name := "isNext", desc := "(C)Z" } : Jvm.MethodName)) ∈ lw_tbl := lw_at lw_m9 177 rfl
theorem q2195 : (Jvm.Cond.instanceMethod ({ cls := "PipelineSimulator$Parser", name := "isNext", desc := "(C)Z" } : Jvm.MethodName)) ∈ lw_all := lw_g (lw_at lw_m9 178 rfl) rfl
theorem q2196 : (Jvm.Cond.code ({ cls := "PipelineSimulator$Parser", name := "isNext", desc := "(C)Z" } : Jvm.MethodName) prog_17_method_3_code (2 : Nat) (Option.some Jvm.ClassFile.FieldType.boolean)) ∈ lw_all := lw_g (lw_at lw_m9 179 rfl) rfl
theorem q2197 : (Jvm.Cond.methodLink "PipelineSimulator$Parser" (76 : Nat) ({ cls := "PipelineSimulator$Parser", name := "number", desc := "(II)I" } : Jvm.MethodName)) ∈ lw_all := lw_g (lw_at lw_m9 180 rfl) rfl
theorem q2198 : (Jvm.Cond.privateMethod ({ cls := "PipelineSimulator$Parser", name := "number", desc := "(II)I" } : Jvm.MethodName)) ∈ lw_tbl := lw_at lw_m9 181 rfl
theorem q2199 : (Jvm.Cond.instanceMethod ({ cls := "PipelineSimulator$Parser", name := "number", desc := "(II)I" } : Jvm.MethodName)) ∈ lw_all := lw_g (lw_at lw_m9 182 rfl) rfl
theorem q2200 : (Jvm.Cond.code ({ cls := "PipelineSimulator$Parser", name := "number", desc := "(II)I" } : Jvm.MethodName) prog_17_method_6_code (5 : Nat) (Option.some Jvm.ClassFile.FieldType.int)) ∈ lw_all := lw_g (lw_at lw_m9 183 rfl) rfl
theorem q2201 : (Jvm.Cond.methodLink "PipelineSimulator$Parser" (57 : Nat) ({ cls := "PipelineSimulator$Parser", name := "digit", desc := "(CC)I" } : Jvm.MethodName)) ∈ lw_all := lw_g (lw_at lw_m9 184 rfl) rfl
theorem q2202 : (Jvm.Cond.privateMethod ({ cls := "PipelineSimulator$Parser", name := "digit", desc := "(CC)I" } : Jvm.MethodName)) ∈ lw_tbl := lw_at lw_m9 185 rfl
theorem q2203 : (Jvm.Cond.instanceMethod ({ cls := "PipelineSimulator$Parser", name := "digit", desc := "(CC)I" } : Jvm.MethodName)) ∈ lw_all := lw_g (lw_at lw_m9 186 rfl) rfl
theorem q2204 : (Jvm.Cond.code ({ cls := "PipelineSimulator$Parser", name := "digit", desc := "(CC)I" } : Jvm.MethodName) prog_17_method_5_code (3 : Nat) (Option.some Jvm.ClassFile.FieldType.int)) ∈ lw_all := lw_g (lw_at lw_m9 187 rfl) rfl
theorem q2205 : (Jvm.Cond.methodLinkNest "PipelineSimulator$Parser" (80 : Nat) ({ cls := "PipelineSimulator", name := "operator", desc := "(IIII)LPipelineSimulator$Operator;" } : Jvm.MethodName) "PipelineSimulator") ∈ lw_tbl := lw_at lw_m9 188 rfl
theorem q2320 : (Jvm.Cond.methodLink "PipelineSimulator$Parser" (94 : Nat) ({ cls := "java/util/ArrayList", name := "size", desc := "()I" } : Jvm.MethodName)) ∈ lw_all := lw_g (lw_at lw_m10 63 rfl) rfl
theorem q2321 : (Jvm.Cond.classLink "PipelineSimulator$Parser" (97 : Nat) "PipelineSimulator$Sink") ∈ lw_all := lw_g (lw_at lw_m10 64 rfl) rfl
theorem q2322 : (Jvm.Cond.methodLink "PipelineSimulator$Parser" (99 : Nat) ({ cls := "PipelineSimulator$Sink", name := "<init>", desc := "(I)V" } : Jvm.MethodName)) ∈ lw_all := lw_g (lw_at lw_m10 65 rfl) rfl
theorem q2960 : (Jvm.Cond.castable "PipelineSimulator$Parser" "java/lang/Object") ∈ lw_tbl := lw_at lw_m12 223 rfl
theorem in_X13 : ∀ w ∈ wsX130, w ∈ lw_all := lw_in wsX130 [2081, 2083, 2085] (by decide +kernel) (by decide +kernel)
/-! PipelineSimulator$SyntaxException -/
set_option maxRecDepth 100000
def RX14 : String := "PipelineSimulator$SyntaxException"
def TX14 : u_T := fun k => match k with
  | 0 => ("java/lang/Throwable", "cause", "Ljava/lang/Throwable;", false)
  | 1 => ("java/lang/Throwable", "stackTrace", "[Ljava/lang/StackTraceElement;", false)
  | 2 => ("java/lang/Throwable", "suppressedExceptions", "Ljava/util/List;", false)
  | 3 => ("java/lang/Throwable", "detailMessage", "Ljava/lang/String;", false)
  | 4 => ("java/lang/Throwable", "backtrace", "Ljava/lang/Object;", false)
  | 5 => ("java/lang/Throwable", "depth", "I", false)
  | _ => ("PipelineSimulator$SyntaxException", "offset", "I", true)
def tyX14 : Nat → FieldType := fun k => match k with
  | 0 => .object "java/lang/Throwable"
  | 1 => .array (.object "java/lang/StackTraceElement")
  | 2 => .object "java/util/List"
  | 3 => .object "java/lang/String"
  | 4 => .object "java/lang/Object"
  | 5 => .int
  | _ => .int
abbrev wsX140 : List Cond := u_ws RX14 TX14 7
theorem nmX14 : ∀ a, a < 7 → ∀ b, b < 7 → a ≠ b → (TX14 a).2.1 ≠ (TX14 b).2.1 := by decide +kernel
theorem tyX14_ok : ∀ k, k < 7 → parseFieldDescriptor (TX14 k).2.2.1 = some (tyX14 k) := by decide +kernel
abbrev cX14_init : ByteArray := prog_23_method_1_code
def yX14_init : MethodName := ⟨RX14, "<init>", "(I)V"⟩
def dkwX14_init_0 : List UInt8 := [42, 183, 0, 1, 42, 27, 181, 0, 7, 177]
abbrev dktX14_init_0 : List UInt8 := dkwX14_init_0 ++ []
theorem dksX14_init_0 : cX14_init.data.toList.drop 0 = dktX14_init_0 := by decide +kernel
theorem dX14_init_0 : decode cX14_init 0 = .ok (.aload_n 0, 1) := dk_42 (dk_at dksX14_init_0 0 rfl rfl)
theorem dX14_init_1 : decode cX14_init 1 = .ok (.invokespecial 1, 3) := dk_183 0 1 (dk_at dksX14_init_0 1 rfl rfl)
theorem dX14_init_4 : decode cX14_init 4 = .ok (.aload_n 0, 1) := dk_42 (dk_at dksX14_init_0 4 rfl rfl)
theorem dX14_init_5 : decode cX14_init 5 = .ok (.iload_n 1, 1) := dk_27 (dk_at dksX14_init_0 5 rfl rfl)
theorem dX14_init_6 : decode cX14_init 6 = .ok (.putfield 7, 3) := dk_181 0 7 (dk_at dksX14_init_0 6 rfl rfl)
theorem dX14_init_9 : decode cX14_init 9 = .ok (.return_, 1) := dk_177 (dk_at dksX14_init_0 9 rfl rfl)
theorem q133 : (Jvm.Cond.initialized "PipelineSimulator$SyntaxException") ∈ lw_all := lw_g (lw_at lw_m1 36 rfl) rfl
theorem q443 : (Jvm.Cond.selects "PipelineSimulator$SyntaxException" ({ cls := "java/lang/Object", name := "getClass", desc := "()Ljava/lang/Class;" } : Jvm.MethodName) ({ cls := "java/lang/Object", name := "getClass", desc := "()Ljava/lang/Class;" } : Jvm.MethodName)) ∈ lw_all := lw_g (lw_at lw_m2 106 rfl) rfl
theorem q955 : (Jvm.Cond.selects "PipelineSimulator$SyntaxException" ({ cls := "java/lang/Throwable", name := "fillInStackTrace", desc := "()Ljava/lang/Throwable;" } : Jvm.MethodName) ({ cls := "java/lang/Throwable", name := "fillInStackTrace", desc := "()Ljava/lang/Throwable;" } : Jvm.MethodName)) ∈ lw_all := lw_g (lw_at lw_m4 138 rfl) rfl
theorem q978 : (Jvm.Cond.selects "PipelineSimulator$SyntaxException" ({ cls := "java/lang/Throwable", name := "toString", desc := "()Ljava/lang/String;" } : Jvm.MethodName) ({ cls := "java/lang/Throwable", name := "toString", desc := "()Ljava/lang/String;" } : Jvm.MethodName)) ∈ lw_all := lw_g (lw_at lw_m4 161 rfl) rfl
theorem q986 : (Jvm.Cond.selects "PipelineSimulator$SyntaxException" ({ cls := "java/lang/Throwable", name := "getLocalizedMessage", desc := "()Ljava/lang/String;" } : Jvm.MethodName) ({ cls := "java/lang/Throwable", name := "getLocalizedMessage", desc := "()Ljava/lang/String;" } : Jvm.MethodName)) ∈ lw_all := lw_g (lw_at lw_m4 169 rfl) rfl
theorem q993 : (Jvm.Cond.selects "PipelineSimulator$SyntaxException" ({ cls := "java/lang/Throwable", name := "getMessage", desc := "()Ljava/lang/String;" } : Jvm.MethodName) ({ cls := "java/lang/Throwable", name := "getMessage", desc := "()Ljava/lang/String;" } : Jvm.MethodName)) ∈ lw_all := lw_g (lw_at lw_m4 176 rfl) rfl
theorem q2030 : (Jvm.Cond.selects "PipelineSimulator$SyntaxException" ({ cls := "java/lang/Throwable", name := "getCause", desc := "()Ljava/lang/Throwable;" } : Jvm.MethodName) ({ cls := "java/lang/Throwable", name := "getCause", desc := "()Ljava/lang/Throwable;" } : Jvm.MethodName)) ∈ lw_all := lw_g (lw_at lw_m9 13 rfl) rfl
theorem q2171 : (Jvm.Cond.instantiable "PipelineSimulator$SyntaxException" (7 : Nat)) ∈ lw_all := lw_g (lw_at lw_m9 154 rfl) rfl
theorem q2172 : (Jvm.Cond.castable "PipelineSimulator$SyntaxException" "PipelineSimulator$SyntaxException") ∈ lw_tbl := lw_at lw_m9 155 rfl
theorem q2173 : (Jvm.Cond.selects "PipelineSimulator$SyntaxException" ({ cls := "java/lang/Throwable", name := "fillInStackTrace", desc := "(I)Ljava/lang/Throwable;" } : Jvm.MethodName) ({ cls := "java/lang/Throwable", name := "fillInStackTrace", desc := "(I)Ljava/lang/Throwable;" } : Jvm.MethodName)) ∈ lw_all := lw_g (lw_at lw_m9 156 rfl) rfl
theorem q2174 : (Jvm.Cond.lays "PipelineSimulator$SyntaxException" "java/lang/Throwable" "cause" "Ljava/lang/Throwable;") ∈ lw_all := lw_g (lw_at lw_m9 157 rfl) rfl
theorem q2175 : (Jvm.Cond.lays "PipelineSimulator$SyntaxException" "java/lang/Throwable" "stackTrace" "[Ljava/lang/StackTraceElement;") ∈ lw_all := lw_g (lw_at lw_m9 158 rfl) rfl
theorem q2176 : (Jvm.Cond.lays "PipelineSimulator$SyntaxException" "java/lang/Throwable" "suppressedExceptions" "Ljava/util/List;") ∈ lw_all := lw_g (lw_at lw_m9 159 rfl) rfl
theorem q2177 : (Jvm.Cond.lays "PipelineSimulator$SyntaxException" "java/lang/Throwable" "detailMessage" "Ljava/lang/String;") ∈ lw_all := lw_g (lw_at lw_m9 160 rfl) rfl
theorem q2178 : (Jvm.Cond.lays "PipelineSimulator$SyntaxException" "java/lang/Throwable" "backtrace" "Ljava/lang/Object;") ∈ lw_all := lw_g (lw_at lw_m9 161 rfl) rfl
theorem q2180 : (Jvm.Cond.instanceMethod ({ cls := "PipelineSimulator$SyntaxException", name := "<init>", desc := "(I)V" } : Jvm.MethodName)) ∈ lw_all := lw_g (lw_at lw_m9 163 rfl) rfl
theorem q2181 : (Jvm.Cond.code ({ cls := "PipelineSimulator$SyntaxException", name := "<init>", desc := "(I)V" } : Jvm.MethodName) prog_23_method_1_code (2 : Nat) (Option.none : Option Jvm.ClassFile.FieldType)) ∈ lw_all := lw_g (lw_at lw_m9 164 rfl) rfl
theorem q2182 : (Jvm.Cond.methodLink "PipelineSimulator$SyntaxException" (1 : Nat) ({ cls := "java/lang/Exception", name := "<init>", desc := "()V" } : Jvm.MethodName)) ∈ lw_all := lw_g (lw_at lw_m9 165 rfl) rfl
theorem q2183 : (Jvm.Cond.fieldLink "PipelineSimulator$SyntaxException" (7 : Nat) "PipelineSimulator$SyntaxException" "offset" "I") ∈ lw_all := lw_g (lw_at lw_m9 166 rfl) rfl
theorem q2185 : (Jvm.Cond.laysFinal "PipelineSimulator$SyntaxException" "PipelineSimulator$SyntaxException" "offset" "I") ∈ lw_all := lw_g (lw_at lw_m9 168 rfl) rfl
theorem q2186 : (Jvm.Cond.soleField "PipelineSimulator$SyntaxException" "offset") ∈ lw_all := lw_g (lw_at lw_m9 169 rfl) rfl
theorem q2187 : (Jvm.Cond.lays "PipelineSimulator$SyntaxException" "java/lang/Throwable" "depth" "I") ∈ lw_all := lw_g (lw_at lw_m9 170 rfl) rfl
theorem q2188 : (Jvm.Cond.superclass "PipelineSimulator$SyntaxException" "java/lang/Exception") ∈ lw_all := lw_g (lw_at lw_m9 171 rfl) rfl
theorem q2961 : (Jvm.Cond.castable "PipelineSimulator$SyntaxException" "java/lang/Object") ∈ lw_tbl := lw_at lw_m12 224 rfl
theorem in_X14 : ∀ w ∈ wsX140, w ∈ lw_all := lw_in wsX140 [2174, 2175, 2176, 2177, 2178, 2187, 2185] (by decide +kernel) (by decide +kernel)
/-! PipelineSimulator$Mapper -/
set_option maxRecDepth 100000
def RX15 : String := "PipelineSimulator$Mapper"
def TX15 : u_T := fun k => match k with
  | 0 => ("PipelineSimulator$Operator", "kind", "I", true)
  | 1 => ("PipelineSimulator$Operator", "a", "I", true)
  | 2 => ("PipelineSimulator$Operator", "b", "I", true)
  | 3 => ("PipelineSimulator$Operator", "instances", "I", false)
  | 4 => ("PipelineSimulator$Operator", "states", "LPipelineSimulator$Versions;", true)
  | 5 => ("PipelineSimulator$Operator", "processed", "I", false)
  | 6 => ("PipelineSimulator$Operator", "emitted", "I", false)
  | 7 => ("PipelineSimulator$Operator", "blocked", "I", false)
  | _ => ("PipelineSimulator$Operator", "idle", "I", false)
def tyX15 : Nat → FieldType := fun k => match k with
  | 0 => .int
  | 1 => .int
  | 2 => .int
  | 3 => .int
  | 4 => .object "PipelineSimulator$Versions"
  | 5 => .int
  | 6 => .int
  | 7 => .int
  | _ => .int
abbrev wsX150 : List Cond := u_ws RX15 TX15 9
theorem nmX15 : ∀ a, a < 9 → ∀ b, b < 9 → a ≠ b → (TX15 a).2.1 ≠ (TX15 b).2.1 := by decide +kernel
theorem tyX15_ok : ∀ k, k < 9 → parseFieldDescriptor (TX15 k).2.2.1 = some (tyX15 k) := by decide +kernel
abbrev cX15_process : ByteArray := prog_14_method_2_code
def yX15_process : MethodName := ⟨RX15, "process", "(IILPipelineSimulator$KeyStates;LPipelineSimulator$Output;)V"⟩
def dkwX15_process_0 : List UInt8 := [25, 4, 27, 28, 42, 180, 0, 9, 104, 42, 180, 0, 15, 96, 185, 0, 18, 3, 0, 177]
abbrev dktX15_process_0 : List UInt8 := dkwX15_process_0 ++ []
theorem dksX15_process_0 : cX15_process.data.toList.drop 0 = dktX15_process_0 := by decide +kernel
theorem dX15_process_0 : decode cX15_process 0 = .ok (.aload 4, 2) := dk_25 4 (dk_at dksX15_process_0 0 rfl rfl)
theorem dX15_process_2 : decode cX15_process 2 = .ok (.iload_n 1, 1) := dk_27 (dk_at dksX15_process_0 2 rfl rfl)
theorem dX15_process_3 : decode cX15_process 3 = .ok (.iload_n 2, 1) := dk_28 (dk_at dksX15_process_0 3 rfl rfl)
theorem dX15_process_4 : decode cX15_process 4 = .ok (.aload_n 0, 1) := dk_42 (dk_at dksX15_process_0 4 rfl rfl)
theorem dX15_process_5 : decode cX15_process 5 = .ok (.getfield 9, 3) := dk_180 0 9 (dk_at dksX15_process_0 5 rfl rfl)
theorem dX15_process_8 : decode cX15_process 8 = .ok (.imul, 1) := dk_104 (dk_at dksX15_process_0 8 rfl rfl)
theorem dX15_process_9 : decode cX15_process 9 = .ok (.aload_n 0, 1) := dk_42 (dk_at dksX15_process_0 9 rfl rfl)
theorem dX15_process_10 : decode cX15_process 10 = .ok (.getfield 15, 3) := dk_180 0 15 (dk_at dksX15_process_0 10 rfl rfl)
theorem dX15_process_13 : decode cX15_process 13 = .ok (.iadd, 1) := dk_96 (dk_at dksX15_process_0 13 rfl rfl)
theorem dX15_process_14 : decode cX15_process 14 = .ok (.invokeinterface 18 3, 5) := by decide +kernel
theorem dX15_process_19 : decode cX15_process 19 = .ok (.return_, 1) := dk_177 (dk_at dksX15_process_0 19 rfl rfl)
abbrev cX15_init : ByteArray := prog_14_method_1_code
def yX15_init : MethodName := ⟨RX15, "<init>", "(III)V"⟩
def dkwX15_init_0 : List UInt8 := [42, 3, 27, 28, 29, 183, 0, 3, 177]
abbrev dktX15_init_0 : List UInt8 := dkwX15_init_0 ++ []
theorem dksX15_init_0 : cX15_init.data.toList.drop 0 = dktX15_init_0 := by decide +kernel
theorem dX15_init_0 : decode cX15_init 0 = .ok (.aload_n 0, 1) := dk_42 (dk_at dksX15_init_0 0 rfl rfl)
theorem dX15_init_1 : decode cX15_init 1 = .ok (.iconst 0, 1) := dk_3 (dk_at dksX15_init_0 1 rfl rfl)
theorem dX15_init_2 : decode cX15_init 2 = .ok (.iload_n 1, 1) := dk_27 (dk_at dksX15_init_0 2 rfl rfl)
theorem dX15_init_3 : decode cX15_init 3 = .ok (.iload_n 2, 1) := dk_28 (dk_at dksX15_init_0 3 rfl rfl)
theorem dX15_init_4 : decode cX15_init 4 = .ok (.iload_n 3, 1) := dk_29 (dk_at dksX15_init_0 4 rfl rfl)
theorem dX15_init_5 : decode cX15_init 5 = .ok (.invokespecial 3, 3) := dk_183 0 3 (dk_at dksX15_init_0 5 rfl rfl)
theorem dX15_init_8 : decode cX15_init 8 = .ok (.return_, 1) := dk_177 (dk_at dksX15_init_0 8 rfl rfl)
theorem q134 : (Jvm.Cond.initialized "PipelineSimulator$Mapper") ∈ lw_all := lw_g (lw_at lw_m1 37 rfl) rfl
theorem q339 : (Jvm.Cond.fieldLink "PipelineSimulator$Mapper" (9 : Nat) "PipelineSimulator$Mapper" "a" "I") ∈ lw_all := lw_g (lw_at lw_m2 2 rfl) rfl
theorem q340 : (Jvm.Cond.sameField "PipelineSimulator$Mapper" "PipelineSimulator$Operator" "a" "I") ∈ lw_all := lw_g (lw_at lw_m2 3 rfl) rfl
theorem q351 : (Jvm.Cond.fieldLink "PipelineSimulator$Mapper" (15 : Nat) "PipelineSimulator$Mapper" "b" "I") ∈ lw_all := lw_g (lw_at lw_m2 14 rfl) rfl
theorem q352 : (Jvm.Cond.sameField "PipelineSimulator$Mapper" "PipelineSimulator$Operator" "b" "I") ∈ lw_all := lw_g (lw_at lw_m2 15 rfl) rfl
theorem q436 : (Jvm.Cond.selects "PipelineSimulator$Mapper" ({ cls := "java/lang/Object", name := "getClass", desc := "()Ljava/lang/Class;" } : Jvm.MethodName) ({ cls := "java/lang/Object", name := "getClass", desc := "()Ljava/lang/Class;" } : Jvm.MethodName)) ∈ lw_all := lw_g (lw_at lw_m2 99 rfl) rfl
theorem q1243 : (Jvm.Cond.selects "PipelineSimulator$Mapper" ({ cls := "PipelineSimulator$Operator", name := "reset", desc := "()V" } : Jvm.MethodName) ({ cls := "PipelineSimulator$Operator", name := "reset", desc := "()V" } : Jvm.MethodName)) ∈ lw_all := lw_g (lw_at lw_m5 186 rfl) rfl
theorem q1344 : (Jvm.Cond.selects "PipelineSimulator$Mapper" ({ cls := "PipelineSimulator$Operator", name := "isKeyed", desc := "()Z" } : Jvm.MethodName) ({ cls := "PipelineSimulator$Operator", name := "isKeyed", desc := "()Z" } : Jvm.MethodName)) ∈ lw_all := lw_g (lw_at lw_m6 47 rfl) rfl
theorem q1507 : (Jvm.Cond.instanceMethod ({ cls := "PipelineSimulator$Mapper", name := "process", desc := "(IILPipelineSimulator$KeyStates;LPipelineSimulator$Output;)V" } : Jvm.MethodName)) ∈ lw_all := lw_g (lw_at lw_m6 210 rfl) rfl
theorem q1508 : (Jvm.Cond.code ({ cls := "PipelineSimulator$Mapper", name := "process", desc := "(IILPipelineSimulator$KeyStates;LPipelineSimulator$Output;)V" } : Jvm.MethodName) prog_14_method_2_code (5 : Nat) (Option.none : Option Jvm.ClassFile.FieldType)) ∈ lw_all := lw_g (lw_at lw_m6 211 rfl) rfl
theorem q1509 : (Jvm.Cond.interfaceEntry "PipelineSimulator$Mapper" (18 : Nat)) ∈ lw_tbl := lw_at lw_m6 212 rfl
theorem q1510 : (Jvm.Cond.methodLink "PipelineSimulator$Mapper" (18 : Nat) ({ cls := "PipelineSimulator$Output", name := "emit", desc := "(II)V" } : Jvm.MethodName)) ∈ lw_all := lw_g (lw_at lw_m6 213 rfl) rfl
theorem q1553 : (Jvm.Cond.selects "PipelineSimulator$Mapper" ({ cls := "PipelineSimulator$Operator", name := "process", desc := "(IILPipelineSimulator$KeyStates;LPipelineSimulator$Output;)V" } : Jvm.MethodName) ({ cls := "PipelineSimulator$Mapper", name := "process", desc := "(IILPipelineSimulator$KeyStates;LPipelineSimulator$Output;)V" } : Jvm.MethodName)) ∈ lw_all := lw_g (lw_at lw_m7 16 rfl) rfl
theorem q2209 : (Jvm.Cond.instantiable "PipelineSimulator$Mapper" (9 : Nat)) ∈ lw_all := lw_g (lw_at lw_m9 192 rfl) rfl
theorem q2211 : (Jvm.Cond.instanceMethod ({ cls := "PipelineSimulator$Mapper", name := "<init>", desc := "(III)V" } : Jvm.MethodName)) ∈ lw_all := lw_g (lw_at lw_m9 194 rfl) rfl
theorem q2212 : (Jvm.Cond.code ({ cls := "PipelineSimulator$Mapper", name := "<init>", desc := "(III)V" } : Jvm.MethodName) prog_14_method_1_code (4 : Nat) (Option.none : Option Jvm.ClassFile.FieldType)) ∈ lw_all := lw_g (lw_at lw_m9 195 rfl) rfl
theorem q2213 : (Jvm.Cond.methodLink "PipelineSimulator$Mapper" (3 : Nat) ({ cls := "PipelineSimulator$Operator", name := "<init>", desc := "(IIII)V" } : Jvm.MethodName)) ∈ lw_all := lw_g (lw_at lw_m9 196 rfl) rfl
theorem q2214 : (Jvm.Cond.laysFinal "PipelineSimulator$Mapper" "PipelineSimulator$Operator" "kind" "I") ∈ lw_all := lw_g (lw_at lw_m9 197 rfl) rfl
theorem q2215 : (Jvm.Cond.laysFinal "PipelineSimulator$Mapper" "PipelineSimulator$Operator" "a" "I") ∈ lw_all := lw_g (lw_at lw_m9 198 rfl) rfl
theorem q2216 : (Jvm.Cond.laysFinal "PipelineSimulator$Mapper" "PipelineSimulator$Operator" "b" "I") ∈ lw_all := lw_g (lw_at lw_m9 199 rfl) rfl
theorem q2217 : (Jvm.Cond.lays "PipelineSimulator$Mapper" "PipelineSimulator$Operator" "instances" "I") ∈ lw_all := lw_g (lw_at lw_m9 200 rfl) rfl
theorem q2218 : (Jvm.Cond.laysFinal "PipelineSimulator$Mapper" "PipelineSimulator$Operator" "states" "LPipelineSimulator$Versions;") ∈ lw_all := lw_g (lw_at lw_m9 201 rfl) rfl
theorem q2219 : (Jvm.Cond.lays "PipelineSimulator$Mapper" "PipelineSimulator$Operator" "processed" "I") ∈ lw_all := lw_g (lw_at lw_m9 202 rfl) rfl
theorem q2220 : (Jvm.Cond.lays "PipelineSimulator$Mapper" "PipelineSimulator$Operator" "emitted" "I") ∈ lw_all := lw_g (lw_at lw_m9 203 rfl) rfl
theorem q2221 : (Jvm.Cond.lays "PipelineSimulator$Mapper" "PipelineSimulator$Operator" "blocked" "I") ∈ lw_all := lw_g (lw_at lw_m9 204 rfl) rfl
theorem q2222 : (Jvm.Cond.lays "PipelineSimulator$Mapper" "PipelineSimulator$Operator" "idle" "I") ∈ lw_all := lw_g (lw_at lw_m9 205 rfl) rfl
theorem q2223 : (Jvm.Cond.superclass "PipelineSimulator$Mapper" "PipelineSimulator$Operator") ∈ lw_all := lw_g (lw_at lw_m9 206 rfl) rfl
theorem q2354 : (Jvm.Cond.selects "PipelineSimulator$Mapper" ({ cls := "PipelineSimulator$Operator", name := "write", desc := "(Ljava/lang/StringBuilder;)V" } : Jvm.MethodName) ({ cls := "PipelineSimulator$Operator", name := "write", desc := "(Ljava/lang/StringBuilder;)V" } : Jvm.MethodName)) ∈ lw_all := lw_g (lw_at lw_m10 97 rfl) rfl
theorem q2939 : (Jvm.Cond.castable "PipelineSimulator$Mapper" "PipelineSimulator$Operator") ∈ lw_tbl := lw_at lw_m12 202 rfl
theorem q2962 : (Jvm.Cond.castable "PipelineSimulator$Mapper" "java/lang/Object") ∈ lw_tbl := lw_at lw_m12 225 rfl
theorem in_X15 : ∀ w ∈ wsX150, w ∈ lw_all := lw_in wsX150 [2214, 2215, 2216, 2217, 2218, 2219, 2220, 2221, 2222] (by decide +kernel) (by decide +kernel)
/-! PipelineSimulator$Filter -/
set_option maxRecDepth 100000
def RX16 : String := "PipelineSimulator$Filter"
def TX16 : u_T := fun k => match k with
  | 0 => ("PipelineSimulator$Operator", "kind", "I", true)
  | 1 => ("PipelineSimulator$Operator", "a", "I", true)
  | 2 => ("PipelineSimulator$Operator", "b", "I", true)
  | 3 => ("PipelineSimulator$Operator", "instances", "I", false)
  | 4 => ("PipelineSimulator$Operator", "states", "LPipelineSimulator$Versions;", true)
  | 5 => ("PipelineSimulator$Operator", "processed", "I", false)
  | 6 => ("PipelineSimulator$Operator", "emitted", "I", false)
  | 7 => ("PipelineSimulator$Operator", "blocked", "I", false)
  | _ => ("PipelineSimulator$Operator", "idle", "I", false)
def tyX16 : Nat → FieldType := fun k => match k with
  | 0 => .int
  | 1 => .int
  | 2 => .int
  | 3 => .int
  | 4 => .object "PipelineSimulator$Versions"
  | 5 => .int
  | 6 => .int
  | 7 => .int
  | _ => .int
abbrev wsX160 : List Cond := u_ws RX16 TX16 9
theorem nmX16 : ∀ a, a < 9 → ∀ b, b < 9 → a ≠ b → (TX16 a).2.1 ≠ (TX16 b).2.1 := by decide +kernel
theorem tyX16_ok : ∀ k, k < 9 → parseFieldDescriptor (TX16 k).2.2.1 = some (tyX16 k) := by decide +kernel
abbrev cX16_process : ByteArray := prog_8_method_2_code
def yX16_process : MethodName := ⟨RX16, "process", "(IILPipelineSimulator$KeyStates;LPipelineSimulator$Output;)V"⟩
def dkwX16_process_2 : List UInt8 := [27, 28, 185, 0, 18, 3, 0, 177]
abbrev dktX16_process_2 : List UInt8 := dkwX16_process_2 ++ []
def dkwX16_process_1 : List UInt8 := [160, 0, 14, 28, 42, 180, 0, 15, 160, 0, 23, 167, 0, 11, 28, 42, 180, 0, 15, 164, 0, 12, 25, 4]
abbrev dktX16_process_1 : List UInt8 := dkwX16_process_1 ++ dktX16_process_2
def dkwX16_process_0 : List UInt8 := [42, 180, 0, 9, 154, 0, 14, 28, 42, 180, 0, 15, 162, 0, 42, 167, 0, 30, 42, 180, 0, 9, 4]
abbrev dktX16_process_0 : List UInt8 := dkwX16_process_0 ++ dktX16_process_1
theorem dksX16_process_0 : cX16_process.data.toList.drop 0 = dktX16_process_0 := by decide +kernel
theorem dksX16_process_1 : cX16_process.data.toList.drop 23 = dktX16_process_1 := dk_seg dksX16_process_0 23 rfl rfl
theorem dksX16_process_2 : cX16_process.data.toList.drop 47 = dktX16_process_2 := dk_seg dksX16_process_1 24 rfl rfl
theorem dX16_process_0 : decode cX16_process 0 = .ok (.aload_n 0, 1) := dk_42 (dk_at dksX16_process_0 0 rfl rfl)
theorem dX16_process_1 : decode cX16_process 1 = .ok (.getfield 9, 3) := dk_180 0 9 (dk_at dksX16_process_0 1 rfl rfl)
theorem dX16_process_4 : decode cX16_process 4 = .ok (.ifCond .ne 14, 3) := dk_154 0 14 (dk_at dksX16_process_0 4 rfl rfl)
theorem dX16_process_7 : decode cX16_process 7 = .ok (.iload_n 2, 1) := dk_28 (dk_at dksX16_process_0 7 rfl rfl)
theorem dX16_process_8 : decode cX16_process 8 = .ok (.aload_n 0, 1) := dk_42 (dk_at dksX16_process_0 8 rfl rfl)
theorem dX16_process_9 : decode cX16_process 9 = .ok (.getfield 15, 3) := dk_180 0 15 (dk_at dksX16_process_0 9 rfl rfl)
theorem dX16_process_12 : decode cX16_process 12 = .ok (.if_icmp .ge 42, 3) := dk_162 0 42 (dk_at dksX16_process_0 12 rfl rfl)
theorem dX16_process_15 : decode cX16_process 15 = .ok (.goto 30, 3) := dk_167 0 30 (dk_at dksX16_process_0 15 rfl rfl)
theorem dX16_process_18 : decode cX16_process 18 = .ok (.aload_n 0, 1) := dk_42 (dk_at dksX16_process_0 18 rfl rfl)
theorem dX16_process_19 : decode cX16_process 19 = .ok (.getfield 9, 3) := dk_180 0 9 (dk_at dksX16_process_0 19 rfl rfl)
theorem dX16_process_22 : decode cX16_process 22 = .ok (.iconst 1, 1) := dk_4 (dk_at dksX16_process_0 22 rfl rfl)
theorem dX16_process_23 : decode cX16_process 23 = .ok (.if_icmp .ne 14, 3) := dk_160 0 14 (dk_at dksX16_process_1 0 rfl rfl)
theorem dX16_process_26 : decode cX16_process 26 = .ok (.iload_n 2, 1) := dk_28 (dk_at dksX16_process_1 3 rfl rfl)
theorem dX16_process_27 : decode cX16_process 27 = .ok (.aload_n 0, 1) := dk_42 (dk_at dksX16_process_1 4 rfl rfl)
theorem dX16_process_28 : decode cX16_process 28 = .ok (.getfield 15, 3) := dk_180 0 15 (dk_at dksX16_process_1 5 rfl rfl)
theorem dX16_process_31 : decode cX16_process 31 = .ok (.if_icmp .ne 23, 3) := dk_160 0 23 (dk_at dksX16_process_1 8 rfl rfl)
theorem dX16_process_34 : decode cX16_process 34 = .ok (.goto 11, 3) := dk_167 0 11 (dk_at dksX16_process_1 11 rfl rfl)
theorem dX16_process_37 : decode cX16_process 37 = .ok (.iload_n 2, 1) := dk_28 (dk_at dksX16_process_1 14 rfl rfl)
theorem dX16_process_38 : decode cX16_process 38 = .ok (.aload_n 0, 1) := dk_42 (dk_at dksX16_process_1 15 rfl rfl)
theorem dX16_process_39 : decode cX16_process 39 = .ok (.getfield 15, 3) := dk_180 0 15 (dk_at dksX16_process_1 16 rfl rfl)
theorem dX16_process_42 : decode cX16_process 42 = .ok (.if_icmp .le 12, 3) := dk_164 0 12 (dk_at dksX16_process_1 19 rfl rfl)
theorem dX16_process_45 : decode cX16_process 45 = .ok (.aload 4, 2) := dk_25 4 (dk_at dksX16_process_1 22 rfl rfl)
theorem dX16_process_47 : decode cX16_process 47 = .ok (.iload_n 1, 1) := dk_27 (dk_at dksX16_process_2 0 rfl rfl)
theorem dX16_process_48 : decode cX16_process 48 = .ok (.iload_n 2, 1) := dk_28 (dk_at dksX16_process_2 1 rfl rfl)
theorem dX16_process_49 : decode cX16_process 49 = .ok (.invokeinterface 18 3, 5) := by decide +kernel
theorem dX16_process_54 : decode cX16_process 54 = .ok (.return_, 1) := dk_177 (dk_at dksX16_process_2 7 rfl rfl)
abbrev cX16_init : ByteArray := prog_8_method_1_code
def yX16_init : MethodName := ⟨RX16, "<init>", "(III)V"⟩
def dkwX16_init_0 : List UInt8 := [42, 4, 27, 28, 29, 183, 0, 3, 177]
abbrev dktX16_init_0 : List UInt8 := dkwX16_init_0 ++ []
theorem dksX16_init_0 : cX16_init.data.toList.drop 0 = dktX16_init_0 := by decide +kernel
theorem dX16_init_0 : decode cX16_init 0 = .ok (.aload_n 0, 1) := dk_42 (dk_at dksX16_init_0 0 rfl rfl)
theorem dX16_init_1 : decode cX16_init 1 = .ok (.iconst 1, 1) := dk_4 (dk_at dksX16_init_0 1 rfl rfl)
theorem dX16_init_2 : decode cX16_init 2 = .ok (.iload_n 1, 1) := dk_27 (dk_at dksX16_init_0 2 rfl rfl)
theorem dX16_init_3 : decode cX16_init 3 = .ok (.iload_n 2, 1) := dk_28 (dk_at dksX16_init_0 3 rfl rfl)
theorem dX16_init_4 : decode cX16_init 4 = .ok (.iload_n 3, 1) := dk_29 (dk_at dksX16_init_0 4 rfl rfl)
theorem dX16_init_5 : decode cX16_init 5 = .ok (.invokespecial 3, 3) := dk_183 0 3 (dk_at dksX16_init_0 5 rfl rfl)
theorem dX16_init_8 : decode cX16_init 8 = .ok (.return_, 1) := dk_177 (dk_at dksX16_init_0 8 rfl rfl)
theorem q135 : (Jvm.Cond.initialized "PipelineSimulator$Filter") ∈ lw_all := lw_g (lw_at lw_m1 38 rfl) rfl
theorem q335 : (Jvm.Cond.fieldLink "PipelineSimulator$Filter" (9 : Nat) "PipelineSimulator$Filter" "a" "I") ∈ lw_all := lw_g (lw_at lw_m1 238 rfl) rfl
theorem q336 : (Jvm.Cond.sameField "PipelineSimulator$Filter" "PipelineSimulator$Operator" "a" "I") ∈ lw_all := lw_g (lw_at lw_m1 239 rfl) rfl
theorem q347 : (Jvm.Cond.fieldLink "PipelineSimulator$Filter" (15 : Nat) "PipelineSimulator$Filter" "b" "I") ∈ lw_all := lw_g (lw_at lw_m2 10 rfl) rfl
theorem q348 : (Jvm.Cond.sameField "PipelineSimulator$Filter" "PipelineSimulator$Operator" "b" "I") ∈ lw_all := lw_g (lw_at lw_m2 11 rfl) rfl
theorem q431 : (Jvm.Cond.selects "PipelineSimulator$Filter" ({ cls := "java/lang/Object", name := "getClass", desc := "()Ljava/lang/Class;" } : Jvm.MethodName) ({ cls := "java/lang/Object", name := "getClass", desc := "()Ljava/lang/Class;" } : Jvm.MethodName)) ∈ lw_all := lw_g (lw_at lw_m2 94 rfl) rfl
theorem q1241 : (Jvm.Cond.selects "PipelineSimulator$Filter" ({ cls := "PipelineSimulator$Operator", name := "reset", desc := "()V" } : Jvm.MethodName) ({ cls := "PipelineSimulator$Operator", name := "reset", desc := "()V" } : Jvm.MethodName)) ∈ lw_all := lw_g (lw_at lw_m5 184 rfl) rfl
theorem q1342 : (Jvm.Cond.selects "PipelineSimulator$Filter" ({ cls := "PipelineSimulator$Operator", name := "isKeyed", desc := "()Z" } : Jvm.MethodName) ({ cls := "PipelineSimulator$Operator", name := "isKeyed", desc := "()Z" } : Jvm.MethodName)) ∈ lw_all := lw_g (lw_at lw_m6 45 rfl) rfl
theorem q1496 : (Jvm.Cond.instanceMethod ({ cls := "PipelineSimulator$Filter", name := "process", desc := "(IILPipelineSimulator$KeyStates;LPipelineSimulator$Output;)V" } : Jvm.MethodName)) ∈ lw_all := lw_g (lw_at lw_m6 199 rfl) rfl
theorem q1497 : (Jvm.Cond.code ({ cls := "PipelineSimulator$Filter", name := "process", desc := "(IILPipelineSimulator$KeyStates;LPipelineSimulator$Output;)V" } : Jvm.MethodName) prog_8_method_2_code (5 : Nat) (Option.none : Option Jvm.ClassFile.FieldType)) ∈ lw_all := lw_g (lw_at lw_m6 200 rfl) rfl
theorem q1498 : (Jvm.Cond.interfaceEntry "PipelineSimulator$Filter" (18 : Nat)) ∈ lw_tbl := lw_at lw_m6 201 rfl
theorem q1499 : (Jvm.Cond.methodLink "PipelineSimulator$Filter" (18 : Nat) ({ cls := "PipelineSimulator$Output", name := "emit", desc := "(II)V" } : Jvm.MethodName)) ∈ lw_all := lw_g (lw_at lw_m6 202 rfl) rfl
theorem q1551 : (Jvm.Cond.selects "PipelineSimulator$Filter" ({ cls := "PipelineSimulator$Operator", name := "process", desc := "(IILPipelineSimulator$KeyStates;LPipelineSimulator$Output;)V" } : Jvm.MethodName) ({ cls := "PipelineSimulator$Filter", name := "process", desc := "(IILPipelineSimulator$KeyStates;LPipelineSimulator$Output;)V" } : Jvm.MethodName)) ∈ lw_all := lw_g (lw_at lw_m7 14 rfl) rfl
theorem q2225 : (Jvm.Cond.instantiable "PipelineSimulator$Filter" (9 : Nat)) ∈ lw_all := lw_g (lw_at lw_m9 208 rfl) rfl
theorem q2227 : (Jvm.Cond.instanceMethod ({ cls := "PipelineSimulator$Filter", name := "<init>", desc := "(III)V" } : Jvm.MethodName)) ∈ lw_all := lw_g (lw_at lw_m9 210 rfl) rfl
theorem q2228 : (Jvm.Cond.code ({ cls := "PipelineSimulator$Filter", name := "<init>", desc := "(III)V" } : Jvm.MethodName) prog_8_method_1_code (4 : Nat) (Option.none : Option Jvm.ClassFile.FieldType)) ∈ lw_all := lw_g (lw_at lw_m9 211 rfl) rfl
theorem q2229 : (Jvm.Cond.methodLink "PipelineSimulator$Filter" (3 : Nat) ({ cls := "PipelineSimulator$Operator", name := "<init>", desc := "(IIII)V" } : Jvm.MethodName)) ∈ lw_all := lw_g (lw_at lw_m9 212 rfl) rfl
theorem q2230 : (Jvm.Cond.laysFinal "PipelineSimulator$Filter" "PipelineSimulator$Operator" "kind" "I") ∈ lw_all := lw_g (lw_at lw_m9 213 rfl) rfl
theorem q2231 : (Jvm.Cond.laysFinal "PipelineSimulator$Filter" "PipelineSimulator$Operator" "a" "I") ∈ lw_all := lw_g (lw_at lw_m9 214 rfl) rfl
theorem q2232 : (Jvm.Cond.laysFinal "PipelineSimulator$Filter" "PipelineSimulator$Operator" "b" "I") ∈ lw_all := lw_g (lw_at lw_m9 215 rfl) rfl
theorem q2233 : (Jvm.Cond.lays "PipelineSimulator$Filter" "PipelineSimulator$Operator" "instances" "I") ∈ lw_all := lw_g (lw_at lw_m9 216 rfl) rfl
theorem q2234 : (Jvm.Cond.laysFinal "PipelineSimulator$Filter" "PipelineSimulator$Operator" "states" "LPipelineSimulator$Versions;") ∈ lw_all := lw_g (lw_at lw_m9 217 rfl) rfl
theorem q2235 : (Jvm.Cond.lays "PipelineSimulator$Filter" "PipelineSimulator$Operator" "processed" "I") ∈ lw_all := lw_g (lw_at lw_m9 218 rfl) rfl
theorem q2236 : (Jvm.Cond.lays "PipelineSimulator$Filter" "PipelineSimulator$Operator" "emitted" "I") ∈ lw_all := lw_g (lw_at lw_m9 219 rfl) rfl
theorem q2237 : (Jvm.Cond.lays "PipelineSimulator$Filter" "PipelineSimulator$Operator" "blocked" "I") ∈ lw_all := lw_g (lw_at lw_m9 220 rfl) rfl
theorem q2238 : (Jvm.Cond.lays "PipelineSimulator$Filter" "PipelineSimulator$Operator" "idle" "I") ∈ lw_all := lw_g (lw_at lw_m9 221 rfl) rfl
theorem q2239 : (Jvm.Cond.superclass "PipelineSimulator$Filter" "PipelineSimulator$Operator") ∈ lw_all := lw_g (lw_at lw_m9 222 rfl) rfl
theorem q2352 : (Jvm.Cond.selects "PipelineSimulator$Filter" ({ cls := "PipelineSimulator$Operator", name := "write", desc := "(Ljava/lang/StringBuilder;)V" } : Jvm.MethodName) ({ cls := "PipelineSimulator$Operator", name := "write", desc := "(Ljava/lang/StringBuilder;)V" } : Jvm.MethodName)) ∈ lw_all := lw_g (lw_at lw_m10 95 rfl) rfl
theorem q2937 : (Jvm.Cond.castable "PipelineSimulator$Filter" "PipelineSimulator$Operator") ∈ lw_tbl := lw_at lw_m12 200 rfl
theorem q2963 : (Jvm.Cond.castable "PipelineSimulator$Filter" "java/lang/Object") ∈ lw_tbl := lw_at lw_m12 226 rfl
theorem in_X16 : ∀ w ∈ wsX160, w ∈ lw_all := lw_in wsX160 [2230, 2231, 2232, 2233, 2234, 2235, 2236, 2237, 2238] (by decide +kernel) (by decide +kernel)
/-! PipelineSimulator$Rekeyer -/
set_option maxRecDepth 100000
def RX17 : String := "PipelineSimulator$Rekeyer"
def TX17 : u_T := fun k => match k with
  | 0 => ("PipelineSimulator$Operator", "kind", "I", true)
  | 1 => ("PipelineSimulator$Operator", "a", "I", true)
  | 2 => ("PipelineSimulator$Operator", "b", "I", true)
  | 3 => ("PipelineSimulator$Operator", "instances", "I", false)
  | 4 => ("PipelineSimulator$Operator", "states", "LPipelineSimulator$Versions;", true)
  | 5 => ("PipelineSimulator$Operator", "processed", "I", false)
  | 6 => ("PipelineSimulator$Operator", "emitted", "I", false)
  | 7 => ("PipelineSimulator$Operator", "blocked", "I", false)
  | _ => ("PipelineSimulator$Operator", "idle", "I", false)
def tyX17 : Nat → FieldType := fun k => match k with
  | 0 => .int
  | 1 => .int
  | 2 => .int
  | 3 => .int
  | 4 => .object "PipelineSimulator$Versions"
  | 5 => .int
  | 6 => .int
  | 7 => .int
  | _ => .int
abbrev wsX170 : List Cond := u_ws RX17 TX17 9
theorem nmX17 : ∀ a, a < 9 → ∀ b, b < 9 → a ≠ b → (TX17 a).2.1 ≠ (TX17 b).2.1 := by decide +kernel
theorem tyX17_ok : ∀ k, k < 9 → parseFieldDescriptor (TX17 k).2.2.1 = some (tyX17 k) := by decide +kernel
abbrev cX17_process : ByteArray := prog_19_method_2_code
def yX17_process : MethodName := ⟨RX17, "process", "(IILPipelineSimulator$KeyStates;LPipelineSimulator$Output;)V"⟩
def dkwX17_process_1 : List UInt8 := [177]
abbrev dktX17_process_1 : List UInt8 := dkwX17_process_1 ++ []
def dkwX17_process_0 : List UInt8 := [25, 4, 27, 42, 180, 0, 9, 104, 42, 180, 0, 15, 96, 16, 16, 184, 0, 18, 28, 185, 0, 24, 3, 0]
abbrev dktX17_process_0 : List UInt8 := dkwX17_process_0 ++ dktX17_process_1
theorem dksX17_process_0 : cX17_process.data.toList.drop 0 = dktX17_process_0 := by decide +kernel
theorem dksX17_process_1 : cX17_process.data.toList.drop 24 = dktX17_process_1 := dk_seg dksX17_process_0 24 rfl rfl
theorem dX17_process_0 : decode cX17_process 0 = .ok (.aload 4, 2) := dk_25 4 (dk_at dksX17_process_0 0 rfl rfl)
theorem dX17_process_2 : decode cX17_process 2 = .ok (.iload_n 1, 1) := dk_27 (dk_at dksX17_process_0 2 rfl rfl)
theorem dX17_process_3 : decode cX17_process 3 = .ok (.aload_n 0, 1) := dk_42 (dk_at dksX17_process_0 3 rfl rfl)
theorem dX17_process_4 : decode cX17_process 4 = .ok (.getfield 9, 3) := dk_180 0 9 (dk_at dksX17_process_0 4 rfl rfl)
theorem dX17_process_7 : decode cX17_process 7 = .ok (.imul, 1) := dk_104 (dk_at dksX17_process_0 7 rfl rfl)
theorem dX17_process_8 : decode cX17_process 8 = .ok (.aload_n 0, 1) := dk_42 (dk_at dksX17_process_0 8 rfl rfl)
theorem dX17_process_9 : decode cX17_process 9 = .ok (.getfield 15, 3) := dk_180 0 15 (dk_at dksX17_process_0 9 rfl rfl)
theorem dX17_process_12 : decode cX17_process 12 = .ok (.iadd, 1) := dk_96 (dk_at dksX17_process_0 12 rfl rfl)
theorem dX17_process_13 : decode cX17_process 13 = .ok (.bipush 16, 2) := dk_16 16 (dk_at dksX17_process_0 13 rfl rfl)
theorem dX17_process_15 : decode cX17_process 15 = .ok (.invokestatic 18, 3) := dk_184 0 18 (dk_at dksX17_process_0 15 rfl rfl)
theorem dX17_process_18 : decode cX17_process 18 = .ok (.iload_n 2, 1) := dk_28 (dk_at dksX17_process_0 18 rfl rfl)
theorem dX17_process_19 : decode cX17_process 19 = .ok (.invokeinterface 24 3, 5) := by decide +kernel
theorem dX17_process_24 : decode cX17_process 24 = .ok (.return_, 1) := dk_177 (dk_at dksX17_process_1 0 rfl rfl)
abbrev cX17_init : ByteArray := prog_19_method_1_code
def yX17_init : MethodName := ⟨RX17, "<init>", "(III)V"⟩
def dkwX17_init_0 : List UInt8 := [42, 5, 27, 28, 29, 183, 0, 3, 177]
abbrev dktX17_init_0 : List UInt8 := dkwX17_init_0 ++ []
theorem dksX17_init_0 : cX17_init.data.toList.drop 0 = dktX17_init_0 := by decide +kernel
theorem dX17_init_0 : decode cX17_init 0 = .ok (.aload_n 0, 1) := dk_42 (dk_at dksX17_init_0 0 rfl rfl)
theorem dX17_init_1 : decode cX17_init 1 = .ok (.iconst 2, 1) := dk_5 (dk_at dksX17_init_0 1 rfl rfl)
theorem dX17_init_2 : decode cX17_init 2 = .ok (.iload_n 1, 1) := dk_27 (dk_at dksX17_init_0 2 rfl rfl)
theorem dX17_init_3 : decode cX17_init 3 = .ok (.iload_n 2, 1) := dk_28 (dk_at dksX17_init_0 3 rfl rfl)
theorem dX17_init_4 : decode cX17_init 4 = .ok (.iload_n 3, 1) := dk_29 (dk_at dksX17_init_0 4 rfl rfl)
theorem dX17_init_5 : decode cX17_init 5 = .ok (.invokespecial 3, 3) := dk_183 0 3 (dk_at dksX17_init_0 5 rfl rfl)
theorem dX17_init_8 : decode cX17_init 8 = .ok (.return_, 1) := dk_177 (dk_at dksX17_init_0 8 rfl rfl)
theorem q136 : (Jvm.Cond.initialized "PipelineSimulator$Rekeyer") ∈ lw_all := lw_g (lw_at lw_m1 39 rfl) rfl
theorem q337 : (Jvm.Cond.fieldLink "PipelineSimulator$Rekeyer" (9 : Nat) "PipelineSimulator$Rekeyer" "a" "I") ∈ lw_all := lw_g (lw_at lw_m2 0 rfl) rfl
theorem q338 : (Jvm.Cond.sameField "PipelineSimulator$Rekeyer" "PipelineSimulator$Operator" "a" "I") ∈ lw_all := lw_g (lw_at lw_m2 1 rfl) rfl
theorem q349 : (Jvm.Cond.fieldLink "PipelineSimulator$Rekeyer" (15 : Nat) "PipelineSimulator$Rekeyer" "b" "I") ∈ lw_all := lw_g (lw_at lw_m2 12 rfl) rfl
theorem q350 : (Jvm.Cond.sameField "PipelineSimulator$Rekeyer" "PipelineSimulator$Operator" "b" "I") ∈ lw_all := lw_g (lw_at lw_m2 13 rfl) rfl
theorem q439 : (Jvm.Cond.selects "PipelineSimulator$Rekeyer" ({ cls := "java/lang/Object", name := "getClass", desc := "()Ljava/lang/Class;" } : Jvm.MethodName) ({ cls := "java/lang/Object", name := "getClass", desc := "()Ljava/lang/Class;" } : Jvm.MethodName)) ∈ lw_all := lw_g (lw_at lw_m2 102 rfl) rfl
theorem q1244 : (Jvm.Cond.selects "PipelineSimulator$Rekeyer" ({ cls := "PipelineSimulator$Operator", name := "reset", desc := "()V" } : Jvm.MethodName) ({ cls := "PipelineSimulator$Operator", name := "reset", desc := "()V" } : Jvm.MethodName)) ∈ lw_all := lw_g (lw_at lw_m5 187 rfl) rfl
theorem q1345 : (Jvm.Cond.selects "PipelineSimulator$Rekeyer" ({ cls := "PipelineSimulator$Operator", name := "isKeyed", desc := "()Z" } : Jvm.MethodName) ({ cls := "PipelineSimulator$Operator", name := "isKeyed", desc := "()Z" } : Jvm.MethodName)) ∈ lw_all := lw_g (lw_at lw_m6 48 rfl) rfl
theorem q1511 : (Jvm.Cond.instanceMethod ({ cls := "PipelineSimulator$Rekeyer", name := "process", desc := "(IILPipelineSimulator$KeyStates;LPipelineSimulator$Output;)V" } : Jvm.MethodName)) ∈ lw_all := lw_g (lw_at lw_m6 214 rfl) rfl
theorem q1512 : (Jvm.Cond.code ({ cls := "PipelineSimulator$Rekeyer", name := "process", desc := "(IILPipelineSimulator$KeyStates;LPipelineSimulator$Output;)V" } : Jvm.MethodName) prog_19_method_2_code (5 : Nat) (Option.none : Option Jvm.ClassFile.FieldType)) ∈ lw_all := lw_g (lw_at lw_m6 215 rfl) rfl
theorem q1513 : (Jvm.Cond.methodLink "PipelineSimulator$Rekeyer" (18 : Nat) ({ cls := "java/lang/Math", name := "floorMod", desc := "(II)I" } : Jvm.MethodName)) ∈ lw_all := lw_g (lw_at lw_m6 216 rfl) rfl
theorem q1516 : (Jvm.Cond.interfaceEntry "PipelineSimulator$Rekeyer" (24 : Nat)) ∈ lw_tbl := lw_at lw_m6 219 rfl
theorem q1517 : (Jvm.Cond.methodLink "PipelineSimulator$Rekeyer" (24 : Nat) ({ cls := "PipelineSimulator$Output", name := "emit", desc := "(II)V" } : Jvm.MethodName)) ∈ lw_all := lw_g (lw_at lw_m6 220 rfl) rfl
theorem q1554 : (Jvm.Cond.selects "PipelineSimulator$Rekeyer" ({ cls := "PipelineSimulator$Operator", name := "process", desc := "(IILPipelineSimulator$KeyStates;LPipelineSimulator$Output;)V" } : Jvm.MethodName) ({ cls := "PipelineSimulator$Rekeyer", name := "process", desc := "(IILPipelineSimulator$KeyStates;LPipelineSimulator$Output;)V" } : Jvm.MethodName)) ∈ lw_all := lw_g (lw_at lw_m7 17 rfl) rfl
theorem q2241 : (Jvm.Cond.instantiable "PipelineSimulator$Rekeyer" (9 : Nat)) ∈ lw_all := lw_g (lw_at lw_m9 224 rfl) rfl
theorem q2243 : (Jvm.Cond.instanceMethod ({ cls := "PipelineSimulator$Rekeyer", name := "<init>", desc := "(III)V" } : Jvm.MethodName)) ∈ lw_all := lw_g (lw_at lw_m9 226 rfl) rfl
theorem q2244 : (Jvm.Cond.code ({ cls := "PipelineSimulator$Rekeyer", name := "<init>", desc := "(III)V" } : Jvm.MethodName) prog_19_method_1_code (4 : Nat) (Option.none : Option Jvm.ClassFile.FieldType)) ∈ lw_all := lw_g (lw_at lw_m9 227 rfl) rfl
theorem q2245 : (Jvm.Cond.methodLink "PipelineSimulator$Rekeyer" (3 : Nat) ({ cls := "PipelineSimulator$Operator", name := "<init>", desc := "(IIII)V" } : Jvm.MethodName)) ∈ lw_all := lw_g (lw_at lw_m9 228 rfl) rfl
theorem q2246 : (Jvm.Cond.laysFinal "PipelineSimulator$Rekeyer" "PipelineSimulator$Operator" "kind" "I") ∈ lw_all := lw_g (lw_at lw_m9 229 rfl) rfl
theorem q2247 : (Jvm.Cond.laysFinal "PipelineSimulator$Rekeyer" "PipelineSimulator$Operator" "a" "I") ∈ lw_all := lw_g (lw_at lw_m9 230 rfl) rfl
theorem q2248 : (Jvm.Cond.laysFinal "PipelineSimulator$Rekeyer" "PipelineSimulator$Operator" "b" "I") ∈ lw_all := lw_g (lw_at lw_m9 231 rfl) rfl
theorem q2249 : (Jvm.Cond.lays "PipelineSimulator$Rekeyer" "PipelineSimulator$Operator" "instances" "I") ∈ lw_all := lw_g (lw_at lw_m9 232 rfl) rfl
theorem q2250 : (Jvm.Cond.laysFinal "PipelineSimulator$Rekeyer" "PipelineSimulator$Operator" "states" "LPipelineSimulator$Versions;") ∈ lw_all := lw_g (lw_at lw_m9 233 rfl) rfl
theorem q2251 : (Jvm.Cond.lays "PipelineSimulator$Rekeyer" "PipelineSimulator$Operator" "processed" "I") ∈ lw_all := lw_g (lw_at lw_m9 234 rfl) rfl
theorem q2252 : (Jvm.Cond.lays "PipelineSimulator$Rekeyer" "PipelineSimulator$Operator" "emitted" "I") ∈ lw_all := lw_g (lw_at lw_m9 235 rfl) rfl
theorem q2253 : (Jvm.Cond.lays "PipelineSimulator$Rekeyer" "PipelineSimulator$Operator" "blocked" "I") ∈ lw_all := lw_g (lw_at lw_m9 236 rfl) rfl
theorem q2254 : (Jvm.Cond.lays "PipelineSimulator$Rekeyer" "PipelineSimulator$Operator" "idle" "I") ∈ lw_all := lw_g (lw_at lw_m9 237 rfl) rfl
theorem q2255 : (Jvm.Cond.superclass "PipelineSimulator$Rekeyer" "PipelineSimulator$Operator") ∈ lw_all := lw_g (lw_at lw_m9 238 rfl) rfl
theorem q2355 : (Jvm.Cond.selects "PipelineSimulator$Rekeyer" ({ cls := "PipelineSimulator$Operator", name := "write", desc := "(Ljava/lang/StringBuilder;)V" } : Jvm.MethodName) ({ cls := "PipelineSimulator$Operator", name := "write", desc := "(Ljava/lang/StringBuilder;)V" } : Jvm.MethodName)) ∈ lw_all := lw_g (lw_at lw_m10 98 rfl) rfl
theorem q2940 : (Jvm.Cond.castable "PipelineSimulator$Rekeyer" "PipelineSimulator$Operator") ∈ lw_tbl := lw_at lw_m12 203 rfl
theorem q2964 : (Jvm.Cond.castable "PipelineSimulator$Rekeyer" "java/lang/Object") ∈ lw_tbl := lw_at lw_m12 227 rfl
theorem in_X17 : ∀ w ∈ wsX170, w ∈ lw_all := lw_in wsX170 [2246, 2247, 2248, 2249, 2250, 2251, 2252, 2253, 2254] (by decide +kernel) (by decide +kernel)
/-! PipelineSimulator$Copier -/
set_option maxRecDepth 100000
def RX18 : String := "PipelineSimulator$Copier"
def TX18 : u_T := fun k => match k with
  | 0 => ("PipelineSimulator$Operator", "kind", "I", true)
  | 1 => ("PipelineSimulator$Operator", "a", "I", true)
  | 2 => ("PipelineSimulator$Operator", "b", "I", true)
  | 3 => ("PipelineSimulator$Operator", "instances", "I", false)
  | 4 => ("PipelineSimulator$Operator", "states", "LPipelineSimulator$Versions;", true)
  | 5 => ("PipelineSimulator$Operator", "processed", "I", false)
  | 6 => ("PipelineSimulator$Operator", "emitted", "I", false)
  | 7 => ("PipelineSimulator$Operator", "blocked", "I", false)
  | _ => ("PipelineSimulator$Operator", "idle", "I", false)
def tyX18 : Nat → FieldType := fun k => match k with
  | 0 => .int
  | 1 => .int
  | 2 => .int
  | 3 => .int
  | 4 => .object "PipelineSimulator$Versions"
  | 5 => .int
  | 6 => .int
  | 7 => .int
  | _ => .int
abbrev wsX180 : List Cond := u_ws RX18 TX18 9
theorem nmX18 : ∀ a, a < 9 → ∀ b, b < 9 → a ≠ b → (TX18 a).2.1 ≠ (TX18 b).2.1 := by decide +kernel
theorem tyX18_ok : ∀ k, k < 9 → parseFieldDescriptor (TX18 k).2.2.1 = some (tyX18 k) := by decide +kernel
abbrev cX18_process : ByteArray := prog_5_method_2_code
def yX18_process : MethodName := ⟨RX18, "process", "(IILPipelineSimulator$KeyStates;LPipelineSimulator$Output;)V"⟩
def dkwX18_process_1 : List UInt8 := [132, 5, 1, 167, 255, 232, 177]
abbrev dktX18_process_1 : List UInt8 := dkwX18_process_1 ++ []
def dkwX18_process_0 : List UInt8 := [3, 54, 5, 21, 5, 42, 180, 0, 9, 162, 0, 21, 25, 4, 27, 28, 21, 5, 96, 185, 0, 15, 3, 0]
abbrev dktX18_process_0 : List UInt8 := dkwX18_process_0 ++ dktX18_process_1
theorem dksX18_process_0 : cX18_process.data.toList.drop 0 = dktX18_process_0 := by decide +kernel
theorem dksX18_process_1 : cX18_process.data.toList.drop 24 = dktX18_process_1 := dk_seg dksX18_process_0 24 rfl rfl
theorem dX18_process_0 : decode cX18_process 0 = .ok (.iconst 0, 1) := dk_3 (dk_at dksX18_process_0 0 rfl rfl)
theorem dX18_process_1 : decode cX18_process 1 = .ok (.istore 5, 2) := dk_54 5 (dk_at dksX18_process_0 1 rfl rfl)
theorem dX18_process_3 : decode cX18_process 3 = .ok (.iload 5, 2) := dk_21 5 (dk_at dksX18_process_0 3 rfl rfl)
theorem dX18_process_5 : decode cX18_process 5 = .ok (.aload_n 0, 1) := dk_42 (dk_at dksX18_process_0 5 rfl rfl)
theorem dX18_process_6 : decode cX18_process 6 = .ok (.getfield 9, 3) := dk_180 0 9 (dk_at dksX18_process_0 6 rfl rfl)
theorem dX18_process_9 : decode cX18_process 9 = .ok (.if_icmp .ge 21, 3) := dk_162 0 21 (dk_at dksX18_process_0 9 rfl rfl)
theorem dX18_process_12 : decode cX18_process 12 = .ok (.aload 4, 2) := dk_25 4 (dk_at dksX18_process_0 12 rfl rfl)
theorem dX18_process_14 : decode cX18_process 14 = .ok (.iload_n 1, 1) := dk_27 (dk_at dksX18_process_0 14 rfl rfl)
theorem dX18_process_15 : decode cX18_process 15 = .ok (.iload_n 2, 1) := dk_28 (dk_at dksX18_process_0 15 rfl rfl)
theorem dX18_process_16 : decode cX18_process 16 = .ok (.iload 5, 2) := dk_21 5 (dk_at dksX18_process_0 16 rfl rfl)
theorem dX18_process_18 : decode cX18_process 18 = .ok (.iadd, 1) := dk_96 (dk_at dksX18_process_0 18 rfl rfl)
theorem dX18_process_19 : decode cX18_process 19 = .ok (.invokeinterface 15 3, 5) := by decide +kernel
theorem dX18_process_24 : decode cX18_process 24 = .ok (.iinc 5 1, 3) := dk_132 5 1 (dk_at dksX18_process_1 0 rfl rfl)
theorem dX18_process_27 : decode cX18_process 27 = .ok (.goto (-24), 3) := dk_167 255 232 (dk_at dksX18_process_1 3 rfl rfl)
theorem dX18_process_30 : decode cX18_process 30 = .ok (.return_, 1) := dk_177 (dk_at dksX18_process_1 6 rfl rfl)
abbrev cX18_init : ByteArray := prog_5_method_1_code
def yX18_init : MethodName := ⟨RX18, "<init>", "(II)V"⟩
def dkwX18_init_0 : List UInt8 := [42, 6, 27, 3, 28, 183, 0, 3, 177]
abbrev dktX18_init_0 : List UInt8 := dkwX18_init_0 ++ []
theorem dksX18_init_0 : cX18_init.data.toList.drop 0 = dktX18_init_0 := by decide +kernel
theorem dX18_init_0 : decode cX18_init 0 = .ok (.aload_n 0, 1) := dk_42 (dk_at dksX18_init_0 0 rfl rfl)
theorem dX18_init_1 : decode cX18_init 1 = .ok (.iconst 3, 1) := dk_6 (dk_at dksX18_init_0 1 rfl rfl)
theorem dX18_init_2 : decode cX18_init 2 = .ok (.iload_n 1, 1) := dk_27 (dk_at dksX18_init_0 2 rfl rfl)
theorem dX18_init_3 : decode cX18_init 3 = .ok (.iconst 0, 1) := dk_3 (dk_at dksX18_init_0 3 rfl rfl)
theorem dX18_init_4 : decode cX18_init 4 = .ok (.iload_n 2, 1) := dk_28 (dk_at dksX18_init_0 4 rfl rfl)
theorem dX18_init_5 : decode cX18_init 5 = .ok (.invokespecial 3, 3) := dk_183 0 3 (dk_at dksX18_init_0 5 rfl rfl)
theorem dX18_init_8 : decode cX18_init 8 = .ok (.return_, 1) := dk_177 (dk_at dksX18_init_0 8 rfl rfl)
theorem q137 : (Jvm.Cond.initialized "PipelineSimulator$Copier") ∈ lw_all := lw_g (lw_at lw_m1 40 rfl) rfl
theorem q341 : (Jvm.Cond.fieldLink "PipelineSimulator$Copier" (9 : Nat) "PipelineSimulator$Copier" "a" "I") ∈ lw_all := lw_g (lw_at lw_m2 4 rfl) rfl
theorem q342 : (Jvm.Cond.sameField "PipelineSimulator$Copier" "PipelineSimulator$Operator" "a" "I") ∈ lw_all := lw_g (lw_at lw_m2 5 rfl) rfl
theorem q429 : (Jvm.Cond.selects "PipelineSimulator$Copier" ({ cls := "java/lang/Object", name := "getClass", desc := "()Ljava/lang/Class;" } : Jvm.MethodName) ({ cls := "java/lang/Object", name := "getClass", desc := "()Ljava/lang/Class;" } : Jvm.MethodName)) ∈ lw_all := lw_g (lw_at lw_m2 92 rfl) rfl
theorem q1240 : (Jvm.Cond.selects "PipelineSimulator$Copier" ({ cls := "PipelineSimulator$Operator", name := "reset", desc := "()V" } : Jvm.MethodName) ({ cls := "PipelineSimulator$Operator", name := "reset", desc := "()V" } : Jvm.MethodName)) ∈ lw_all := lw_g (lw_at lw_m5 183 rfl) rfl
theorem q1341 : (Jvm.Cond.selects "PipelineSimulator$Copier" ({ cls := "PipelineSimulator$Operator", name := "isKeyed", desc := "()Z" } : Jvm.MethodName) ({ cls := "PipelineSimulator$Operator", name := "isKeyed", desc := "()Z" } : Jvm.MethodName)) ∈ lw_all := lw_g (lw_at lw_m6 44 rfl) rfl
theorem q1492 : (Jvm.Cond.instanceMethod ({ cls := "PipelineSimulator$Copier", name := "process", desc := "(IILPipelineSimulator$KeyStates;LPipelineSimulator$Output;)V" } : Jvm.MethodName)) ∈ lw_all := lw_g (lw_at lw_m6 195 rfl) rfl
theorem q1493 : (Jvm.Cond.code ({ cls := "PipelineSimulator$Copier", name := "process", desc := "(IILPipelineSimulator$KeyStates;LPipelineSimulator$Output;)V" } : Jvm.MethodName) prog_5_method_2_code (6 : Nat) (Option.none : Option Jvm.ClassFile.FieldType)) ∈ lw_all := lw_g (lw_at lw_m6 196 rfl) rfl
theorem q1494 : (Jvm.Cond.interfaceEntry "PipelineSimulator$Copier" (15 : Nat)) ∈ lw_tbl := lw_at lw_m6 197 rfl
theorem q1495 : (Jvm.Cond.methodLink "PipelineSimulator$Copier" (15 : Nat) ({ cls := "PipelineSimulator$Output", name := "emit", desc := "(II)V" } : Jvm.MethodName)) ∈ lw_all := lw_g (lw_at lw_m6 198 rfl) rfl
theorem q1550 : (Jvm.Cond.selects "PipelineSimulator$Copier" ({ cls := "PipelineSimulator$Operator", name := "process", desc := "(IILPipelineSimulator$KeyStates;LPipelineSimulator$Output;)V" } : Jvm.MethodName) ({ cls := "PipelineSimulator$Copier", name := "process", desc := "(IILPipelineSimulator$KeyStates;LPipelineSimulator$Output;)V" } : Jvm.MethodName)) ∈ lw_all := lw_g (lw_at lw_m7 13 rfl) rfl
theorem q2257 : (Jvm.Cond.instantiable "PipelineSimulator$Copier" (9 : Nat)) ∈ lw_all := lw_g (lw_at lw_m10 0 rfl) rfl
theorem q2259 : (Jvm.Cond.instanceMethod ({ cls := "PipelineSimulator$Copier", name := "<init>", desc := "(II)V" } : Jvm.MethodName)) ∈ lw_all := lw_g (lw_at lw_m10 2 rfl) rfl
theorem q2260 : (Jvm.Cond.code ({ cls := "PipelineSimulator$Copier", name := "<init>", desc := "(II)V" } : Jvm.MethodName) prog_5_method_1_code (3 : Nat) (Option.none : Option Jvm.ClassFile.FieldType)) ∈ lw_all := lw_g (lw_at lw_m10 3 rfl) rfl
theorem q2261 : (Jvm.Cond.methodLink "PipelineSimulator$Copier" (3 : Nat) ({ cls := "PipelineSimulator$Operator", name := "<init>", desc := "(IIII)V" } : Jvm.MethodName)) ∈ lw_all := lw_g (lw_at lw_m10 4 rfl) rfl
theorem q2262 : (Jvm.Cond.laysFinal "PipelineSimulator$Copier" "PipelineSimulator$Operator" "kind" "I") ∈ lw_all := lw_g (lw_at lw_m10 5 rfl) rfl
theorem q2263 : (Jvm.Cond.laysFinal "PipelineSimulator$Copier" "PipelineSimulator$Operator" "a" "I") ∈ lw_all := lw_g (lw_at lw_m10 6 rfl) rfl
theorem q2264 : (Jvm.Cond.laysFinal "PipelineSimulator$Copier" "PipelineSimulator$Operator" "b" "I") ∈ lw_all := lw_g (lw_at lw_m10 7 rfl) rfl
theorem q2265 : (Jvm.Cond.lays "PipelineSimulator$Copier" "PipelineSimulator$Operator" "instances" "I") ∈ lw_all := lw_g (lw_at lw_m10 8 rfl) rfl
theorem q2266 : (Jvm.Cond.laysFinal "PipelineSimulator$Copier" "PipelineSimulator$Operator" "states" "LPipelineSimulator$Versions;") ∈ lw_all := lw_g (lw_at lw_m10 9 rfl) rfl
theorem q2267 : (Jvm.Cond.lays "PipelineSimulator$Copier" "PipelineSimulator$Operator" "processed" "I") ∈ lw_all := lw_g (lw_at lw_m10 10 rfl) rfl
theorem q2268 : (Jvm.Cond.lays "PipelineSimulator$Copier" "PipelineSimulator$Operator" "emitted" "I") ∈ lw_all := lw_g (lw_at lw_m10 11 rfl) rfl
theorem q2269 : (Jvm.Cond.lays "PipelineSimulator$Copier" "PipelineSimulator$Operator" "blocked" "I") ∈ lw_all := lw_g (lw_at lw_m10 12 rfl) rfl
theorem q2270 : (Jvm.Cond.lays "PipelineSimulator$Copier" "PipelineSimulator$Operator" "idle" "I") ∈ lw_all := lw_g (lw_at lw_m10 13 rfl) rfl
theorem q2271 : (Jvm.Cond.superclass "PipelineSimulator$Copier" "PipelineSimulator$Operator") ∈ lw_all := lw_g (lw_at lw_m10 14 rfl) rfl
theorem q2351 : (Jvm.Cond.selects "PipelineSimulator$Copier" ({ cls := "PipelineSimulator$Operator", name := "write", desc := "(Ljava/lang/StringBuilder;)V" } : Jvm.MethodName) ({ cls := "PipelineSimulator$Operator", name := "write", desc := "(Ljava/lang/StringBuilder;)V" } : Jvm.MethodName)) ∈ lw_all := lw_g (lw_at lw_m10 94 rfl) rfl
theorem q2936 : (Jvm.Cond.castable "PipelineSimulator$Copier" "PipelineSimulator$Operator") ∈ lw_tbl := lw_at lw_m12 199 rfl
theorem q2965 : (Jvm.Cond.castable "PipelineSimulator$Copier" "java/lang/Object") ∈ lw_tbl := lw_at lw_m12 228 rfl
theorem in_X18 : ∀ w ∈ wsX180, w ∈ lw_all := lw_in wsX180 [2262, 2263, 2264, 2265, 2266, 2267, 2268, 2269, 2270] (by decide +kernel) (by decide +kernel)
/-! PipelineSimulator$Summer -/
set_option maxRecDepth 100000
def RX19 : String := "PipelineSimulator$Summer"
def TX19 : u_T := fun k => match k with
  | 0 => ("PipelineSimulator$Operator", "kind", "I", true)
  | 1 => ("PipelineSimulator$Operator", "a", "I", true)
  | 2 => ("PipelineSimulator$Operator", "b", "I", true)
  | 3 => ("PipelineSimulator$Operator", "instances", "I", false)
  | 4 => ("PipelineSimulator$Operator", "states", "LPipelineSimulator$Versions;", true)
  | 5 => ("PipelineSimulator$Operator", "processed", "I", false)
  | 6 => ("PipelineSimulator$Operator", "emitted", "I", false)
  | 7 => ("PipelineSimulator$Operator", "blocked", "I", false)
  | _ => ("PipelineSimulator$Operator", "idle", "I", false)
def tyX19 : Nat → FieldType := fun k => match k with
  | 0 => .int
  | 1 => .int
  | 2 => .int
  | 3 => .int
  | 4 => .object "PipelineSimulator$Versions"
  | 5 => .int
  | 6 => .int
  | 7 => .int
  | _ => .int
abbrev wsX190 : List Cond := u_ws RX19 TX19 9
theorem nmX19 : ∀ a, a < 9 → ∀ b, b < 9 → a ≠ b → (TX19 a).2.1 ≠ (TX19 b).2.1 := by decide +kernel
theorem tyX19_ok : ∀ k, k < 9 → parseFieldDescriptor (TX19 k).2.2.1 = some (tyX19 k) := by decide +kernel
abbrev cX19_process : ByteArray := prog_22_method_2_code
def yX19_process : MethodName := ⟨RX19, "process", "(IILPipelineSimulator$KeyStates;LPipelineSimulator$Output;)V"⟩
def dkwX19_process_2 : List UInt8 := [185, 0, 31, 3, 0, 177]
abbrev dktX19_process_2 : List UInt8 := dkwX19_process_2 ++ []
def dkwX19_process_1 : List UInt8 := [162, 0, 13, 45, 27, 21, 5, 21, 6, 182, 0, 24, 177, 45, 27, 182, 0, 27, 25, 4, 27, 21, 5]
abbrev dktX19_process_1 : List UInt8 := dkwX19_process_1 ++ dktX19_process_2
def dkwX19_process_0 : List UInt8 := [45, 27, 182, 0, 9, 28, 96, 54, 5, 45, 27, 182, 0, 15, 4, 96, 54, 6, 21, 6, 42, 180, 0, 18]
abbrev dktX19_process_0 : List UInt8 := dkwX19_process_0 ++ dktX19_process_1
theorem dksX19_process_0 : cX19_process.data.toList.drop 0 = dktX19_process_0 := by decide +kernel
theorem dksX19_process_1 : cX19_process.data.toList.drop 24 = dktX19_process_1 := dk_seg dksX19_process_0 24 rfl rfl
theorem dksX19_process_2 : cX19_process.data.toList.drop 47 = dktX19_process_2 := dk_seg dksX19_process_1 23 rfl rfl
theorem dX19_process_0 : decode cX19_process 0 = .ok (.aload_n 3, 1) := dk_45 (dk_at dksX19_process_0 0 rfl rfl)
theorem dX19_process_1 : decode cX19_process 1 = .ok (.iload_n 1, 1) := dk_27 (dk_at dksX19_process_0 1 rfl rfl)
theorem dX19_process_2 : decode cX19_process 2 = .ok (.invokevirtual 9, 3) := dk_182 0 9 (dk_at dksX19_process_0 2 rfl rfl)
theorem dX19_process_5 : decode cX19_process 5 = .ok (.iload_n 2, 1) := dk_28 (dk_at dksX19_process_0 5 rfl rfl)
theorem dX19_process_6 : decode cX19_process 6 = .ok (.iadd, 1) := dk_96 (dk_at dksX19_process_0 6 rfl rfl)
theorem dX19_process_7 : decode cX19_process 7 = .ok (.istore 5, 2) := dk_54 5 (dk_at dksX19_process_0 7 rfl rfl)
theorem dX19_process_9 : decode cX19_process 9 = .ok (.aload_n 3, 1) := dk_45 (dk_at dksX19_process_0 9 rfl rfl)
theorem dX19_process_10 : decode cX19_process 10 = .ok (.iload_n 1, 1) := dk_27 (dk_at dksX19_process_0 10 rfl rfl)
theorem dX19_process_11 : decode cX19_process 11 = .ok (.invokevirtual 15, 3) := dk_182 0 15 (dk_at dksX19_process_0 11 rfl rfl)
theorem dX19_process_14 : decode cX19_process 14 = .ok (.iconst 1, 1) := dk_4 (dk_at dksX19_process_0 14 rfl rfl)
theorem dX19_process_15 : decode cX19_process 15 = .ok (.iadd, 1) := dk_96 (dk_at dksX19_process_0 15 rfl rfl)
theorem dX19_process_16 : decode cX19_process 16 = .ok (.istore 6, 2) := dk_54 6 (dk_at dksX19_process_0 16 rfl rfl)
theorem dX19_process_18 : decode cX19_process 18 = .ok (.iload 6, 2) := dk_21 6 (dk_at dksX19_process_0 18 rfl rfl)
theorem dX19_process_20 : decode cX19_process 20 = .ok (.aload_n 0, 1) := dk_42 (dk_at dksX19_process_0 20 rfl rfl)
theorem dX19_process_21 : decode cX19_process 21 = .ok (.getfield 18, 3) := dk_180 0 18 (dk_at dksX19_process_0 21 rfl rfl)
theorem dX19_process_24 : decode cX19_process 24 = .ok (.if_icmp .ge 13, 3) := dk_162 0 13 (dk_at dksX19_process_1 0 rfl rfl)
theorem dX19_process_27 : decode cX19_process 27 = .ok (.aload_n 3, 1) := dk_45 (dk_at dksX19_process_1 3 rfl rfl)
theorem dX19_process_28 : decode cX19_process 28 = .ok (.iload_n 1, 1) := dk_27 (dk_at dksX19_process_1 4 rfl rfl)
theorem dX19_process_29 : decode cX19_process 29 = .ok (.iload 5, 2) := dk_21 5 (dk_at dksX19_process_1 5 rfl rfl)
theorem dX19_process_31 : decode cX19_process 31 = .ok (.iload 6, 2) := dk_21 6 (dk_at dksX19_process_1 7 rfl rfl)
theorem dX19_process_33 : decode cX19_process 33 = .ok (.invokevirtual 24, 3) := dk_182 0 24 (dk_at dksX19_process_1 9 rfl rfl)
theorem dX19_process_36 : decode cX19_process 36 = .ok (.return_, 1) := dk_177 (dk_at dksX19_process_1 12 rfl rfl)
theorem dX19_process_37 : decode cX19_process 37 = .ok (.aload_n 3, 1) := dk_45 (dk_at dksX19_process_1 13 rfl rfl)
theorem dX19_process_38 : decode cX19_process 38 = .ok (.iload_n 1, 1) := dk_27 (dk_at dksX19_process_1 14 rfl rfl)
theorem dX19_process_39 : decode cX19_process 39 = .ok (.invokevirtual 27, 3) := dk_182 0 27 (dk_at dksX19_process_1 15 rfl rfl)
theorem dX19_process_42 : decode cX19_process 42 = .ok (.aload 4, 2) := dk_25 4 (dk_at dksX19_process_1 18 rfl rfl)
theorem dX19_process_44 : decode cX19_process 44 = .ok (.iload_n 1, 1) := dk_27 (dk_at dksX19_process_1 20 rfl rfl)
theorem dX19_process_45 : decode cX19_process 45 = .ok (.iload 5, 2) := dk_21 5 (dk_at dksX19_process_1 21 rfl rfl)
theorem dX19_process_47 : decode cX19_process 47 = .ok (.invokeinterface 31 3, 5) := by decide +kernel
theorem dX19_process_52 : decode cX19_process 52 = .ok (.return_, 1) := dk_177 (dk_at dksX19_process_2 5 rfl rfl)
abbrev cX19_init : ByteArray := prog_22_method_1_code
def yX19_init : MethodName := ⟨RX19, "<init>", "(II)V"⟩
def dkwX19_init_0 : List UInt8 := [42, 7, 27, 28, 183, 0, 3, 177]
abbrev dktX19_init_0 : List UInt8 := dkwX19_init_0 ++ []
theorem dksX19_init_0 : cX19_init.data.toList.drop 0 = dktX19_init_0 := by decide +kernel
theorem dX19_init_0 : decode cX19_init 0 = .ok (.aload_n 0, 1) := dk_42 (dk_at dksX19_init_0 0 rfl rfl)
theorem dX19_init_1 : decode cX19_init 1 = .ok (.iconst 4, 1) := dk_7 (dk_at dksX19_init_0 1 rfl rfl)
theorem dX19_init_2 : decode cX19_init 2 = .ok (.iload_n 1, 1) := dk_27 (dk_at dksX19_init_0 2 rfl rfl)
theorem dX19_init_3 : decode cX19_init 3 = .ok (.iload_n 2, 1) := dk_28 (dk_at dksX19_init_0 3 rfl rfl)
theorem dX19_init_4 : decode cX19_init 4 = .ok (.invokespecial 3, 3) := dk_183 0 3 (dk_at dksX19_init_0 4 rfl rfl)
theorem dX19_init_7 : decode cX19_init 7 = .ok (.return_, 1) := dk_177 (dk_at dksX19_init_0 7 rfl rfl)
theorem q138 : (Jvm.Cond.initialized "PipelineSimulator$Summer") ∈ lw_all := lw_g (lw_at lw_m1 41 rfl) rfl
theorem q343 : (Jvm.Cond.fieldLink "PipelineSimulator$Summer" (18 : Nat) "PipelineSimulator$Summer" "a" "I") ∈ lw_all := lw_g (lw_at lw_m2 6 rfl) rfl
theorem q344 : (Jvm.Cond.sameField "PipelineSimulator$Summer" "PipelineSimulator$Operator" "a" "I") ∈ lw_all := lw_g (lw_at lw_m2 7 rfl) rfl
theorem q442 : (Jvm.Cond.selects "PipelineSimulator$Summer" ({ cls := "java/lang/Object", name := "getClass", desc := "()Ljava/lang/Class;" } : Jvm.MethodName) ({ cls := "java/lang/Object", name := "getClass", desc := "()Ljava/lang/Class;" } : Jvm.MethodName)) ∈ lw_all := lw_g (lw_at lw_m2 105 rfl) rfl
theorem q1247 : (Jvm.Cond.selects "PipelineSimulator$Summer" ({ cls := "PipelineSimulator$Operator", name := "reset", desc := "()V" } : Jvm.MethodName) ({ cls := "PipelineSimulator$Operator", name := "reset", desc := "()V" } : Jvm.MethodName)) ∈ lw_all := lw_g (lw_at lw_m5 190 rfl) rfl
theorem q1348 : (Jvm.Cond.selects "PipelineSimulator$Summer" ({ cls := "PipelineSimulator$Operator", name := "isKeyed", desc := "()Z" } : Jvm.MethodName) ({ cls := "PipelineSimulator$Keyed", name := "isKeyed", desc := "()Z" } : Jvm.MethodName)) ∈ lw_all := lw_g (lw_at lw_m6 51 rfl) rfl
theorem q1530 : (Jvm.Cond.instanceMethod ({ cls := "PipelineSimulator$Summer", name := "process", desc := "(IILPipelineSimulator$KeyStates;LPipelineSimulator$Output;)V" } : Jvm.MethodName)) ∈ lw_all := lw_g (lw_at lw_m6 233 rfl) rfl
theorem q1531 : (Jvm.Cond.code ({ cls := "PipelineSimulator$Summer", name := "process", desc := "(IILPipelineSimulator$KeyStates;LPipelineSimulator$Output;)V" } : Jvm.MethodName) prog_22_method_2_code (7 : Nat) (Option.none : Option Jvm.ClassFile.FieldType)) ∈ lw_all := lw_g (lw_at lw_m6 234 rfl) rfl
theorem q1532 : (Jvm.Cond.methodLink "PipelineSimulator$Summer" (9 : Nat) ({ cls := "PipelineSimulator$KeyStates", name := "first", desc := "(I)I" } : Jvm.MethodName)) ∈ lw_all := lw_g (lw_at lw_m6 235 rfl) rfl
theorem q1533 : (Jvm.Cond.methodLink "PipelineSimulator$Summer" (15 : Nat) ({ cls := "PipelineSimulator$KeyStates", name := "second", desc := "(I)I" } : Jvm.MethodName)) ∈ lw_all := lw_g (lw_at lw_m6 236 rfl) rfl
theorem q1534 : (Jvm.Cond.methodLink "PipelineSimulator$Summer" (24 : Nat) ({ cls := "PipelineSimulator$KeyStates", name := "set", desc := "(III)V" } : Jvm.MethodName)) ∈ lw_all := lw_g (lw_at lw_m6 237 rfl) rfl
theorem q1535 : (Jvm.Cond.methodLink "PipelineSimulator$Summer" (27 : Nat) ({ cls := "PipelineSimulator$KeyStates", name := "remove", desc := "(I)V" } : Jvm.MethodName)) ∈ lw_all := lw_g (lw_at lw_m6 238 rfl) rfl
theorem q1548 : (Jvm.Cond.interfaceEntry "PipelineSimulator$Summer" (31 : Nat)) ∈ lw_tbl := lw_at lw_m7 11 rfl
theorem q1549 : (Jvm.Cond.methodLink "PipelineSimulator$Summer" (31 : Nat) ({ cls := "PipelineSimulator$Output", name := "emit", desc := "(II)V" } : Jvm.MethodName)) ∈ lw_all := lw_g (lw_at lw_m7 12 rfl) rfl
theorem q1557 : (Jvm.Cond.selects "PipelineSimulator$Summer" ({ cls := "PipelineSimulator$Operator", name := "process", desc := "(IILPipelineSimulator$KeyStates;LPipelineSimulator$Output;)V" } : Jvm.MethodName) ({ cls := "PipelineSimulator$Summer", name := "process", desc := "(IILPipelineSimulator$KeyStates;LPipelineSimulator$Output;)V" } : Jvm.MethodName)) ∈ lw_all := lw_g (lw_at lw_m7 20 rfl) rfl
theorem q2273 : (Jvm.Cond.instantiable "PipelineSimulator$Summer" (9 : Nat)) ∈ lw_all := lw_g (lw_at lw_m10 16 rfl) rfl
theorem q2275 : (Jvm.Cond.instanceMethod ({ cls := "PipelineSimulator$Summer", name := "<init>", desc := "(II)V" } : Jvm.MethodName)) ∈ lw_all := lw_g (lw_at lw_m10 18 rfl) rfl
theorem q2276 : (Jvm.Cond.code ({ cls := "PipelineSimulator$Summer", name := "<init>", desc := "(II)V" } : Jvm.MethodName) prog_22_method_1_code (3 : Nat) (Option.none : Option Jvm.ClassFile.FieldType)) ∈ lw_all := lw_g (lw_at lw_m10 19 rfl) rfl
theorem q2277 : (Jvm.Cond.methodLink "PipelineSimulator$Summer" (3 : Nat) ({ cls := "PipelineSimulator$Keyed", name := "<init>", desc := "(III)V" } : Jvm.MethodName)) ∈ lw_all := lw_g (lw_at lw_m10 20 rfl) rfl
theorem q2278 : (Jvm.Cond.laysFinal "PipelineSimulator$Summer" "PipelineSimulator$Operator" "kind" "I") ∈ lw_all := lw_g (lw_at lw_m10 21 rfl) rfl
theorem q2279 : (Jvm.Cond.laysFinal "PipelineSimulator$Summer" "PipelineSimulator$Operator" "a" "I") ∈ lw_all := lw_g (lw_at lw_m10 22 rfl) rfl
theorem q2280 : (Jvm.Cond.laysFinal "PipelineSimulator$Summer" "PipelineSimulator$Operator" "b" "I") ∈ lw_all := lw_g (lw_at lw_m10 23 rfl) rfl
theorem q2281 : (Jvm.Cond.lays "PipelineSimulator$Summer" "PipelineSimulator$Operator" "instances" "I") ∈ lw_all := lw_g (lw_at lw_m10 24 rfl) rfl
theorem q2282 : (Jvm.Cond.laysFinal "PipelineSimulator$Summer" "PipelineSimulator$Operator" "states" "LPipelineSimulator$Versions;") ∈ lw_all := lw_g (lw_at lw_m10 25 rfl) rfl
theorem q2283 : (Jvm.Cond.lays "PipelineSimulator$Summer" "PipelineSimulator$Operator" "processed" "I") ∈ lw_all := lw_g (lw_at lw_m10 26 rfl) rfl
theorem q2284 : (Jvm.Cond.lays "PipelineSimulator$Summer" "PipelineSimulator$Operator" "emitted" "I") ∈ lw_all := lw_g (lw_at lw_m10 27 rfl) rfl
theorem q2285 : (Jvm.Cond.lays "PipelineSimulator$Summer" "PipelineSimulator$Operator" "blocked" "I") ∈ lw_all := lw_g (lw_at lw_m10 28 rfl) rfl
theorem q2286 : (Jvm.Cond.lays "PipelineSimulator$Summer" "PipelineSimulator$Operator" "idle" "I") ∈ lw_all := lw_g (lw_at lw_m10 29 rfl) rfl
theorem q2287 : (Jvm.Cond.superclass "PipelineSimulator$Summer" "PipelineSimulator$Keyed") ∈ lw_all := lw_g (lw_at lw_m10 30 rfl) rfl
theorem q2386 : (Jvm.Cond.selects "PipelineSimulator$Summer" ({ cls := "PipelineSimulator$Operator", name := "write", desc := "(Ljava/lang/StringBuilder;)V" } : Jvm.MethodName) ({ cls := "PipelineSimulator$Operator", name := "write", desc := "(Ljava/lang/StringBuilder;)V" } : Jvm.MethodName)) ∈ lw_all := lw_g (lw_at lw_m10 129 rfl) rfl
theorem q2943 : (Jvm.Cond.castable "PipelineSimulator$Summer" "PipelineSimulator$Operator") ∈ lw_tbl := lw_at lw_m12 206 rfl
theorem q2966 : (Jvm.Cond.castable "PipelineSimulator$Summer" "java/lang/Object") ∈ lw_tbl := lw_at lw_m12 229 rfl
theorem in_X19 : ∀ w ∈ wsX190, w ∈ lw_all := lw_in wsX190 [2278, 2279, 2280, 2281, 2282, 2283, 2284, 2285, 2286] (by decide +kernel) (by decide +kernel)
/-! PipelineSimulator$Counter -/
set_option maxRecDepth 100000
def RX2 : String := "PipelineSimulator$Counter"
def TX2 : u_T := fun k => match k with
  | _ => ("PipelineSimulator$Counter", "value", "I", false)
def tyX2 : Nat → FieldType := fun k => match k with
  | _ => .int
abbrev wsX20 : List Cond := u_ws RX2 TX2 1
theorem nmX2 : ∀ a, a < 1 → ∀ b, b < 1 → a ≠ b → (TX2 a).2.1 ≠ (TX2 b).2.1 := by decide +kernel
theorem tyX2_ok : ∀ k, k < 1 → parseFieldDescriptor (TX2 k).2.2.1 = some (tyX2 k) := by decide +kernel
abbrev cX2_init : ByteArray := prog_7_method_1_code
def yX2_init : MethodName := ⟨RX2, "<init>", "()V"⟩
theorem dX2_init_0 : decode cX2_init 0 = .ok (.aload_n 0, 1) := by decide +kernel
theorem dX2_init_1 : decode cX2_init 1 = .ok (.invokespecial 1, 3) := by decide +kernel
theorem dX2_init_4 : decode cX2_init 4 = .ok (.return_, 1) := by decide +kernel
abbrev cX2_reset : ByteArray := prog_7_method_3_code
def yX2_reset : MethodName := ⟨RX2, "reset", "()V"⟩
def dkwX2_reset_0 : List UInt8 := [42, 3, 181, 0, 7, 177]
abbrev dktX2_reset_0 : List UInt8 := dkwX2_reset_0 ++ []
theorem dksX2_reset_0 : cX2_reset.data.toList.drop 0 = dktX2_reset_0 := by decide +kernel
theorem dX2_reset_0 : decode cX2_reset 0 = .ok (.aload_n 0, 1) := dk_42 (dk_at dksX2_reset_0 0 rfl rfl)
theorem dX2_reset_1 : decode cX2_reset 1 = .ok (.iconst 0, 1) := dk_3 (dk_at dksX2_reset_0 1 rfl rfl)
theorem dX2_reset_2 : decode cX2_reset 2 = .ok (.putfield 7, 3) := dk_181 0 7 (dk_at dksX2_reset_0 2 rfl rfl)
theorem dX2_reset_5 : decode cX2_reset 5 = .ok (.return_, 1) := dk_177 (dk_at dksX2_reset_0 5 rfl rfl)
abbrev cX2_copyTo : ByteArray := prog_7_method_2_code
def yX2_copyTo : MethodName := ⟨RX2, "copyTo", "(LPipelineSimulator$Counter;)V"⟩
def dkwX2_copyTo_0 : List UInt8 := [43, 42, 180, 0, 7, 181, 0, 7, 177]
abbrev dktX2_copyTo_0 : List UInt8 := dkwX2_copyTo_0 ++ []
theorem dksX2_copyTo_0 : cX2_copyTo.data.toList.drop 0 = dktX2_copyTo_0 := by decide +kernel
theorem dX2_copyTo_0 : decode cX2_copyTo 0 = .ok (.aload_n 1, 1) := dk_43 (dk_at dksX2_copyTo_0 0 rfl rfl)
theorem dX2_copyTo_1 : decode cX2_copyTo 1 = .ok (.aload_n 0, 1) := dk_42 (dk_at dksX2_copyTo_0 1 rfl rfl)
theorem dX2_copyTo_2 : decode cX2_copyTo 2 = .ok (.getfield 7, 3) := dk_180 0 7 (dk_at dksX2_copyTo_0 2 rfl rfl)
theorem dX2_copyTo_5 : decode cX2_copyTo 5 = .ok (.putfield 7, 3) := dk_181 0 7 (dk_at dksX2_copyTo_0 5 rfl rfl)
theorem dX2_copyTo_8 : decode cX2_copyTo 8 = .ok (.return_, 1) := dk_177 (dk_at dksX2_copyTo_0 8 rfl rfl)
abbrev cX2_copyTo_2 : ByteArray := prog_7_method_4_code
def yX2_copyTo_2 : MethodName := ⟨RX2, "copyTo", "(Ljava/lang/Object;)V"⟩
def dkwX2_copyTo_2_0 : List UInt8 := [42, 43, 192, 0, 8, 182, 0, 13, 177]
abbrev dktX2_copyTo_2_0 : List UInt8 := dkwX2_copyTo_2_0 ++ []
theorem dksX2_copyTo_2_0 : cX2_copyTo_2.data.toList.drop 0 = dktX2_copyTo_2_0 := by decide +kernel
theorem dX2_copyTo_2_0 : decode cX2_copyTo_2 0 = .ok (.aload_n 0, 1) := dk_42 (dk_at dksX2_copyTo_2_0 0 rfl rfl)
theorem dX2_copyTo_2_1 : decode cX2_copyTo_2 1 = .ok (.aload_n 1, 1) := dk_43 (dk_at dksX2_copyTo_2_0 1 rfl rfl)
theorem dX2_copyTo_2_2 : decode cX2_copyTo_2 2 = .ok (.checkcast 8, 3) := dk_192 0 8 (dk_at dksX2_copyTo_2_0 2 rfl rfl)
theorem dX2_copyTo_2_5 : decode cX2_copyTo_2 5 = .ok (.invokevirtual 13, 3) := dk_182 0 13 (dk_at dksX2_copyTo_2_0 5 rfl rfl)
theorem dX2_copyTo_2_8 : decode cX2_copyTo_2 8 = .ok (.return_, 1) := dk_177 (dk_at dksX2_copyTo_2_0 8 rfl rfl)
theorem q105 : (Jvm.Cond.initialized "PipelineSimulator$Counter") ∈ lw_all := lw_g (lw_at lw_m1 8 rfl) rfl
theorem q224 : (Jvm.Cond.instantiable "PipelineSimulator$Counter" (1 : Nat)) ∈ lw_all := lw_g (lw_at lw_m1 127 rfl) rfl
theorem q226 : (Jvm.Cond.instanceMethod ({ cls := "PipelineSimulator$Counter", name := "<init>", desc := "()V" } : Jvm.MethodName)) ∈ lw_all := lw_g (lw_at lw_m1 129 rfl) rfl
theorem q227 : (Jvm.Cond.code ({ cls := "PipelineSimulator$Counter", name := "<init>", desc := "()V" } : Jvm.MethodName) prog_7_method_1_code (1 : Nat) (Option.none : Option Jvm.ClassFile.FieldType)) ∈ lw_all := lw_g (lw_at lw_m1 130 rfl) rfl
theorem q228 : (Jvm.Cond.methodLink "PipelineSimulator$Counter" (1 : Nat) ({ cls := "java/lang/Object", name := "<init>", desc := "()V" } : Jvm.MethodName)) ∈ lw_all := lw_g (lw_at lw_m1 131 rfl) rfl
theorem q229 : (Jvm.Cond.fieldLink "PipelineSimulator$Counter" (7 : Nat) "PipelineSimulator$Counter" "value" "I") ∈ lw_all := lw_g (lw_at lw_m1 132 rfl) rfl
theorem q232 : (Jvm.Cond.lays "PipelineSimulator$Counter" "PipelineSimulator$Counter" "value" "I") ∈ lw_all := lw_g (lw_at lw_m1 135 rfl) rfl
theorem q233 : (Jvm.Cond.soleField "PipelineSimulator$Counter" "value") ∈ lw_all := lw_g (lw_at lw_m1 136 rfl) rfl
theorem q234 : (Jvm.Cond.superclass "PipelineSimulator$Counter" "java/lang/Object") ∈ lw_all := lw_g (lw_at lw_m1 137 rfl) rfl
theorem q430 : (Jvm.Cond.selects "PipelineSimulator$Counter" ({ cls := "java/lang/Object", name := "getClass", desc := "()Ljava/lang/Class;" } : Jvm.MethodName) ({ cls := "java/lang/Object", name := "getClass", desc := "()Ljava/lang/Class;" } : Jvm.MethodName)) ∈ lw_all := lw_g (lw_at lw_m2 93 rfl) rfl
theorem q1220 : (Jvm.Cond.castable "PipelineSimulator$Counter" "PipelineSimulator$Copyable") ∈ lw_tbl := lw_at lw_m5 163 rfl
theorem q1221 : (Jvm.Cond.selects "PipelineSimulator$Counter" ({ cls := "PipelineSimulator$Copyable", name := "reset", desc := "()V" } : Jvm.MethodName) ({ cls := "PipelineSimulator$Counter", name := "reset", desc := "()V" } : Jvm.MethodName)) ∈ lw_all := lw_g (lw_at lw_m5 164 rfl) rfl
theorem q1222 : (Jvm.Cond.unhidden "PipelineSimulator$Counter" "reset" "()V") ∈ lw_tbl := lw_at lw_m5 165 rfl
theorem q1223 : (Jvm.Cond.instanceMethod ({ cls := "PipelineSimulator$Counter", name := "reset", desc := "()V" } : Jvm.MethodName)) ∈ lw_all := lw_g (lw_at lw_m5 166 rfl) rfl
theorem q1224 : (Jvm.Cond.publicMethod ({ cls := "PipelineSimulator$Counter", name := "reset", desc := "()V" } : Jvm.MethodName)) ∈ lw_tbl := lw_at lw_m5 167 rfl
theorem q1225 : (Jvm.Cond.code ({ cls := "PipelineSimulator$Counter", name := "reset", desc := "()V" } : Jvm.MethodName) prog_7_method_3_code (1 : Nat) (Option.none : Option Jvm.ClassFile.FieldType)) ∈ lw_all := lw_g (lw_at lw_m5 168 rfl) rfl
theorem q1648 : (Jvm.Cond.instanceMethod ({ cls := "PipelineSimulator$Counter", name := "copyTo", desc := "(LPipelineSimulator$Counter;)V" } : Jvm.MethodName)) ∈ lw_all := lw_g (lw_at lw_m7 111 rfl) rfl
theorem q1649 : (Jvm.Cond.selects "PipelineSimulator$Counter" ({ cls := "PipelineSimulator$Counter", name := "copyTo", desc := "(LPipelineSimulator$Counter;)V" } : Jvm.MethodName) ({ cls := "PipelineSimulator$Counter", name := "copyTo", desc := "(LPipelineSimulator$Counter;)V" } : Jvm.MethodName)) ∈ lw_all := lw_g (lw_at lw_m7 112 rfl) rfl
theorem q1650 : (Jvm.Cond.code ({ cls := "PipelineSimulator$Counter", name := "copyTo", desc := "(LPipelineSimulator$Counter;)V" } : Jvm.MethodName) prog_7_method_2_code (2 : Nat) (Option.none : Option Jvm.ClassFile.FieldType)) ∈ lw_all := lw_g (lw_at lw_m7 113 rfl) rfl
theorem q1771 : (Jvm.Cond.selects "PipelineSimulator$Counter" ({ cls := "PipelineSimulator$Copyable", name := "copyTo", desc := "(Ljava/lang/Object;)V" } : Jvm.MethodName) ({ cls := "PipelineSimulator$Counter", name := "copyTo", desc := "(Ljava/lang/Object;)V" } : Jvm.MethodName)) ∈ lw_all := lw_g (lw_at lw_m7 234 rfl) rfl
theorem q1772 : (Jvm.Cond.unhidden "PipelineSimulator$Counter" "copyTo" "(Ljava/lang/Object;)V") ∈ lw_tbl := lw_at lw_m7 235 rfl
theorem q1773 : (Jvm.Cond.instanceMethod ({ cls := "PipelineSimulator$Counter", name := "copyTo", desc := "(Ljava/lang/Object;)V" } : Jvm.MethodName)) ∈ lw_all := lw_g (lw_at lw_m7 236 rfl) rfl
theorem q1774 : (Jvm.Cond.publicMethod ({ cls := "PipelineSimulator$Counter", name := "copyTo", desc := "(Ljava/lang/Object;)V" } : Jvm.MethodName)) ∈ lw_tbl := lw_at lw_m7 237 rfl
theorem q1775 : (Jvm.Cond.code ({ cls := "PipelineSimulator$Counter", name := "copyTo", desc := "(Ljava/lang/Object;)V" } : Jvm.MethodName) prog_7_method_4_code (2 : Nat) (Option.none : Option Jvm.ClassFile.FieldType)) ∈ lw_all := lw_g (lw_at lw_m7 238 rfl) rfl
theorem q1776 : (Jvm.Cond.classLink "PipelineSimulator$Counter" (8 : Nat) "PipelineSimulator$Counter") ∈ lw_all := lw_g (lw_at lw_m7 239 rfl) rfl
theorem q1777 : (Jvm.Cond.methodLink "PipelineSimulator$Counter" (13 : Nat) ({ cls := "PipelineSimulator$Counter", name := "copyTo", desc := "(LPipelineSimulator$Counter;)V" } : Jvm.MethodName)) ∈ lw_all := lw_g (lw_at lw_m8 0 rfl) rfl
theorem q2950 : (Jvm.Cond.castable "PipelineSimulator$Counter" "java/lang/Object") ∈ lw_tbl := lw_at lw_m12 213 rfl
theorem in_X2 : ∀ w ∈ wsX20, w ∈ lw_all := lw_in wsX20 [232] (by decide +kernel) (by decide +kernel)
/-! PipelineSimulator$Changes -/
set_option maxRecDepth 100000
def RX20 : String := "PipelineSimulator$Changes"
def TX20 : u_T := fun k => match k with
  | 0 => ("PipelineSimulator$Operator", "kind", "I", true)
  | 1 => ("PipelineSimulator$Operator", "a", "I", true)
  | 2 => ("PipelineSimulator$Operator", "b", "I", true)
  | 3 => ("PipelineSimulator$Operator", "instances", "I", false)
  | 4 => ("PipelineSimulator$Operator", "states", "LPipelineSimulator$Versions;", true)
  | 5 => ("PipelineSimulator$Operator", "processed", "I", false)
  | 6 => ("PipelineSimulator$Operator", "emitted", "I", false)
  | 7 => ("PipelineSimulator$Operator", "blocked", "I", false)
  | _ => ("PipelineSimulator$Operator", "idle", "I", false)
def tyX20 : Nat → FieldType := fun k => match k with
  | 0 => .int
  | 1 => .int
  | 2 => .int
  | 3 => .int
  | 4 => .object "PipelineSimulator$Versions"
  | 5 => .int
  | 6 => .int
  | 7 => .int
  | _ => .int
abbrev wsX200 : List Cond := u_ws RX20 TX20 9
theorem nmX20 : ∀ a, a < 9 → ∀ b, b < 9 → a ≠ b → (TX20 a).2.1 ≠ (TX20 b).2.1 := by decide +kernel
theorem tyX20_ok : ∀ k, k < 9 → parseFieldDescriptor (TX20 k).2.2.1 = some (tyX20 k) := by decide +kernel
abbrev cX20_process : ByteArray := prog_3_method_2_code
def yX20_process : MethodName := ⟨RX20, "process", "(IILPipelineSimulator$KeyStates;LPipelineSimulator$Output;)V"⟩
def dkwX20_process_1 : List UInt8 := [45, 27, 28, 3, 182, 0, 19, 21, 5, 153, 0, 12, 25, 4, 27, 28, 185, 0, 22, 3, 0, 177]
abbrev dktX20_process_1 : List UInt8 := dkwX20_process_1 ++ []
def dkwX20_process_0 : List UInt8 := [45, 27, 182, 0, 9, 153, 0, 12, 45, 27, 182, 0, 15, 28, 159, 0, 7, 4, 167, 0, 4, 3, 54, 5]
abbrev dktX20_process_0 : List UInt8 := dkwX20_process_0 ++ dktX20_process_1
theorem dksX20_process_0 : cX20_process.data.toList.drop 0 = dktX20_process_0 := by decide +kernel
theorem dksX20_process_1 : cX20_process.data.toList.drop 24 = dktX20_process_1 := dk_seg dksX20_process_0 24 rfl rfl
theorem dX20_process_0 : decode cX20_process 0 = .ok (.aload_n 3, 1) := dk_45 (dk_at dksX20_process_0 0 rfl rfl)
theorem dX20_process_1 : decode cX20_process 1 = .ok (.iload_n 1, 1) := dk_27 (dk_at dksX20_process_0 1 rfl rfl)
theorem dX20_process_2 : decode cX20_process 2 = .ok (.invokevirtual 9, 3) := dk_182 0 9 (dk_at dksX20_process_0 2 rfl rfl)
theorem dX20_process_5 : decode cX20_process 5 = .ok (.ifCond .eq 12, 3) := dk_153 0 12 (dk_at dksX20_process_0 5 rfl rfl)
theorem dX20_process_8 : decode cX20_process 8 = .ok (.aload_n 3, 1) := dk_45 (dk_at dksX20_process_0 8 rfl rfl)
theorem dX20_process_9 : decode cX20_process 9 = .ok (.iload_n 1, 1) := dk_27 (dk_at dksX20_process_0 9 rfl rfl)
theorem dX20_process_10 : decode cX20_process 10 = .ok (.invokevirtual 15, 3) := dk_182 0 15 (dk_at dksX20_process_0 10 rfl rfl)
theorem dX20_process_13 : decode cX20_process 13 = .ok (.iload_n 2, 1) := dk_28 (dk_at dksX20_process_0 13 rfl rfl)
theorem dX20_process_14 : decode cX20_process 14 = .ok (.if_icmp .eq 7, 3) := dk_159 0 7 (dk_at dksX20_process_0 14 rfl rfl)
theorem dX20_process_17 : decode cX20_process 17 = .ok (.iconst 1, 1) := dk_4 (dk_at dksX20_process_0 17 rfl rfl)
theorem dX20_process_18 : decode cX20_process 18 = .ok (.goto 4, 3) := dk_167 0 4 (dk_at dksX20_process_0 18 rfl rfl)
theorem dX20_process_21 : decode cX20_process 21 = .ok (.iconst 0, 1) := dk_3 (dk_at dksX20_process_0 21 rfl rfl)
theorem dX20_process_22 : decode cX20_process 22 = .ok (.istore 5, 2) := dk_54 5 (dk_at dksX20_process_0 22 rfl rfl)
theorem dX20_process_24 : decode cX20_process 24 = .ok (.aload_n 3, 1) := dk_45 (dk_at dksX20_process_1 0 rfl rfl)
theorem dX20_process_25 : decode cX20_process 25 = .ok (.iload_n 1, 1) := dk_27 (dk_at dksX20_process_1 1 rfl rfl)
theorem dX20_process_26 : decode cX20_process 26 = .ok (.iload_n 2, 1) := dk_28 (dk_at dksX20_process_1 2 rfl rfl)
theorem dX20_process_27 : decode cX20_process 27 = .ok (.iconst 0, 1) := dk_3 (dk_at dksX20_process_1 3 rfl rfl)
theorem dX20_process_28 : decode cX20_process 28 = .ok (.invokevirtual 19, 3) := dk_182 0 19 (dk_at dksX20_process_1 4 rfl rfl)
theorem dX20_process_31 : decode cX20_process 31 = .ok (.iload 5, 2) := dk_21 5 (dk_at dksX20_process_1 7 rfl rfl)
theorem dX20_process_33 : decode cX20_process 33 = .ok (.ifCond .eq 12, 3) := dk_153 0 12 (dk_at dksX20_process_1 9 rfl rfl)
theorem dX20_process_36 : decode cX20_process 36 = .ok (.aload 4, 2) := dk_25 4 (dk_at dksX20_process_1 12 rfl rfl)
theorem dX20_process_38 : decode cX20_process 38 = .ok (.iload_n 1, 1) := dk_27 (dk_at dksX20_process_1 14 rfl rfl)
theorem dX20_process_39 : decode cX20_process 39 = .ok (.iload_n 2, 1) := dk_28 (dk_at dksX20_process_1 15 rfl rfl)
theorem dX20_process_40 : decode cX20_process 40 = .ok (.invokeinterface 22 3, 5) := by decide +kernel
theorem dX20_process_45 : decode cX20_process 45 = .ok (.return_, 1) := dk_177 (dk_at dksX20_process_1 21 rfl rfl)
abbrev cX20_init : ByteArray := prog_3_method_1_code
def yX20_init : MethodName := ⟨RX20, "<init>", "(I)V"⟩
def dkwX20_init_0 : List UInt8 := [42, 8, 3, 27, 183, 0, 3, 177]
abbrev dktX20_init_0 : List UInt8 := dkwX20_init_0 ++ []
theorem dksX20_init_0 : cX20_init.data.toList.drop 0 = dktX20_init_0 := by decide +kernel
theorem dX20_init_0 : decode cX20_init 0 = .ok (.aload_n 0, 1) := dk_42 (dk_at dksX20_init_0 0 rfl rfl)
theorem dX20_init_1 : decode cX20_init 1 = .ok (.iconst 5, 1) := dk_8 (dk_at dksX20_init_0 1 rfl rfl)
theorem dX20_init_2 : decode cX20_init 2 = .ok (.iconst 0, 1) := dk_3 (dk_at dksX20_init_0 2 rfl rfl)
theorem dX20_init_3 : decode cX20_init 3 = .ok (.iload_n 1, 1) := dk_27 (dk_at dksX20_init_0 3 rfl rfl)
theorem dX20_init_4 : decode cX20_init 4 = .ok (.invokespecial 3, 3) := dk_183 0 3 (dk_at dksX20_init_0 4 rfl rfl)
theorem dX20_init_7 : decode cX20_init 7 = .ok (.return_, 1) := dk_177 (dk_at dksX20_init_0 7 rfl rfl)
theorem q139 : (Jvm.Cond.initialized "PipelineSimulator$Changes") ∈ lw_all := lw_g (lw_at lw_m1 42 rfl) rfl
theorem q427 : (Jvm.Cond.selects "PipelineSimulator$Changes" ({ cls := "java/lang/Object", name := "getClass", desc := "()Ljava/lang/Class;" } : Jvm.MethodName) ({ cls := "java/lang/Object", name := "getClass", desc := "()Ljava/lang/Class;" } : Jvm.MethodName)) ∈ lw_all := lw_g (lw_at lw_m2 90 rfl) rfl
theorem q1239 : (Jvm.Cond.selects "PipelineSimulator$Changes" ({ cls := "PipelineSimulator$Operator", name := "reset", desc := "()V" } : Jvm.MethodName) ({ cls := "PipelineSimulator$Operator", name := "reset", desc := "()V" } : Jvm.MethodName)) ∈ lw_all := lw_g (lw_at lw_m5 182 rfl) rfl
theorem q1338 : (Jvm.Cond.selects "PipelineSimulator$Changes" ({ cls := "PipelineSimulator$Operator", name := "isKeyed", desc := "()Z" } : Jvm.MethodName) ({ cls := "PipelineSimulator$Keyed", name := "isKeyed", desc := "()Z" } : Jvm.MethodName)) ∈ lw_all := lw_g (lw_at lw_m6 41 rfl) rfl
theorem q1422 : (Jvm.Cond.selects "PipelineSimulator$Changes" ({ cls := "PipelineSimulator$Operator", name := "process", desc := "(IILPipelineSimulator$KeyStates;LPipelineSimulator$Output;)V" } : Jvm.MethodName) ({ cls := "PipelineSimulator$Changes", name := "process", desc := "(IILPipelineSimulator$KeyStates;LPipelineSimulator$Output;)V" } : Jvm.MethodName)) ∈ lw_all := lw_g (lw_at lw_m6 125 rfl) rfl
theorem q1423 : (Jvm.Cond.instanceMethod ({ cls := "PipelineSimulator$Changes", name := "process", desc := "(IILPipelineSimulator$KeyStates;LPipelineSimulator$Output;)V" } : Jvm.MethodName)) ∈ lw_all := lw_g (lw_at lw_m6 126 rfl) rfl
theorem q1424 : (Jvm.Cond.code ({ cls := "PipelineSimulator$Changes", name := "process", desc := "(IILPipelineSimulator$KeyStates;LPipelineSimulator$Output;)V" } : Jvm.MethodName) prog_3_method_2_code (6 : Nat) (Option.none : Option Jvm.ClassFile.FieldType)) ∈ lw_all := lw_g (lw_at lw_m6 127 rfl) rfl
theorem q1425 : (Jvm.Cond.methodLink "PipelineSimulator$Changes" (9 : Nat) ({ cls := "PipelineSimulator$KeyStates", name := "has", desc := "(I)Z" } : Jvm.MethodName)) ∈ lw_all := lw_g (lw_at lw_m6 128 rfl) rfl
theorem q1439 : (Jvm.Cond.methodLink "PipelineSimulator$Changes" (15 : Nat) ({ cls := "PipelineSimulator$KeyStates", name := "first", desc := "(I)I" } : Jvm.MethodName)) ∈ lw_all := lw_g (lw_at lw_m6 142 rfl) rfl
theorem q1444 : (Jvm.Cond.methodLink "PipelineSimulator$Changes" (19 : Nat) ({ cls := "PipelineSimulator$KeyStates", name := "set", desc := "(III)V" } : Jvm.MethodName)) ∈ lw_all := lw_g (lw_at lw_m6 147 rfl) rfl
theorem q1469 : (Jvm.Cond.interfaceEntry "PipelineSimulator$Changes" (22 : Nat)) ∈ lw_tbl := lw_at lw_m6 172 rfl
theorem q1470 : (Jvm.Cond.methodLink "PipelineSimulator$Changes" (22 : Nat) ({ cls := "PipelineSimulator$Output", name := "emit", desc := "(II)V" } : Jvm.MethodName)) ∈ lw_all := lw_g (lw_at lw_m6 173 rfl) rfl
theorem q2289 : (Jvm.Cond.instantiable "PipelineSimulator$Changes" (9 : Nat)) ∈ lw_all := lw_g (lw_at lw_m10 32 rfl) rfl
theorem q2291 : (Jvm.Cond.instanceMethod ({ cls := "PipelineSimulator$Changes", name := "<init>", desc := "(I)V" } : Jvm.MethodName)) ∈ lw_all := lw_g (lw_at lw_m10 34 rfl) rfl
theorem q2292 : (Jvm.Cond.code ({ cls := "PipelineSimulator$Changes", name := "<init>", desc := "(I)V" } : Jvm.MethodName) prog_3_method_1_code (2 : Nat) (Option.none : Option Jvm.ClassFile.FieldType)) ∈ lw_all := lw_g (lw_at lw_m10 35 rfl) rfl
theorem q2293 : (Jvm.Cond.methodLink "PipelineSimulator$Changes" (3 : Nat) ({ cls := "PipelineSimulator$Keyed", name := "<init>", desc := "(III)V" } : Jvm.MethodName)) ∈ lw_all := lw_g (lw_at lw_m10 36 rfl) rfl
theorem q2294 : (Jvm.Cond.laysFinal "PipelineSimulator$Changes" "PipelineSimulator$Operator" "kind" "I") ∈ lw_all := lw_g (lw_at lw_m10 37 rfl) rfl
theorem q2295 : (Jvm.Cond.laysFinal "PipelineSimulator$Changes" "PipelineSimulator$Operator" "a" "I") ∈ lw_all := lw_g (lw_at lw_m10 38 rfl) rfl
theorem q2296 : (Jvm.Cond.laysFinal "PipelineSimulator$Changes" "PipelineSimulator$Operator" "b" "I") ∈ lw_all := lw_g (lw_at lw_m10 39 rfl) rfl
theorem q2297 : (Jvm.Cond.lays "PipelineSimulator$Changes" "PipelineSimulator$Operator" "instances" "I") ∈ lw_all := lw_g (lw_at lw_m10 40 rfl) rfl
theorem q2298 : (Jvm.Cond.laysFinal "PipelineSimulator$Changes" "PipelineSimulator$Operator" "states" "LPipelineSimulator$Versions;") ∈ lw_all := lw_g (lw_at lw_m10 41 rfl) rfl
theorem q2299 : (Jvm.Cond.lays "PipelineSimulator$Changes" "PipelineSimulator$Operator" "processed" "I") ∈ lw_all := lw_g (lw_at lw_m10 42 rfl) rfl
theorem q2300 : (Jvm.Cond.lays "PipelineSimulator$Changes" "PipelineSimulator$Operator" "emitted" "I") ∈ lw_all := lw_g (lw_at lw_m10 43 rfl) rfl
theorem q2301 : (Jvm.Cond.lays "PipelineSimulator$Changes" "PipelineSimulator$Operator" "blocked" "I") ∈ lw_all := lw_g (lw_at lw_m10 44 rfl) rfl
theorem q2302 : (Jvm.Cond.lays "PipelineSimulator$Changes" "PipelineSimulator$Operator" "idle" "I") ∈ lw_all := lw_g (lw_at lw_m10 45 rfl) rfl
theorem q2303 : (Jvm.Cond.superclass "PipelineSimulator$Changes" "PipelineSimulator$Keyed") ∈ lw_all := lw_g (lw_at lw_m10 46 rfl) rfl
theorem q2350 : (Jvm.Cond.selects "PipelineSimulator$Changes" ({ cls := "PipelineSimulator$Operator", name := "write", desc := "(Ljava/lang/StringBuilder;)V" } : Jvm.MethodName) ({ cls := "PipelineSimulator$Operator", name := "write", desc := "(Ljava/lang/StringBuilder;)V" } : Jvm.MethodName)) ∈ lw_all := lw_g (lw_at lw_m10 93 rfl) rfl
theorem q2935 : (Jvm.Cond.castable "PipelineSimulator$Changes" "PipelineSimulator$Operator") ∈ lw_tbl := lw_at lw_m12 198 rfl
theorem q2967 : (Jvm.Cond.castable "PipelineSimulator$Changes" "java/lang/Object") ∈ lw_tbl := lw_at lw_m12 230 rfl
theorem in_X20 : ∀ w ∈ wsX200, w ∈ lw_all := lw_in wsX200 [2294, 2295, 2296, 2297, 2298, 2299, 2300, 2301, 2302] (by decide +kernel) (by decide +kernel)
/-! PipelineSimulator$Greatest -/
set_option maxRecDepth 100000
def RX21 : String := "PipelineSimulator$Greatest"
def TX21 : u_T := fun k => match k with
  | 0 => ("PipelineSimulator$Operator", "kind", "I", true)
  | 1 => ("PipelineSimulator$Operator", "a", "I", true)
  | 2 => ("PipelineSimulator$Operator", "b", "I", true)
  | 3 => ("PipelineSimulator$Operator", "instances", "I", false)
  | 4 => ("PipelineSimulator$Operator", "states", "LPipelineSimulator$Versions;", true)
  | 5 => ("PipelineSimulator$Operator", "processed", "I", false)
  | 6 => ("PipelineSimulator$Operator", "emitted", "I", false)
  | 7 => ("PipelineSimulator$Operator", "blocked", "I", false)
  | _ => ("PipelineSimulator$Operator", "idle", "I", false)
def tyX21 : Nat → FieldType := fun k => match k with
  | 0 => .int
  | 1 => .int
  | 2 => .int
  | 3 => .int
  | 4 => .object "PipelineSimulator$Versions"
  | 5 => .int
  | 6 => .int
  | 7 => .int
  | _ => .int
abbrev wsX210 : List Cond := u_ws RX21 TX21 9
theorem nmX21 : ∀ a, a < 9 → ∀ b, b < 9 → a ≠ b → (TX21 a).2.1 ≠ (TX21 b).2.1 := by decide +kernel
theorem tyX21_ok : ∀ k, k < 9 → parseFieldDescriptor (TX21 k).2.2.1 = some (tyX21 k) := by decide +kernel
abbrev cX21_process : ByteArray := prog_9_method_2_code
def yX21_process : MethodName := ⟨RX21, "process", "(IILPipelineSimulator$KeyStates;LPipelineSimulator$Output;)V"⟩
def dkwX21_process_1 : List UInt8 := [182, 0, 19, 25, 4, 27, 28, 185, 0, 22, 3, 0, 177]
abbrev dktX21_process_1 : List UInt8 := dkwX21_process_1 ++ []
def dkwX21_process_0 : List UInt8 := [45, 27, 182, 0, 9, 153, 0, 13, 28, 45, 27, 182, 0, 15, 163, 0, 4, 177, 45, 27, 28, 3]
abbrev dktX21_process_0 : List UInt8 := dkwX21_process_0 ++ dktX21_process_1
theorem dksX21_process_0 : cX21_process.data.toList.drop 0 = dktX21_process_0 := by decide +kernel
theorem dksX21_process_1 : cX21_process.data.toList.drop 22 = dktX21_process_1 := dk_seg dksX21_process_0 22 rfl rfl
theorem dX21_process_0 : decode cX21_process 0 = .ok (.aload_n 3, 1) := dk_45 (dk_at dksX21_process_0 0 rfl rfl)
theorem dX21_process_1 : decode cX21_process 1 = .ok (.iload_n 1, 1) := dk_27 (dk_at dksX21_process_0 1 rfl rfl)
theorem dX21_process_2 : decode cX21_process 2 = .ok (.invokevirtual 9, 3) := dk_182 0 9 (dk_at dksX21_process_0 2 rfl rfl)
theorem dX21_process_5 : decode cX21_process 5 = .ok (.ifCond .eq 13, 3) := dk_153 0 13 (dk_at dksX21_process_0 5 rfl rfl)
theorem dX21_process_8 : decode cX21_process 8 = .ok (.iload_n 2, 1) := dk_28 (dk_at dksX21_process_0 8 rfl rfl)
theorem dX21_process_9 : decode cX21_process 9 = .ok (.aload_n 3, 1) := dk_45 (dk_at dksX21_process_0 9 rfl rfl)
theorem dX21_process_10 : decode cX21_process 10 = .ok (.iload_n 1, 1) := dk_27 (dk_at dksX21_process_0 10 rfl rfl)
theorem dX21_process_11 : decode cX21_process 11 = .ok (.invokevirtual 15, 3) := dk_182 0 15 (dk_at dksX21_process_0 11 rfl rfl)
theorem dX21_process_14 : decode cX21_process 14 = .ok (.if_icmp .gt 4, 3) := dk_163 0 4 (dk_at dksX21_process_0 14 rfl rfl)
theorem dX21_process_17 : decode cX21_process 17 = .ok (.return_, 1) := dk_177 (dk_at dksX21_process_0 17 rfl rfl)
theorem dX21_process_18 : decode cX21_process 18 = .ok (.aload_n 3, 1) := dk_45 (dk_at dksX21_process_0 18 rfl rfl)
theorem dX21_process_19 : decode cX21_process 19 = .ok (.iload_n 1, 1) := dk_27 (dk_at dksX21_process_0 19 rfl rfl)
theorem dX21_process_20 : decode cX21_process 20 = .ok (.iload_n 2, 1) := dk_28 (dk_at dksX21_process_0 20 rfl rfl)
theorem dX21_process_21 : decode cX21_process 21 = .ok (.iconst 0, 1) := dk_3 (dk_at dksX21_process_0 21 rfl rfl)
theorem dX21_process_22 : decode cX21_process 22 = .ok (.invokevirtual 19, 3) := dk_182 0 19 (dk_at dksX21_process_1 0 rfl rfl)
theorem dX21_process_25 : decode cX21_process 25 = .ok (.aload 4, 2) := dk_25 4 (dk_at dksX21_process_1 3 rfl rfl)
theorem dX21_process_27 : decode cX21_process 27 = .ok (.iload_n 1, 1) := dk_27 (dk_at dksX21_process_1 5 rfl rfl)
theorem dX21_process_28 : decode cX21_process 28 = .ok (.iload_n 2, 1) := dk_28 (dk_at dksX21_process_1 6 rfl rfl)
theorem dX21_process_29 : decode cX21_process 29 = .ok (.invokeinterface 22 3, 5) := by decide +kernel
theorem dX21_process_34 : decode cX21_process 34 = .ok (.return_, 1) := dk_177 (dk_at dksX21_process_1 12 rfl rfl)
abbrev cX21_init : ByteArray := prog_9_method_1_code
def yX21_init : MethodName := ⟨RX21, "<init>", "(I)V"⟩
def dkwX21_init_0 : List UInt8 := [42, 16, 6, 3, 27, 183, 0, 3, 177]
abbrev dktX21_init_0 : List UInt8 := dkwX21_init_0 ++ []
theorem dksX21_init_0 : cX21_init.data.toList.drop 0 = dktX21_init_0 := by decide +kernel
theorem dX21_init_0 : decode cX21_init 0 = .ok (.aload_n 0, 1) := dk_42 (dk_at dksX21_init_0 0 rfl rfl)
theorem dX21_init_1 : decode cX21_init 1 = .ok (.bipush 6, 2) := dk_16 6 (dk_at dksX21_init_0 1 rfl rfl)
theorem dX21_init_3 : decode cX21_init 3 = .ok (.iconst 0, 1) := dk_3 (dk_at dksX21_init_0 3 rfl rfl)
theorem dX21_init_4 : decode cX21_init 4 = .ok (.iload_n 1, 1) := dk_27 (dk_at dksX21_init_0 4 rfl rfl)
theorem dX21_init_5 : decode cX21_init 5 = .ok (.invokespecial 3, 3) := dk_183 0 3 (dk_at dksX21_init_0 5 rfl rfl)
theorem dX21_init_8 : decode cX21_init 8 = .ok (.return_, 1) := dk_177 (dk_at dksX21_init_0 8 rfl rfl)
theorem q140 : (Jvm.Cond.initialized "PipelineSimulator$Greatest") ∈ lw_all := lw_g (lw_at lw_m1 43 rfl) rfl
theorem q432 : (Jvm.Cond.selects "PipelineSimulator$Greatest" ({ cls := "java/lang/Object", name := "getClass", desc := "()Ljava/lang/Class;" } : Jvm.MethodName) ({ cls := "java/lang/Object", name := "getClass", desc := "()Ljava/lang/Class;" } : Jvm.MethodName)) ∈ lw_all := lw_g (lw_at lw_m2 95 rfl) rfl
theorem q1242 : (Jvm.Cond.selects "PipelineSimulator$Greatest" ({ cls := "PipelineSimulator$Operator", name := "reset", desc := "()V" } : Jvm.MethodName) ({ cls := "PipelineSimulator$Operator", name := "reset", desc := "()V" } : Jvm.MethodName)) ∈ lw_all := lw_g (lw_at lw_m5 185 rfl) rfl
theorem q1343 : (Jvm.Cond.selects "PipelineSimulator$Greatest" ({ cls := "PipelineSimulator$Operator", name := "isKeyed", desc := "()Z" } : Jvm.MethodName) ({ cls := "PipelineSimulator$Keyed", name := "isKeyed", desc := "()Z" } : Jvm.MethodName)) ∈ lw_all := lw_g (lw_at lw_m6 46 rfl) rfl
theorem q1500 : (Jvm.Cond.instanceMethod ({ cls := "PipelineSimulator$Greatest", name := "process", desc := "(IILPipelineSimulator$KeyStates;LPipelineSimulator$Output;)V" } : Jvm.MethodName)) ∈ lw_all := lw_g (lw_at lw_m6 203 rfl) rfl
theorem q1501 : (Jvm.Cond.code ({ cls := "PipelineSimulator$Greatest", name := "process", desc := "(IILPipelineSimulator$KeyStates;LPipelineSimulator$Output;)V" } : Jvm.MethodName) prog_9_method_2_code (5 : Nat) (Option.none : Option Jvm.ClassFile.FieldType)) ∈ lw_all := lw_g (lw_at lw_m6 204 rfl) rfl
theorem q1502 : (Jvm.Cond.methodLink "PipelineSimulator$Greatest" (9 : Nat) ({ cls := "PipelineSimulator$KeyStates", name := "has", desc := "(I)Z" } : Jvm.MethodName)) ∈ lw_all := lw_g (lw_at lw_m6 205 rfl) rfl
theorem q1503 : (Jvm.Cond.methodLink "PipelineSimulator$Greatest" (15 : Nat) ({ cls := "PipelineSimulator$KeyStates", name := "first", desc := "(I)I" } : Jvm.MethodName)) ∈ lw_all := lw_g (lw_at lw_m6 206 rfl) rfl
theorem q1504 : (Jvm.Cond.methodLink "PipelineSimulator$Greatest" (19 : Nat) ({ cls := "PipelineSimulator$KeyStates", name := "set", desc := "(III)V" } : Jvm.MethodName)) ∈ lw_all := lw_g (lw_at lw_m6 207 rfl) rfl
theorem q1505 : (Jvm.Cond.interfaceEntry "PipelineSimulator$Greatest" (22 : Nat)) ∈ lw_tbl := lw_at lw_m6 208 rfl
theorem q1506 : (Jvm.Cond.methodLink "PipelineSimulator$Greatest" (22 : Nat) ({ cls := "PipelineSimulator$Output", name := "emit", desc := "(II)V" } : Jvm.MethodName)) ∈ lw_all := lw_g (lw_at lw_m6 209 rfl) rfl
theorem q1552 : (Jvm.Cond.selects "PipelineSimulator$Greatest" ({ cls := "PipelineSimulator$Operator", name := "process", desc := "(IILPipelineSimulator$KeyStates;LPipelineSimulator$Output;)V" } : Jvm.MethodName) ({ cls := "PipelineSimulator$Greatest", name := "process", desc := "(IILPipelineSimulator$KeyStates;LPipelineSimulator$Output;)V" } : Jvm.MethodName)) ∈ lw_all := lw_g (lw_at lw_m7 15 rfl) rfl
theorem q2305 : (Jvm.Cond.instantiable "PipelineSimulator$Greatest" (9 : Nat)) ∈ lw_all := lw_g (lw_at lw_m10 48 rfl) rfl
theorem q2307 : (Jvm.Cond.instanceMethod ({ cls := "PipelineSimulator$Greatest", name := "<init>", desc := "(I)V" } : Jvm.MethodName)) ∈ lw_all := lw_g (lw_at lw_m10 50 rfl) rfl
theorem q2308 : (Jvm.Cond.code ({ cls := "PipelineSimulator$Greatest", name := "<init>", desc := "(I)V" } : Jvm.MethodName) prog_9_method_1_code (2 : Nat) (Option.none : Option Jvm.ClassFile.FieldType)) ∈ lw_all := lw_g (lw_at lw_m10 51 rfl) rfl
theorem q2309 : (Jvm.Cond.methodLink "PipelineSimulator$Greatest" (3 : Nat) ({ cls := "PipelineSimulator$Keyed", name := "<init>", desc := "(III)V" } : Jvm.MethodName)) ∈ lw_all := lw_g (lw_at lw_m10 52 rfl) rfl
theorem q2310 : (Jvm.Cond.laysFinal "PipelineSimulator$Greatest" "PipelineSimulator$Operator" "kind" "I") ∈ lw_all := lw_g (lw_at lw_m10 53 rfl) rfl
theorem q2311 : (Jvm.Cond.laysFinal "PipelineSimulator$Greatest" "PipelineSimulator$Operator" "a" "I") ∈ lw_all := lw_g (lw_at lw_m10 54 rfl) rfl
theorem q2312 : (Jvm.Cond.laysFinal "PipelineSimulator$Greatest" "PipelineSimulator$Operator" "b" "I") ∈ lw_all := lw_g (lw_at lw_m10 55 rfl) rfl
theorem q2313 : (Jvm.Cond.lays "PipelineSimulator$Greatest" "PipelineSimulator$Operator" "instances" "I") ∈ lw_all := lw_g (lw_at lw_m10 56 rfl) rfl
theorem q2314 : (Jvm.Cond.laysFinal "PipelineSimulator$Greatest" "PipelineSimulator$Operator" "states" "LPipelineSimulator$Versions;") ∈ lw_all := lw_g (lw_at lw_m10 57 rfl) rfl
theorem q2315 : (Jvm.Cond.lays "PipelineSimulator$Greatest" "PipelineSimulator$Operator" "processed" "I") ∈ lw_all := lw_g (lw_at lw_m10 58 rfl) rfl
theorem q2316 : (Jvm.Cond.lays "PipelineSimulator$Greatest" "PipelineSimulator$Operator" "emitted" "I") ∈ lw_all := lw_g (lw_at lw_m10 59 rfl) rfl
theorem q2317 : (Jvm.Cond.lays "PipelineSimulator$Greatest" "PipelineSimulator$Operator" "blocked" "I") ∈ lw_all := lw_g (lw_at lw_m10 60 rfl) rfl
theorem q2318 : (Jvm.Cond.lays "PipelineSimulator$Greatest" "PipelineSimulator$Operator" "idle" "I") ∈ lw_all := lw_g (lw_at lw_m10 61 rfl) rfl
theorem q2319 : (Jvm.Cond.superclass "PipelineSimulator$Greatest" "PipelineSimulator$Keyed") ∈ lw_all := lw_g (lw_at lw_m10 62 rfl) rfl
theorem q2353 : (Jvm.Cond.selects "PipelineSimulator$Greatest" ({ cls := "PipelineSimulator$Operator", name := "write", desc := "(Ljava/lang/StringBuilder;)V" } : Jvm.MethodName) ({ cls := "PipelineSimulator$Operator", name := "write", desc := "(Ljava/lang/StringBuilder;)V" } : Jvm.MethodName)) ∈ lw_all := lw_g (lw_at lw_m10 96 rfl) rfl
theorem q2938 : (Jvm.Cond.castable "PipelineSimulator$Greatest" "PipelineSimulator$Operator") ∈ lw_tbl := lw_at lw_m12 201 rfl
theorem q2968 : (Jvm.Cond.castable "PipelineSimulator$Greatest" "java/lang/Object") ∈ lw_tbl := lw_at lw_m12 231 rfl
theorem in_X21 : ∀ w ∈ wsX210, w ∈ lw_all := lw_in wsX210 [2310, 2311, 2312, 2313, 2314, 2315, 2316, 2317, 2318] (by decide +kernel) (by decide +kernel)
/-! PipelineSimulator$Plain -/
set_option maxRecDepth 100000
def RX22 : String := "PipelineSimulator$Plain"
def TX22 : u_T := fun k => match k with
  | 0 => ("PipelineSimulator$Plain", "operator", "I", true)
  | 1 => ("PipelineSimulator$Plain", "states", "LPipelineSimulator$KeyStates;", true)
  | 2 => ("PipelineSimulator$Plain", "next", "LPipelineSimulator$Plain;", true)
  | _ => ("PipelineSimulator$Plain", "this$0", "LPipelineSimulator;", true)
def tyX22 : Nat → FieldType := fun k => match k with
  | 0 => .int
  | 1 => .object "PipelineSimulator$KeyStates"
  | 2 => .object "PipelineSimulator$Plain"
  | _ => .object "PipelineSimulator"
abbrev wsX220 : List Cond := u_ws RX22 TX22 4
theorem nmX22 : ∀ a, a < 4 → ∀ b, b < 4 → a ≠ b → (TX22 a).2.1 ≠ (TX22 b).2.1 := by decide +kernel
theorem tyX22_ok : ∀ k, k < 4 → parseFieldDescriptor (TX22 k).2.2.1 = some (tyX22 k) := by decide +kernel
abbrev cX22_emit : ByteArray := prog_18_method_2_code
def yX22_emit : MethodName := ⟨RX22, "emit", "(II)V"⟩
def dkwX22_emit_0 : List UInt8 := [42, 180, 0, 39, 27, 28, 182, 0, 43, 177]
abbrev dktX22_emit_0 : List UInt8 := dkwX22_emit_0 ++ []
theorem dksX22_emit_0 : cX22_emit.data.toList.drop 0 = dktX22_emit_0 := by decide +kernel
theorem dX22_emit_0 : decode cX22_emit 0 = .ok (.aload_n 0, 1) := dk_42 (dk_at dksX22_emit_0 0 rfl rfl)
theorem dX22_emit_1 : decode cX22_emit 1 = .ok (.getfield 39, 3) := dk_180 0 39 (dk_at dksX22_emit_0 1 rfl rfl)
theorem dX22_emit_4 : decode cX22_emit 4 = .ok (.iload_n 1, 1) := dk_27 (dk_at dksX22_emit_0 4 rfl rfl)
theorem dX22_emit_5 : decode cX22_emit 5 = .ok (.iload_n 2, 1) := dk_28 (dk_at dksX22_emit_0 5 rfl rfl)
theorem dX22_emit_6 : decode cX22_emit 6 = .ok (.invokevirtual 43, 3) := dk_182 0 43 (dk_at dksX22_emit_0 6 rfl rfl)
theorem dX22_emit_9 : decode cX22_emit 9 = .ok (.return_, 1) := dk_177 (dk_at dksX22_emit_0 9 rfl rfl)
abbrev cX22_take : ByteArray := prog_18_method_3_code
def yX22_take : MethodName := ⟨RX22, "take", "(II)V"⟩
def dkwX22_take_1 : List UInt8 := [182, 0, 53, 177]
abbrev dktX22_take_1 : List UInt8 := dkwX22_take_1 ++ []
def dkwX22_take_0 : List UInt8 := [42, 180, 0, 1, 180, 0, 24, 42, 180, 0, 20, 182, 0, 47, 192, 0, 51, 27, 28, 42, 180, 0, 16, 42]
abbrev dktX22_take_0 : List UInt8 := dkwX22_take_0 ++ dktX22_take_1
theorem dksX22_take_0 : cX22_take.data.toList.drop 0 = dktX22_take_0 := by decide +kernel
theorem dksX22_take_1 : cX22_take.data.toList.drop 24 = dktX22_take_1 := dk_seg dksX22_take_0 24 rfl rfl
theorem dX22_take_0 : decode cX22_take 0 = .ok (.aload_n 0, 1) := dk_42 (dk_at dksX22_take_0 0 rfl rfl)
theorem dX22_take_1 : decode cX22_take 1 = .ok (.getfield 1, 3) := dk_180 0 1 (dk_at dksX22_take_0 1 rfl rfl)
theorem dX22_take_4 : decode cX22_take 4 = .ok (.getfield 24, 3) := dk_180 0 24 (dk_at dksX22_take_0 4 rfl rfl)
theorem dX22_take_7 : decode cX22_take 7 = .ok (.aload_n 0, 1) := dk_42 (dk_at dksX22_take_0 7 rfl rfl)
theorem dX22_take_8 : decode cX22_take 8 = .ok (.getfield 20, 3) := dk_180 0 20 (dk_at dksX22_take_0 8 rfl rfl)
theorem dX22_take_11 : decode cX22_take 11 = .ok (.invokevirtual 47, 3) := dk_182 0 47 (dk_at dksX22_take_0 11 rfl rfl)
theorem dX22_take_14 : decode cX22_take 14 = .ok (.checkcast 51, 3) := dk_192 0 51 (dk_at dksX22_take_0 14 rfl rfl)
theorem dX22_take_17 : decode cX22_take 17 = .ok (.iload_n 1, 1) := dk_27 (dk_at dksX22_take_0 17 rfl rfl)
theorem dX22_take_18 : decode cX22_take 18 = .ok (.iload_n 2, 1) := dk_28 (dk_at dksX22_take_0 18 rfl rfl)
theorem dX22_take_19 : decode cX22_take 19 = .ok (.aload_n 0, 1) := dk_42 (dk_at dksX22_take_0 19 rfl rfl)
theorem dX22_take_20 : decode cX22_take 20 = .ok (.getfield 16, 3) := dk_180 0 16 (dk_at dksX22_take_0 20 rfl rfl)
theorem dX22_take_23 : decode cX22_take 23 = .ok (.aload_n 0, 1) := dk_42 (dk_at dksX22_take_0 23 rfl rfl)
theorem dX22_take_24 : decode cX22_take 24 = .ok (.invokevirtual 53, 3) := dk_182 0 53 (dk_at dksX22_take_1 0 rfl rfl)
theorem dX22_take_27 : decode cX22_take 27 = .ok (.return_, 1) := dk_177 (dk_at dksX22_take_1 3 rfl rfl)
abbrev cX22_init : ByteArray := prog_18_method_1_code
def yX22_init : MethodName := ⟨RX22, "<init>", "(LPipelineSimulator;I)V"⟩
def dkwX22_init_2 : List UInt8 := [89, 43, 28, 4, 96, 183, 0, 36, 181, 0, 39, 177]
abbrev dktX22_init_2 : List UInt8 := dkwX22_init_2 ++ []
def dkwX22_init_1 : List UInt8 := [181, 0, 20, 42, 28, 43, 180, 0, 24, 182, 0, 30, 4, 100, 160, 0, 7, 1, 167, 0, 14, 187, 0, 2]
abbrev dktX22_init_1 : List UInt8 := dkwX22_init_1 ++ dktX22_init_2
def dkwX22_init_0 : List UInt8 := [42, 43, 181, 0, 1, 42, 183, 0, 7, 42, 187, 0, 13, 89, 183, 0, 15, 181, 0, 16, 42, 28]
abbrev dktX22_init_0 : List UInt8 := dkwX22_init_0 ++ dktX22_init_1
theorem dksX22_init_0 : cX22_init.data.toList.drop 0 = dktX22_init_0 := by decide +kernel
theorem dksX22_init_1 : cX22_init.data.toList.drop 22 = dktX22_init_1 := dk_seg dksX22_init_0 22 rfl rfl
theorem dksX22_init_2 : cX22_init.data.toList.drop 46 = dktX22_init_2 := dk_seg dksX22_init_1 24 rfl rfl
theorem dX22_init_0 : decode cX22_init 0 = .ok (.aload_n 0, 1) := dk_42 (dk_at dksX22_init_0 0 rfl rfl)
theorem dX22_init_1 : decode cX22_init 1 = .ok (.aload_n 1, 1) := dk_43 (dk_at dksX22_init_0 1 rfl rfl)
theorem dX22_init_2 : decode cX22_init 2 = .ok (.putfield 1, 3) := dk_181 0 1 (dk_at dksX22_init_0 2 rfl rfl)
theorem dX22_init_5 : decode cX22_init 5 = .ok (.aload_n 0, 1) := dk_42 (dk_at dksX22_init_0 5 rfl rfl)
theorem dX22_init_6 : decode cX22_init 6 = .ok (.invokespecial 7, 3) := dk_183 0 7 (dk_at dksX22_init_0 6 rfl rfl)
theorem dX22_init_9 : decode cX22_init 9 = .ok (.aload_n 0, 1) := dk_42 (dk_at dksX22_init_0 9 rfl rfl)
theorem dX22_init_10 : decode cX22_init 10 = .ok (.new 13, 3) := dk_187 0 13 (dk_at dksX22_init_0 10 rfl rfl)
theorem dX22_init_13 : decode cX22_init 13 = .ok (.dup, 1) := dk_89 (dk_at dksX22_init_0 13 rfl rfl)
theorem dX22_init_14 : decode cX22_init 14 = .ok (.invokespecial 15, 3) := dk_183 0 15 (dk_at dksX22_init_0 14 rfl rfl)
theorem dX22_init_17 : decode cX22_init 17 = .ok (.putfield 16, 3) := dk_181 0 16 (dk_at dksX22_init_0 17 rfl rfl)
theorem dX22_init_20 : decode cX22_init 20 = .ok (.aload_n 0, 1) := dk_42 (dk_at dksX22_init_0 20 rfl rfl)
theorem dX22_init_21 : decode cX22_init 21 = .ok (.iload_n 2, 1) := dk_28 (dk_at dksX22_init_0 21 rfl rfl)
theorem dX22_init_22 : decode cX22_init 22 = .ok (.putfield 20, 3) := dk_181 0 20 (dk_at dksX22_init_1 0 rfl rfl)
theorem dX22_init_25 : decode cX22_init 25 = .ok (.aload_n 0, 1) := dk_42 (dk_at dksX22_init_1 3 rfl rfl)
theorem dX22_init_26 : decode cX22_init 26 = .ok (.iload_n 2, 1) := dk_28 (dk_at dksX22_init_1 4 rfl rfl)
theorem dX22_init_27 : decode cX22_init 27 = .ok (.aload_n 1, 1) := dk_43 (dk_at dksX22_init_1 5 rfl rfl)
theorem dX22_init_28 : decode cX22_init 28 = .ok (.getfield 24, 3) := dk_180 0 24 (dk_at dksX22_init_1 6 rfl rfl)
theorem dX22_init_31 : decode cX22_init 31 = .ok (.invokevirtual 30, 3) := dk_182 0 30 (dk_at dksX22_init_1 9 rfl rfl)
theorem dX22_init_34 : decode cX22_init 34 = .ok (.iconst 1, 1) := dk_4 (dk_at dksX22_init_1 12 rfl rfl)
theorem dX22_init_35 : decode cX22_init 35 = .ok (.isub, 1) := dk_100 (dk_at dksX22_init_1 13 rfl rfl)
theorem dX22_init_36 : decode cX22_init 36 = .ok (.if_icmp .ne 7, 3) := dk_160 0 7 (dk_at dksX22_init_1 14 rfl rfl)
theorem dX22_init_39 : decode cX22_init 39 = .ok (.aconst_null, 1) := dk_1 (dk_at dksX22_init_1 17 rfl rfl)
theorem dX22_init_40 : decode cX22_init 40 = .ok (.goto 14, 3) := dk_167 0 14 (dk_at dksX22_init_1 18 rfl rfl)
theorem dX22_init_43 : decode cX22_init 43 = .ok (.new 2, 3) := dk_187 0 2 (dk_at dksX22_init_1 21 rfl rfl)
theorem dX22_init_46 : decode cX22_init 46 = .ok (.dup, 1) := dk_89 (dk_at dksX22_init_2 0 rfl rfl)
theorem dX22_init_47 : decode cX22_init 47 = .ok (.aload_n 1, 1) := dk_43 (dk_at dksX22_init_2 1 rfl rfl)
theorem dX22_init_48 : decode cX22_init 48 = .ok (.iload_n 2, 1) := dk_28 (dk_at dksX22_init_2 2 rfl rfl)
theorem dX22_init_49 : decode cX22_init 49 = .ok (.iconst 1, 1) := dk_4 (dk_at dksX22_init_2 3 rfl rfl)
theorem dX22_init_50 : decode cX22_init 50 = .ok (.iadd, 1) := dk_96 (dk_at dksX22_init_2 4 rfl rfl)
theorem dX22_init_51 : decode cX22_init 51 = .ok (.invokespecial 36, 3) := dk_183 0 36 (dk_at dksX22_init_2 5 rfl rfl)
theorem dX22_init_54 : decode cX22_init 54 = .ok (.putfield 39, 3) := dk_181 0 39 (dk_at dksX22_init_2 8 rfl rfl)
theorem dX22_init_57 : decode cX22_init 57 = .ok (.return_, 1) := dk_177 (dk_at dksX22_init_2 11 rfl rfl)
abbrev cX22_last : ByteArray := prog_18_method_4_code
def yX22_last : MethodName := ⟨RX22, "last", "()LPipelineSimulator$KeyStates;"⟩
def dkwX22_last_0 : List UInt8 := [42, 180, 0, 39, 199, 0, 10, 42, 180, 0, 16, 167, 0, 10, 42, 180, 0, 39, 182, 0, 57, 176]
abbrev dktX22_last_0 : List UInt8 := dkwX22_last_0 ++ []
theorem dksX22_last_0 : cX22_last.data.toList.drop 0 = dktX22_last_0 := by decide +kernel
theorem dX22_last_0 : decode cX22_last 0 = .ok (.aload_n 0, 1) := dk_42 (dk_at dksX22_last_0 0 rfl rfl)
theorem dX22_last_1 : decode cX22_last 1 = .ok (.getfield 39, 3) := dk_180 0 39 (dk_at dksX22_last_0 1 rfl rfl)
theorem dX22_last_4 : decode cX22_last 4 = .ok (.ifnonnull 10, 3) := dk_199 0 10 (dk_at dksX22_last_0 4 rfl rfl)
theorem dX22_last_7 : decode cX22_last 7 = .ok (.aload_n 0, 1) := dk_42 (dk_at dksX22_last_0 7 rfl rfl)
theorem dX22_last_8 : decode cX22_last 8 = .ok (.getfield 16, 3) := dk_180 0 16 (dk_at dksX22_last_0 8 rfl rfl)
theorem dX22_last_11 : decode cX22_last 11 = .ok (.goto 10, 3) := dk_167 0 10 (dk_at dksX22_last_0 11 rfl rfl)
theorem dX22_last_14 : decode cX22_last 14 = .ok (.aload_n 0, 1) := dk_42 (dk_at dksX22_last_0 14 rfl rfl)
theorem dX22_last_15 : decode cX22_last 15 = .ok (.getfield 39, 3) := dk_180 0 39 (dk_at dksX22_last_0 15 rfl rfl)
theorem dX22_last_18 : decode cX22_last 18 = .ok (.invokevirtual 57, 3) := dk_182 0 57 (dk_at dksX22_last_0 18 rfl rfl)
theorem dX22_last_21 : decode cX22_last 21 = .ok (.areturn, 1) := dk_176 (dk_at dksX22_last_0 21 rfl rfl)
theorem q152 : (Jvm.Cond.initialized "PipelineSimulator$Plain") ∈ lw_all := lw_g (lw_at lw_m1 55 rfl) rfl
theorem q438 : (Jvm.Cond.selects "PipelineSimulator$Plain" ({ cls := "java/lang/Object", name := "getClass", desc := "()Ljava/lang/Class;" } : Jvm.MethodName) ({ cls := "java/lang/Object", name := "getClass", desc := "()Ljava/lang/Class;" } : Jvm.MethodName)) ∈ lw_all := lw_g (lw_at lw_m2 101 rfl) rfl
theorem q730 : (Jvm.Cond.fieldLinkNest "PipelineSimulator$Plain" (24 : Nat) "PipelineSimulator" "operators" "Ljava/util/ArrayList;" "PipelineSimulator") ∈ lw_tbl := lw_at lw_m3 153 rfl
theorem q1479 : (Jvm.Cond.castable "PipelineSimulator$Plain" "PipelineSimulator$Output") ∈ lw_tbl := lw_at lw_m6 182 rfl
theorem q1480 : (Jvm.Cond.selects "PipelineSimulator$Plain" ({ cls := "PipelineSimulator$Output", name := "emit", desc := "(II)V" } : Jvm.MethodName) ({ cls := "PipelineSimulator$Plain", name := "emit", desc := "(II)V" } : Jvm.MethodName)) ∈ lw_all := lw_g (lw_at lw_m6 183 rfl) rfl
theorem q1481 : (Jvm.Cond.unhidden "PipelineSimulator$Plain" "emit" "(II)V") ∈ lw_tbl := lw_at lw_m6 184 rfl
theorem q1482 : (Jvm.Cond.instanceMethod ({ cls := "PipelineSimulator$Plain", name := "emit", desc := "(II)V" } : Jvm.MethodName)) ∈ lw_all := lw_g (lw_at lw_m6 185 rfl) rfl
theorem q1483 : (Jvm.Cond.publicMethod ({ cls := "PipelineSimulator$Plain", name := "emit", desc := "(II)V" } : Jvm.MethodName)) ∈ lw_tbl := lw_at lw_m6 186 rfl
theorem q1484 : (Jvm.Cond.code ({ cls := "PipelineSimulator$Plain", name := "emit", desc := "(II)V" } : Jvm.MethodName) prog_18_method_2_code (3 : Nat) (Option.none : Option Jvm.ClassFile.FieldType)) ∈ lw_all := lw_g (lw_at lw_m6 187 rfl) rfl
theorem q1485 : (Jvm.Cond.methodLink "PipelineSimulator$Plain" (43 : Nat) ({ cls := "PipelineSimulator$Plain", name := "take", desc := "(II)V" } : Jvm.MethodName)) ∈ lw_all := lw_g (lw_at lw_m6 188 rfl) rfl
theorem q1486 : (Jvm.Cond.instanceMethod ({ cls := "PipelineSimulator$Plain", name := "take", desc := "(II)V" } : Jvm.MethodName)) ∈ lw_all := lw_g (lw_at lw_m6 189 rfl) rfl
theorem q1487 : (Jvm.Cond.selects "PipelineSimulator$Plain" ({ cls := "PipelineSimulator$Plain", name := "take", desc := "(II)V" } : Jvm.MethodName) ({ cls := "PipelineSimulator$Plain", name := "take", desc := "(II)V" } : Jvm.MethodName)) ∈ lw_all := lw_g (lw_at lw_m6 190 rfl) rfl
theorem q1488 : (Jvm.Cond.code ({ cls := "PipelineSimulator$Plain", name := "take", desc := "(II)V" } : Jvm.MethodName) prog_18_method_3_code (3 : Nat) (Option.none : Option Jvm.ClassFile.FieldType)) ∈ lw_all := lw_g (lw_at lw_m6 191 rfl) rfl
theorem q1489 : (Jvm.Cond.methodLink "PipelineSimulator$Plain" (47 : Nat) ({ cls := "java/util/ArrayList", name := "get", desc := "(I)Ljava/lang/Object;" } : Jvm.MethodName)) ∈ lw_all := lw_g (lw_at lw_m6 192 rfl) rfl
theorem q1490 : (Jvm.Cond.classLink "PipelineSimulator$Plain" (51 : Nat) "PipelineSimulator$Operator") ∈ lw_all := lw_g (lw_at lw_m6 193 rfl) rfl
theorem q1491 : (Jvm.Cond.methodLink "PipelineSimulator$Plain" (53 : Nat) ({ cls := "PipelineSimulator$Operator", name := "process", desc := "(IILPipelineSimulator$KeyStates;LPipelineSimulator$Output;)V" } : Jvm.MethodName)) ∈ lw_all := lw_g (lw_at lw_m6 194 rfl) rfl
theorem q1929 : (Jvm.Cond.instantiable "PipelineSimulator$Plain" (4 : Nat)) ∈ lw_all := lw_g (lw_at lw_m8 152 rfl) rfl
theorem q1931 : (Jvm.Cond.instanceMethod ({ cls := "PipelineSimulator$Plain", name := "<init>", desc := "(LPipelineSimulator;I)V" } : Jvm.MethodName)) ∈ lw_all := lw_g (lw_at lw_m8 154 rfl) rfl
theorem q1932 : (Jvm.Cond.code ({ cls := "PipelineSimulator$Plain", name := "<init>", desc := "(LPipelineSimulator;I)V" } : Jvm.MethodName) prog_18_method_1_code (3 : Nat) (Option.none : Option Jvm.ClassFile.FieldType)) ∈ lw_all := lw_g (lw_at lw_m8 155 rfl) rfl
theorem q1933 : (Jvm.Cond.methodLink "PipelineSimulator$Plain" (7 : Nat) ({ cls := "java/lang/Object", name := "<init>", desc := "()V" } : Jvm.MethodName)) ∈ lw_all := lw_g (lw_at lw_m8 156 rfl) rfl
theorem q1934 : (Jvm.Cond.classLink "PipelineSimulator$Plain" (13 : Nat) "PipelineSimulator$KeyStates") ∈ lw_all := lw_g (lw_at lw_m8 157 rfl) rfl
theorem q1935 : (Jvm.Cond.methodLinkNest "PipelineSimulator$Plain" (15 : Nat) ({ cls := "PipelineSimulator$KeyStates", name := "<init>", desc := "()V" } : Jvm.MethodName) "PipelineSimulator") ∈ lw_tbl := lw_at lw_m8 158 rfl
theorem q1936 : (Jvm.Cond.methodLink "PipelineSimulator$Plain" (30 : Nat) ({ cls := "java/util/ArrayList", name := "size", desc := "()I" } : Jvm.MethodName)) ∈ lw_all := lw_g (lw_at lw_m8 159 rfl) rfl
theorem q1937 : (Jvm.Cond.classLink "PipelineSimulator$Plain" (2 : Nat) "PipelineSimulator$Plain") ∈ lw_all := lw_g (lw_at lw_m8 160 rfl) rfl
theorem q1938 : (Jvm.Cond.methodLink "PipelineSimulator$Plain" (36 : Nat) ({ cls := "PipelineSimulator$Plain", name := "<init>", desc := "(LPipelineSimulator;I)V" } : Jvm.MethodName)) ∈ lw_all := lw_g (lw_at lw_m8 161 rfl) rfl
theorem q1939 : (Jvm.Cond.fieldLink "PipelineSimulator$Plain" (20 : Nat) "PipelineSimulator$Plain" "operator" "I") ∈ lw_all := lw_g (lw_at lw_m8 162 rfl) rfl
theorem q1940 : (Jvm.Cond.fieldLink "PipelineSimulator$Plain" (16 : Nat) "PipelineSimulator$Plain" "states" "LPipelineSimulator$KeyStates;") ∈ lw_all := lw_g (lw_at lw_m8 163 rfl) rfl
theorem q1941 : (Jvm.Cond.fieldLink "PipelineSimulator$Plain" (39 : Nat) "PipelineSimulator$Plain" "next" "LPipelineSimulator$Plain;") ∈ lw_all := lw_g (lw_at lw_m8 164 rfl) rfl
theorem q1942 : (Jvm.Cond.fieldLink "PipelineSimulator$Plain" (1 : Nat) "PipelineSimulator$Plain" "this$0" "LPipelineSimulator;") ∈ lw_all := lw_g (lw_at lw_m8 165 rfl) rfl
theorem q1943 : (Jvm.Cond.laysFinal "PipelineSimulator$Plain" "PipelineSimulator$Plain" "operator" "I") ∈ lw_all := lw_g (lw_at lw_m8 166 rfl) rfl
theorem q1944 : (Jvm.Cond.soleField "PipelineSimulator$Plain" "operator") ∈ lw_all := lw_g (lw_at lw_m8 167 rfl) rfl
theorem q1945 : (Jvm.Cond.laysFinal "PipelineSimulator$Plain" "PipelineSimulator$Plain" "states" "LPipelineSimulator$KeyStates;") ∈ lw_all := lw_g (lw_at lw_m8 168 rfl) rfl
theorem q1946 : (Jvm.Cond.soleField "PipelineSimulator$Plain" "states") ∈ lw_all := lw_g (lw_at lw_m8 169 rfl) rfl
theorem q1947 : (Jvm.Cond.laysFinal "PipelineSimulator$Plain" "PipelineSimulator$Plain" "next" "LPipelineSimulator$Plain;") ∈ lw_all := lw_g (lw_at lw_m8 170 rfl) rfl
theorem q1948 : (Jvm.Cond.soleField "PipelineSimulator$Plain" "next") ∈ lw_all := lw_g (lw_at lw_m8 171 rfl) rfl
theorem q1949 : (Jvm.Cond.laysFinal "PipelineSimulator$Plain" "PipelineSimulator$Plain" "this$0" "LPipelineSimulator;") ∈ lw_all := lw_g (lw_at lw_m8 172 rfl) rfl
theorem q1950 : (Jvm.Cond.soleField "PipelineSimulator$Plain" "this$0") ∈ lw_all := lw_g (lw_at lw_m8 173 rfl) rfl
theorem q1951 : (Jvm.Cond.superclass "PipelineSimulator$Plain" "java/lang/Object") ∈ lw_all := lw_g (lw_at lw_m8 174 rfl) rfl
theorem q1954 : (Jvm.Cond.instanceMethod ({ cls := "PipelineSimulator$Plain", name := "last", desc := "()LPipelineSimulator$KeyStates;" } : Jvm.MethodName)) ∈ lw_all := lw_g (lw_at lw_m8 177 rfl) rfl
theorem q1955 : (Jvm.Cond.selects "PipelineSimulator$Plain" ({ cls := "PipelineSimulator$Plain", name := "last", desc := "()LPipelineSimulator$KeyStates;" } : Jvm.MethodName) ({ cls := "PipelineSimulator$Plain", name := "last", desc := "()LPipelineSimulator$KeyStates;" } : Jvm.MethodName)) ∈ lw_all := lw_g (lw_at lw_m8 178 rfl) rfl
theorem q1956 : (Jvm.Cond.code ({ cls := "PipelineSimulator$Plain", name := "last", desc := "()LPipelineSimulator$KeyStates;" } : Jvm.MethodName) prog_18_method_4_code (1 : Nat) (Option.some (Jvm.ClassFile.FieldType.object "PipelineSimulator$KeyStates"))) ∈ lw_all := lw_g (lw_at lw_m8 179 rfl) rfl
theorem q1957 : (Jvm.Cond.methodLink "PipelineSimulator$Plain" (57 : Nat) ({ cls := "PipelineSimulator$Plain", name := "last", desc := "()LPipelineSimulator$KeyStates;" } : Jvm.MethodName)) ∈ lw_all := lw_g (lw_at lw_m8 180 rfl) rfl
theorem q2977 : (Jvm.Cond.castable "PipelineSimulator$Plain" "java/lang/Object") ∈ lw_tbl := lw_at lw_m13 0 rfl
theorem in_X22 : ∀ w ∈ wsX220, w ∈ lw_all := lw_in wsX220 [1943, 1945, 1947, 1949] (by decide +kernel) (by decide +kernel)
/-! PipelineSimulator$WaitException -/
set_option maxRecDepth 100000
def RX23 : String := "PipelineSimulator$WaitException"
def TX23 : u_T := fun k => match k with
  | 0 => ("java/lang/Throwable", "cause", "Ljava/lang/Throwable;", false)
  | 1 => ("java/lang/Throwable", "stackTrace", "[Ljava/lang/StackTraceElement;", false)
  | 2 => ("java/lang/Throwable", "suppressedExceptions", "Ljava/util/List;", false)
  | 3 => ("java/lang/Throwable", "detailMessage", "Ljava/lang/String;", false)
  | 4 => ("java/lang/Throwable", "backtrace", "Ljava/lang/Object;", false)
  | 5 => ("java/lang/Throwable", "depth", "I", false)
  | 6 => ("PipelineSimulator$WaitException", "place", "I", true)
  | _ => ("PipelineSimulator$WaitException", "reason", "I", true)
def tyX23 : Nat → FieldType := fun k => match k with
  | 0 => .object "java/lang/Throwable"
  | 1 => .array (.object "java/lang/StackTraceElement")
  | 2 => .object "java/util/List"
  | 3 => .object "java/lang/String"
  | 4 => .object "java/lang/Object"
  | 5 => .int
  | 6 => .int
  | _ => .int
abbrev wsX230 : List Cond := u_ws RX23 TX23 8
theorem nmX23 : ∀ a, a < 8 → ∀ b, b < 8 → a ≠ b → (TX23 a).2.1 ≠ (TX23 b).2.1 := by decide +kernel
theorem tyX23_ok : ∀ k, k < 8 → parseFieldDescriptor (TX23 k).2.2.1 = some (tyX23 k) := by decide +kernel
abbrev cX23_init : ByteArray := prog_25_method_1_code
def yX23_init : MethodName := ⟨RX23, "<init>", "(II)V"⟩
def dkwX23_init_0 : List UInt8 := [42, 183, 0, 1, 42, 27, 181, 0, 7, 42, 28, 181, 0, 13, 177]
abbrev dktX23_init_0 : List UInt8 := dkwX23_init_0 ++ []
theorem dksX23_init_0 : cX23_init.data.toList.drop 0 = dktX23_init_0 := by decide +kernel
theorem dX23_init_0 : decode cX23_init 0 = .ok (.aload_n 0, 1) := dk_42 (dk_at dksX23_init_0 0 rfl rfl)
theorem dX23_init_1 : decode cX23_init 1 = .ok (.invokespecial 1, 3) := dk_183 0 1 (dk_at dksX23_init_0 1 rfl rfl)
theorem dX23_init_4 : decode cX23_init 4 = .ok (.aload_n 0, 1) := dk_42 (dk_at dksX23_init_0 4 rfl rfl)
theorem dX23_init_5 : decode cX23_init 5 = .ok (.iload_n 1, 1) := dk_27 (dk_at dksX23_init_0 5 rfl rfl)
theorem dX23_init_6 : decode cX23_init 6 = .ok (.putfield 7, 3) := dk_181 0 7 (dk_at dksX23_init_0 6 rfl rfl)
theorem dX23_init_9 : decode cX23_init 9 = .ok (.aload_n 0, 1) := dk_42 (dk_at dksX23_init_0 9 rfl rfl)
theorem dX23_init_10 : decode cX23_init 10 = .ok (.iload_n 2, 1) := dk_28 (dk_at dksX23_init_0 10 rfl rfl)
theorem dX23_init_11 : decode cX23_init 11 = .ok (.putfield 13, 3) := dk_181 0 13 (dk_at dksX23_init_0 11 rfl rfl)
theorem dX23_init_14 : decode cX23_init 14 = .ok (.return_, 1) := dk_177 (dk_at dksX23_init_0 14 rfl rfl)
theorem q153 : (Jvm.Cond.initialized "PipelineSimulator$WaitException") ∈ lw_all := lw_g (lw_at lw_m1 56 rfl) rfl
theorem q445 : (Jvm.Cond.selects "PipelineSimulator$WaitException" ({ cls := "java/lang/Object", name := "getClass", desc := "()Ljava/lang/Class;" } : Jvm.MethodName) ({ cls := "java/lang/Object", name := "getClass", desc := "()Ljava/lang/Class;" } : Jvm.MethodName)) ∈ lw_all := lw_g (lw_at lw_m2 108 rfl) rfl
theorem q956 : (Jvm.Cond.selects "PipelineSimulator$WaitException" ({ cls := "java/lang/Throwable", name := "fillInStackTrace", desc := "()Ljava/lang/Throwable;" } : Jvm.MethodName) ({ cls := "java/lang/Throwable", name := "fillInStackTrace", desc := "()Ljava/lang/Throwable;" } : Jvm.MethodName)) ∈ lw_all := lw_g (lw_at lw_m4 139 rfl) rfl
theorem q979 : (Jvm.Cond.selects "PipelineSimulator$WaitException" ({ cls := "java/lang/Throwable", name := "toString", desc := "()Ljava/lang/String;" } : Jvm.MethodName) ({ cls := "java/lang/Throwable", name := "toString", desc := "()Ljava/lang/String;" } : Jvm.MethodName)) ∈ lw_all := lw_g (lw_at lw_m4 162 rfl) rfl
theorem q987 : (Jvm.Cond.selects "PipelineSimulator$WaitException" ({ cls := "java/lang/Throwable", name := "getLocalizedMessage", desc := "()Ljava/lang/String;" } : Jvm.MethodName) ({ cls := "java/lang/Throwable", name := "getLocalizedMessage", desc := "()Ljava/lang/String;" } : Jvm.MethodName)) ∈ lw_all := lw_g (lw_at lw_m4 170 rfl) rfl
theorem q994 : (Jvm.Cond.selects "PipelineSimulator$WaitException" ({ cls := "java/lang/Throwable", name := "getMessage", desc := "()Ljava/lang/String;" } : Jvm.MethodName) ({ cls := "java/lang/Throwable", name := "getMessage", desc := "()Ljava/lang/String;" } : Jvm.MethodName)) ∈ lw_all := lw_g (lw_at lw_m4 177 rfl) rfl
theorem q1980 : (Jvm.Cond.instantiable "PipelineSimulator$WaitException" (8 : Nat)) ∈ lw_all := lw_g (lw_at lw_m8 203 rfl) rfl
theorem q1981 : (Jvm.Cond.castable "PipelineSimulator$WaitException" "PipelineSimulator$WaitException") ∈ lw_tbl := lw_at lw_m8 204 rfl
theorem q1982 : (Jvm.Cond.selects "PipelineSimulator$WaitException" ({ cls := "java/lang/Throwable", name := "fillInStackTrace", desc := "(I)Ljava/lang/Throwable;" } : Jvm.MethodName) ({ cls := "java/lang/Throwable", name := "fillInStackTrace", desc := "(I)Ljava/lang/Throwable;" } : Jvm.MethodName)) ∈ lw_all := lw_g (lw_at lw_m8 205 rfl) rfl
theorem q1983 : (Jvm.Cond.lays "PipelineSimulator$WaitException" "java/lang/Throwable" "cause" "Ljava/lang/Throwable;") ∈ lw_all := lw_g (lw_at lw_m8 206 rfl) rfl
theorem q1984 : (Jvm.Cond.lays "PipelineSimulator$WaitException" "java/lang/Throwable" "stackTrace" "[Ljava/lang/StackTraceElement;") ∈ lw_all := lw_g (lw_at lw_m8 207 rfl) rfl
theorem q1985 : (Jvm.Cond.lays "PipelineSimulator$WaitException" "java/lang/Throwable" "suppressedExceptions" "Ljava/util/List;") ∈ lw_all := lw_g (lw_at lw_m8 208 rfl) rfl
theorem q1986 : (Jvm.Cond.lays "PipelineSimulator$WaitException" "java/lang/Throwable" "detailMessage" "Ljava/lang/String;") ∈ lw_all := lw_g (lw_at lw_m8 209 rfl) rfl
theorem q1987 : (Jvm.Cond.lays "PipelineSimulator$WaitException" "java/lang/Throwable" "backtrace" "Ljava/lang/Object;") ∈ lw_all := lw_g (lw_at lw_m8 210 rfl) rfl
theorem q1989 : (Jvm.Cond.instanceMethod ({ cls := "PipelineSimulator$WaitException", name := "<init>", desc := "(II)V" } : Jvm.MethodName)) ∈ lw_all := lw_g (lw_at lw_m8 212 rfl) rfl
theorem q1990 : (Jvm.Cond.code ({ cls := "PipelineSimulator$WaitException", name := "<init>", desc := "(II)V" } : Jvm.MethodName) prog_25_method_1_code (3 : Nat) (Option.none : Option Jvm.ClassFile.FieldType)) ∈ lw_all := lw_g (lw_at lw_m8 213 rfl) rfl
theorem q1991 : (Jvm.Cond.methodLink "PipelineSimulator$WaitException" (1 : Nat) ({ cls := "java/lang/Exception", name := "<init>", desc := "()V" } : Jvm.MethodName)) ∈ lw_all := lw_g (lw_at lw_m8 214 rfl) rfl
theorem q1995 : (Jvm.Cond.fieldLink "PipelineSimulator$WaitException" (7 : Nat) "PipelineSimulator$WaitException" "place" "I") ∈ lw_all := lw_g (lw_at lw_m8 218 rfl) rfl
theorem q1997 : (Jvm.Cond.fieldLink "PipelineSimulator$WaitException" (13 : Nat) "PipelineSimulator$WaitException" "reason" "I") ∈ lw_all := lw_g (lw_at lw_m8 220 rfl) rfl
theorem q1999 : (Jvm.Cond.laysFinal "PipelineSimulator$WaitException" "PipelineSimulator$WaitException" "place" "I") ∈ lw_all := lw_g (lw_at lw_m8 222 rfl) rfl
theorem q2000 : (Jvm.Cond.soleField "PipelineSimulator$WaitException" "place") ∈ lw_all := lw_g (lw_at lw_m8 223 rfl) rfl
theorem q2001 : (Jvm.Cond.laysFinal "PipelineSimulator$WaitException" "PipelineSimulator$WaitException" "reason" "I") ∈ lw_all := lw_g (lw_at lw_m8 224 rfl) rfl
theorem q2002 : (Jvm.Cond.soleField "PipelineSimulator$WaitException" "reason") ∈ lw_all := lw_g (lw_at lw_m8 225 rfl) rfl
theorem q2003 : (Jvm.Cond.lays "PipelineSimulator$WaitException" "java/lang/Throwable" "depth" "I") ∈ lw_all := lw_g (lw_at lw_m8 226 rfl) rfl
theorem q2004 : (Jvm.Cond.superclass "PipelineSimulator$WaitException" "java/lang/Exception") ∈ lw_all := lw_g (lw_at lw_m8 227 rfl) rfl
theorem q2022 : (Jvm.Cond.sameMethod "PipelineSimulator$WaitException" "java/lang/Throwable" "initCause" "(Ljava/lang/Throwable;)Ljava/lang/Throwable;") ∈ lw_all := lw_g (lw_at lw_m9 5 rfl) rfl
theorem q2024 : (Jvm.Cond.selects "PipelineSimulator$WaitException" ({ cls := "PipelineSimulator$WaitException", name := "initCause", desc := "(Ljava/lang/Throwable;)Ljava/lang/Throwable;" } : Jvm.MethodName) ({ cls := "java/lang/Throwable", name := "initCause", desc := "(Ljava/lang/Throwable;)Ljava/lang/Throwable;" } : Jvm.MethodName)) ∈ lw_all := lw_g (lw_at lw_m9 7 rfl) rfl
theorem q2031 : (Jvm.Cond.selects "PipelineSimulator$WaitException" ({ cls := "java/lang/Throwable", name := "getCause", desc := "()Ljava/lang/Throwable;" } : Jvm.MethodName) ({ cls := "java/lang/Throwable", name := "getCause", desc := "()Ljava/lang/Throwable;" } : Jvm.MethodName)) ∈ lw_all := lw_g (lw_at lw_m9 14 rfl) rfl
theorem q2978 : (Jvm.Cond.castable "PipelineSimulator$WaitException" "java/lang/Object") ∈ lw_tbl := lw_at lw_m13 1 rfl
theorem in_X23 : ∀ w ∈ wsX230, w ∈ lw_all := lw_in wsX230 [1983, 1984, 1985, 1986, 1987, 2003, 1999, 2001] (by decide +kernel) (by decide +kernel)
/-! PipelineSimulator$Latencies -/
set_option maxRecDepth 100000
def RX3 : String := "PipelineSimulator$Latencies"
def TX3 : u_T := fun k => match k with
  | 0 => ("PipelineSimulator$Latencies", "counts", "[I", false)
  | 1 => ("PipelineSimulator$Latencies", "number", "I", false)
  | 2 => ("PipelineSimulator$Latencies", "sum", "I", false)
  | _ => ("PipelineSimulator$Latencies", "greatest", "I", false)
def tyX3 : Nat → FieldType := fun k => match k with
  | 0 => .array .int
  | 1 => .int
  | 2 => .int
  | _ => .int
abbrev wsX30 : List Cond := u_ws RX3 TX3 4
theorem nmX3 : ∀ a, a < 4 → ∀ b, b < 4 → a ≠ b → (TX3 a).2.1 ≠ (TX3 b).2.1 := by decide +kernel
theorem tyX3_ok : ∀ k, k < 4 → parseFieldDescriptor (TX3 k).2.2.1 = some (tyX3 k) := by decide +kernel
abbrev cX3_init : ByteArray := prog_13_method_1_code
def yX3_init : MethodName := ⟨RX3, "<init>", "()V"⟩
def dkwX3_init_0 : List UInt8 := [42, 183, 0, 1, 42, 16, 64, 188, 10, 181, 0, 7, 177]
abbrev dktX3_init_0 : List UInt8 := dkwX3_init_0 ++ []
theorem dksX3_init_0 : cX3_init.data.toList.drop 0 = dktX3_init_0 := by decide +kernel
theorem dX3_init_0 : decode cX3_init 0 = .ok (.aload_n 0, 1) := dk_42 (dk_at dksX3_init_0 0 rfl rfl)
theorem dX3_init_1 : decode cX3_init 1 = .ok (.invokespecial 1, 3) := dk_183 0 1 (dk_at dksX3_init_0 1 rfl rfl)
theorem dX3_init_4 : decode cX3_init 4 = .ok (.aload_n 0, 1) := dk_42 (dk_at dksX3_init_0 4 rfl rfl)
theorem dX3_init_5 : decode cX3_init 5 = .ok (.bipush 64, 2) := dk_16 64 (dk_at dksX3_init_0 5 rfl rfl)
theorem dX3_init_7 : decode cX3_init 7 = .ok (.newarray .int, 2) := dk_188_10 (dk_at dksX3_init_0 7 rfl rfl)
theorem dX3_init_9 : decode cX3_init 9 = .ok (.putfield 7, 3) := dk_181 0 7 (dk_at dksX3_init_0 9 rfl rfl)
theorem dX3_init_12 : decode cX3_init 12 = .ok (.return_, 1) := dk_177 (dk_at dksX3_init_0 12 rfl rfl)
abbrev cX3_reset : ByteArray := prog_13_method_4_code
def yX3_reset : MethodName := ⟨RX3, "reset", "()V"⟩
def dkwX3_reset_0 : List UInt8 := [42, 16, 64, 188, 10, 181, 0, 7, 42, 3, 181, 0, 19, 42, 3, 181, 0, 23, 42, 3, 181, 0, 26, 177]
abbrev dktX3_reset_0 : List UInt8 := dkwX3_reset_0 ++ []
theorem dksX3_reset_0 : cX3_reset.data.toList.drop 0 = dktX3_reset_0 := by decide +kernel
theorem dX3_reset_0 : decode cX3_reset 0 = .ok (.aload_n 0, 1) := dk_42 (dk_at dksX3_reset_0 0 rfl rfl)
theorem dX3_reset_1 : decode cX3_reset 1 = .ok (.bipush 64, 2) := dk_16 64 (dk_at dksX3_reset_0 1 rfl rfl)
theorem dX3_reset_3 : decode cX3_reset 3 = .ok (.newarray .int, 2) := dk_188_10 (dk_at dksX3_reset_0 3 rfl rfl)
theorem dX3_reset_5 : decode cX3_reset 5 = .ok (.putfield 7, 3) := dk_181 0 7 (dk_at dksX3_reset_0 5 rfl rfl)
theorem dX3_reset_8 : decode cX3_reset 8 = .ok (.aload_n 0, 1) := dk_42 (dk_at dksX3_reset_0 8 rfl rfl)
theorem dX3_reset_9 : decode cX3_reset 9 = .ok (.iconst 0, 1) := dk_3 (dk_at dksX3_reset_0 9 rfl rfl)
theorem dX3_reset_10 : decode cX3_reset 10 = .ok (.putfield 19, 3) := dk_181 0 19 (dk_at dksX3_reset_0 10 rfl rfl)
theorem dX3_reset_13 : decode cX3_reset 13 = .ok (.aload_n 0, 1) := dk_42 (dk_at dksX3_reset_0 13 rfl rfl)
theorem dX3_reset_14 : decode cX3_reset 14 = .ok (.iconst 0, 1) := dk_3 (dk_at dksX3_reset_0 14 rfl rfl)
theorem dX3_reset_15 : decode cX3_reset 15 = .ok (.putfield 23, 3) := dk_181 0 23 (dk_at dksX3_reset_0 15 rfl rfl)
theorem dX3_reset_18 : decode cX3_reset 18 = .ok (.aload_n 0, 1) := dk_42 (dk_at dksX3_reset_0 18 rfl rfl)
theorem dX3_reset_19 : decode cX3_reset 19 = .ok (.iconst 0, 1) := dk_3 (dk_at dksX3_reset_0 19 rfl rfl)
theorem dX3_reset_20 : decode cX3_reset 20 = .ok (.putfield 26, 3) := dk_181 0 26 (dk_at dksX3_reset_0 20 rfl rfl)
theorem dX3_reset_23 : decode cX3_reset 23 = .ok (.return_, 1) := dk_177 (dk_at dksX3_reset_0 23 rfl rfl)
abbrev cX3_add : ByteArray := prog_13_method_2_code
def yX3_add : MethodName := ⟨RX3, "add", "(I)V"⟩
def dkwX3_add_3 : List UInt8 := [184, 0, 29, 181, 0, 26, 177]
abbrev dktX3_add_3 : List UInt8 := dkwX3_add_3 ++ []
def dkwX3_add_2 : List UInt8 := [180, 0, 19, 4, 96, 181, 0, 19, 42, 89, 180, 0, 23, 27, 96, 181, 0, 23, 42, 42, 180, 0, 26, 27]
abbrev dktX3_add_2 : List UInt8 := dkwX3_add_2 ++ dktX3_add_3
def dkwX3_add_1 : List UInt8 := [180, 0, 7, 190, 184, 0, 13, 42, 44, 181, 0, 7, 42, 180, 0, 7, 27, 92, 46, 4, 96, 79, 42, 89]
abbrev dktX3_add_1 : List UInt8 := dkwX3_add_1 ++ dktX3_add_2
def dkwX3_add_0 : List UInt8 := [27, 42, 180, 0, 7, 190, 161, 0, 29, 5, 27, 104, 188, 10, 77, 42, 180, 0, 7, 3, 44, 3, 42]
abbrev dktX3_add_0 : List UInt8 := dkwX3_add_0 ++ dktX3_add_1
theorem dksX3_add_0 : cX3_add.data.toList.drop 0 = dktX3_add_0 := by decide +kernel
theorem dksX3_add_1 : cX3_add.data.toList.drop 23 = dktX3_add_1 := dk_seg dksX3_add_0 23 rfl rfl
theorem dksX3_add_2 : cX3_add.data.toList.drop 47 = dktX3_add_2 := dk_seg dksX3_add_1 24 rfl rfl
theorem dksX3_add_3 : cX3_add.data.toList.drop 71 = dktX3_add_3 := dk_seg dksX3_add_2 24 rfl rfl
theorem dX3_add_0 : decode cX3_add 0 = .ok (.iload_n 1, 1) := dk_27 (dk_at dksX3_add_0 0 rfl rfl)
theorem dX3_add_1 : decode cX3_add 1 = .ok (.aload_n 0, 1) := dk_42 (dk_at dksX3_add_0 1 rfl rfl)
theorem dX3_add_2 : decode cX3_add 2 = .ok (.getfield 7, 3) := dk_180 0 7 (dk_at dksX3_add_0 2 rfl rfl)
theorem dX3_add_5 : decode cX3_add 5 = .ok (.arraylength, 1) := dk_190 (dk_at dksX3_add_0 5 rfl rfl)
theorem dX3_add_6 : decode cX3_add 6 = .ok (.if_icmp .lt 29, 3) := dk_161 0 29 (dk_at dksX3_add_0 6 rfl rfl)
theorem dX3_add_9 : decode cX3_add 9 = .ok (.iconst 2, 1) := dk_5 (dk_at dksX3_add_0 9 rfl rfl)
theorem dX3_add_10 : decode cX3_add 10 = .ok (.iload_n 1, 1) := dk_27 (dk_at dksX3_add_0 10 rfl rfl)
theorem dX3_add_11 : decode cX3_add 11 = .ok (.imul, 1) := dk_104 (dk_at dksX3_add_0 11 rfl rfl)
theorem dX3_add_12 : decode cX3_add 12 = .ok (.newarray .int, 2) := dk_188_10 (dk_at dksX3_add_0 12 rfl rfl)
theorem dX3_add_14 : decode cX3_add 14 = .ok (.astore_n 2, 1) := dk_77 (dk_at dksX3_add_0 14 rfl rfl)
theorem dX3_add_15 : decode cX3_add 15 = .ok (.aload_n 0, 1) := dk_42 (dk_at dksX3_add_0 15 rfl rfl)
theorem dX3_add_16 : decode cX3_add 16 = .ok (.getfield 7, 3) := dk_180 0 7 (dk_at dksX3_add_0 16 rfl rfl)
theorem dX3_add_19 : decode cX3_add 19 = .ok (.iconst 0, 1) := dk_3 (dk_at dksX3_add_0 19 rfl rfl)
theorem dX3_add_20 : decode cX3_add 20 = .ok (.aload_n 2, 1) := dk_44 (dk_at dksX3_add_0 20 rfl rfl)
theorem dX3_add_21 : decode cX3_add 21 = .ok (.iconst 0, 1) := dk_3 (dk_at dksX3_add_0 21 rfl rfl)
theorem dX3_add_22 : decode cX3_add 22 = .ok (.aload_n 0, 1) := dk_42 (dk_at dksX3_add_0 22 rfl rfl)
theorem dX3_add_23 : decode cX3_add 23 = .ok (.getfield 7, 3) := dk_180 0 7 (dk_at dksX3_add_1 0 rfl rfl)
theorem dX3_add_26 : decode cX3_add 26 = .ok (.arraylength, 1) := dk_190 (dk_at dksX3_add_1 3 rfl rfl)
theorem dX3_add_27 : decode cX3_add 27 = .ok (.invokestatic 13, 3) := dk_184 0 13 (dk_at dksX3_add_1 4 rfl rfl)
theorem dX3_add_30 : decode cX3_add 30 = .ok (.aload_n 0, 1) := dk_42 (dk_at dksX3_add_1 7 rfl rfl)
theorem dX3_add_31 : decode cX3_add 31 = .ok (.aload_n 2, 1) := dk_44 (dk_at dksX3_add_1 8 rfl rfl)
theorem dX3_add_32 : decode cX3_add 32 = .ok (.putfield 7, 3) := dk_181 0 7 (dk_at dksX3_add_1 9 rfl rfl)
theorem dX3_add_35 : decode cX3_add 35 = .ok (.aload_n 0, 1) := dk_42 (dk_at dksX3_add_1 12 rfl rfl)
theorem dX3_add_36 : decode cX3_add 36 = .ok (.getfield 7, 3) := dk_180 0 7 (dk_at dksX3_add_1 13 rfl rfl)
theorem dX3_add_39 : decode cX3_add 39 = .ok (.iload_n 1, 1) := dk_27 (dk_at dksX3_add_1 16 rfl rfl)
theorem dX3_add_40 : decode cX3_add 40 = .ok (.dup2, 1) := dk_92 (dk_at dksX3_add_1 17 rfl rfl)
theorem dX3_add_41 : decode cX3_add 41 = .ok (.iaload, 1) := dk_46 (dk_at dksX3_add_1 18 rfl rfl)
theorem dX3_add_42 : decode cX3_add 42 = .ok (.iconst 1, 1) := dk_4 (dk_at dksX3_add_1 19 rfl rfl)
theorem dX3_add_43 : decode cX3_add 43 = .ok (.iadd, 1) := dk_96 (dk_at dksX3_add_1 20 rfl rfl)
theorem dX3_add_44 : decode cX3_add 44 = .ok (.iastore, 1) := dk_79 (dk_at dksX3_add_1 21 rfl rfl)
theorem dX3_add_45 : decode cX3_add 45 = .ok (.aload_n 0, 1) := dk_42 (dk_at dksX3_add_1 22 rfl rfl)
theorem dX3_add_46 : decode cX3_add 46 = .ok (.dup, 1) := dk_89 (dk_at dksX3_add_1 23 rfl rfl)
theorem dX3_add_47 : decode cX3_add 47 = .ok (.getfield 19, 3) := dk_180 0 19 (dk_at dksX3_add_2 0 rfl rfl)
theorem dX3_add_50 : decode cX3_add 50 = .ok (.iconst 1, 1) := dk_4 (dk_at dksX3_add_2 3 rfl rfl)
theorem dX3_add_51 : decode cX3_add 51 = .ok (.iadd, 1) := dk_96 (dk_at dksX3_add_2 4 rfl rfl)
theorem dX3_add_52 : decode cX3_add 52 = .ok (.putfield 19, 3) := dk_181 0 19 (dk_at dksX3_add_2 5 rfl rfl)
theorem dX3_add_55 : decode cX3_add 55 = .ok (.aload_n 0, 1) := dk_42 (dk_at dksX3_add_2 8 rfl rfl)
theorem dX3_add_56 : decode cX3_add 56 = .ok (.dup, 1) := dk_89 (dk_at dksX3_add_2 9 rfl rfl)
theorem dX3_add_57 : decode cX3_add 57 = .ok (.getfield 23, 3) := dk_180 0 23 (dk_at dksX3_add_2 10 rfl rfl)
theorem dX3_add_60 : decode cX3_add 60 = .ok (.iload_n 1, 1) := dk_27 (dk_at dksX3_add_2 13 rfl rfl)
theorem dX3_add_61 : decode cX3_add 61 = .ok (.iadd, 1) := dk_96 (dk_at dksX3_add_2 14 rfl rfl)
theorem dX3_add_62 : decode cX3_add 62 = .ok (.putfield 23, 3) := dk_181 0 23 (dk_at dksX3_add_2 15 rfl rfl)
theorem dX3_add_65 : decode cX3_add 65 = .ok (.aload_n 0, 1) := dk_42 (dk_at dksX3_add_2 18 rfl rfl)
theorem dX3_add_66 : decode cX3_add 66 = .ok (.aload_n 0, 1) := dk_42 (dk_at dksX3_add_2 19 rfl rfl)
theorem dX3_add_67 : decode cX3_add 67 = .ok (.getfield 26, 3) := dk_180 0 26 (dk_at dksX3_add_2 20 rfl rfl)
theorem dX3_add_70 : decode cX3_add 70 = .ok (.iload_n 1, 1) := dk_27 (dk_at dksX3_add_2 23 rfl rfl)
theorem dX3_add_71 : decode cX3_add 71 = .ok (.invokestatic 29, 3) := dk_184 0 29 (dk_at dksX3_add_3 0 rfl rfl)
theorem dX3_add_74 : decode cX3_add 74 = .ok (.putfield 26, 3) := dk_181 0 26 (dk_at dksX3_add_3 3 rfl rfl)
theorem dX3_add_77 : decode cX3_add 77 = .ok (.return_, 1) := dk_177 (dk_at dksX3_add_3 6 rfl rfl)
theorem q106 : (Jvm.Cond.initialized "PipelineSimulator$Latencies") ∈ lw_all := lw_g (lw_at lw_m1 9 rfl) rfl
theorem q262 : (Jvm.Cond.instantiable "PipelineSimulator$Latencies" (4 : Nat)) ∈ lw_all := lw_g (lw_at lw_m1 165 rfl) rfl
theorem q264 : (Jvm.Cond.instanceMethod ({ cls := "PipelineSimulator$Latencies", name := "<init>", desc := "()V" } : Jvm.MethodName)) ∈ lw_all := lw_g (lw_at lw_m1 167 rfl) rfl
theorem q265 : (Jvm.Cond.code ({ cls := "PipelineSimulator$Latencies", name := "<init>", desc := "()V" } : Jvm.MethodName) prog_13_method_1_code (1 : Nat) (Option.none : Option Jvm.ClassFile.FieldType)) ∈ lw_all := lw_g (lw_at lw_m1 168 rfl) rfl
theorem q266 : (Jvm.Cond.methodLink "PipelineSimulator$Latencies" (1 : Nat) ({ cls := "java/lang/Object", name := "<init>", desc := "()V" } : Jvm.MethodName)) ∈ lw_all := lw_g (lw_at lw_m1 169 rfl) rfl
theorem q267 : (Jvm.Cond.fieldLink "PipelineSimulator$Latencies" (7 : Nat) "PipelineSimulator$Latencies" "counts" "[I") ∈ lw_all := lw_g (lw_at lw_m1 170 rfl) rfl
theorem q268 : (Jvm.Cond.fieldLink "PipelineSimulator$Latencies" (19 : Nat) "PipelineSimulator$Latencies" "number" "I") ∈ lw_all := lw_g (lw_at lw_m1 171 rfl) rfl
theorem q269 : (Jvm.Cond.fieldLink "PipelineSimulator$Latencies" (23 : Nat) "PipelineSimulator$Latencies" "sum" "I") ∈ lw_all := lw_g (lw_at lw_m1 172 rfl) rfl
theorem q270 : (Jvm.Cond.fieldLink "PipelineSimulator$Latencies" (26 : Nat) "PipelineSimulator$Latencies" "greatest" "I") ∈ lw_all := lw_g (lw_at lw_m1 173 rfl) rfl
theorem q271 : (Jvm.Cond.lays "PipelineSimulator$Latencies" "PipelineSimulator$Latencies" "counts" "[I") ∈ lw_all := lw_g (lw_at lw_m1 174 rfl) rfl
theorem q272 : (Jvm.Cond.soleField "PipelineSimulator$Latencies" "counts") ∈ lw_all := lw_g (lw_at lw_m1 175 rfl) rfl
theorem q273 : (Jvm.Cond.lays "PipelineSimulator$Latencies" "PipelineSimulator$Latencies" "number" "I") ∈ lw_all := lw_g (lw_at lw_m1 176 rfl) rfl
theorem q274 : (Jvm.Cond.soleField "PipelineSimulator$Latencies" "number") ∈ lw_all := lw_g (lw_at lw_m1 177 rfl) rfl
theorem q275 : (Jvm.Cond.lays "PipelineSimulator$Latencies" "PipelineSimulator$Latencies" "sum" "I") ∈ lw_all := lw_g (lw_at lw_m1 178 rfl) rfl
theorem q276 : (Jvm.Cond.soleField "PipelineSimulator$Latencies" "sum") ∈ lw_all := lw_g (lw_at lw_m1 179 rfl) rfl
theorem q277 : (Jvm.Cond.lays "PipelineSimulator$Latencies" "PipelineSimulator$Latencies" "greatest" "I") ∈ lw_all := lw_g (lw_at lw_m1 180 rfl) rfl
theorem q278 : (Jvm.Cond.soleField "PipelineSimulator$Latencies" "greatest") ∈ lw_all := lw_g (lw_at lw_m1 181 rfl) rfl
theorem q279 : (Jvm.Cond.superclass "PipelineSimulator$Latencies" "java/lang/Object") ∈ lw_all := lw_g (lw_at lw_m1 182 rfl) rfl
theorem q435 : (Jvm.Cond.selects "PipelineSimulator$Latencies" ({ cls := "java/lang/Object", name := "getClass", desc := "()Ljava/lang/Class;" } : Jvm.MethodName) ({ cls := "java/lang/Object", name := "getClass", desc := "()Ljava/lang/Class;" } : Jvm.MethodName)) ∈ lw_all := lw_g (lw_at lw_m2 98 rfl) rfl
theorem q1251 : (Jvm.Cond.instanceMethod ({ cls := "PipelineSimulator$Latencies", name := "reset", desc := "()V" } : Jvm.MethodName)) ∈ lw_all := lw_g (lw_at lw_m5 194 rfl) rfl
theorem q1252 : (Jvm.Cond.selects "PipelineSimulator$Latencies" ({ cls := "PipelineSimulator$Latencies", name := "reset", desc := "()V" } : Jvm.MethodName) ({ cls := "PipelineSimulator$Latencies", name := "reset", desc := "()V" } : Jvm.MethodName)) ∈ lw_all := lw_g (lw_at lw_m5 195 rfl) rfl
theorem q1253 : (Jvm.Cond.code ({ cls := "PipelineSimulator$Latencies", name := "reset", desc := "()V" } : Jvm.MethodName) prog_13_method_4_code (1 : Nat) (Option.none : Option Jvm.ClassFile.FieldType)) ∈ lw_all := lw_g (lw_at lw_m5 196 rfl) rfl
theorem q1413 : (Jvm.Cond.instanceMethod ({ cls := "PipelineSimulator$Latencies", name := "add", desc := "(I)V" } : Jvm.MethodName)) ∈ lw_all := lw_g (lw_at lw_m6 116 rfl) rfl
theorem q1414 : (Jvm.Cond.selects "PipelineSimulator$Latencies" ({ cls := "PipelineSimulator$Latencies", name := "add", desc := "(I)V" } : Jvm.MethodName) ({ cls := "PipelineSimulator$Latencies", name := "add", desc := "(I)V" } : Jvm.MethodName)) ∈ lw_all := lw_g (lw_at lw_m6 117 rfl) rfl
theorem q1415 : (Jvm.Cond.code ({ cls := "PipelineSimulator$Latencies", name := "add", desc := "(I)V" } : Jvm.MethodName) prog_13_method_2_code (3 : Nat) (Option.none : Option Jvm.ClassFile.FieldType)) ∈ lw_all := lw_g (lw_at lw_m6 118 rfl) rfl
theorem q1416 : (Jvm.Cond.methodLink "PipelineSimulator$Latencies" (13 : Nat) ({ cls := "java/lang/System", name := "arraycopy", desc := "(Ljava/lang/Object;ILjava/lang/Object;II)V" } : Jvm.MethodName)) ∈ lw_all := lw_g (lw_at lw_m6 119 rfl) rfl
theorem q1417 : (Jvm.Cond.methodLink "PipelineSimulator$Latencies" (29 : Nat) ({ cls := "java/lang/Math", name := "max", desc := "(II)I" } : Jvm.MethodName)) ∈ lw_all := lw_g (lw_at lw_m6 120 rfl) rfl
theorem q2951 : (Jvm.Cond.castable "PipelineSimulator$Latencies" "java/lang/Object") ∈ lw_tbl := lw_at lw_m12 214 rfl
theorem in_X3 : ∀ w ∈ wsX30, w ∈ lw_all := lw_in wsX30 [271, 273, 275, 277] (by decide +kernel) (by decide +kernel)
/-! PipelineSimulator$Operator -/
set_option maxRecDepth 100000
def RX4 : String := "PipelineSimulator$Operator"
abbrev cX4_init : ByteArray := prog_15_method_1_code
def yX4_init : MethodName := ⟨RX4, "<init>", "(IIII)V"⟩
def dkwX4_init_1 : List UInt8 := [181, 0, 26, 42, 21, 4, 181, 0, 29, 177]
abbrev dktX4_init_1 : List UInt8 := dkwX4_init_1 ++ []
def dkwX4_init_0 : List UInt8 := [42, 183, 0, 3, 42, 184, 0, 9, 181, 0, 13, 42, 27, 181, 0, 19, 42, 28, 181, 0, 23, 42, 29]
abbrev dktX4_init_0 : List UInt8 := dkwX4_init_0 ++ dktX4_init_1
theorem dksX4_init_0 : cX4_init.data.toList.drop 0 = dktX4_init_0 := by decide +kernel
theorem dksX4_init_1 : cX4_init.data.toList.drop 23 = dktX4_init_1 := dk_seg dksX4_init_0 23 rfl rfl
theorem dX4_init_0 : decode cX4_init 0 = .ok (.aload_n 0, 1) := dk_42 (dk_at dksX4_init_0 0 rfl rfl)
theorem dX4_init_1 : decode cX4_init 1 = .ok (.invokespecial 3, 3) := dk_183 0 3 (dk_at dksX4_init_0 1 rfl rfl)
theorem dX4_init_4 : decode cX4_init 4 = .ok (.aload_n 0, 1) := dk_42 (dk_at dksX4_init_0 4 rfl rfl)
theorem dX4_init_5 : decode cX4_init 5 = .ok (.invokestatic 9, 3) := dk_184 0 9 (dk_at dksX4_init_0 5 rfl rfl)
theorem dX4_init_8 : decode cX4_init 8 = .ok (.putfield 13, 3) := dk_181 0 13 (dk_at dksX4_init_0 8 rfl rfl)
theorem dX4_init_11 : decode cX4_init 11 = .ok (.aload_n 0, 1) := dk_42 (dk_at dksX4_init_0 11 rfl rfl)
theorem dX4_init_12 : decode cX4_init 12 = .ok (.iload_n 1, 1) := dk_27 (dk_at dksX4_init_0 12 rfl rfl)
theorem dX4_init_13 : decode cX4_init 13 = .ok (.putfield 19, 3) := dk_181 0 19 (dk_at dksX4_init_0 13 rfl rfl)
theorem dX4_init_16 : decode cX4_init 16 = .ok (.aload_n 0, 1) := dk_42 (dk_at dksX4_init_0 16 rfl rfl)
theorem dX4_init_17 : decode cX4_init 17 = .ok (.iload_n 2, 1) := dk_28 (dk_at dksX4_init_0 17 rfl rfl)
theorem dX4_init_18 : decode cX4_init 18 = .ok (.putfield 23, 3) := dk_181 0 23 (dk_at dksX4_init_0 18 rfl rfl)
theorem dX4_init_21 : decode cX4_init 21 = .ok (.aload_n 0, 1) := dk_42 (dk_at dksX4_init_0 21 rfl rfl)
theorem dX4_init_22 : decode cX4_init 22 = .ok (.iload_n 3, 1) := dk_29 (dk_at dksX4_init_0 22 rfl rfl)
theorem dX4_init_23 : decode cX4_init 23 = .ok (.putfield 26, 3) := dk_181 0 26 (dk_at dksX4_init_1 0 rfl rfl)
theorem dX4_init_26 : decode cX4_init 26 = .ok (.aload_n 0, 1) := dk_42 (dk_at dksX4_init_1 3 rfl rfl)
theorem dX4_init_27 : decode cX4_init 27 = .ok (.iload 4, 2) := dk_21 4 (dk_at dksX4_init_1 4 rfl rfl)
theorem dX4_init_29 : decode cX4_init 29 = .ok (.putfield 29, 3) := dk_181 0 29 (dk_at dksX4_init_1 6 rfl rfl)
theorem dX4_init_32 : decode cX4_init 32 = .ok (.return_, 1) := dk_177 (dk_at dksX4_init_1 9 rfl rfl)
abbrev cX4_reset : ByteArray := prog_15_method_5_code
def yX4_reset : MethodName := ⟨RX4, "reset", "()V"⟩
def dkwX4_reset_1 : List UInt8 := [181, 0, 63, 177]
abbrev dktX4_reset_1 : List UInt8 := dkwX4_reset_1 ++ []
def dkwX4_reset_0 : List UInt8 := [42, 180, 0, 13, 182, 0, 49, 42, 3, 181, 0, 54, 42, 3, 181, 0, 57, 42, 3, 181, 0, 60, 42, 3]
abbrev dktX4_reset_0 : List UInt8 := dkwX4_reset_0 ++ dktX4_reset_1
theorem dksX4_reset_0 : cX4_reset.data.toList.drop 0 = dktX4_reset_0 := by decide +kernel
theorem dksX4_reset_1 : cX4_reset.data.toList.drop 24 = dktX4_reset_1 := dk_seg dksX4_reset_0 24 rfl rfl
theorem dX4_reset_0 : decode cX4_reset 0 = .ok (.aload_n 0, 1) := dk_42 (dk_at dksX4_reset_0 0 rfl rfl)
theorem dX4_reset_1 : decode cX4_reset 1 = .ok (.getfield 13, 3) := dk_180 0 13 (dk_at dksX4_reset_0 1 rfl rfl)
theorem dX4_reset_4 : decode cX4_reset 4 = .ok (.invokevirtual 49, 3) := dk_182 0 49 (dk_at dksX4_reset_0 4 rfl rfl)
theorem dX4_reset_7 : decode cX4_reset 7 = .ok (.aload_n 0, 1) := dk_42 (dk_at dksX4_reset_0 7 rfl rfl)
theorem dX4_reset_8 : decode cX4_reset 8 = .ok (.iconst 0, 1) := dk_3 (dk_at dksX4_reset_0 8 rfl rfl)
theorem dX4_reset_9 : decode cX4_reset 9 = .ok (.putfield 54, 3) := dk_181 0 54 (dk_at dksX4_reset_0 9 rfl rfl)
theorem dX4_reset_12 : decode cX4_reset 12 = .ok (.aload_n 0, 1) := dk_42 (dk_at dksX4_reset_0 12 rfl rfl)
theorem dX4_reset_13 : decode cX4_reset 13 = .ok (.iconst 0, 1) := dk_3 (dk_at dksX4_reset_0 13 rfl rfl)
theorem dX4_reset_14 : decode cX4_reset 14 = .ok (.putfield 57, 3) := dk_181 0 57 (dk_at dksX4_reset_0 14 rfl rfl)
theorem dX4_reset_17 : decode cX4_reset 17 = .ok (.aload_n 0, 1) := dk_42 (dk_at dksX4_reset_0 17 rfl rfl)
theorem dX4_reset_18 : decode cX4_reset 18 = .ok (.iconst 0, 1) := dk_3 (dk_at dksX4_reset_0 18 rfl rfl)
theorem dX4_reset_19 : decode cX4_reset 19 = .ok (.putfield 60, 3) := dk_181 0 60 (dk_at dksX4_reset_0 19 rfl rfl)
theorem dX4_reset_22 : decode cX4_reset 22 = .ok (.aload_n 0, 1) := dk_42 (dk_at dksX4_reset_0 22 rfl rfl)
theorem dX4_reset_23 : decode cX4_reset 23 = .ok (.iconst 0, 1) := dk_3 (dk_at dksX4_reset_0 23 rfl rfl)
theorem dX4_reset_24 : decode cX4_reset 24 = .ok (.putfield 63, 3) := dk_181 0 63 (dk_at dksX4_reset_1 0 rfl rfl)
theorem dX4_reset_27 : decode cX4_reset 27 = .ok (.return_, 1) := dk_177 (dk_at dksX4_reset_1 3 rfl rfl)
abbrev cX4_isKeyed : ByteArray := prog_15_method_3_code
def yX4_isKeyed : MethodName := ⟨RX4, "isKeyed", "()Z"⟩
theorem dX4_isKeyed_0 : decode cX4_isKeyed 0 = .ok (.iconst 0, 1) := by decide +kernel
theorem dX4_isKeyed_1 : decode cX4_isKeyed 1 = .ok (.ireturn, 1) := by decide +kernel
abbrev cX4_write : ByteArray := prog_15_method_4_code
def yX4_write : MethodName := ⟨RX4, "write", "(Ljava/lang/StringBuilder;)V"⟩
def dkwX4_write_4 : List UInt8 := [180, 0, 29, 182, 0, 46, 87, 177]
abbrev dktX4_write_4 : List UInt8 := dkwX4_write_4 ++ []
def dkwX4_write_3 : List UInt8 := [180, 0, 23, 182, 0, 46, 16, 41, 182, 0, 40, 87, 42, 180, 0, 29, 4, 164, 0, 12, 43, 42]
abbrev dktX4_write_3 : List UInt8 := dkwX4_write_3 ++ dktX4_write_4
def dkwX4_write_2 : List UInt8 := [16, 41, 182, 0, 40, 87, 167, 0, 30, 42, 180, 0, 19, 7, 163, 0, 22, 43, 16, 40, 182, 0, 40, 42]
abbrev dktX4_write_2 : List UInt8 := dkwX4_write_2 ++ dktX4_write_3
def dkwX4_write_1 : List UInt8 := [16, 40, 182, 0, 40, 42, 180, 0, 23, 182, 0, 46, 16, 44, 182, 0, 40, 42, 180, 0, 26, 182, 0, 46]
abbrev dktX4_write_1 : List UInt8 := dkwX4_write_1 ++ dktX4_write_2
def dkwX4_write_0 : List UInt8 := [43, 18, 32, 42, 180, 0, 19, 182, 0, 34, 182, 0, 40, 87, 42, 180, 0, 19, 5, 163, 0, 37, 43]
abbrev dktX4_write_0 : List UInt8 := dkwX4_write_0 ++ dktX4_write_1
theorem dksX4_write_0 : cX4_write.data.toList.drop 0 = dktX4_write_0 := by decide +kernel
theorem dksX4_write_1 : cX4_write.data.toList.drop 23 = dktX4_write_1 := dk_seg dksX4_write_0 23 rfl rfl
theorem dksX4_write_2 : cX4_write.data.toList.drop 47 = dktX4_write_2 := dk_seg dksX4_write_1 24 rfl rfl
theorem dksX4_write_3 : cX4_write.data.toList.drop 71 = dktX4_write_3 := dk_seg dksX4_write_2 24 rfl rfl
theorem dksX4_write_4 : cX4_write.data.toList.drop 93 = dktX4_write_4 := dk_seg dksX4_write_3 22 rfl rfl
theorem dX4_write_0 : decode cX4_write 0 = .ok (.aload_n 1, 1) := dk_43 (dk_at dksX4_write_0 0 rfl rfl)
theorem dX4_write_1 : decode cX4_write 1 = .ok (.ldc 32, 2) := dk_18 32 (dk_at dksX4_write_0 1 rfl rfl)
theorem dX4_write_3 : decode cX4_write 3 = .ok (.aload_n 0, 1) := dk_42 (dk_at dksX4_write_0 3 rfl rfl)
theorem dX4_write_4 : decode cX4_write 4 = .ok (.getfield 19, 3) := dk_180 0 19 (dk_at dksX4_write_0 4 rfl rfl)
theorem dX4_write_7 : decode cX4_write 7 = .ok (.invokevirtual 34, 3) := dk_182 0 34 (dk_at dksX4_write_0 7 rfl rfl)
theorem dX4_write_10 : decode cX4_write 10 = .ok (.invokevirtual 40, 3) := dk_182 0 40 (dk_at dksX4_write_0 10 rfl rfl)
theorem dX4_write_13 : decode cX4_write 13 = .ok (.pop, 1) := dk_87 (dk_at dksX4_write_0 13 rfl rfl)
theorem dX4_write_14 : decode cX4_write 14 = .ok (.aload_n 0, 1) := dk_42 (dk_at dksX4_write_0 14 rfl rfl)
theorem dX4_write_15 : decode cX4_write 15 = .ok (.getfield 19, 3) := dk_180 0 19 (dk_at dksX4_write_0 15 rfl rfl)
theorem dX4_write_18 : decode cX4_write 18 = .ok (.iconst 2, 1) := dk_5 (dk_at dksX4_write_0 18 rfl rfl)
theorem dX4_write_19 : decode cX4_write 19 = .ok (.if_icmp .gt 37, 3) := dk_163 0 37 (dk_at dksX4_write_0 19 rfl rfl)
theorem dX4_write_22 : decode cX4_write 22 = .ok (.aload_n 1, 1) := dk_43 (dk_at dksX4_write_0 22 rfl rfl)
theorem dX4_write_23 : decode cX4_write 23 = .ok (.bipush 40, 2) := dk_16 40 (dk_at dksX4_write_1 0 rfl rfl)
theorem dX4_write_25 : decode cX4_write 25 = .ok (.invokevirtual 40, 3) := dk_182 0 40 (dk_at dksX4_write_1 2 rfl rfl)
theorem dX4_write_28 : decode cX4_write 28 = .ok (.aload_n 0, 1) := dk_42 (dk_at dksX4_write_1 5 rfl rfl)
theorem dX4_write_29 : decode cX4_write 29 = .ok (.getfield 23, 3) := dk_180 0 23 (dk_at dksX4_write_1 6 rfl rfl)
theorem dX4_write_32 : decode cX4_write 32 = .ok (.invokevirtual 46, 3) := dk_182 0 46 (dk_at dksX4_write_1 9 rfl rfl)
theorem dX4_write_35 : decode cX4_write 35 = .ok (.bipush 44, 2) := dk_16 44 (dk_at dksX4_write_1 12 rfl rfl)
theorem dX4_write_37 : decode cX4_write 37 = .ok (.invokevirtual 40, 3) := dk_182 0 40 (dk_at dksX4_write_1 14 rfl rfl)
theorem dX4_write_40 : decode cX4_write 40 = .ok (.aload_n 0, 1) := dk_42 (dk_at dksX4_write_1 17 rfl rfl)
theorem dX4_write_41 : decode cX4_write 41 = .ok (.getfield 26, 3) := dk_180 0 26 (dk_at dksX4_write_1 18 rfl rfl)
theorem dX4_write_44 : decode cX4_write 44 = .ok (.invokevirtual 46, 3) := dk_182 0 46 (dk_at dksX4_write_1 21 rfl rfl)
theorem dX4_write_47 : decode cX4_write 47 = .ok (.bipush 41, 2) := dk_16 41 (dk_at dksX4_write_2 0 rfl rfl)
theorem dX4_write_49 : decode cX4_write 49 = .ok (.invokevirtual 40, 3) := dk_182 0 40 (dk_at dksX4_write_2 2 rfl rfl)
theorem dX4_write_52 : decode cX4_write 52 = .ok (.pop, 1) := dk_87 (dk_at dksX4_write_2 5 rfl rfl)
theorem dX4_write_53 : decode cX4_write 53 = .ok (.goto 30, 3) := dk_167 0 30 (dk_at dksX4_write_2 6 rfl rfl)
theorem dX4_write_56 : decode cX4_write 56 = .ok (.aload_n 0, 1) := dk_42 (dk_at dksX4_write_2 9 rfl rfl)
theorem dX4_write_57 : decode cX4_write 57 = .ok (.getfield 19, 3) := dk_180 0 19 (dk_at dksX4_write_2 10 rfl rfl)
theorem dX4_write_60 : decode cX4_write 60 = .ok (.iconst 4, 1) := dk_7 (dk_at dksX4_write_2 13 rfl rfl)
theorem dX4_write_61 : decode cX4_write 61 = .ok (.if_icmp .gt 22, 3) := dk_163 0 22 (dk_at dksX4_write_2 14 rfl rfl)
theorem dX4_write_64 : decode cX4_write 64 = .ok (.aload_n 1, 1) := dk_43 (dk_at dksX4_write_2 17 rfl rfl)
theorem dX4_write_65 : decode cX4_write 65 = .ok (.bipush 40, 2) := dk_16 40 (dk_at dksX4_write_2 18 rfl rfl)
theorem dX4_write_67 : decode cX4_write 67 = .ok (.invokevirtual 40, 3) := dk_182 0 40 (dk_at dksX4_write_2 20 rfl rfl)
theorem dX4_write_70 : decode cX4_write 70 = .ok (.aload_n 0, 1) := dk_42 (dk_at dksX4_write_2 23 rfl rfl)
theorem dX4_write_71 : decode cX4_write 71 = .ok (.getfield 23, 3) := dk_180 0 23 (dk_at dksX4_write_3 0 rfl rfl)
theorem dX4_write_74 : decode cX4_write 74 = .ok (.invokevirtual 46, 3) := dk_182 0 46 (dk_at dksX4_write_3 3 rfl rfl)
theorem dX4_write_77 : decode cX4_write 77 = .ok (.bipush 41, 2) := dk_16 41 (dk_at dksX4_write_3 6 rfl rfl)
theorem dX4_write_79 : decode cX4_write 79 = .ok (.invokevirtual 40, 3) := dk_182 0 40 (dk_at dksX4_write_3 8 rfl rfl)
theorem dX4_write_82 : decode cX4_write 82 = .ok (.pop, 1) := dk_87 (dk_at dksX4_write_3 11 rfl rfl)
theorem dX4_write_83 : decode cX4_write 83 = .ok (.aload_n 0, 1) := dk_42 (dk_at dksX4_write_3 12 rfl rfl)
theorem dX4_write_84 : decode cX4_write 84 = .ok (.getfield 29, 3) := dk_180 0 29 (dk_at dksX4_write_3 13 rfl rfl)
theorem dX4_write_87 : decode cX4_write 87 = .ok (.iconst 1, 1) := dk_4 (dk_at dksX4_write_3 16 rfl rfl)
theorem dX4_write_88 : decode cX4_write 88 = .ok (.if_icmp .le 12, 3) := dk_164 0 12 (dk_at dksX4_write_3 17 rfl rfl)
theorem dX4_write_91 : decode cX4_write 91 = .ok (.aload_n 1, 1) := dk_43 (dk_at dksX4_write_3 20 rfl rfl)
theorem dX4_write_92 : decode cX4_write 92 = .ok (.aload_n 0, 1) := dk_42 (dk_at dksX4_write_3 21 rfl rfl)
theorem dX4_write_93 : decode cX4_write 93 = .ok (.getfield 29, 3) := dk_180 0 29 (dk_at dksX4_write_4 0 rfl rfl)
theorem dX4_write_96 : decode cX4_write 96 = .ok (.invokevirtual 46, 3) := dk_182 0 46 (dk_at dksX4_write_4 3 rfl rfl)
theorem dX4_write_99 : decode cX4_write 99 = .ok (.pop, 1) := dk_87 (dk_at dksX4_write_4 6 rfl rfl)
theorem dX4_write_100 : decode cX4_write 100 = .ok (.return_, 1) := dk_177 (dk_at dksX4_write_4 7 rfl rfl)
theorem q107 : (Jvm.Cond.initialized "PipelineSimulator$Operator") ∈ lw_all := lw_g (lw_at lw_m1 10 rfl) rfl
theorem q286 : (Jvm.Cond.instanceMethod ({ cls := "PipelineSimulator$Operator", name := "<init>", desc := "(IIII)V" } : Jvm.MethodName)) ∈ lw_all := lw_g (lw_at lw_m1 189 rfl) rfl
theorem q287 : (Jvm.Cond.code ({ cls := "PipelineSimulator$Operator", name := "<init>", desc := "(IIII)V" } : Jvm.MethodName) prog_15_method_1_code (5 : Nat) (Option.none : Option Jvm.ClassFile.FieldType)) ∈ lw_all := lw_g (lw_at lw_m1 190 rfl) rfl
theorem q288 : (Jvm.Cond.methodLink "PipelineSimulator$Operator" (3 : Nat) ({ cls := "java/lang/Object", name := "<init>", desc := "()V" } : Jvm.MethodName)) ∈ lw_all := lw_g (lw_at lw_m1 191 rfl) rfl
theorem q289 : (Jvm.Cond.methodLinkNest "PipelineSimulator$Operator" (9 : Nat) ({ cls := "PipelineSimulator", name := "keyStates", desc := "()LPipelineSimulator$Versions;" } : Jvm.MethodName) "PipelineSimulator") ∈ lw_tbl := lw_at lw_m1 192 rfl
theorem q332 : (Jvm.Cond.fieldLink "PipelineSimulator$Operator" (19 : Nat) "PipelineSimulator$Operator" "kind" "I") ∈ lw_all := lw_g (lw_at lw_m1 235 rfl) rfl
theorem q334 : (Jvm.Cond.fieldLink "PipelineSimulator$Operator" (23 : Nat) "PipelineSimulator$Operator" "a" "I") ∈ lw_all := lw_g (lw_at lw_m1 237 rfl) rfl
theorem q346 : (Jvm.Cond.fieldLink "PipelineSimulator$Operator" (26 : Nat) "PipelineSimulator$Operator" "b" "I") ∈ lw_all := lw_g (lw_at lw_m2 9 rfl) rfl
theorem q354 : (Jvm.Cond.fieldLink "PipelineSimulator$Operator" (29 : Nat) "PipelineSimulator$Operator" "instances" "I") ∈ lw_all := lw_g (lw_at lw_m2 17 rfl) rfl
theorem q359 : (Jvm.Cond.fieldLink "PipelineSimulator$Operator" (13 : Nat) "PipelineSimulator$Operator" "states" "LPipelineSimulator$Versions;") ∈ lw_all := lw_g (lw_at lw_m2 22 rfl) rfl
theorem q362 : (Jvm.Cond.fieldLink "PipelineSimulator$Operator" (54 : Nat) "PipelineSimulator$Operator" "processed" "I") ∈ lw_all := lw_g (lw_at lw_m2 25 rfl) rfl
theorem q365 : (Jvm.Cond.fieldLink "PipelineSimulator$Operator" (57 : Nat) "PipelineSimulator$Operator" "emitted" "I") ∈ lw_all := lw_g (lw_at lw_m2 28 rfl) rfl
theorem q368 : (Jvm.Cond.fieldLink "PipelineSimulator$Operator" (60 : Nat) "PipelineSimulator$Operator" "blocked" "I") ∈ lw_all := lw_g (lw_at lw_m2 31 rfl) rfl
theorem q371 : (Jvm.Cond.fieldLink "PipelineSimulator$Operator" (63 : Nat) "PipelineSimulator$Operator" "idle" "I") ∈ lw_all := lw_g (lw_at lw_m2 34 rfl) rfl
theorem q375 : (Jvm.Cond.soleField "PipelineSimulator$Operator" "kind") ∈ lw_all := lw_g (lw_at lw_m2 38 rfl) rfl
theorem q377 : (Jvm.Cond.soleField "PipelineSimulator$Operator" "a") ∈ lw_all := lw_g (lw_at lw_m2 40 rfl) rfl
theorem q379 : (Jvm.Cond.soleField "PipelineSimulator$Operator" "b") ∈ lw_all := lw_g (lw_at lw_m2 42 rfl) rfl
theorem q381 : (Jvm.Cond.soleField "PipelineSimulator$Operator" "instances") ∈ lw_all := lw_g (lw_at lw_m2 44 rfl) rfl
theorem q383 : (Jvm.Cond.soleField "PipelineSimulator$Operator" "states") ∈ lw_all := lw_g (lw_at lw_m2 46 rfl) rfl
theorem q385 : (Jvm.Cond.soleField "PipelineSimulator$Operator" "processed") ∈ lw_all := lw_g (lw_at lw_m2 48 rfl) rfl
theorem q387 : (Jvm.Cond.soleField "PipelineSimulator$Operator" "emitted") ∈ lw_all := lw_g (lw_at lw_m2 50 rfl) rfl
theorem q389 : (Jvm.Cond.soleField "PipelineSimulator$Operator" "blocked") ∈ lw_all := lw_g (lw_at lw_m2 52 rfl) rfl
theorem q391 : (Jvm.Cond.soleField "PipelineSimulator$Operator" "idle") ∈ lw_all := lw_g (lw_at lw_m2 54 rfl) rfl
theorem q1237 : (Jvm.Cond.instanceMethod ({ cls := "PipelineSimulator$Operator", name := "reset", desc := "()V" } : Jvm.MethodName)) ∈ lw_all := lw_g (lw_at lw_m5 180 rfl) rfl
theorem q1238 : (Jvm.Cond.sameMethod "PipelineSimulator$Operator" "PipelineSimulator$Operator" "reset" "()V") ∈ lw_all := lw_g (lw_at lw_m5 181 rfl) rfl
theorem q1248 : (Jvm.Cond.code ({ cls := "PipelineSimulator$Operator", name := "reset", desc := "()V" } : Jvm.MethodName) prog_15_method_5_code (1 : Nat) (Option.none : Option Jvm.ClassFile.FieldType)) ∈ lw_all := lw_g (lw_at lw_m5 191 rfl) rfl
theorem q1249 : (Jvm.Cond.methodLink "PipelineSimulator$Operator" (49 : Nat) ({ cls := "PipelineSimulator$Versions", name := "reset", desc := "()V" } : Jvm.MethodName)) ∈ lw_all := lw_g (lw_at lw_m5 192 rfl) rfl
theorem q1336 : (Jvm.Cond.instanceMethod ({ cls := "PipelineSimulator$Operator", name := "isKeyed", desc := "()Z" } : Jvm.MethodName)) ∈ lw_all := lw_g (lw_at lw_m6 39 rfl) rfl
theorem q1337 : (Jvm.Cond.sameMethod "PipelineSimulator$Operator" "PipelineSimulator$Operator" "isKeyed" "()Z") ∈ lw_all := lw_g (lw_at lw_m6 40 rfl) rfl
theorem q1349 : (Jvm.Cond.code ({ cls := "PipelineSimulator$Operator", name := "isKeyed", desc := "()Z" } : Jvm.MethodName) prog_15_method_3_code (1 : Nat) (Option.some Jvm.ClassFile.FieldType.boolean)) ∈ lw_all := lw_g (lw_at lw_m6 52 rfl) rfl
theorem q1420 : (Jvm.Cond.declares ({ cls := "PipelineSimulator$Operator", name := "process", desc := "(IILPipelineSimulator$KeyStates;LPipelineSimulator$Output;)V" } : Jvm.MethodName)) ∈ lw_tbl := lw_at lw_m6 123 rfl
theorem q1421 : (Jvm.Cond.sameMethod "PipelineSimulator$Operator" "PipelineSimulator$Operator" "process" "(IILPipelineSimulator$KeyStates;LPipelineSimulator$Output;)V") ∈ lw_all := lw_g (lw_at lw_m6 124 rfl) rfl
theorem q2348 : (Jvm.Cond.instanceMethod ({ cls := "PipelineSimulator$Operator", name := "write", desc := "(Ljava/lang/StringBuilder;)V" } : Jvm.MethodName)) ∈ lw_all := lw_g (lw_at lw_m10 91 rfl) rfl
theorem q2349 : (Jvm.Cond.sameMethod "PipelineSimulator$Operator" "PipelineSimulator$Operator" "write" "(Ljava/lang/StringBuilder;)V") ∈ lw_all := lw_g (lw_at lw_m10 92 rfl) rfl
theorem q2387 : (Jvm.Cond.code ({ cls := "PipelineSimulator$Operator", name := "write", desc := "(Ljava/lang/StringBuilder;)V" } : Jvm.MethodName) prog_15_method_4_code (2 : Nat) (Option.none : Option Jvm.ClassFile.FieldType)) ∈ lw_all := lw_g (lw_at lw_m10 130 rfl) rfl
theorem q2388 : (Jvm.Cond.stringRef "PipelineSimulator$Operator" (32 : Nat) "mfkcsdr") ∈ lw_tbl := lw_at lw_m10 131 rfl
theorem q2389 : (Jvm.Cond.methodLink "PipelineSimulator$Operator" (34 : Nat) ({ cls := "java/lang/String", name := "charAt", desc := "(I)C" } : Jvm.MethodName)) ∈ lw_all := lw_g (lw_at lw_m10 132 rfl) rfl
theorem q2400 : (Jvm.Cond.methodLink "PipelineSimulator$Operator" (40 : Nat) ({ cls := "java/lang/StringBuilder", name := "append", desc := "(C)Ljava/lang/StringBuilder;" } : Jvm.MethodName)) ∈ lw_all := lw_g (lw_at lw_m10 143 rfl) rfl
theorem q2401 : (Jvm.Cond.methodLink "PipelineSimulator$Operator" (46 : Nat) ({ cls := "java/lang/StringBuilder", name := "append", desc := "(I)Ljava/lang/StringBuilder;" } : Jvm.MethodName)) ∈ lw_all := lw_g (lw_at lw_m10 144 rfl) rfl
/-! PipelineSimulator$Source -/
set_option maxRecDepth 100000
def RX5 : String := "PipelineSimulator$Source"
def TX5 : u_T := fun k => match k with
  | 0 => ("PipelineSimulator$Operator", "kind", "I", true)
  | 1 => ("PipelineSimulator$Operator", "a", "I", true)
  | 2 => ("PipelineSimulator$Operator", "b", "I", true)
  | 3 => ("PipelineSimulator$Operator", "instances", "I", false)
  | 4 => ("PipelineSimulator$Operator", "states", "LPipelineSimulator$Versions;", true)
  | 5 => ("PipelineSimulator$Operator", "processed", "I", false)
  | 6 => ("PipelineSimulator$Operator", "emitted", "I", false)
  | 7 => ("PipelineSimulator$Operator", "blocked", "I", false)
  | _ => ("PipelineSimulator$Operator", "idle", "I", false)
def tyX5 : Nat → FieldType := fun k => match k with
  | 0 => .int
  | 1 => .int
  | 2 => .int
  | 3 => .int
  | 4 => .object "PipelineSimulator$Versions"
  | 5 => .int
  | 6 => .int
  | 7 => .int
  | _ => .int
abbrev wsX50 : List Cond := u_ws RX5 TX5 9
theorem nmX5 : ∀ a, a < 9 → ∀ b, b < 9 → a ≠ b → (TX5 a).2.1 ≠ (TX5 b).2.1 := by decide +kernel
theorem tyX5_ok : ∀ k, k < 9 → parseFieldDescriptor (TX5 k).2.2.1 = some (tyX5 k) := by decide +kernel
abbrev cX5_init : ByteArray := prog_21_method_1_code
def yX5_init : MethodName := ⟨RX5, "<init>", "()V"⟩
def dkwX5_init_0 : List UInt8 := [42, 16, 7, 3, 3, 4, 183, 0, 3, 177]
abbrev dktX5_init_0 : List UInt8 := dkwX5_init_0 ++ []
theorem dksX5_init_0 : cX5_init.data.toList.drop 0 = dktX5_init_0 := by decide +kernel
theorem dX5_init_0 : decode cX5_init 0 = .ok (.aload_n 0, 1) := dk_42 (dk_at dksX5_init_0 0 rfl rfl)
theorem dX5_init_1 : decode cX5_init 1 = .ok (.bipush 7, 2) := dk_16 7 (dk_at dksX5_init_0 1 rfl rfl)
theorem dX5_init_3 : decode cX5_init 3 = .ok (.iconst 0, 1) := dk_3 (dk_at dksX5_init_0 3 rfl rfl)
theorem dX5_init_4 : decode cX5_init 4 = .ok (.iconst 0, 1) := dk_3 (dk_at dksX5_init_0 4 rfl rfl)
theorem dX5_init_5 : decode cX5_init 5 = .ok (.iconst 1, 1) := dk_4 (dk_at dksX5_init_0 5 rfl rfl)
theorem dX5_init_6 : decode cX5_init 6 = .ok (.invokespecial 3, 3) := dk_183 0 3 (dk_at dksX5_init_0 6 rfl rfl)
theorem dX5_init_9 : decode cX5_init 9 = .ok (.return_, 1) := dk_177 (dk_at dksX5_init_0 9 rfl rfl)
abbrev cX5_process : ByteArray := prog_21_method_2_code
def yX5_process : MethodName := ⟨RX5, "process", "(IILPipelineSimulator$KeyStates;LPipelineSimulator$Output;)V"⟩
def dkwX5_process_0 : List UInt8 := [25, 4, 27, 28, 185, 0, 9, 3, 0, 177]
abbrev dktX5_process_0 : List UInt8 := dkwX5_process_0 ++ []
theorem dksX5_process_0 : cX5_process.data.toList.drop 0 = dktX5_process_0 := by decide +kernel
theorem dX5_process_0 : decode cX5_process 0 = .ok (.aload 4, 2) := dk_25 4 (dk_at dksX5_process_0 0 rfl rfl)
theorem dX5_process_2 : decode cX5_process 2 = .ok (.iload_n 1, 1) := dk_27 (dk_at dksX5_process_0 2 rfl rfl)
theorem dX5_process_3 : decode cX5_process 3 = .ok (.iload_n 2, 1) := dk_28 (dk_at dksX5_process_0 3 rfl rfl)
theorem dX5_process_4 : decode cX5_process 4 = .ok (.invokeinterface 9 3, 5) := by decide +kernel
theorem dX5_process_9 : decode cX5_process 9 = .ok (.return_, 1) := dk_177 (dk_at dksX5_process_0 9 rfl rfl)
theorem q108 : (Jvm.Cond.initialized "PipelineSimulator$Source") ∈ lw_all := lw_g (lw_at lw_m1 11 rfl) rfl
theorem q281 : (Jvm.Cond.instantiable "PipelineSimulator$Source" (9 : Nat)) ∈ lw_all := lw_g (lw_at lw_m1 184 rfl) rfl
theorem q283 : (Jvm.Cond.instanceMethod ({ cls := "PipelineSimulator$Source", name := "<init>", desc := "()V" } : Jvm.MethodName)) ∈ lw_all := lw_g (lw_at lw_m1 186 rfl) rfl
theorem q284 : (Jvm.Cond.code ({ cls := "PipelineSimulator$Source", name := "<init>", desc := "()V" } : Jvm.MethodName) prog_21_method_1_code (1 : Nat) (Option.none : Option Jvm.ClassFile.FieldType)) ∈ lw_all := lw_g (lw_at lw_m1 187 rfl) rfl
theorem q285 : (Jvm.Cond.methodLink "PipelineSimulator$Source" (3 : Nat) ({ cls := "PipelineSimulator$Operator", name := "<init>", desc := "(IIII)V" } : Jvm.MethodName)) ∈ lw_all := lw_g (lw_at lw_m1 188 rfl) rfl
theorem q374 : (Jvm.Cond.laysFinal "PipelineSimulator$Source" "PipelineSimulator$Operator" "kind" "I") ∈ lw_all := lw_g (lw_at lw_m2 37 rfl) rfl
theorem q376 : (Jvm.Cond.laysFinal "PipelineSimulator$Source" "PipelineSimulator$Operator" "a" "I") ∈ lw_all := lw_g (lw_at lw_m2 39 rfl) rfl
theorem q378 : (Jvm.Cond.laysFinal "PipelineSimulator$Source" "PipelineSimulator$Operator" "b" "I") ∈ lw_all := lw_g (lw_at lw_m2 41 rfl) rfl
theorem q380 : (Jvm.Cond.lays "PipelineSimulator$Source" "PipelineSimulator$Operator" "instances" "I") ∈ lw_all := lw_g (lw_at lw_m2 43 rfl) rfl
theorem q382 : (Jvm.Cond.laysFinal "PipelineSimulator$Source" "PipelineSimulator$Operator" "states" "LPipelineSimulator$Versions;") ∈ lw_all := lw_g (lw_at lw_m2 45 rfl) rfl
theorem q384 : (Jvm.Cond.lays "PipelineSimulator$Source" "PipelineSimulator$Operator" "processed" "I") ∈ lw_all := lw_g (lw_at lw_m2 47 rfl) rfl
theorem q386 : (Jvm.Cond.lays "PipelineSimulator$Source" "PipelineSimulator$Operator" "emitted" "I") ∈ lw_all := lw_g (lw_at lw_m2 49 rfl) rfl
theorem q388 : (Jvm.Cond.lays "PipelineSimulator$Source" "PipelineSimulator$Operator" "blocked" "I") ∈ lw_all := lw_g (lw_at lw_m2 51 rfl) rfl
theorem q390 : (Jvm.Cond.lays "PipelineSimulator$Source" "PipelineSimulator$Operator" "idle" "I") ∈ lw_all := lw_g (lw_at lw_m2 53 rfl) rfl
theorem q392 : (Jvm.Cond.superclass "PipelineSimulator$Source" "PipelineSimulator$Operator") ∈ lw_all := lw_g (lw_at lw_m2 55 rfl) rfl
theorem q441 : (Jvm.Cond.selects "PipelineSimulator$Source" ({ cls := "java/lang/Object", name := "getClass", desc := "()Ljava/lang/Class;" } : Jvm.MethodName) ({ cls := "java/lang/Object", name := "getClass", desc := "()Ljava/lang/Class;" } : Jvm.MethodName)) ∈ lw_all := lw_g (lw_at lw_m2 104 rfl) rfl
theorem q1246 : (Jvm.Cond.selects "PipelineSimulator$Source" ({ cls := "PipelineSimulator$Operator", name := "reset", desc := "()V" } : Jvm.MethodName) ({ cls := "PipelineSimulator$Operator", name := "reset", desc := "()V" } : Jvm.MethodName)) ∈ lw_all := lw_g (lw_at lw_m5 189 rfl) rfl
theorem q1347 : (Jvm.Cond.selects "PipelineSimulator$Source" ({ cls := "PipelineSimulator$Operator", name := "isKeyed", desc := "()Z" } : Jvm.MethodName) ({ cls := "PipelineSimulator$Operator", name := "isKeyed", desc := "()Z" } : Jvm.MethodName)) ∈ lw_all := lw_g (lw_at lw_m6 50 rfl) rfl
theorem q1526 : (Jvm.Cond.instanceMethod ({ cls := "PipelineSimulator$Source", name := "process", desc := "(IILPipelineSimulator$KeyStates;LPipelineSimulator$Output;)V" } : Jvm.MethodName)) ∈ lw_all := lw_g (lw_at lw_m6 229 rfl) rfl
theorem q1527 : (Jvm.Cond.code ({ cls := "PipelineSimulator$Source", name := "process", desc := "(IILPipelineSimulator$KeyStates;LPipelineSimulator$Output;)V" } : Jvm.MethodName) prog_21_method_2_code (5 : Nat) (Option.none : Option Jvm.ClassFile.FieldType)) ∈ lw_all := lw_g (lw_at lw_m6 230 rfl) rfl
theorem q1528 : (Jvm.Cond.interfaceEntry "PipelineSimulator$Source" (9 : Nat)) ∈ lw_tbl := lw_at lw_m6 231 rfl
theorem q1529 : (Jvm.Cond.methodLink "PipelineSimulator$Source" (9 : Nat) ({ cls := "PipelineSimulator$Output", name := "emit", desc := "(II)V" } : Jvm.MethodName)) ∈ lw_all := lw_g (lw_at lw_m6 232 rfl) rfl
theorem q1556 : (Jvm.Cond.selects "PipelineSimulator$Source" ({ cls := "PipelineSimulator$Operator", name := "process", desc := "(IILPipelineSimulator$KeyStates;LPipelineSimulator$Output;)V" } : Jvm.MethodName) ({ cls := "PipelineSimulator$Source", name := "process", desc := "(IILPipelineSimulator$KeyStates;LPipelineSimulator$Output;)V" } : Jvm.MethodName)) ∈ lw_all := lw_g (lw_at lw_m7 19 rfl) rfl
theorem q2385 : (Jvm.Cond.selects "PipelineSimulator$Source" ({ cls := "PipelineSimulator$Operator", name := "write", desc := "(Ljava/lang/StringBuilder;)V" } : Jvm.MethodName) ({ cls := "PipelineSimulator$Operator", name := "write", desc := "(Ljava/lang/StringBuilder;)V" } : Jvm.MethodName)) ∈ lw_all := lw_g (lw_at lw_m10 128 rfl) rfl
theorem q2942 : (Jvm.Cond.castable "PipelineSimulator$Source" "PipelineSimulator$Operator") ∈ lw_tbl := lw_at lw_m12 205 rfl
theorem q2952 : (Jvm.Cond.castable "PipelineSimulator$Source" "java/lang/Object") ∈ lw_tbl := lw_at lw_m12 215 rfl
theorem in_X5 : ∀ w ∈ wsX50, w ∈ lw_all := lw_in wsX50 [374, 376, 378, 380, 382, 384, 386, 388, 390] (by decide +kernel) (by decide +kernel)
/-! PipelineSimulator$KeyStates -/
set_option maxRecDepth 100000
def RX6 : String := "PipelineSimulator$KeyStates"
def TX6 : u_T := fun k => match k with
  | 0 => ("PipelineSimulator$KeyStates", "present", "Ljava/util/BitSet;", true)
  | 1 => ("PipelineSimulator$KeyStates", "first", "[I", true)
  | _ => ("PipelineSimulator$KeyStates", "second", "[I", true)
def tyX6 : Nat → FieldType := fun k => match k with
  | 0 => .object "java/util/BitSet"
  | 1 => .array .int
  | _ => .array .int
abbrev wsX60 : List Cond := u_ws RX6 TX6 3
theorem nmX6 : ∀ a, a < 3 → ∀ b, b < 3 → a ≠ b → (TX6 a).2.1 ≠ (TX6 b).2.1 := by decide +kernel
theorem tyX6_ok : ∀ k, k < 3 → parseFieldDescriptor (TX6 k).2.2.1 = some (tyX6 k) := by decide +kernel
abbrev cX6_init : ByteArray := prog_11_method_1_code
def yX6_init : MethodName := ⟨RX6, "<init>", "()V"⟩
def dkwX6_init_1 : List UInt8 := [181, 0, 20, 42, 16, 16, 188, 10, 181, 0, 24, 177]
abbrev dktX6_init_1 : List UInt8 := dkwX6_init_1 ++ []
def dkwX6_init_0 : List UInt8 := [42, 183, 0, 3, 42, 187, 0, 9, 89, 16, 16, 183, 0, 11, 181, 0, 14, 42, 16, 16, 188, 10]
abbrev dktX6_init_0 : List UInt8 := dkwX6_init_0 ++ dktX6_init_1
theorem dksX6_init_0 : cX6_init.data.toList.drop 0 = dktX6_init_0 := by decide +kernel
theorem dksX6_init_1 : cX6_init.data.toList.drop 22 = dktX6_init_1 := dk_seg dksX6_init_0 22 rfl rfl
theorem dX6_init_0 : decode cX6_init 0 = .ok (.aload_n 0, 1) := dk_42 (dk_at dksX6_init_0 0 rfl rfl)
theorem dX6_init_1 : decode cX6_init 1 = .ok (.invokespecial 3, 3) := dk_183 0 3 (dk_at dksX6_init_0 1 rfl rfl)
theorem dX6_init_4 : decode cX6_init 4 = .ok (.aload_n 0, 1) := dk_42 (dk_at dksX6_init_0 4 rfl rfl)
theorem dX6_init_5 : decode cX6_init 5 = .ok (.new 9, 3) := dk_187 0 9 (dk_at dksX6_init_0 5 rfl rfl)
theorem dX6_init_8 : decode cX6_init 8 = .ok (.dup, 1) := dk_89 (dk_at dksX6_init_0 8 rfl rfl)
theorem dX6_init_9 : decode cX6_init 9 = .ok (.bipush 16, 2) := dk_16 16 (dk_at dksX6_init_0 9 rfl rfl)
theorem dX6_init_11 : decode cX6_init 11 = .ok (.invokespecial 11, 3) := dk_183 0 11 (dk_at dksX6_init_0 11 rfl rfl)
theorem dX6_init_14 : decode cX6_init 14 = .ok (.putfield 14, 3) := dk_181 0 14 (dk_at dksX6_init_0 14 rfl rfl)
theorem dX6_init_17 : decode cX6_init 17 = .ok (.aload_n 0, 1) := dk_42 (dk_at dksX6_init_0 17 rfl rfl)
theorem dX6_init_18 : decode cX6_init 18 = .ok (.bipush 16, 2) := dk_16 16 (dk_at dksX6_init_0 18 rfl rfl)
theorem dX6_init_20 : decode cX6_init 20 = .ok (.newarray .int, 2) := dk_188_10 (dk_at dksX6_init_0 20 rfl rfl)
theorem dX6_init_22 : decode cX6_init 22 = .ok (.putfield 20, 3) := dk_181 0 20 (dk_at dksX6_init_1 0 rfl rfl)
theorem dX6_init_25 : decode cX6_init 25 = .ok (.aload_n 0, 1) := dk_42 (dk_at dksX6_init_1 3 rfl rfl)
theorem dX6_init_26 : decode cX6_init 26 = .ok (.bipush 16, 2) := dk_16 16 (dk_at dksX6_init_1 4 rfl rfl)
theorem dX6_init_28 : decode cX6_init 28 = .ok (.newarray .int, 2) := dk_188_10 (dk_at dksX6_init_1 6 rfl rfl)
theorem dX6_init_30 : decode cX6_init 30 = .ok (.putfield 24, 3) := dk_181 0 24 (dk_at dksX6_init_1 8 rfl rfl)
theorem dX6_init_33 : decode cX6_init 33 = .ok (.return_, 1) := dk_177 (dk_at dksX6_init_1 11 rfl rfl)
abbrev cX6_reset : ByteArray := prog_11_method_11_code
def yX6_reset : MethodName := ⟨RX6, "reset", "()V"⟩
def dkwX6_reset_0 : List UInt8 := [42, 180, 0, 14, 182, 0, 59, 177]
abbrev dktX6_reset_0 : List UInt8 := dkwX6_reset_0 ++ []
theorem dksX6_reset_0 : cX6_reset.data.toList.drop 0 = dktX6_reset_0 := by decide +kernel
theorem dX6_reset_0 : decode cX6_reset 0 = .ok (.aload_n 0, 1) := dk_42 (dk_at dksX6_reset_0 0 rfl rfl)
theorem dX6_reset_1 : decode cX6_reset 1 = .ok (.getfield 14, 3) := dk_180 0 14 (dk_at dksX6_reset_0 1 rfl rfl)
theorem dX6_reset_4 : decode cX6_reset 4 = .ok (.invokevirtual 59, 3) := dk_182 0 59 (dk_at dksX6_reset_0 4 rfl rfl)
theorem dX6_reset_7 : decode cX6_reset 7 = .ok (.return_, 1) := dk_177 (dk_at dksX6_reset_0 7 rfl rfl)
abbrev cX6_has : ByteArray := prog_11_method_2_code
def yX6_has : MethodName := ⟨RX6, "has", "(I)Z"⟩
def dkwX6_has_0 : List UInt8 := [42, 180, 0, 14, 27, 182, 0, 27, 172]
abbrev dktX6_has_0 : List UInt8 := dkwX6_has_0 ++ []
theorem dksX6_has_0 : cX6_has.data.toList.drop 0 = dktX6_has_0 := by decide +kernel
theorem dX6_has_0 : decode cX6_has 0 = .ok (.aload_n 0, 1) := dk_42 (dk_at dksX6_has_0 0 rfl rfl)
theorem dX6_has_1 : decode cX6_has 1 = .ok (.getfield 14, 3) := dk_180 0 14 (dk_at dksX6_has_0 1 rfl rfl)
theorem dX6_has_4 : decode cX6_has 4 = .ok (.iload_n 1, 1) := dk_27 (dk_at dksX6_has_0 4 rfl rfl)
theorem dX6_has_5 : decode cX6_has 5 = .ok (.invokevirtual 27, 3) := dk_182 0 27 (dk_at dksX6_has_0 5 rfl rfl)
theorem dX6_has_8 : decode cX6_has 8 = .ok (.ireturn, 1) := dk_172 (dk_at dksX6_has_0 8 rfl rfl)
abbrev cX6_first : ByteArray := prog_11_method_3_code
def yX6_first : MethodName := ⟨RX6, "first", "(I)I"⟩
def dkwX6_first_0 : List UInt8 := [42, 27, 182, 0, 31, 153, 0, 12, 42, 180, 0, 20, 27, 46, 167, 0, 4, 3, 172]
abbrev dktX6_first_0 : List UInt8 := dkwX6_first_0 ++ []
theorem dksX6_first_0 : cX6_first.data.toList.drop 0 = dktX6_first_0 := by decide +kernel
theorem dX6_first_0 : decode cX6_first 0 = .ok (.aload_n 0, 1) := dk_42 (dk_at dksX6_first_0 0 rfl rfl)
theorem dX6_first_1 : decode cX6_first 1 = .ok (.iload_n 1, 1) := dk_27 (dk_at dksX6_first_0 1 rfl rfl)
theorem dX6_first_2 : decode cX6_first 2 = .ok (.invokevirtual 31, 3) := dk_182 0 31 (dk_at dksX6_first_0 2 rfl rfl)
theorem dX6_first_5 : decode cX6_first 5 = .ok (.ifCond .eq 12, 3) := dk_153 0 12 (dk_at dksX6_first_0 5 rfl rfl)
theorem dX6_first_8 : decode cX6_first 8 = .ok (.aload_n 0, 1) := dk_42 (dk_at dksX6_first_0 8 rfl rfl)
theorem dX6_first_9 : decode cX6_first 9 = .ok (.getfield 20, 3) := dk_180 0 20 (dk_at dksX6_first_0 9 rfl rfl)
theorem dX6_first_12 : decode cX6_first 12 = .ok (.iload_n 1, 1) := dk_27 (dk_at dksX6_first_0 12 rfl rfl)
theorem dX6_first_13 : decode cX6_first 13 = .ok (.iaload, 1) := dk_46 (dk_at dksX6_first_0 13 rfl rfl)
theorem dX6_first_14 : decode cX6_first 14 = .ok (.goto 4, 3) := dk_167 0 4 (dk_at dksX6_first_0 14 rfl rfl)
theorem dX6_first_17 : decode cX6_first 17 = .ok (.iconst 0, 1) := dk_3 (dk_at dksX6_first_0 17 rfl rfl)
theorem dX6_first_18 : decode cX6_first 18 = .ok (.ireturn, 1) := dk_172 (dk_at dksX6_first_0 18 rfl rfl)
abbrev cX6_set : ByteArray := prog_11_method_5_code
def yX6_set : MethodName := ⟨RX6, "set", "(III)V"⟩
def dkwX6_set_0 : List UInt8 := [42, 180, 0, 14, 27, 182, 0, 34, 42, 180, 0, 20, 27, 28, 79, 42, 180, 0, 24, 27, 29, 79, 177]
abbrev dktX6_set_0 : List UInt8 := dkwX6_set_0 ++ []
theorem dksX6_set_0 : cX6_set.data.toList.drop 0 = dktX6_set_0 := by decide +kernel
theorem dX6_set_0 : decode cX6_set 0 = .ok (.aload_n 0, 1) := dk_42 (dk_at dksX6_set_0 0 rfl rfl)
theorem dX6_set_1 : decode cX6_set 1 = .ok (.getfield 14, 3) := dk_180 0 14 (dk_at dksX6_set_0 1 rfl rfl)
theorem dX6_set_4 : decode cX6_set 4 = .ok (.iload_n 1, 1) := dk_27 (dk_at dksX6_set_0 4 rfl rfl)
theorem dX6_set_5 : decode cX6_set 5 = .ok (.invokevirtual 34, 3) := dk_182 0 34 (dk_at dksX6_set_0 5 rfl rfl)
theorem dX6_set_8 : decode cX6_set 8 = .ok (.aload_n 0, 1) := dk_42 (dk_at dksX6_set_0 8 rfl rfl)
theorem dX6_set_9 : decode cX6_set 9 = .ok (.getfield 20, 3) := dk_180 0 20 (dk_at dksX6_set_0 9 rfl rfl)
theorem dX6_set_12 : decode cX6_set 12 = .ok (.iload_n 1, 1) := dk_27 (dk_at dksX6_set_0 12 rfl rfl)
theorem dX6_set_13 : decode cX6_set 13 = .ok (.iload_n 2, 1) := dk_28 (dk_at dksX6_set_0 13 rfl rfl)
theorem dX6_set_14 : decode cX6_set 14 = .ok (.iastore, 1) := dk_79 (dk_at dksX6_set_0 14 rfl rfl)
theorem dX6_set_15 : decode cX6_set 15 = .ok (.aload_n 0, 1) := dk_42 (dk_at dksX6_set_0 15 rfl rfl)
theorem dX6_set_16 : decode cX6_set 16 = .ok (.getfield 24, 3) := dk_180 0 24 (dk_at dksX6_set_0 16 rfl rfl)
theorem dX6_set_19 : decode cX6_set 19 = .ok (.iload_n 1, 1) := dk_27 (dk_at dksX6_set_0 19 rfl rfl)
theorem dX6_set_20 : decode cX6_set 20 = .ok (.iload_n 3, 1) := dk_29 (dk_at dksX6_set_0 20 rfl rfl)
theorem dX6_set_21 : decode cX6_set 21 = .ok (.iastore, 1) := dk_79 (dk_at dksX6_set_0 21 rfl rfl)
theorem dX6_set_22 : decode cX6_set 22 = .ok (.return_, 1) := dk_177 (dk_at dksX6_set_0 22 rfl rfl)
abbrev cX6_second : ByteArray := prog_11_method_4_code
def yX6_second : MethodName := ⟨RX6, "second", "(I)I"⟩
def dkwX6_second_0 : List UInt8 := [42, 27, 182, 0, 31, 153, 0, 12, 42, 180, 0, 24, 27, 46, 167, 0, 4, 3, 172]
abbrev dktX6_second_0 : List UInt8 := dkwX6_second_0 ++ []
theorem dksX6_second_0 : cX6_second.data.toList.drop 0 = dktX6_second_0 := by decide +kernel
theorem dX6_second_0 : decode cX6_second 0 = .ok (.aload_n 0, 1) := dk_42 (dk_at dksX6_second_0 0 rfl rfl)
theorem dX6_second_1 : decode cX6_second 1 = .ok (.iload_n 1, 1) := dk_27 (dk_at dksX6_second_0 1 rfl rfl)
theorem dX6_second_2 : decode cX6_second 2 = .ok (.invokevirtual 31, 3) := dk_182 0 31 (dk_at dksX6_second_0 2 rfl rfl)
theorem dX6_second_5 : decode cX6_second 5 = .ok (.ifCond .eq 12, 3) := dk_153 0 12 (dk_at dksX6_second_0 5 rfl rfl)
theorem dX6_second_8 : decode cX6_second 8 = .ok (.aload_n 0, 1) := dk_42 (dk_at dksX6_second_0 8 rfl rfl)
theorem dX6_second_9 : decode cX6_second 9 = .ok (.getfield 24, 3) := dk_180 0 24 (dk_at dksX6_second_0 9 rfl rfl)
theorem dX6_second_12 : decode cX6_second 12 = .ok (.iload_n 1, 1) := dk_27 (dk_at dksX6_second_0 12 rfl rfl)
theorem dX6_second_13 : decode cX6_second 13 = .ok (.iaload, 1) := dk_46 (dk_at dksX6_second_0 13 rfl rfl)
theorem dX6_second_14 : decode cX6_second 14 = .ok (.goto 4, 3) := dk_167 0 4 (dk_at dksX6_second_0 14 rfl rfl)
theorem dX6_second_17 : decode cX6_second 17 = .ok (.iconst 0, 1) := dk_3 (dk_at dksX6_second_0 17 rfl rfl)
theorem dX6_second_18 : decode cX6_second 18 = .ok (.ireturn, 1) := dk_172 (dk_at dksX6_second_0 18 rfl rfl)
abbrev cX6_remove : ByteArray := prog_11_method_6_code
def yX6_remove : MethodName := ⟨RX6, "remove", "(I)V"⟩
def dkwX6_remove_0 : List UInt8 := [42, 180, 0, 14, 27, 182, 0, 37, 177]
abbrev dktX6_remove_0 : List UInt8 := dkwX6_remove_0 ++ []
theorem dksX6_remove_0 : cX6_remove.data.toList.drop 0 = dktX6_remove_0 := by decide +kernel
theorem dX6_remove_0 : decode cX6_remove 0 = .ok (.aload_n 0, 1) := dk_42 (dk_at dksX6_remove_0 0 rfl rfl)
theorem dX6_remove_1 : decode cX6_remove 1 = .ok (.getfield 14, 3) := dk_180 0 14 (dk_at dksX6_remove_0 1 rfl rfl)
theorem dX6_remove_4 : decode cX6_remove 4 = .ok (.iload_n 1, 1) := dk_27 (dk_at dksX6_remove_0 4 rfl rfl)
theorem dX6_remove_5 : decode cX6_remove 5 = .ok (.invokevirtual 37, 3) := dk_182 0 37 (dk_at dksX6_remove_0 5 rfl rfl)
theorem dX6_remove_8 : decode cX6_remove 8 = .ok (.return_, 1) := dk_177 (dk_at dksX6_remove_0 8 rfl rfl)
abbrev cX6_copyKeys : ByteArray := prog_11_method_9_code
def yX6_copyKeys : MethodName := ⟨RX6, "copyKeys", "(LPipelineSimulator$KeyStates;II)V"⟩
def dkwX6_copyKeys_2 : List UInt8 := [46, 182, 0, 49, 167, 0, 9, 43, 21, 4, 182, 0, 52, 132, 4, 1, 167, 255, 195, 177]
abbrev dktX6_copyKeys_2 : List UInt8 := dkwX6_copyKeys_2 ++ []
def dkwX6_copyKeys_1 : List UInt8 := [21, 4, 182, 0, 31, 153, 0, 26, 43, 21, 4, 42, 180, 0, 20, 21, 4, 46, 42, 180, 0, 24, 21, 4]
abbrev dktX6_copyKeys_1 : List UInt8 := dkwX6_copyKeys_1 ++ dktX6_copyKeys_2
def dkwX6_copyKeys_0 : List UInt8 := [3, 54, 4, 21, 4, 16, 16, 162, 0, 60, 21, 4, 29, 184, 0, 45, 28, 159, 0, 6, 167, 0, 41, 42]
abbrev dktX6_copyKeys_0 : List UInt8 := dkwX6_copyKeys_0 ++ dktX6_copyKeys_1
theorem dksX6_copyKeys_0 : cX6_copyKeys.data.toList.drop 0 = dktX6_copyKeys_0 := by decide +kernel
theorem dksX6_copyKeys_1 : cX6_copyKeys.data.toList.drop 24 = dktX6_copyKeys_1 := dk_seg dksX6_copyKeys_0 24 rfl rfl
theorem dksX6_copyKeys_2 : cX6_copyKeys.data.toList.drop 48 = dktX6_copyKeys_2 := dk_seg dksX6_copyKeys_1 24 rfl rfl
theorem dX6_copyKeys_0 : decode cX6_copyKeys 0 = .ok (.iconst 0, 1) := dk_3 (dk_at dksX6_copyKeys_0 0 rfl rfl)
theorem dX6_copyKeys_1 : decode cX6_copyKeys 1 = .ok (.istore 4, 2) := dk_54 4 (dk_at dksX6_copyKeys_0 1 rfl rfl)
theorem dX6_copyKeys_3 : decode cX6_copyKeys 3 = .ok (.iload 4, 2) := dk_21 4 (dk_at dksX6_copyKeys_0 3 rfl rfl)
theorem dX6_copyKeys_5 : decode cX6_copyKeys 5 = .ok (.bipush 16, 2) := dk_16 16 (dk_at dksX6_copyKeys_0 5 rfl rfl)
theorem dX6_copyKeys_7 : decode cX6_copyKeys 7 = .ok (.if_icmp .ge 60, 3) := dk_162 0 60 (dk_at dksX6_copyKeys_0 7 rfl rfl)
theorem dX6_copyKeys_10 : decode cX6_copyKeys 10 = .ok (.iload 4, 2) := dk_21 4 (dk_at dksX6_copyKeys_0 10 rfl rfl)
theorem dX6_copyKeys_12 : decode cX6_copyKeys 12 = .ok (.iload_n 3, 1) := dk_29 (dk_at dksX6_copyKeys_0 12 rfl rfl)
theorem dX6_copyKeys_13 : decode cX6_copyKeys 13 = .ok (.invokestatic 45, 3) := dk_184 0 45 (dk_at dksX6_copyKeys_0 13 rfl rfl)
theorem dX6_copyKeys_16 : decode cX6_copyKeys 16 = .ok (.iload_n 2, 1) := dk_28 (dk_at dksX6_copyKeys_0 16 rfl rfl)
theorem dX6_copyKeys_17 : decode cX6_copyKeys 17 = .ok (.if_icmp .eq 6, 3) := dk_159 0 6 (dk_at dksX6_copyKeys_0 17 rfl rfl)
theorem dX6_copyKeys_20 : decode cX6_copyKeys 20 = .ok (.goto 41, 3) := dk_167 0 41 (dk_at dksX6_copyKeys_0 20 rfl rfl)
theorem dX6_copyKeys_23 : decode cX6_copyKeys 23 = .ok (.aload_n 0, 1) := dk_42 (dk_at dksX6_copyKeys_0 23 rfl rfl)
theorem dX6_copyKeys_24 : decode cX6_copyKeys 24 = .ok (.iload 4, 2) := dk_21 4 (dk_at dksX6_copyKeys_1 0 rfl rfl)
theorem dX6_copyKeys_26 : decode cX6_copyKeys 26 = .ok (.invokevirtual 31, 3) := dk_182 0 31 (dk_at dksX6_copyKeys_1 2 rfl rfl)
theorem dX6_copyKeys_29 : decode cX6_copyKeys 29 = .ok (.ifCond .eq 26, 3) := dk_153 0 26 (dk_at dksX6_copyKeys_1 5 rfl rfl)
theorem dX6_copyKeys_32 : decode cX6_copyKeys 32 = .ok (.aload_n 1, 1) := dk_43 (dk_at dksX6_copyKeys_1 8 rfl rfl)
theorem dX6_copyKeys_33 : decode cX6_copyKeys 33 = .ok (.iload 4, 2) := dk_21 4 (dk_at dksX6_copyKeys_1 9 rfl rfl)
theorem dX6_copyKeys_35 : decode cX6_copyKeys 35 = .ok (.aload_n 0, 1) := dk_42 (dk_at dksX6_copyKeys_1 11 rfl rfl)
theorem dX6_copyKeys_36 : decode cX6_copyKeys 36 = .ok (.getfield 20, 3) := dk_180 0 20 (dk_at dksX6_copyKeys_1 12 rfl rfl)
theorem dX6_copyKeys_39 : decode cX6_copyKeys 39 = .ok (.iload 4, 2) := dk_21 4 (dk_at dksX6_copyKeys_1 15 rfl rfl)
theorem dX6_copyKeys_41 : decode cX6_copyKeys 41 = .ok (.iaload, 1) := dk_46 (dk_at dksX6_copyKeys_1 17 rfl rfl)
theorem dX6_copyKeys_42 : decode cX6_copyKeys 42 = .ok (.aload_n 0, 1) := dk_42 (dk_at dksX6_copyKeys_1 18 rfl rfl)
theorem dX6_copyKeys_43 : decode cX6_copyKeys 43 = .ok (.getfield 24, 3) := dk_180 0 24 (dk_at dksX6_copyKeys_1 19 rfl rfl)
theorem dX6_copyKeys_46 : decode cX6_copyKeys 46 = .ok (.iload 4, 2) := dk_21 4 (dk_at dksX6_copyKeys_1 22 rfl rfl)
theorem dX6_copyKeys_48 : decode cX6_copyKeys 48 = .ok (.iaload, 1) := dk_46 (dk_at dksX6_copyKeys_2 0 rfl rfl)
theorem dX6_copyKeys_49 : decode cX6_copyKeys 49 = .ok (.invokevirtual 49, 3) := dk_182 0 49 (dk_at dksX6_copyKeys_2 1 rfl rfl)
theorem dX6_copyKeys_52 : decode cX6_copyKeys 52 = .ok (.goto 9, 3) := dk_167 0 9 (dk_at dksX6_copyKeys_2 4 rfl rfl)
theorem dX6_copyKeys_55 : decode cX6_copyKeys 55 = .ok (.aload_n 1, 1) := dk_43 (dk_at dksX6_copyKeys_2 7 rfl rfl)
theorem dX6_copyKeys_56 : decode cX6_copyKeys 56 = .ok (.iload 4, 2) := dk_21 4 (dk_at dksX6_copyKeys_2 8 rfl rfl)
theorem dX6_copyKeys_58 : decode cX6_copyKeys 58 = .ok (.invokevirtual 52, 3) := dk_182 0 52 (dk_at dksX6_copyKeys_2 10 rfl rfl)
theorem dX6_copyKeys_61 : decode cX6_copyKeys 61 = .ok (.iinc 4 1, 3) := dk_132 4 1 (dk_at dksX6_copyKeys_2 13 rfl rfl)
theorem dX6_copyKeys_64 : decode cX6_copyKeys 64 = .ok (.goto (-61), 3) := dk_167 255 195 (dk_at dksX6_copyKeys_2 16 rfl rfl)
theorem dX6_copyKeys_67 : decode cX6_copyKeys 67 = .ok (.return_, 1) := dk_177 (dk_at dksX6_copyKeys_2 19 rfl rfl)
abbrev cX6_copyTo : ByteArray := prog_11_method_12_code
def yX6_copyTo : MethodName := ⟨RX6, "copyTo", "(Ljava/lang/Object;)V"⟩
def dkwX6_copyTo_0 : List UInt8 := [42, 43, 192, 0, 15, 182, 0, 61, 177]
abbrev dktX6_copyTo_0 : List UInt8 := dkwX6_copyTo_0 ++ []
theorem dksX6_copyTo_0 : cX6_copyTo.data.toList.drop 0 = dktX6_copyTo_0 := by decide +kernel
theorem dX6_copyTo_0 : decode cX6_copyTo 0 = .ok (.aload_n 0, 1) := dk_42 (dk_at dksX6_copyTo_0 0 rfl rfl)
theorem dX6_copyTo_1 : decode cX6_copyTo 1 = .ok (.aload_n 1, 1) := dk_43 (dk_at dksX6_copyTo_0 1 rfl rfl)
theorem dX6_copyTo_2 : decode cX6_copyTo 2 = .ok (.checkcast 15, 3) := dk_192 0 15 (dk_at dksX6_copyTo_0 2 rfl rfl)
theorem dX6_copyTo_5 : decode cX6_copyTo 5 = .ok (.invokevirtual 61, 3) := dk_182 0 61 (dk_at dksX6_copyTo_0 5 rfl rfl)
theorem dX6_copyTo_8 : decode cX6_copyTo 8 = .ok (.return_, 1) := dk_177 (dk_at dksX6_copyTo_0 8 rfl rfl)
abbrev cX6_copyTo_2 : ByteArray := prog_11_method_10_code
def yX6_copyTo_2 : MethodName := ⟨RX6, "copyTo", "(LPipelineSimulator$KeyStates;)V"⟩
def dkwX6_copyTo_2_0 : List UInt8 := [42, 43, 3, 4, 182, 0, 55, 177]
abbrev dktX6_copyTo_2_0 : List UInt8 := dkwX6_copyTo_2_0 ++ []
theorem dksX6_copyTo_2_0 : cX6_copyTo_2.data.toList.drop 0 = dktX6_copyTo_2_0 := by decide +kernel
theorem dX6_copyTo_2_0 : decode cX6_copyTo_2 0 = .ok (.aload_n 0, 1) := dk_42 (dk_at dksX6_copyTo_2_0 0 rfl rfl)
theorem dX6_copyTo_2_1 : decode cX6_copyTo_2 1 = .ok (.aload_n 1, 1) := dk_43 (dk_at dksX6_copyTo_2_0 1 rfl rfl)
theorem dX6_copyTo_2_2 : decode cX6_copyTo_2 2 = .ok (.iconst 0, 1) := dk_3 (dk_at dksX6_copyTo_2_0 2 rfl rfl)
theorem dX6_copyTo_2_3 : decode cX6_copyTo_2 3 = .ok (.iconst 1, 1) := dk_4 (dk_at dksX6_copyTo_2_0 3 rfl rfl)
theorem dX6_copyTo_2_4 : decode cX6_copyTo_2 4 = .ok (.invokevirtual 55, 3) := dk_182 0 55 (dk_at dksX6_copyTo_2_0 4 rfl rfl)
theorem dX6_copyTo_2_7 : decode cX6_copyTo_2 7 = .ok (.return_, 1) := dk_177 (dk_at dksX6_copyTo_2_0 7 rfl rfl)
abbrev cX6_number : ByteArray := prog_11_method_8_code
def yX6_number : MethodName := ⟨RX6, "number", "(II)I"⟩
def dkwX6_number_1 : List UInt8 := [167, 0, 9, 42, 180, 0, 24, 27, 46, 172]
abbrev dktX6_number_1 : List UInt8 := dkwX6_number_1 ++ []
def dkwX6_number_0 : List UInt8 := [42, 27, 182, 0, 31, 154, 0, 8, 18, 44, 167, 0, 22, 28, 154, 0, 12, 42, 180, 0, 20, 27, 46]
abbrev dktX6_number_0 : List UInt8 := dkwX6_number_0 ++ dktX6_number_1
theorem dksX6_number_0 : cX6_number.data.toList.drop 0 = dktX6_number_0 := by decide +kernel
theorem dksX6_number_1 : cX6_number.data.toList.drop 23 = dktX6_number_1 := dk_seg dksX6_number_0 23 rfl rfl
theorem dX6_number_0 : decode cX6_number 0 = .ok (.aload_n 0, 1) := dk_42 (dk_at dksX6_number_0 0 rfl rfl)
theorem dX6_number_1 : decode cX6_number 1 = .ok (.iload_n 1, 1) := dk_27 (dk_at dksX6_number_0 1 rfl rfl)
theorem dX6_number_2 : decode cX6_number 2 = .ok (.invokevirtual 31, 3) := dk_182 0 31 (dk_at dksX6_number_0 2 rfl rfl)
theorem dX6_number_5 : decode cX6_number 5 = .ok (.ifCond .ne 8, 3) := dk_154 0 8 (dk_at dksX6_number_0 5 rfl rfl)
theorem dX6_number_8 : decode cX6_number 8 = .ok (.ldc 44, 2) := dk_18 44 (dk_at dksX6_number_0 8 rfl rfl)
theorem dX6_number_10 : decode cX6_number 10 = .ok (.goto 22, 3) := dk_167 0 22 (dk_at dksX6_number_0 10 rfl rfl)
theorem dX6_number_13 : decode cX6_number 13 = .ok (.iload_n 2, 1) := dk_28 (dk_at dksX6_number_0 13 rfl rfl)
theorem dX6_number_14 : decode cX6_number 14 = .ok (.ifCond .ne 12, 3) := dk_154 0 12 (dk_at dksX6_number_0 14 rfl rfl)
theorem dX6_number_17 : decode cX6_number 17 = .ok (.aload_n 0, 1) := dk_42 (dk_at dksX6_number_0 17 rfl rfl)
theorem dX6_number_18 : decode cX6_number 18 = .ok (.getfield 20, 3) := dk_180 0 20 (dk_at dksX6_number_0 18 rfl rfl)
theorem dX6_number_21 : decode cX6_number 21 = .ok (.iload_n 1, 1) := dk_27 (dk_at dksX6_number_0 21 rfl rfl)
theorem dX6_number_22 : decode cX6_number 22 = .ok (.iaload, 1) := dk_46 (dk_at dksX6_number_0 22 rfl rfl)
theorem dX6_number_23 : decode cX6_number 23 = .ok (.goto 9, 3) := dk_167 0 9 (dk_at dksX6_number_1 0 rfl rfl)
theorem dX6_number_26 : decode cX6_number 26 = .ok (.aload_n 0, 1) := dk_42 (dk_at dksX6_number_1 3 rfl rfl)
theorem dX6_number_27 : decode cX6_number 27 = .ok (.getfield 24, 3) := dk_180 0 24 (dk_at dksX6_number_1 4 rfl rfl)
theorem dX6_number_30 : decode cX6_number 30 = .ok (.iload_n 1, 1) := dk_27 (dk_at dksX6_number_1 7 rfl rfl)
theorem dX6_number_31 : decode cX6_number 31 = .ok (.iaload, 1) := dk_46 (dk_at dksX6_number_1 8 rfl rfl)
theorem dX6_number_32 : decode cX6_number 32 = .ok (.ireturn, 1) := dk_172 (dk_at dksX6_number_1 9 rfl rfl)
theorem q109 : (Jvm.Cond.initialized "PipelineSimulator$KeyStates") ∈ lw_all := lw_g (lw_at lw_m1 12 rfl) rfl
theorem q293 : (Jvm.Cond.instantiable "PipelineSimulator$KeyStates" (3 : Nat)) ∈ lw_all := lw_g (lw_at lw_m1 196 rfl) rfl
theorem q295 : (Jvm.Cond.instanceMethod ({ cls := "PipelineSimulator$KeyStates", name := "<init>", desc := "()V" } : Jvm.MethodName)) ∈ lw_all := lw_g (lw_at lw_m1 198 rfl) rfl
theorem q296 : (Jvm.Cond.code ({ cls := "PipelineSimulator$KeyStates", name := "<init>", desc := "()V" } : Jvm.MethodName) prog_11_method_1_code (1 : Nat) (Option.none : Option Jvm.ClassFile.FieldType)) ∈ lw_all := lw_g (lw_at lw_m1 199 rfl) rfl
theorem q297 : (Jvm.Cond.methodLink "PipelineSimulator$KeyStates" (3 : Nat) ({ cls := "java/lang/Object", name := "<init>", desc := "()V" } : Jvm.MethodName)) ∈ lw_all := lw_g (lw_at lw_m1 200 rfl) rfl
theorem q298 : (Jvm.Cond.classLink "PipelineSimulator$KeyStates" (9 : Nat) "java/util/BitSet") ∈ lw_all := lw_g (lw_at lw_m1 201 rfl) rfl
theorem q300 : (Jvm.Cond.methodLink "PipelineSimulator$KeyStates" (11 : Nat) ({ cls := "java/util/BitSet", name := "<init>", desc := "(I)V" } : Jvm.MethodName)) ∈ lw_all := lw_g (lw_at lw_m1 203 rfl) rfl
theorem q322 : (Jvm.Cond.fieldLink "PipelineSimulator$KeyStates" (14 : Nat) "PipelineSimulator$KeyStates" "present" "Ljava/util/BitSet;") ∈ lw_all := lw_g (lw_at lw_m1 225 rfl) rfl
theorem q323 : (Jvm.Cond.fieldLink "PipelineSimulator$KeyStates" (20 : Nat) "PipelineSimulator$KeyStates" "first" "[I") ∈ lw_all := lw_g (lw_at lw_m1 226 rfl) rfl
theorem q324 : (Jvm.Cond.fieldLink "PipelineSimulator$KeyStates" (24 : Nat) "PipelineSimulator$KeyStates" "second" "[I") ∈ lw_all := lw_g (lw_at lw_m1 227 rfl) rfl
theorem q325 : (Jvm.Cond.laysFinal "PipelineSimulator$KeyStates" "PipelineSimulator$KeyStates" "present" "Ljava/util/BitSet;") ∈ lw_all := lw_g (lw_at lw_m1 228 rfl) rfl
theorem q326 : (Jvm.Cond.soleField "PipelineSimulator$KeyStates" "present") ∈ lw_all := lw_g (lw_at lw_m1 229 rfl) rfl
theorem q327 : (Jvm.Cond.laysFinal "PipelineSimulator$KeyStates" "PipelineSimulator$KeyStates" "first" "[I") ∈ lw_all := lw_g (lw_at lw_m1 230 rfl) rfl
theorem q328 : (Jvm.Cond.soleField "PipelineSimulator$KeyStates" "first") ∈ lw_all := lw_g (lw_at lw_m1 231 rfl) rfl
theorem q329 : (Jvm.Cond.laysFinal "PipelineSimulator$KeyStates" "PipelineSimulator$KeyStates" "second" "[I") ∈ lw_all := lw_g (lw_at lw_m1 232 rfl) rfl
theorem q330 : (Jvm.Cond.soleField "PipelineSimulator$KeyStates" "second") ∈ lw_all := lw_g (lw_at lw_m1 233 rfl) rfl
theorem q331 : (Jvm.Cond.superclass "PipelineSimulator$KeyStates" "java/lang/Object") ∈ lw_all := lw_g (lw_at lw_m1 234 rfl) rfl
theorem q434 : (Jvm.Cond.selects "PipelineSimulator$KeyStates" ({ cls := "java/lang/Object", name := "getClass", desc := "()Ljava/lang/Class;" } : Jvm.MethodName) ({ cls := "java/lang/Object", name := "getClass", desc := "()Ljava/lang/Class;" } : Jvm.MethodName)) ∈ lw_all := lw_g (lw_at lw_m2 97 rfl) rfl
theorem q1226 : (Jvm.Cond.castable "PipelineSimulator$KeyStates" "PipelineSimulator$Copyable") ∈ lw_tbl := lw_at lw_m5 169 rfl
theorem q1227 : (Jvm.Cond.selects "PipelineSimulator$KeyStates" ({ cls := "PipelineSimulator$Copyable", name := "reset", desc := "()V" } : Jvm.MethodName) ({ cls := "PipelineSimulator$KeyStates", name := "reset", desc := "()V" } : Jvm.MethodName)) ∈ lw_all := lw_g (lw_at lw_m5 170 rfl) rfl
theorem q1228 : (Jvm.Cond.unhidden "PipelineSimulator$KeyStates" "reset" "()V") ∈ lw_tbl := lw_at lw_m5 171 rfl
theorem q1229 : (Jvm.Cond.instanceMethod ({ cls := "PipelineSimulator$KeyStates", name := "reset", desc := "()V" } : Jvm.MethodName)) ∈ lw_all := lw_g (lw_at lw_m5 172 rfl) rfl
theorem q1230 : (Jvm.Cond.publicMethod ({ cls := "PipelineSimulator$KeyStates", name := "reset", desc := "()V" } : Jvm.MethodName)) ∈ lw_tbl := lw_at lw_m5 173 rfl
theorem q1231 : (Jvm.Cond.code ({ cls := "PipelineSimulator$KeyStates", name := "reset", desc := "()V" } : Jvm.MethodName) prog_11_method_11_code (1 : Nat) (Option.none : Option Jvm.ClassFile.FieldType)) ∈ lw_all := lw_g (lw_at lw_m5 174 rfl) rfl
theorem q1232 : (Jvm.Cond.methodLink "PipelineSimulator$KeyStates" (59 : Nat) ({ cls := "java/util/BitSet", name := "clear", desc := "()V" } : Jvm.MethodName)) ∈ lw_all := lw_g (lw_at lw_m5 175 rfl) rfl
theorem q1426 : (Jvm.Cond.instanceMethod ({ cls := "PipelineSimulator$KeyStates", name := "has", desc := "(I)Z" } : Jvm.MethodName)) ∈ lw_all := lw_g (lw_at lw_m6 129 rfl) rfl
theorem q1427 : (Jvm.Cond.selects "PipelineSimulator$KeyStates" ({ cls := "PipelineSimulator$KeyStates", name := "has", desc := "(I)Z" } : Jvm.MethodName) ({ cls := "PipelineSimulator$KeyStates", name := "has", desc := "(I)Z" } : Jvm.MethodName)) ∈ lw_all := lw_g (lw_at lw_m6 130 rfl) rfl
theorem q1428 : (Jvm.Cond.code ({ cls := "PipelineSimulator$KeyStates", name := "has", desc := "(I)Z" } : Jvm.MethodName) prog_11_method_2_code (2 : Nat) (Option.some Jvm.ClassFile.FieldType.boolean)) ∈ lw_all := lw_g (lw_at lw_m6 131 rfl) rfl
theorem q1429 : (Jvm.Cond.methodLink "PipelineSimulator$KeyStates" (27 : Nat) ({ cls := "java/util/BitSet", name := "get", desc := "(I)Z" } : Jvm.MethodName)) ∈ lw_all := lw_g (lw_at lw_m6 132 rfl) rfl
theorem q1440 : (Jvm.Cond.instanceMethod ({ cls := "PipelineSimulator$KeyStates", name := "first", desc := "(I)I" } : Jvm.MethodName)) ∈ lw_all := lw_g (lw_at lw_m6 143 rfl) rfl
theorem q1441 : (Jvm.Cond.selects "PipelineSimulator$KeyStates" ({ cls := "PipelineSimulator$KeyStates", name := "first", desc := "(I)I" } : Jvm.MethodName) ({ cls := "PipelineSimulator$KeyStates", name := "first", desc := "(I)I" } : Jvm.MethodName)) ∈ lw_all := lw_g (lw_at lw_m6 144 rfl) rfl
theorem q1442 : (Jvm.Cond.code ({ cls := "PipelineSimulator$KeyStates", name := "first", desc := "(I)I" } : Jvm.MethodName) prog_11_method_3_code (2 : Nat) (Option.some Jvm.ClassFile.FieldType.int)) ∈ lw_all := lw_g (lw_at lw_m6 145 rfl) rfl
theorem q1443 : (Jvm.Cond.methodLink "PipelineSimulator$KeyStates" (31 : Nat) ({ cls := "PipelineSimulator$KeyStates", name := "has", desc := "(I)Z" } : Jvm.MethodName)) ∈ lw_all := lw_g (lw_at lw_m6 146 rfl) rfl
theorem q1445 : (Jvm.Cond.instanceMethod ({ cls := "PipelineSimulator$KeyStates", name := "set", desc := "(III)V" } : Jvm.MethodName)) ∈ lw_all := lw_g (lw_at lw_m6 148 rfl) rfl
theorem q1446 : (Jvm.Cond.selects "PipelineSimulator$KeyStates" ({ cls := "PipelineSimulator$KeyStates", name := "set", desc := "(III)V" } : Jvm.MethodName) ({ cls := "PipelineSimulator$KeyStates", name := "set", desc := "(III)V" } : Jvm.MethodName)) ∈ lw_all := lw_g (lw_at lw_m6 149 rfl) rfl
theorem q1447 : (Jvm.Cond.code ({ cls := "PipelineSimulator$KeyStates", name := "set", desc := "(III)V" } : Jvm.MethodName) prog_11_method_5_code (4 : Nat) (Option.none : Option Jvm.ClassFile.FieldType)) ∈ lw_all := lw_g (lw_at lw_m6 150 rfl) rfl
theorem q1448 : (Jvm.Cond.methodLink "PipelineSimulator$KeyStates" (34 : Nat) ({ cls := "java/util/BitSet", name := "set", desc := "(I)V" } : Jvm.MethodName)) ∈ lw_all := lw_g (lw_at lw_m6 151 rfl) rfl
theorem q1522 : (Jvm.Cond.instanceMethod ({ cls := "PipelineSimulator$KeyStates", name := "second", desc := "(I)I" } : Jvm.MethodName)) ∈ lw_all := lw_g (lw_at lw_m6 225 rfl) rfl
theorem q1523 : (Jvm.Cond.selects "PipelineSimulator$KeyStates" ({ cls := "PipelineSimulator$KeyStates", name := "second", desc := "(I)I" } : Jvm.MethodName) ({ cls := "PipelineSimulator$KeyStates", name := "second", desc := "(I)I" } : Jvm.MethodName)) ∈ lw_all := lw_g (lw_at lw_m6 226 rfl) rfl
theorem q1524 : (Jvm.Cond.code ({ cls := "PipelineSimulator$KeyStates", name := "second", desc := "(I)I" } : Jvm.MethodName) prog_11_method_4_code (2 : Nat) (Option.some Jvm.ClassFile.FieldType.int)) ∈ lw_all := lw_g (lw_at lw_m6 227 rfl) rfl
theorem q1536 : (Jvm.Cond.instanceMethod ({ cls := "PipelineSimulator$KeyStates", name := "remove", desc := "(I)V" } : Jvm.MethodName)) ∈ lw_all := lw_g (lw_at lw_m6 239 rfl) rfl
theorem q1537 : (Jvm.Cond.selects "PipelineSimulator$KeyStates" ({ cls := "PipelineSimulator$KeyStates", name := "remove", desc := "(I)V" } : Jvm.MethodName) ({ cls := "PipelineSimulator$KeyStates", name := "remove", desc := "(I)V" } : Jvm.MethodName)) ∈ lw_all := lw_g (lw_at lw_m7 0 rfl) rfl
theorem q1538 : (Jvm.Cond.code ({ cls := "PipelineSimulator$KeyStates", name := "remove", desc := "(I)V" } : Jvm.MethodName) prog_11_method_6_code (2 : Nat) (Option.none : Option Jvm.ClassFile.FieldType)) ∈ lw_all := lw_g (lw_at lw_m7 1 rfl) rfl
theorem q1539 : (Jvm.Cond.methodLink "PipelineSimulator$KeyStates" (37 : Nat) ({ cls := "java/util/BitSet", name := "clear", desc := "(I)V" } : Jvm.MethodName)) ∈ lw_all := lw_g (lw_at lw_m7 2 rfl) rfl
theorem q1641 : (Jvm.Cond.instanceMethod ({ cls := "PipelineSimulator$KeyStates", name := "copyKeys", desc := "(LPipelineSimulator$KeyStates;II)V" } : Jvm.MethodName)) ∈ lw_all := lw_g (lw_at lw_m7 104 rfl) rfl
theorem q1642 : (Jvm.Cond.selects "PipelineSimulator$KeyStates" ({ cls := "PipelineSimulator$KeyStates", name := "copyKeys", desc := "(LPipelineSimulator$KeyStates;II)V" } : Jvm.MethodName) ({ cls := "PipelineSimulator$KeyStates", name := "copyKeys", desc := "(LPipelineSimulator$KeyStates;II)V" } : Jvm.MethodName)) ∈ lw_all := lw_g (lw_at lw_m7 105 rfl) rfl
theorem q1643 : (Jvm.Cond.code ({ cls := "PipelineSimulator$KeyStates", name := "copyKeys", desc := "(LPipelineSimulator$KeyStates;II)V" } : Jvm.MethodName) prog_11_method_9_code (5 : Nat) (Option.none : Option Jvm.ClassFile.FieldType)) ∈ lw_all := lw_g (lw_at lw_m7 106 rfl) rfl
theorem q1644 : (Jvm.Cond.methodLinkNest "PipelineSimulator$KeyStates" (45 : Nat) ({ cls := "PipelineSimulator", name := "home", desc := "(II)I" } : Jvm.MethodName) "PipelineSimulator") ∈ lw_tbl := lw_at lw_m7 107 rfl
theorem q1645 : (Jvm.Cond.methodLink "PipelineSimulator$KeyStates" (49 : Nat) ({ cls := "PipelineSimulator$KeyStates", name := "set", desc := "(III)V" } : Jvm.MethodName)) ∈ lw_all := lw_g (lw_at lw_m7 108 rfl) rfl
theorem q1646 : (Jvm.Cond.methodLink "PipelineSimulator$KeyStates" (52 : Nat) ({ cls := "PipelineSimulator$KeyStates", name := "remove", desc := "(I)V" } : Jvm.MethodName)) ∈ lw_all := lw_g (lw_at lw_m7 109 rfl) rfl
theorem q1778 : (Jvm.Cond.selects "PipelineSimulator$KeyStates" ({ cls := "PipelineSimulator$Copyable", name := "copyTo", desc := "(Ljava/lang/Object;)V" } : Jvm.MethodName) ({ cls := "PipelineSimulator$KeyStates", name := "copyTo", desc := "(Ljava/lang/Object;)V" } : Jvm.MethodName)) ∈ lw_all := lw_g (lw_at lw_m8 1 rfl) rfl
theorem q1779 : (Jvm.Cond.unhidden "PipelineSimulator$KeyStates" "copyTo" "(Ljava/lang/Object;)V") ∈ lw_tbl := lw_at lw_m8 2 rfl
theorem q1780 : (Jvm.Cond.instanceMethod ({ cls := "PipelineSimulator$KeyStates", name := "copyTo", desc := "(Ljava/lang/Object;)V" } : Jvm.MethodName)) ∈ lw_all := lw_g (lw_at lw_m8 3 rfl) rfl
theorem q1781 : (Jvm.Cond.publicMethod ({ cls := "PipelineSimulator$KeyStates", name := "copyTo", desc := "(Ljava/lang/Object;)V" } : Jvm.MethodName)) ∈ lw_tbl := lw_at lw_m8 4 rfl
theorem q1782 : (Jvm.Cond.code ({ cls := "PipelineSimulator$KeyStates", name := "copyTo", desc := "(Ljava/lang/Object;)V" } : Jvm.MethodName) prog_11_method_12_code (2 : Nat) (Option.none : Option Jvm.ClassFile.FieldType)) ∈ lw_all := lw_g (lw_at lw_m8 5 rfl) rfl
theorem q1783 : (Jvm.Cond.classLink "PipelineSimulator$KeyStates" (15 : Nat) "PipelineSimulator$KeyStates") ∈ lw_all := lw_g (lw_at lw_m8 6 rfl) rfl
theorem q1784 : (Jvm.Cond.methodLink "PipelineSimulator$KeyStates" (61 : Nat) ({ cls := "PipelineSimulator$KeyStates", name := "copyTo", desc := "(LPipelineSimulator$KeyStates;)V" } : Jvm.MethodName)) ∈ lw_all := lw_g (lw_at lw_m8 7 rfl) rfl
theorem q1785 : (Jvm.Cond.instanceMethod ({ cls := "PipelineSimulator$KeyStates", name := "copyTo", desc := "(LPipelineSimulator$KeyStates;)V" } : Jvm.MethodName)) ∈ lw_all := lw_g (lw_at lw_m8 8 rfl) rfl
theorem q1786 : (Jvm.Cond.selects "PipelineSimulator$KeyStates" ({ cls := "PipelineSimulator$KeyStates", name := "copyTo", desc := "(LPipelineSimulator$KeyStates;)V" } : Jvm.MethodName) ({ cls := "PipelineSimulator$KeyStates", name := "copyTo", desc := "(LPipelineSimulator$KeyStates;)V" } : Jvm.MethodName)) ∈ lw_all := lw_g (lw_at lw_m8 9 rfl) rfl
theorem q1787 : (Jvm.Cond.code ({ cls := "PipelineSimulator$KeyStates", name := "copyTo", desc := "(LPipelineSimulator$KeyStates;)V" } : Jvm.MethodName) prog_11_method_10_code (2 : Nat) (Option.none : Option Jvm.ClassFile.FieldType)) ∈ lw_all := lw_g (lw_at lw_m8 10 rfl) rfl
theorem q1788 : (Jvm.Cond.methodLink "PipelineSimulator$KeyStates" (55 : Nat) ({ cls := "PipelineSimulator$KeyStates", name := "copyKeys", desc := "(LPipelineSimulator$KeyStates;II)V" } : Jvm.MethodName)) ∈ lw_all := lw_g (lw_at lw_m8 11 rfl) rfl
theorem q1916 : (Jvm.Cond.instanceMethod ({ cls := "PipelineSimulator$KeyStates", name := "number", desc := "(II)I" } : Jvm.MethodName)) ∈ lw_all := lw_g (lw_at lw_m8 139 rfl) rfl
theorem q1917 : (Jvm.Cond.selects "PipelineSimulator$KeyStates" ({ cls := "PipelineSimulator$KeyStates", name := "number", desc := "(II)I" } : Jvm.MethodName) ({ cls := "PipelineSimulator$KeyStates", name := "number", desc := "(II)I" } : Jvm.MethodName)) ∈ lw_all := lw_g (lw_at lw_m8 140 rfl) rfl
theorem q1918 : (Jvm.Cond.code ({ cls := "PipelineSimulator$KeyStates", name := "number", desc := "(II)I" } : Jvm.MethodName) prog_11_method_8_code (3 : Nat) (Option.some Jvm.ClassFile.FieldType.int)) ∈ lw_all := lw_g (lw_at lw_m8 141 rfl) rfl
theorem q1919 : (Jvm.Cond.constant "PipelineSimulator$KeyStates" (44 : Nat) (-1000000001 : Int32)) ∈ lw_all := lw_g (lw_at lw_m8 142 rfl) rfl
theorem q2953 : (Jvm.Cond.castable "PipelineSimulator$KeyStates" "java/lang/Object") ∈ lw_tbl := lw_at lw_m12 216 rfl
theorem in_X6 : ∀ w ∈ wsX60, w ∈ lw_all := lw_in wsX60 [325, 327, 329] (by decide +kernel) (by decide +kernel)
/-! PipelineSimulator$Keyed -/
set_option maxRecDepth 100000
def RX7 : String := "PipelineSimulator$Keyed"
abbrev cX7_init : ByteArray := prog_12_method_1_code
def yX7_init : MethodName := ⟨RX7, "<init>", "(III)V"⟩
def dkwX7_init_0 : List UInt8 := [42, 27, 28, 3, 29, 183, 0, 1, 177]
abbrev dktX7_init_0 : List UInt8 := dkwX7_init_0 ++ []
theorem dksX7_init_0 : cX7_init.data.toList.drop 0 = dktX7_init_0 := by decide +kernel
theorem dX7_init_0 : decode cX7_init 0 = .ok (.aload_n 0, 1) := dk_42 (dk_at dksX7_init_0 0 rfl rfl)
theorem dX7_init_1 : decode cX7_init 1 = .ok (.iload_n 1, 1) := dk_27 (dk_at dksX7_init_0 1 rfl rfl)
theorem dX7_init_2 : decode cX7_init 2 = .ok (.iload_n 2, 1) := dk_28 (dk_at dksX7_init_0 2 rfl rfl)
theorem dX7_init_3 : decode cX7_init 3 = .ok (.iconst 0, 1) := dk_3 (dk_at dksX7_init_0 3 rfl rfl)
theorem dX7_init_4 : decode cX7_init 4 = .ok (.iload_n 3, 1) := dk_29 (dk_at dksX7_init_0 4 rfl rfl)
theorem dX7_init_5 : decode cX7_init 5 = .ok (.invokespecial 1, 3) := dk_183 0 1 (dk_at dksX7_init_0 5 rfl rfl)
theorem dX7_init_8 : decode cX7_init 8 = .ok (.return_, 1) := dk_177 (dk_at dksX7_init_0 8 rfl rfl)
abbrev cX7_isKeyed : ByteArray := prog_12_method_2_code
def yX7_isKeyed : MethodName := ⟨RX7, "isKeyed", "()Z"⟩
theorem dX7_isKeyed_0 : decode cX7_isKeyed 0 = .ok (.iconst 1, 1) := by decide +kernel
theorem dX7_isKeyed_1 : decode cX7_isKeyed 1 = .ok (.ireturn, 1) := by decide +kernel
theorem q115 : (Jvm.Cond.initialized "PipelineSimulator$Keyed") ∈ lw_all := lw_g (lw_at lw_m1 18 rfl) rfl
theorem q481 : (Jvm.Cond.instanceMethod ({ cls := "PipelineSimulator$Keyed", name := "<init>", desc := "(III)V" } : Jvm.MethodName)) ∈ lw_all := lw_g (lw_at lw_m2 144 rfl) rfl
theorem q482 : (Jvm.Cond.code ({ cls := "PipelineSimulator$Keyed", name := "<init>", desc := "(III)V" } : Jvm.MethodName) prog_12_method_1_code (4 : Nat) (Option.none : Option Jvm.ClassFile.FieldType)) ∈ lw_all := lw_g (lw_at lw_m2 145 rfl) rfl
theorem q483 : (Jvm.Cond.methodLink "PipelineSimulator$Keyed" (1 : Nat) ({ cls := "PipelineSimulator$Operator", name := "<init>", desc := "(IIII)V" } : Jvm.MethodName)) ∈ lw_all := lw_g (lw_at lw_m2 146 rfl) rfl
theorem q1339 : (Jvm.Cond.instanceMethod ({ cls := "PipelineSimulator$Keyed", name := "isKeyed", desc := "()Z" } : Jvm.MethodName)) ∈ lw_all := lw_g (lw_at lw_m6 42 rfl) rfl
theorem q1340 : (Jvm.Cond.code ({ cls := "PipelineSimulator$Keyed", name := "isKeyed", desc := "()Z" } : Jvm.MethodName) prog_12_method_2_code (1 : Nat) (Option.some Jvm.ClassFile.FieldType.boolean)) ∈ lw_all := lw_g (lw_at lw_m6 43 rfl) rfl
/-! PipelineSimulator$Sink -/
set_option maxRecDepth 100000
def RX8 : String := "PipelineSimulator$Sink"
def TX8 : u_T := fun k => match k with
  | 0 => ("PipelineSimulator$Operator", "kind", "I", true)
  | 1 => ("PipelineSimulator$Operator", "a", "I", true)
  | 2 => ("PipelineSimulator$Operator", "b", "I", true)
  | 3 => ("PipelineSimulator$Operator", "instances", "I", false)
  | 4 => ("PipelineSimulator$Operator", "states", "LPipelineSimulator$Versions;", true)
  | 5 => ("PipelineSimulator$Operator", "processed", "I", false)
  | 6 => ("PipelineSimulator$Operator", "emitted", "I", false)
  | 7 => ("PipelineSimulator$Operator", "blocked", "I", false)
  | _ => ("PipelineSimulator$Operator", "idle", "I", false)
def tyX8 : Nat → FieldType := fun k => match k with
  | 0 => .int
  | 1 => .int
  | 2 => .int
  | 3 => .int
  | 4 => .object "PipelineSimulator$Versions"
  | 5 => .int
  | 6 => .int
  | 7 => .int
  | _ => .int
abbrev wsX80 : List Cond := u_ws RX8 TX8 9
theorem nmX8 : ∀ a, a < 9 → ∀ b, b < 9 → a ≠ b → (TX8 a).2.1 ≠ (TX8 b).2.1 := by decide +kernel
theorem tyX8_ok : ∀ k, k < 9 → parseFieldDescriptor (TX8 k).2.2.1 = some (tyX8 k) := by decide +kernel
abbrev cX8_init : ByteArray := prog_20_method_1_code
def yX8_init : MethodName := ⟨RX8, "<init>", "(I)V"⟩
def dkwX8_init_0 : List UInt8 := [42, 16, 8, 3, 27, 183, 0, 3, 177]
abbrev dktX8_init_0 : List UInt8 := dkwX8_init_0 ++ []
theorem dksX8_init_0 : cX8_init.data.toList.drop 0 = dktX8_init_0 := by decide +kernel
theorem dX8_init_0 : decode cX8_init 0 = .ok (.aload_n 0, 1) := dk_42 (dk_at dksX8_init_0 0 rfl rfl)
theorem dX8_init_1 : decode cX8_init 1 = .ok (.bipush 8, 2) := dk_16 8 (dk_at dksX8_init_0 1 rfl rfl)
theorem dX8_init_3 : decode cX8_init 3 = .ok (.iconst 0, 1) := dk_3 (dk_at dksX8_init_0 3 rfl rfl)
theorem dX8_init_4 : decode cX8_init 4 = .ok (.iload_n 1, 1) := dk_27 (dk_at dksX8_init_0 4 rfl rfl)
theorem dX8_init_5 : decode cX8_init 5 = .ok (.invokespecial 3, 3) := dk_183 0 3 (dk_at dksX8_init_0 5 rfl rfl)
theorem dX8_init_8 : decode cX8_init 8 = .ok (.return_, 1) := dk_177 (dk_at dksX8_init_0 8 rfl rfl)
abbrev cX8_process : ByteArray := prog_20_method_2_code
def yX8_process : MethodName := ⟨RX8, "process", "(IILPipelineSimulator$KeyStates;LPipelineSimulator$Output;)V"⟩
def dkwX8_process_0 : List UInt8 := [45, 27, 45, 27, 182, 0, 9, 28, 96, 45, 27, 182, 0, 15, 4, 96, 182, 0, 18, 177]
abbrev dktX8_process_0 : List UInt8 := dkwX8_process_0 ++ []
theorem dksX8_process_0 : cX8_process.data.toList.drop 0 = dktX8_process_0 := by decide +kernel
theorem dX8_process_0 : decode cX8_process 0 = .ok (.aload_n 3, 1) := dk_45 (dk_at dksX8_process_0 0 rfl rfl)
theorem dX8_process_1 : decode cX8_process 1 = .ok (.iload_n 1, 1) := dk_27 (dk_at dksX8_process_0 1 rfl rfl)
theorem dX8_process_2 : decode cX8_process 2 = .ok (.aload_n 3, 1) := dk_45 (dk_at dksX8_process_0 2 rfl rfl)
theorem dX8_process_3 : decode cX8_process 3 = .ok (.iload_n 1, 1) := dk_27 (dk_at dksX8_process_0 3 rfl rfl)
theorem dX8_process_4 : decode cX8_process 4 = .ok (.invokevirtual 9, 3) := dk_182 0 9 (dk_at dksX8_process_0 4 rfl rfl)
theorem dX8_process_7 : decode cX8_process 7 = .ok (.iload_n 2, 1) := dk_28 (dk_at dksX8_process_0 7 rfl rfl)
theorem dX8_process_8 : decode cX8_process 8 = .ok (.iadd, 1) := dk_96 (dk_at dksX8_process_0 8 rfl rfl)
theorem dX8_process_9 : decode cX8_process 9 = .ok (.aload_n 3, 1) := dk_45 (dk_at dksX8_process_0 9 rfl rfl)
theorem dX8_process_10 : decode cX8_process 10 = .ok (.iload_n 1, 1) := dk_27 (dk_at dksX8_process_0 10 rfl rfl)
theorem dX8_process_11 : decode cX8_process 11 = .ok (.invokevirtual 15, 3) := dk_182 0 15 (dk_at dksX8_process_0 11 rfl rfl)
theorem dX8_process_14 : decode cX8_process 14 = .ok (.iconst 1, 1) := dk_4 (dk_at dksX8_process_0 14 rfl rfl)
theorem dX8_process_15 : decode cX8_process 15 = .ok (.iadd, 1) := dk_96 (dk_at dksX8_process_0 15 rfl rfl)
theorem dX8_process_16 : decode cX8_process 16 = .ok (.invokevirtual 18, 3) := dk_182 0 18 (dk_at dksX8_process_0 16 rfl rfl)
theorem dX8_process_19 : decode cX8_process 19 = .ok (.return_, 1) := dk_177 (dk_at dksX8_process_0 19 rfl rfl)
abbrev cX8_write : ByteArray := prog_20_method_3_code
def yX8_write : MethodName := ⟨RX8, "write", "(Ljava/lang/StringBuilder;)V"⟩
def dkwX8_write_0 : List UInt8 := [42, 180, 0, 21, 4, 164, 0, 17, 43, 16, 36, 182, 0, 27, 42, 180, 0, 21, 182, 0, 33, 87, 177]
abbrev dktX8_write_0 : List UInt8 := dkwX8_write_0 ++ []
theorem dksX8_write_0 : cX8_write.data.toList.drop 0 = dktX8_write_0 := by decide +kernel
theorem dX8_write_0 : decode cX8_write 0 = .ok (.aload_n 0, 1) := dk_42 (dk_at dksX8_write_0 0 rfl rfl)
theorem dX8_write_1 : decode cX8_write 1 = .ok (.getfield 21, 3) := dk_180 0 21 (dk_at dksX8_write_0 1 rfl rfl)
theorem dX8_write_4 : decode cX8_write 4 = .ok (.iconst 1, 1) := dk_4 (dk_at dksX8_write_0 4 rfl rfl)
theorem dX8_write_5 : decode cX8_write 5 = .ok (.if_icmp .le 17, 3) := dk_164 0 17 (dk_at dksX8_write_0 5 rfl rfl)
theorem dX8_write_8 : decode cX8_write 8 = .ok (.aload_n 1, 1) := dk_43 (dk_at dksX8_write_0 8 rfl rfl)
theorem dX8_write_9 : decode cX8_write 9 = .ok (.bipush 36, 2) := dk_16 36 (dk_at dksX8_write_0 9 rfl rfl)
theorem dX8_write_11 : decode cX8_write 11 = .ok (.invokevirtual 27, 3) := dk_182 0 27 (dk_at dksX8_write_0 11 rfl rfl)
theorem dX8_write_14 : decode cX8_write 14 = .ok (.aload_n 0, 1) := dk_42 (dk_at dksX8_write_0 14 rfl rfl)
theorem dX8_write_15 : decode cX8_write 15 = .ok (.getfield 21, 3) := dk_180 0 21 (dk_at dksX8_write_0 15 rfl rfl)
theorem dX8_write_18 : decode cX8_write 18 = .ok (.invokevirtual 33, 3) := dk_182 0 33 (dk_at dksX8_write_0 18 rfl rfl)
theorem dX8_write_21 : decode cX8_write 21 = .ok (.pop, 1) := dk_87 (dk_at dksX8_write_0 21 rfl rfl)
theorem dX8_write_22 : decode cX8_write 22 = .ok (.return_, 1) := dk_177 (dk_at dksX8_write_0 22 rfl rfl)
theorem q116 : (Jvm.Cond.initialized "PipelineSimulator$Sink") ∈ lw_all := lw_g (lw_at lw_m1 19 rfl) rfl
theorem q355 : (Jvm.Cond.fieldLink "PipelineSimulator$Sink" (21 : Nat) "PipelineSimulator$Sink" "instances" "I") ∈ lw_all := lw_g (lw_at lw_m2 18 rfl) rfl
theorem q356 : (Jvm.Cond.sameField "PipelineSimulator$Sink" "PipelineSimulator$Operator" "instances" "I") ∈ lw_all := lw_g (lw_at lw_m2 19 rfl) rfl
theorem q440 : (Jvm.Cond.selects "PipelineSimulator$Sink" ({ cls := "java/lang/Object", name := "getClass", desc := "()Ljava/lang/Class;" } : Jvm.MethodName) ({ cls := "java/lang/Object", name := "getClass", desc := "()Ljava/lang/Class;" } : Jvm.MethodName)) ∈ lw_all := lw_g (lw_at lw_m2 103 rfl) rfl
theorem q476 : (Jvm.Cond.instantiable "PipelineSimulator$Sink" (9 : Nat)) ∈ lw_all := lw_g (lw_at lw_m2 139 rfl) rfl
theorem q478 : (Jvm.Cond.instanceMethod ({ cls := "PipelineSimulator$Sink", name := "<init>", desc := "(I)V" } : Jvm.MethodName)) ∈ lw_all := lw_g (lw_at lw_m2 141 rfl) rfl
theorem q479 : (Jvm.Cond.code ({ cls := "PipelineSimulator$Sink", name := "<init>", desc := "(I)V" } : Jvm.MethodName) prog_20_method_1_code (2 : Nat) (Option.none : Option Jvm.ClassFile.FieldType)) ∈ lw_all := lw_g (lw_at lw_m2 142 rfl) rfl
theorem q480 : (Jvm.Cond.methodLink "PipelineSimulator$Sink" (3 : Nat) ({ cls := "PipelineSimulator$Keyed", name := "<init>", desc := "(III)V" } : Jvm.MethodName)) ∈ lw_all := lw_g (lw_at lw_m2 143 rfl) rfl
theorem q484 : (Jvm.Cond.laysFinal "PipelineSimulator$Sink" "PipelineSimulator$Operator" "kind" "I") ∈ lw_all := lw_g (lw_at lw_m2 147 rfl) rfl
theorem q485 : (Jvm.Cond.laysFinal "PipelineSimulator$Sink" "PipelineSimulator$Operator" "a" "I") ∈ lw_all := lw_g (lw_at lw_m2 148 rfl) rfl
theorem q486 : (Jvm.Cond.laysFinal "PipelineSimulator$Sink" "PipelineSimulator$Operator" "b" "I") ∈ lw_all := lw_g (lw_at lw_m2 149 rfl) rfl
theorem q487 : (Jvm.Cond.lays "PipelineSimulator$Sink" "PipelineSimulator$Operator" "instances" "I") ∈ lw_all := lw_g (lw_at lw_m2 150 rfl) rfl
theorem q488 : (Jvm.Cond.laysFinal "PipelineSimulator$Sink" "PipelineSimulator$Operator" "states" "LPipelineSimulator$Versions;") ∈ lw_all := lw_g (lw_at lw_m2 151 rfl) rfl
theorem q489 : (Jvm.Cond.lays "PipelineSimulator$Sink" "PipelineSimulator$Operator" "processed" "I") ∈ lw_all := lw_g (lw_at lw_m2 152 rfl) rfl
theorem q490 : (Jvm.Cond.lays "PipelineSimulator$Sink" "PipelineSimulator$Operator" "emitted" "I") ∈ lw_all := lw_g (lw_at lw_m2 153 rfl) rfl
theorem q491 : (Jvm.Cond.lays "PipelineSimulator$Sink" "PipelineSimulator$Operator" "blocked" "I") ∈ lw_all := lw_g (lw_at lw_m2 154 rfl) rfl
theorem q492 : (Jvm.Cond.lays "PipelineSimulator$Sink" "PipelineSimulator$Operator" "idle" "I") ∈ lw_all := lw_g (lw_at lw_m2 155 rfl) rfl
theorem q493 : (Jvm.Cond.superclass "PipelineSimulator$Sink" "PipelineSimulator$Keyed") ∈ lw_all := lw_g (lw_at lw_m2 156 rfl) rfl
theorem q1245 : (Jvm.Cond.selects "PipelineSimulator$Sink" ({ cls := "PipelineSimulator$Operator", name := "reset", desc := "()V" } : Jvm.MethodName) ({ cls := "PipelineSimulator$Operator", name := "reset", desc := "()V" } : Jvm.MethodName)) ∈ lw_all := lw_g (lw_at lw_m5 188 rfl) rfl
theorem q1346 : (Jvm.Cond.selects "PipelineSimulator$Sink" ({ cls := "PipelineSimulator$Operator", name := "isKeyed", desc := "()Z" } : Jvm.MethodName) ({ cls := "PipelineSimulator$Keyed", name := "isKeyed", desc := "()Z" } : Jvm.MethodName)) ∈ lw_all := lw_g (lw_at lw_m6 49 rfl) rfl
theorem q1518 : (Jvm.Cond.instanceMethod ({ cls := "PipelineSimulator$Sink", name := "process", desc := "(IILPipelineSimulator$KeyStates;LPipelineSimulator$Output;)V" } : Jvm.MethodName)) ∈ lw_all := lw_g (lw_at lw_m6 221 rfl) rfl
theorem q1519 : (Jvm.Cond.code ({ cls := "PipelineSimulator$Sink", name := "process", desc := "(IILPipelineSimulator$KeyStates;LPipelineSimulator$Output;)V" } : Jvm.MethodName) prog_20_method_2_code (5 : Nat) (Option.none : Option Jvm.ClassFile.FieldType)) ∈ lw_all := lw_g (lw_at lw_m6 222 rfl) rfl
theorem q1520 : (Jvm.Cond.methodLink "PipelineSimulator$Sink" (9 : Nat) ({ cls := "PipelineSimulator$KeyStates", name := "first", desc := "(I)I" } : Jvm.MethodName)) ∈ lw_all := lw_g (lw_at lw_m6 223 rfl) rfl
theorem q1521 : (Jvm.Cond.methodLink "PipelineSimulator$Sink" (15 : Nat) ({ cls := "PipelineSimulator$KeyStates", name := "second", desc := "(I)I" } : Jvm.MethodName)) ∈ lw_all := lw_g (lw_at lw_m6 224 rfl) rfl
theorem q1525 : (Jvm.Cond.methodLink "PipelineSimulator$Sink" (18 : Nat) ({ cls := "PipelineSimulator$KeyStates", name := "set", desc := "(III)V" } : Jvm.MethodName)) ∈ lw_all := lw_g (lw_at lw_m6 228 rfl) rfl
theorem q1555 : (Jvm.Cond.selects "PipelineSimulator$Sink" ({ cls := "PipelineSimulator$Operator", name := "process", desc := "(IILPipelineSimulator$KeyStates;LPipelineSimulator$Output;)V" } : Jvm.MethodName) ({ cls := "PipelineSimulator$Sink", name := "process", desc := "(IILPipelineSimulator$KeyStates;LPipelineSimulator$Output;)V" } : Jvm.MethodName)) ∈ lw_all := lw_g (lw_at lw_m7 18 rfl) rfl
theorem q2356 : (Jvm.Cond.selects "PipelineSimulator$Sink" ({ cls := "PipelineSimulator$Operator", name := "write", desc := "(Ljava/lang/StringBuilder;)V" } : Jvm.MethodName) ({ cls := "PipelineSimulator$Sink", name := "write", desc := "(Ljava/lang/StringBuilder;)V" } : Jvm.MethodName)) ∈ lw_all := lw_g (lw_at lw_m10 99 rfl) rfl
theorem q2357 : (Jvm.Cond.instanceMethod ({ cls := "PipelineSimulator$Sink", name := "write", desc := "(Ljava/lang/StringBuilder;)V" } : Jvm.MethodName)) ∈ lw_all := lw_g (lw_at lw_m10 100 rfl) rfl
theorem q2358 : (Jvm.Cond.code ({ cls := "PipelineSimulator$Sink", name := "write", desc := "(Ljava/lang/StringBuilder;)V" } : Jvm.MethodName) prog_20_method_3_code (2 : Nat) (Option.none : Option Jvm.ClassFile.FieldType)) ∈ lw_all := lw_g (lw_at lw_m10 101 rfl) rfl
theorem q2359 : (Jvm.Cond.methodLink "PipelineSimulator$Sink" (27 : Nat) ({ cls := "java/lang/StringBuilder", name := "append", desc := "(C)Ljava/lang/StringBuilder;" } : Jvm.MethodName)) ∈ lw_all := lw_g (lw_at lw_m10 102 rfl) rfl
theorem q2360 : (Jvm.Cond.methodLink "PipelineSimulator$Sink" (33 : Nat) ({ cls := "java/lang/StringBuilder", name := "append", desc := "(I)Ljava/lang/StringBuilder;" } : Jvm.MethodName)) ∈ lw_all := lw_g (lw_at lw_m10 103 rfl) rfl
theorem q2941 : (Jvm.Cond.castable "PipelineSimulator$Sink" "PipelineSimulator$Operator") ∈ lw_tbl := lw_at lw_m12 204 rfl
theorem q2955 : (Jvm.Cond.castable "PipelineSimulator$Sink" "java/lang/Object") ∈ lw_tbl := lw_at lw_m12 218 rfl
theorem in_X8 : ∀ w ∈ wsX80, w ∈ lw_all := lw_in wsX80 [484, 485, 486, 487, 488, 489, 490, 491, 492] (by decide +kernel) (by decide +kernel)
