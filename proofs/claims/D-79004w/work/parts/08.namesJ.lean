/-! java/util/AbstractCollection -/
set_option maxRecDepth 100000
def RJ0 : String := "java/util/AbstractCollection"
abbrev cJ0_init : ByteArray := prog_50_method_1_code
def yJ0_init : MethodName := ⟨RJ0, "<init>", "()V"⟩
theorem dJ0_init_0 : decode cJ0_init 0 = .ok (.aload_n 0, 1) := by decide +kernel
theorem dJ0_init_1 : decode cJ0_init 1 = .ok (.invokespecial 1, 3) := by decide +kernel
theorem dJ0_init_4 : decode cJ0_init 4 = .ok (.return_, 1) := by decide +kernel
abbrev cJ0_isEmpty : ByteArray := prog_50_method_4_code
def yJ0_isEmpty : MethodName := ⟨RJ0, "isEmpty", "()Z"⟩
def dkwJ0_isEmpty_0 : List UInt8 := [42, 182, 0, 7, 154, 0, 7, 4, 167, 0, 4, 3, 172]
abbrev dktJ0_isEmpty_0 : List UInt8 := dkwJ0_isEmpty_0 ++ []
theorem dksJ0_isEmpty_0 : cJ0_isEmpty.data.toList.drop 0 = dktJ0_isEmpty_0 := by decide +kernel
theorem dJ0_isEmpty_0 : decode cJ0_isEmpty 0 = .ok (.aload_n 0, 1) := dk_42 (dk_at dksJ0_isEmpty_0 0 rfl rfl)
theorem dJ0_isEmpty_1 : decode cJ0_isEmpty 1 = .ok (.invokevirtual 7, 3) := dk_182 0 7 (dk_at dksJ0_isEmpty_0 1 rfl rfl)
theorem dJ0_isEmpty_4 : decode cJ0_isEmpty 4 = .ok (.ifCond .ne 7, 3) := dk_154 0 7 (dk_at dksJ0_isEmpty_0 4 rfl rfl)
theorem dJ0_isEmpty_7 : decode cJ0_isEmpty 7 = .ok (.iconst 1, 1) := dk_4 (dk_at dksJ0_isEmpty_0 7 rfl rfl)
theorem dJ0_isEmpty_8 : decode cJ0_isEmpty 8 = .ok (.goto 4, 3) := dk_167 0 4 (dk_at dksJ0_isEmpty_0 8 rfl rfl)
theorem dJ0_isEmpty_11 : decode cJ0_isEmpty 11 = .ok (.iconst 0, 1) := dk_3 (dk_at dksJ0_isEmpty_0 11 rfl rfl)
theorem dJ0_isEmpty_12 : decode cJ0_isEmpty 12 = .ok (.ireturn, 1) := dk_172 (dk_at dksJ0_isEmpty_0 12 rfl rfl)
theorem q99 : (Jvm.Cond.initialized "java/util/AbstractCollection") ∈ lw_all := lw_g (lw_at lw_m1 2 rfl) rfl
theorem q175 : (Jvm.Cond.instanceMethod ({ cls := "java/util/AbstractCollection", name := "<init>", desc := "()V" } : Jvm.MethodName)) ∈ lw_all := lw_g (lw_at lw_m1 78 rfl) rfl
theorem q176 : (Jvm.Cond.code ({ cls := "java/util/AbstractCollection", name := "<init>", desc := "()V" } : Jvm.MethodName) prog_50_method_1_code (1 : Nat) (Option.none : Option Jvm.ClassFile.FieldType)) ∈ lw_all := lw_g (lw_at lw_m1 79 rfl) rfl
theorem q177 : (Jvm.Cond.methodLink "java/util/AbstractCollection" (1 : Nat) ({ cls := "java/lang/Object", name := "<init>", desc := "()V" } : Jvm.MethodName)) ∈ lw_all := lw_g (lw_at lw_m1 80 rfl) rfl
theorem q605 : (Jvm.Cond.declares ({ cls := "java/util/AbstractCollection", name := "isEmpty", desc := "()Z" } : Jvm.MethodName)) ∈ lw_tbl := lw_at lw_m3 28 rfl
theorem q607 : (Jvm.Cond.instanceMethod ({ cls := "java/util/AbstractCollection", name := "isEmpty", desc := "()Z" } : Jvm.MethodName)) ∈ lw_all := lw_g (lw_at lw_m3 30 rfl) rfl
theorem q608 : (Jvm.Cond.code ({ cls := "java/util/AbstractCollection", name := "isEmpty", desc := "()Z" } : Jvm.MethodName) prog_50_method_4_code (1 : Nat) (Option.some Jvm.ClassFile.FieldType.boolean)) ∈ lw_all := lw_g (lw_at lw_m3 31 rfl) rfl
theorem q609 : (Jvm.Cond.methodLink "java/util/AbstractCollection" (7 : Nat) ({ cls := "java/util/AbstractCollection", name := "size", desc := "()I" } : Jvm.MethodName)) ∈ lw_all := lw_g (lw_at lw_m3 32 rfl) rfl
theorem q610 : (Jvm.Cond.declares ({ cls := "java/util/AbstractCollection", name := "size", desc := "()I" } : Jvm.MethodName)) ∈ lw_tbl := lw_at lw_m3 33 rfl
theorem q611 : (Jvm.Cond.sameMethod "java/util/AbstractCollection" "java/util/AbstractCollection" "size" "()I") ∈ lw_all := lw_g (lw_at lw_m3 34 rfl) rfl
/-! java/util/AbstractList -/
set_option maxRecDepth 100000
def RJ1 : String := "java/util/AbstractList"
abbrev cJ1_init : ByteArray := prog_51_method_1_code
def yJ1_init : MethodName := ⟨RJ1, "<init>", "()V"⟩
def dkwJ1_init_0 : List UInt8 := [42, 183, 0, 1, 42, 3, 181, 0, 7, 177]
abbrev dktJ1_init_0 : List UInt8 := dkwJ1_init_0 ++ []
theorem dksJ1_init_0 : cJ1_init.data.toList.drop 0 = dktJ1_init_0 := by decide +kernel
theorem dJ1_init_0 : decode cJ1_init 0 = .ok (.aload_n 0, 1) := dk_42 (dk_at dksJ1_init_0 0 rfl rfl)
theorem dJ1_init_1 : decode cJ1_init 1 = .ok (.invokespecial 1, 3) := dk_183 0 1 (dk_at dksJ1_init_0 1 rfl rfl)
theorem dJ1_init_4 : decode cJ1_init 4 = .ok (.aload_n 0, 1) := dk_42 (dk_at dksJ1_init_0 4 rfl rfl)
theorem dJ1_init_5 : decode cJ1_init 5 = .ok (.iconst 0, 1) := dk_3 (dk_at dksJ1_init_0 5 rfl rfl)
theorem dJ1_init_6 : decode cJ1_init 6 = .ok (.putfield 7, 3) := dk_181 0 7 (dk_at dksJ1_init_0 6 rfl rfl)
theorem dJ1_init_9 : decode cJ1_init 9 = .ok (.return_, 1) := dk_177 (dk_at dksJ1_init_0 9 rfl rfl)
abbrev cJ1_listIterator : ByteArray := prog_51_method_12_code
def yJ1_listIterator : MethodName := ⟨RJ1, "listIterator", "()Ljava/util/ListIterator;"⟩
def dkwJ1_listIterator_0 : List UInt8 := [42, 3, 182, 0, 47, 176]
abbrev dktJ1_listIterator_0 : List UInt8 := dkwJ1_listIterator_0 ++ []
theorem dksJ1_listIterator_0 : cJ1_listIterator.data.toList.drop 0 = dktJ1_listIterator_0 := by decide +kernel
theorem dJ1_listIterator_0 : decode cJ1_listIterator 0 = .ok (.aload_n 0, 1) := dk_42 (dk_at dksJ1_listIterator_0 0 rfl rfl)
theorem dJ1_listIterator_1 : decode cJ1_listIterator 1 = .ok (.iconst 0, 1) := dk_3 (dk_at dksJ1_listIterator_0 1 rfl rfl)
theorem dJ1_listIterator_2 : decode cJ1_listIterator 2 = .ok (.invokevirtual 47, 3) := dk_182 0 47 (dk_at dksJ1_listIterator_0 2 rfl rfl)
theorem dJ1_listIterator_5 : decode cJ1_listIterator 5 = .ok (.areturn, 1) := dk_176 (dk_at dksJ1_listIterator_0 5 rfl rfl)
theorem q100 : (Jvm.Cond.initialized "java/util/AbstractList") ∈ lw_all := lw_g (lw_at lw_m1 3 rfl) rfl
theorem q172 : (Jvm.Cond.instanceMethod ({ cls := "java/util/AbstractList", name := "<init>", desc := "()V" } : Jvm.MethodName)) ∈ lw_all := lw_g (lw_at lw_m1 75 rfl) rfl
theorem q173 : (Jvm.Cond.code ({ cls := "java/util/AbstractList", name := "<init>", desc := "()V" } : Jvm.MethodName) prog_51_method_1_code (1 : Nat) (Option.none : Option Jvm.ClassFile.FieldType)) ∈ lw_all := lw_g (lw_at lw_m1 76 rfl) rfl
theorem q174 : (Jvm.Cond.methodLink "java/util/AbstractList" (1 : Nat) ({ cls := "java/util/AbstractCollection", name := "<init>", desc := "()V" } : Jvm.MethodName)) ∈ lw_all := lw_g (lw_at lw_m1 77 rfl) rfl
theorem q182 : (Jvm.Cond.fieldLink "java/util/AbstractList" (7 : Nat) "java/util/AbstractList" "modCount" "I") ∈ lw_all := lw_g (lw_at lw_m1 85 rfl) rfl
theorem q197 : (Jvm.Cond.soleField "java/util/AbstractList" "modCount") ∈ lw_all := lw_g (lw_at lw_m1 100 rfl) rfl
theorem q865 : (Jvm.Cond.sameMethod "java/util/AbstractList" "java/util/AbstractCollection" "size" "()I") ∈ lw_all := lw_g (lw_at lw_m4 48 rfl) rfl
theorem q904 : (Jvm.Cond.declares ({ cls := "java/util/AbstractList", name := "get", desc := "(I)Ljava/lang/Object;" } : Jvm.MethodName)) ∈ lw_tbl := lw_at lw_m4 87 rfl
theorem q905 : (Jvm.Cond.sameMethod "java/util/AbstractList" "java/util/AbstractList" "get" "(I)Ljava/lang/Object;") ∈ lw_all := lw_g (lw_at lw_m4 88 rfl) rfl
theorem q1700 : (Jvm.Cond.declares ({ cls := "java/util/AbstractList", name := "listIterator", desc := "()Ljava/util/ListIterator;" } : Jvm.MethodName)) ∈ lw_tbl := lw_at lw_m7 163 rfl
theorem q1702 : (Jvm.Cond.instanceMethod ({ cls := "java/util/AbstractList", name := "listIterator", desc := "()Ljava/util/ListIterator;" } : Jvm.MethodName)) ∈ lw_all := lw_g (lw_at lw_m7 165 rfl) rfl
theorem q1703 : (Jvm.Cond.code ({ cls := "java/util/AbstractList", name := "listIterator", desc := "()Ljava/util/ListIterator;" } : Jvm.MethodName) prog_51_method_12_code (1 : Nat) (Option.some (Jvm.ClassFile.FieldType.object "java/util/ListIterator"))) ∈ lw_all := lw_g (lw_at lw_m7 166 rfl) rfl
theorem q1704 : (Jvm.Cond.methodLink "java/util/AbstractList" (47 : Nat) ({ cls := "java/util/AbstractList", name := "listIterator", desc := "(I)Ljava/util/ListIterator;" } : Jvm.MethodName)) ∈ lw_all := lw_g (lw_at lw_m7 167 rfl) rfl
theorem q1705 : (Jvm.Cond.instanceMethod ({ cls := "java/util/AbstractList", name := "listIterator", desc := "(I)Ljava/util/ListIterator;" } : Jvm.MethodName)) ∈ lw_all := lw_g (lw_at lw_m7 168 rfl) rfl
theorem q1706 : (Jvm.Cond.sameMethod "java/util/AbstractList" "java/util/AbstractList" "listIterator" "(I)Ljava/util/ListIterator;") ∈ lw_all := lw_g (lw_at lw_m7 169 rfl) rfl
theorem q1762 : (Jvm.Cond.declares ({ cls := "java/util/AbstractList", name := "listIterator", desc := "(I)Ljava/util/ListIterator;" } : Jvm.MethodName)) ∈ lw_tbl := lw_at lw_m7 225 rfl
/-! jdk/internal/util/Preconditions -/
set_option maxRecDepth 100000
def RJ10 : String := "jdk/internal/util/Preconditions"
abbrev cJ10_checkIndex : ByteArray := prog_76_method_11_code
def yJ10_checkIndex : MethodName := ⟨RJ10, "checkIndex", "(IILjava/util/function/BiFunction;)I"⟩
def dkwJ10_checkIndex_0 : List UInt8 := [26, 155, 0, 8, 26, 27, 161, 0, 10, 44, 26, 27, 184, 0, 95, 191, 26, 172]
abbrev dktJ10_checkIndex_0 : List UInt8 := dkwJ10_checkIndex_0 ++ []
theorem dksJ10_checkIndex_0 : cJ10_checkIndex.data.toList.drop 0 = dktJ10_checkIndex_0 := by decide +kernel
theorem dJ10_checkIndex_0 : decode cJ10_checkIndex 0 = .ok (.iload_n 0, 1) := dk_26 (dk_at dksJ10_checkIndex_0 0 rfl rfl)
theorem dJ10_checkIndex_1 : decode cJ10_checkIndex 1 = .ok (.ifCond .lt 8, 3) := dk_155 0 8 (dk_at dksJ10_checkIndex_0 1 rfl rfl)
theorem dJ10_checkIndex_4 : decode cJ10_checkIndex 4 = .ok (.iload_n 0, 1) := dk_26 (dk_at dksJ10_checkIndex_0 4 rfl rfl)
theorem dJ10_checkIndex_5 : decode cJ10_checkIndex 5 = .ok (.iload_n 1, 1) := dk_27 (dk_at dksJ10_checkIndex_0 5 rfl rfl)
theorem dJ10_checkIndex_6 : decode cJ10_checkIndex 6 = .ok (.if_icmp .lt 10, 3) := dk_161 0 10 (dk_at dksJ10_checkIndex_0 6 rfl rfl)
theorem dJ10_checkIndex_9 : decode cJ10_checkIndex 9 = .ok (.aload_n 2, 1) := dk_44 (dk_at dksJ10_checkIndex_0 9 rfl rfl)
theorem dJ10_checkIndex_10 : decode cJ10_checkIndex 10 = .ok (.iload_n 0, 1) := dk_26 (dk_at dksJ10_checkIndex_0 10 rfl rfl)
theorem dJ10_checkIndex_11 : decode cJ10_checkIndex 11 = .ok (.iload_n 1, 1) := dk_27 (dk_at dksJ10_checkIndex_0 11 rfl rfl)
theorem dJ10_checkIndex_12 : decode cJ10_checkIndex 12 = .ok (.invokestatic 95, 3) := dk_184 0 95 (dk_at dksJ10_checkIndex_0 12 rfl rfl)
theorem dJ10_checkIndex_15 : decode cJ10_checkIndex 15 = .ok (.athrow, 1) := dk_191 (dk_at dksJ10_checkIndex_0 15 rfl rfl)
theorem dJ10_checkIndex_16 : decode cJ10_checkIndex 16 = .ok (.iload_n 0, 1) := dk_26 (dk_at dksJ10_checkIndex_0 16 rfl rfl)
theorem dJ10_checkIndex_17 : decode cJ10_checkIndex 17 = .ok (.ireturn, 1) := dk_172 (dk_at dksJ10_checkIndex_0 17 rfl rfl)
abbrev cJ10_checkFromToIndex : ByteArray := prog_76_method_12_code
def yJ10_checkFromToIndex : MethodName := ⟨RJ10, "checkFromToIndex", "(IIILjava/util/function/BiFunction;)I"⟩
def dkwJ10_checkFromToIndex_0 : List UInt8 := [26, 155, 0, 13, 26, 27, 163, 0, 8, 27, 28, 164, 0, 11, 45, 26, 27, 28, 184, 0, 99, 191, 26, 172]
abbrev dktJ10_checkFromToIndex_0 : List UInt8 := dkwJ10_checkFromToIndex_0 ++ []
theorem dksJ10_checkFromToIndex_0 : cJ10_checkFromToIndex.data.toList.drop 0 = dktJ10_checkFromToIndex_0 := by decide +kernel
theorem dJ10_checkFromToIndex_0 : decode cJ10_checkFromToIndex 0 = .ok (.iload_n 0, 1) := dk_26 (dk_at dksJ10_checkFromToIndex_0 0 rfl rfl)
theorem dJ10_checkFromToIndex_1 : decode cJ10_checkFromToIndex 1 = .ok (.ifCond .lt 13, 3) := dk_155 0 13 (dk_at dksJ10_checkFromToIndex_0 1 rfl rfl)
theorem dJ10_checkFromToIndex_4 : decode cJ10_checkFromToIndex 4 = .ok (.iload_n 0, 1) := dk_26 (dk_at dksJ10_checkFromToIndex_0 4 rfl rfl)
theorem dJ10_checkFromToIndex_5 : decode cJ10_checkFromToIndex 5 = .ok (.iload_n 1, 1) := dk_27 (dk_at dksJ10_checkFromToIndex_0 5 rfl rfl)
theorem dJ10_checkFromToIndex_6 : decode cJ10_checkFromToIndex 6 = .ok (.if_icmp .gt 8, 3) := dk_163 0 8 (dk_at dksJ10_checkFromToIndex_0 6 rfl rfl)
theorem dJ10_checkFromToIndex_9 : decode cJ10_checkFromToIndex 9 = .ok (.iload_n 1, 1) := dk_27 (dk_at dksJ10_checkFromToIndex_0 9 rfl rfl)
theorem dJ10_checkFromToIndex_10 : decode cJ10_checkFromToIndex 10 = .ok (.iload_n 2, 1) := dk_28 (dk_at dksJ10_checkFromToIndex_0 10 rfl rfl)
theorem dJ10_checkFromToIndex_11 : decode cJ10_checkFromToIndex 11 = .ok (.if_icmp .le 11, 3) := dk_164 0 11 (dk_at dksJ10_checkFromToIndex_0 11 rfl rfl)
theorem dJ10_checkFromToIndex_14 : decode cJ10_checkFromToIndex 14 = .ok (.aload_n 3, 1) := dk_45 (dk_at dksJ10_checkFromToIndex_0 14 rfl rfl)
theorem dJ10_checkFromToIndex_15 : decode cJ10_checkFromToIndex 15 = .ok (.iload_n 0, 1) := dk_26 (dk_at dksJ10_checkFromToIndex_0 15 rfl rfl)
theorem dJ10_checkFromToIndex_16 : decode cJ10_checkFromToIndex 16 = .ok (.iload_n 1, 1) := dk_27 (dk_at dksJ10_checkFromToIndex_0 16 rfl rfl)
theorem dJ10_checkFromToIndex_17 : decode cJ10_checkFromToIndex 17 = .ok (.iload_n 2, 1) := dk_28 (dk_at dksJ10_checkFromToIndex_0 17 rfl rfl)
theorem dJ10_checkFromToIndex_18 : decode cJ10_checkFromToIndex 18 = .ok (.invokestatic 99, 3) := dk_184 0 99 (dk_at dksJ10_checkFromToIndex_0 18 rfl rfl)
theorem dJ10_checkFromToIndex_21 : decode cJ10_checkFromToIndex 21 = .ok (.athrow, 1) := dk_191 (dk_at dksJ10_checkFromToIndex_0 21 rfl rfl)
theorem dJ10_checkFromToIndex_22 : decode cJ10_checkFromToIndex 22 = .ok (.iload_n 0, 1) := dk_26 (dk_at dksJ10_checkFromToIndex_0 22 rfl rfl)
theorem dJ10_checkFromToIndex_23 : decode cJ10_checkFromToIndex 23 = .ok (.ireturn, 1) := dk_172 (dk_at dksJ10_checkFromToIndex_0 23 rfl rfl)
abbrev cJ10_checkFromIndexSize : ByteArray := prog_76_method_13_code
def yJ10_checkFromIndexSize : MethodName := ⟨RJ10, "checkFromIndexSize", "(IIILjava/util/function/BiFunction;)I"⟩
def dkwJ10_checkFromIndexSize_1 : List UInt8 := [172]
abbrev dktJ10_checkFromIndexSize_1 : List UInt8 := dkwJ10_checkFromIndexSize_1 ++ []
def dkwJ10_checkFromIndexSize_0 : List UInt8 := [28, 26, 128, 27, 128, 155, 0, 10, 27, 28, 26, 100, 164, 0, 11, 45, 26, 27, 28, 184, 0, 103, 191, 26]
abbrev dktJ10_checkFromIndexSize_0 : List UInt8 := dkwJ10_checkFromIndexSize_0 ++ dktJ10_checkFromIndexSize_1
theorem dksJ10_checkFromIndexSize_0 : cJ10_checkFromIndexSize.data.toList.drop 0 = dktJ10_checkFromIndexSize_0 := by decide +kernel
theorem dksJ10_checkFromIndexSize_1 : cJ10_checkFromIndexSize.data.toList.drop 24 = dktJ10_checkFromIndexSize_1 := dk_seg dksJ10_checkFromIndexSize_0 24 rfl rfl
theorem dJ10_checkFromIndexSize_0 : decode cJ10_checkFromIndexSize 0 = .ok (.iload_n 2, 1) := dk_28 (dk_at dksJ10_checkFromIndexSize_0 0 rfl rfl)
theorem dJ10_checkFromIndexSize_1 : decode cJ10_checkFromIndexSize 1 = .ok (.iload_n 0, 1) := dk_26 (dk_at dksJ10_checkFromIndexSize_0 1 rfl rfl)
theorem dJ10_checkFromIndexSize_2 : decode cJ10_checkFromIndexSize 2 = .ok (.ior, 1) := dk_128 (dk_at dksJ10_checkFromIndexSize_0 2 rfl rfl)
theorem dJ10_checkFromIndexSize_3 : decode cJ10_checkFromIndexSize 3 = .ok (.iload_n 1, 1) := dk_27 (dk_at dksJ10_checkFromIndexSize_0 3 rfl rfl)
theorem dJ10_checkFromIndexSize_4 : decode cJ10_checkFromIndexSize 4 = .ok (.ior, 1) := dk_128 (dk_at dksJ10_checkFromIndexSize_0 4 rfl rfl)
theorem dJ10_checkFromIndexSize_5 : decode cJ10_checkFromIndexSize 5 = .ok (.ifCond .lt 10, 3) := dk_155 0 10 (dk_at dksJ10_checkFromIndexSize_0 5 rfl rfl)
theorem dJ10_checkFromIndexSize_8 : decode cJ10_checkFromIndexSize 8 = .ok (.iload_n 1, 1) := dk_27 (dk_at dksJ10_checkFromIndexSize_0 8 rfl rfl)
theorem dJ10_checkFromIndexSize_9 : decode cJ10_checkFromIndexSize 9 = .ok (.iload_n 2, 1) := dk_28 (dk_at dksJ10_checkFromIndexSize_0 9 rfl rfl)
theorem dJ10_checkFromIndexSize_10 : decode cJ10_checkFromIndexSize 10 = .ok (.iload_n 0, 1) := dk_26 (dk_at dksJ10_checkFromIndexSize_0 10 rfl rfl)
theorem dJ10_checkFromIndexSize_11 : decode cJ10_checkFromIndexSize 11 = .ok (.isub, 1) := dk_100 (dk_at dksJ10_checkFromIndexSize_0 11 rfl rfl)
theorem dJ10_checkFromIndexSize_12 : decode cJ10_checkFromIndexSize 12 = .ok (.if_icmp .le 11, 3) := dk_164 0 11 (dk_at dksJ10_checkFromIndexSize_0 12 rfl rfl)
theorem dJ10_checkFromIndexSize_15 : decode cJ10_checkFromIndexSize 15 = .ok (.aload_n 3, 1) := dk_45 (dk_at dksJ10_checkFromIndexSize_0 15 rfl rfl)
theorem dJ10_checkFromIndexSize_16 : decode cJ10_checkFromIndexSize 16 = .ok (.iload_n 0, 1) := dk_26 (dk_at dksJ10_checkFromIndexSize_0 16 rfl rfl)
theorem dJ10_checkFromIndexSize_17 : decode cJ10_checkFromIndexSize 17 = .ok (.iload_n 1, 1) := dk_27 (dk_at dksJ10_checkFromIndexSize_0 17 rfl rfl)
theorem dJ10_checkFromIndexSize_18 : decode cJ10_checkFromIndexSize 18 = .ok (.iload_n 2, 1) := dk_28 (dk_at dksJ10_checkFromIndexSize_0 18 rfl rfl)
theorem dJ10_checkFromIndexSize_19 : decode cJ10_checkFromIndexSize 19 = .ok (.invokestatic 103, 3) := dk_184 0 103 (dk_at dksJ10_checkFromIndexSize_0 19 rfl rfl)
theorem dJ10_checkFromIndexSize_22 : decode cJ10_checkFromIndexSize 22 = .ok (.athrow, 1) := dk_191 (dk_at dksJ10_checkFromIndexSize_0 22 rfl rfl)
theorem dJ10_checkFromIndexSize_23 : decode cJ10_checkFromIndexSize 23 = .ok (.iload_n 0, 1) := dk_26 (dk_at dksJ10_checkFromIndexSize_0 23 rfl rfl)
theorem dJ10_checkFromIndexSize_24 : decode cJ10_checkFromIndexSize 24 = .ok (.ireturn, 1) := dk_172 (dk_at dksJ10_checkFromIndexSize_1 0 rfl rfl)
theorem q118 : (Jvm.Cond.initialized "jdk/internal/util/Preconditions") ∈ lw_all := lw_g (lw_at lw_m1 21 rfl) rfl
theorem q514 : (Jvm.Cond.static ({ cls := "jdk/internal/util/Preconditions", name := "checkIndex", desc := "(IILjava/util/function/BiFunction;)I" } : Jvm.MethodName)) ∈ lw_all := lw_g (lw_at lw_m2 177 rfl) rfl
theorem q515 : (Jvm.Cond.code ({ cls := "jdk/internal/util/Preconditions", name := "checkIndex", desc := "(IILjava/util/function/BiFunction;)I" } : Jvm.MethodName) prog_76_method_11_code (3 : Nat) (Option.some Jvm.ClassFile.FieldType.int)) ∈ lw_all := lw_g (lw_at lw_m2 178 rfl) rfl
theorem q1048 : (Jvm.Cond.laysStatic "jdk/internal/util/Preconditions" "SIOOBE_FORMATTER" "Ljava/util/function/BiFunction;") ∈ lw_tbl := lw_at lw_m4 231 rfl
theorem q1050 : (Jvm.Cond.static ({ cls := "jdk/internal/util/Preconditions", name := "checkFromToIndex", desc := "(IIILjava/util/function/BiFunction;)I" } : Jvm.MethodName)) ∈ lw_all := lw_g (lw_at lw_m4 233 rfl) rfl
theorem q1051 : (Jvm.Cond.code ({ cls := "jdk/internal/util/Preconditions", name := "checkFromToIndex", desc := "(IIILjava/util/function/BiFunction;)I" } : Jvm.MethodName) prog_76_method_12_code (4 : Nat) (Option.some Jvm.ClassFile.FieldType.int)) ∈ lw_all := lw_g (lw_at lw_m4 234 rfl) rfl
theorem q1096 : (Jvm.Cond.static ({ cls := "jdk/internal/util/Preconditions", name := "checkFromIndexSize", desc := "(IIILjava/util/function/BiFunction;)I" } : Jvm.MethodName)) ∈ lw_all := lw_g (lw_at lw_m5 39 rfl) rfl
theorem q1097 : (Jvm.Cond.code ({ cls := "jdk/internal/util/Preconditions", name := "checkFromIndexSize", desc := "(IIILjava/util/function/BiFunction;)I" } : Jvm.MethodName) prog_76_method_13_code (4 : Nat) (Option.some Jvm.ClassFile.FieldType.int)) ∈ lw_all := lw_g (lw_at lw_m5 40 rfl) rfl
/-! java/util/ArrayDeque -/
set_option maxRecDepth 100000
def RJ11 : String := "java/util/ArrayDeque"
def TJ11 : u_T := fun k => match k with
  | 0 => ("java/util/ArrayDeque", "elements", "[Ljava/lang/Object;", false)
  | 1 => ("java/util/ArrayDeque", "head", "I", false)
  | _ => ("java/util/ArrayDeque", "tail", "I", false)
def tyJ11 : Nat → FieldType := fun k => match k with
  | 0 => .array (.object "java/lang/Object")
  | 1 => .int
  | _ => .int
abbrev wsJ110 : List Cond := u_ws RJ11 TJ11 3
theorem nmJ11 : ∀ a, a < 3 → ∀ b, b < 3 → a ≠ b → (TJ11 a).2.1 ≠ (TJ11 b).2.1 := by decide +kernel
theorem tyJ11_ok : ∀ k, k < 3 → parseFieldDescriptor (TJ11 k).2.2.1 = some (tyJ11 k) := by decide +kernel
abbrev cJ11_init : ByteArray := prog_55_method_3_code
def yJ11_init : MethodName := ⟨RJ11, "<init>", "()V"⟩
def dkwJ11_init_0 : List UInt8 := [42, 183, 0, 42, 42, 16, 17, 189, 0, 47, 181, 0, 3, 177]
abbrev dktJ11_init_0 : List UInt8 := dkwJ11_init_0 ++ []
theorem dksJ11_init_0 : cJ11_init.data.toList.drop 0 = dktJ11_init_0 := by decide +kernel
theorem dJ11_init_0 : decode cJ11_init 0 = .ok (.aload_n 0, 1) := dk_42 (dk_at dksJ11_init_0 0 rfl rfl)
theorem dJ11_init_1 : decode cJ11_init 1 = .ok (.invokespecial 42, 3) := dk_183 0 42 (dk_at dksJ11_init_0 1 rfl rfl)
theorem dJ11_init_4 : decode cJ11_init 4 = .ok (.aload_n 0, 1) := dk_42 (dk_at dksJ11_init_0 4 rfl rfl)
theorem dJ11_init_5 : decode cJ11_init 5 = .ok (.bipush 17, 2) := dk_16 17 (dk_at dksJ11_init_0 5 rfl rfl)
theorem dJ11_init_7 : decode cJ11_init 7 = .ok (.anewarray 47, 3) := dk_189 0 47 (dk_at dksJ11_init_0 7 rfl rfl)
theorem dJ11_init_10 : decode cJ11_init 10 = .ok (.putfield 3, 3) := dk_181 0 3 (dk_at dksJ11_init_0 10 rfl rfl)
theorem dJ11_init_13 : decode cJ11_init 13 = .ok (.return_, 1) := dk_177 (dk_at dksJ11_init_0 13 rfl rfl)
abbrev cJ11_size : ByteArray := prog_55_method_37_code
def yJ11_size : MethodName := ⟨RJ11, "size", "()I"⟩
def dkwJ11_size_0 : List UInt8 := [42, 180, 0, 20, 42, 180, 0, 24, 42, 180, 0, 3, 190, 184, 0, 127, 172]
abbrev dktJ11_size_0 : List UInt8 := dkwJ11_size_0 ++ []
theorem dksJ11_size_0 : cJ11_size.data.toList.drop 0 = dktJ11_size_0 := by decide +kernel
theorem dJ11_size_0 : decode cJ11_size 0 = .ok (.aload_n 0, 1) := dk_42 (dk_at dksJ11_size_0 0 rfl rfl)
theorem dJ11_size_1 : decode cJ11_size 1 = .ok (.getfield 20, 3) := dk_180 0 20 (dk_at dksJ11_size_0 1 rfl rfl)
theorem dJ11_size_4 : decode cJ11_size 4 = .ok (.aload_n 0, 1) := dk_42 (dk_at dksJ11_size_0 4 rfl rfl)
theorem dJ11_size_5 : decode cJ11_size 5 = .ok (.getfield 24, 3) := dk_180 0 24 (dk_at dksJ11_size_0 5 rfl rfl)
theorem dJ11_size_8 : decode cJ11_size 8 = .ok (.aload_n 0, 1) := dk_42 (dk_at dksJ11_size_0 8 rfl rfl)
theorem dJ11_size_9 : decode cJ11_size 9 = .ok (.getfield 3, 3) := dk_180 0 3 (dk_at dksJ11_size_0 9 rfl rfl)
theorem dJ11_size_12 : decode cJ11_size 12 = .ok (.arraylength, 1) := dk_190 (dk_at dksJ11_size_0 12 rfl rfl)
theorem dJ11_size_13 : decode cJ11_size 13 = .ok (.invokestatic 127, 3) := dk_184 0 127 (dk_at dksJ11_size_0 13 rfl rfl)
theorem dJ11_size_16 : decode cJ11_size 16 = .ok (.ireturn, 1) := dk_172 (dk_at dksJ11_size_0 16 rfl rfl)
abbrev cJ11_sub : ByteArray := prog_55_method_9_code
def yJ11_sub : MethodName := ⟨RJ11, "sub", "(III)I"⟩
def dkwJ11_sub_0 : List UInt8 := [26, 27, 100, 89, 59, 156, 0, 7, 26, 28, 96, 59, 26, 172]
abbrev dktJ11_sub_0 : List UInt8 := dkwJ11_sub_0 ++ []
theorem dksJ11_sub_0 : cJ11_sub.data.toList.drop 0 = dktJ11_sub_0 := by decide +kernel
theorem dJ11_sub_0 : decode cJ11_sub 0 = .ok (.iload_n 0, 1) := dk_26 (dk_at dksJ11_sub_0 0 rfl rfl)
theorem dJ11_sub_1 : decode cJ11_sub 1 = .ok (.iload_n 1, 1) := dk_27 (dk_at dksJ11_sub_0 1 rfl rfl)
theorem dJ11_sub_2 : decode cJ11_sub 2 = .ok (.isub, 1) := dk_100 (dk_at dksJ11_sub_0 2 rfl rfl)
theorem dJ11_sub_3 : decode cJ11_sub 3 = .ok (.dup, 1) := dk_89 (dk_at dksJ11_sub_0 3 rfl rfl)
theorem dJ11_sub_4 : decode cJ11_sub 4 = .ok (.istore_n 0, 1) := dk_59 (dk_at dksJ11_sub_0 4 rfl rfl)
theorem dJ11_sub_5 : decode cJ11_sub 5 = .ok (.ifCond .ge 7, 3) := dk_156 0 7 (dk_at dksJ11_sub_0 5 rfl rfl)
theorem dJ11_sub_8 : decode cJ11_sub 8 = .ok (.iload_n 0, 1) := dk_26 (dk_at dksJ11_sub_0 8 rfl rfl)
theorem dJ11_sub_9 : decode cJ11_sub 9 = .ok (.iload_n 2, 1) := dk_28 (dk_at dksJ11_sub_0 9 rfl rfl)
theorem dJ11_sub_10 : decode cJ11_sub 10 = .ok (.iadd, 1) := dk_96 (dk_at dksJ11_sub_0 10 rfl rfl)
theorem dJ11_sub_11 : decode cJ11_sub 11 = .ok (.istore_n 0, 1) := dk_59 (dk_at dksJ11_sub_0 11 rfl rfl)
theorem dJ11_sub_12 : decode cJ11_sub 12 = .ok (.iload_n 0, 1) := dk_26 (dk_at dksJ11_sub_0 12 rfl rfl)
theorem dJ11_sub_13 : decode cJ11_sub 13 = .ok (.ireturn, 1) := dk_172 (dk_at dksJ11_sub_0 13 rfl rfl)
abbrev cJ11_nonNullElementAt : ByteArray := prog_55_method_11_code
def yJ11_nonNullElementAt : MethodName := ⟨RJ11, "nonNullElementAt", "([Ljava/lang/Object;I)Ljava/lang/Object;"⟩
def dkwJ11_nonNullElementAt_0 : List UInt8 := [42, 27, 50, 77, 44, 199, 0, 11, 187, 0, 62, 89, 183, 0, 64, 191, 44, 176]
abbrev dktJ11_nonNullElementAt_0 : List UInt8 := dkwJ11_nonNullElementAt_0 ++ []
theorem dksJ11_nonNullElementAt_0 : cJ11_nonNullElementAt.data.toList.drop 0 = dktJ11_nonNullElementAt_0 := by decide +kernel
theorem dJ11_nonNullElementAt_0 : decode cJ11_nonNullElementAt 0 = .ok (.aload_n 0, 1) := dk_42 (dk_at dksJ11_nonNullElementAt_0 0 rfl rfl)
theorem dJ11_nonNullElementAt_1 : decode cJ11_nonNullElementAt 1 = .ok (.iload_n 1, 1) := dk_27 (dk_at dksJ11_nonNullElementAt_0 1 rfl rfl)
theorem dJ11_nonNullElementAt_2 : decode cJ11_nonNullElementAt 2 = .ok (.aaload, 1) := dk_50 (dk_at dksJ11_nonNullElementAt_0 2 rfl rfl)
theorem dJ11_nonNullElementAt_3 : decode cJ11_nonNullElementAt 3 = .ok (.astore_n 2, 1) := dk_77 (dk_at dksJ11_nonNullElementAt_0 3 rfl rfl)
theorem dJ11_nonNullElementAt_4 : decode cJ11_nonNullElementAt 4 = .ok (.aload_n 2, 1) := dk_44 (dk_at dksJ11_nonNullElementAt_0 4 rfl rfl)
theorem dJ11_nonNullElementAt_5 : decode cJ11_nonNullElementAt 5 = .ok (.ifnonnull 11, 3) := dk_199 0 11 (dk_at dksJ11_nonNullElementAt_0 5 rfl rfl)
theorem dJ11_nonNullElementAt_8 : decode cJ11_nonNullElementAt 8 = .ok (.new 62, 3) := dk_187 0 62 (dk_at dksJ11_nonNullElementAt_0 8 rfl rfl)
theorem dJ11_nonNullElementAt_11 : decode cJ11_nonNullElementAt 11 = .ok (.dup, 1) := dk_89 (dk_at dksJ11_nonNullElementAt_0 11 rfl rfl)
theorem dJ11_nonNullElementAt_12 : decode cJ11_nonNullElementAt 12 = .ok (.invokespecial 64, 3) := dk_183 0 64 (dk_at dksJ11_nonNullElementAt_0 12 rfl rfl)
theorem dJ11_nonNullElementAt_15 : decode cJ11_nonNullElementAt 15 = .ok (.athrow, 1) := dk_191 (dk_at dksJ11_nonNullElementAt_0 15 rfl rfl)
theorem dJ11_nonNullElementAt_16 : decode cJ11_nonNullElementAt 16 = .ok (.aload_n 2, 1) := dk_44 (dk_at dksJ11_nonNullElementAt_0 16 rfl rfl)
theorem dJ11_nonNullElementAt_17 : decode cJ11_nonNullElementAt 17 = .ok (.areturn, 1) := dk_176 (dk_at dksJ11_nonNullElementAt_0 17 rfl rfl)
abbrev cJ11_inc : ByteArray := prog_55_method_6_code
def yJ11_inc : MethodName := ⟨RJ11, "inc", "(II)I"⟩
def dkwJ11_inc_0 : List UInt8 := [132, 0, 1, 26, 27, 161, 0, 5, 3, 59, 26, 172]
abbrev dktJ11_inc_0 : List UInt8 := dkwJ11_inc_0 ++ []
theorem dksJ11_inc_0 : cJ11_inc.data.toList.drop 0 = dktJ11_inc_0 := by decide +kernel
theorem dJ11_inc_0 : decode cJ11_inc 0 = .ok (.iinc 0 1, 3) := dk_132 0 1 (dk_at dksJ11_inc_0 0 rfl rfl)
theorem dJ11_inc_3 : decode cJ11_inc 3 = .ok (.iload_n 0, 1) := dk_26 (dk_at dksJ11_inc_0 3 rfl rfl)
theorem dJ11_inc_4 : decode cJ11_inc 4 = .ok (.iload_n 1, 1) := dk_27 (dk_at dksJ11_inc_0 4 rfl rfl)
theorem dJ11_inc_5 : decode cJ11_inc 5 = .ok (.if_icmp .lt 5, 3) := dk_161 0 5 (dk_at dksJ11_inc_0 5 rfl rfl)
theorem dJ11_inc_8 : decode cJ11_inc 8 = .ok (.iconst 0, 1) := dk_3 (dk_at dksJ11_inc_0 8 rfl rfl)
theorem dJ11_inc_9 : decode cJ11_inc 9 = .ok (.istore_n 0, 1) := dk_59 (dk_at dksJ11_inc_0 9 rfl rfl)
theorem dJ11_inc_10 : decode cJ11_inc 10 = .ok (.iload_n 0, 1) := dk_26 (dk_at dksJ11_inc_0 10 rfl rfl)
theorem dJ11_inc_11 : decode cJ11_inc 11 = .ok (.ireturn, 1) := dk_172 (dk_at dksJ11_inc_0 11 rfl rfl)
abbrev cJ11_addLast : ByteArray := prog_55_method_13_code
def yJ11_addLast : MethodName := ⟨RJ11, "addLast", "(Ljava/lang/Object;)V"⟩
def dkwJ11_addLast_2 : List UInt8 := [182, 0, 71, 177]
abbrev dktJ11_addLast_2 : List UInt8 := dkwJ11_addLast_2 ++ []
def dkwJ11_addLast_1 : List UInt8 := [42, 180, 0, 24, 42, 42, 180, 0, 20, 44, 190, 184, 0, 74, 90, 181, 0, 20, 160, 0, 8, 42, 4]
abbrev dktJ11_addLast_1 : List UInt8 := dkwJ11_addLast_1 ++ dktJ11_addLast_2
def dkwJ11_addLast_0 : List UInt8 := [43, 199, 0, 11, 187, 0, 65, 89, 183, 0, 67, 191, 42, 180, 0, 3, 77, 44, 42, 180, 0, 20, 43, 83]
abbrev dktJ11_addLast_0 : List UInt8 := dkwJ11_addLast_0 ++ dktJ11_addLast_1
theorem dksJ11_addLast_0 : cJ11_addLast.data.toList.drop 0 = dktJ11_addLast_0 := by decide +kernel
theorem dksJ11_addLast_1 : cJ11_addLast.data.toList.drop 24 = dktJ11_addLast_1 := dk_seg dksJ11_addLast_0 24 rfl rfl
theorem dksJ11_addLast_2 : cJ11_addLast.data.toList.drop 47 = dktJ11_addLast_2 := dk_seg dksJ11_addLast_1 23 rfl rfl
theorem dJ11_addLast_0 : decode cJ11_addLast 0 = .ok (.aload_n 1, 1) := dk_43 (dk_at dksJ11_addLast_0 0 rfl rfl)
theorem dJ11_addLast_1 : decode cJ11_addLast 1 = .ok (.ifnonnull 11, 3) := dk_199 0 11 (dk_at dksJ11_addLast_0 1 rfl rfl)
theorem dJ11_addLast_4 : decode cJ11_addLast 4 = .ok (.new 65, 3) := dk_187 0 65 (dk_at dksJ11_addLast_0 4 rfl rfl)
theorem dJ11_addLast_7 : decode cJ11_addLast 7 = .ok (.dup, 1) := dk_89 (dk_at dksJ11_addLast_0 7 rfl rfl)
theorem dJ11_addLast_8 : decode cJ11_addLast 8 = .ok (.invokespecial 67, 3) := dk_183 0 67 (dk_at dksJ11_addLast_0 8 rfl rfl)
theorem dJ11_addLast_11 : decode cJ11_addLast 11 = .ok (.athrow, 1) := dk_191 (dk_at dksJ11_addLast_0 11 rfl rfl)
theorem dJ11_addLast_12 : decode cJ11_addLast 12 = .ok (.aload_n 0, 1) := dk_42 (dk_at dksJ11_addLast_0 12 rfl rfl)
theorem dJ11_addLast_13 : decode cJ11_addLast 13 = .ok (.getfield 3, 3) := dk_180 0 3 (dk_at dksJ11_addLast_0 13 rfl rfl)
theorem dJ11_addLast_16 : decode cJ11_addLast 16 = .ok (.astore_n 2, 1) := dk_77 (dk_at dksJ11_addLast_0 16 rfl rfl)
theorem dJ11_addLast_17 : decode cJ11_addLast 17 = .ok (.aload_n 2, 1) := dk_44 (dk_at dksJ11_addLast_0 17 rfl rfl)
theorem dJ11_addLast_18 : decode cJ11_addLast 18 = .ok (.aload_n 0, 1) := dk_42 (dk_at dksJ11_addLast_0 18 rfl rfl)
theorem dJ11_addLast_19 : decode cJ11_addLast 19 = .ok (.getfield 20, 3) := dk_180 0 20 (dk_at dksJ11_addLast_0 19 rfl rfl)
theorem dJ11_addLast_22 : decode cJ11_addLast 22 = .ok (.aload_n 1, 1) := dk_43 (dk_at dksJ11_addLast_0 22 rfl rfl)
theorem dJ11_addLast_23 : decode cJ11_addLast 23 = .ok (.aastore, 1) := dk_83 (dk_at dksJ11_addLast_0 23 rfl rfl)
theorem dJ11_addLast_24 : decode cJ11_addLast 24 = .ok (.aload_n 0, 1) := dk_42 (dk_at dksJ11_addLast_1 0 rfl rfl)
theorem dJ11_addLast_25 : decode cJ11_addLast 25 = .ok (.getfield 24, 3) := dk_180 0 24 (dk_at dksJ11_addLast_1 1 rfl rfl)
theorem dJ11_addLast_28 : decode cJ11_addLast 28 = .ok (.aload_n 0, 1) := dk_42 (dk_at dksJ11_addLast_1 4 rfl rfl)
theorem dJ11_addLast_29 : decode cJ11_addLast 29 = .ok (.aload_n 0, 1) := dk_42 (dk_at dksJ11_addLast_1 5 rfl rfl)
theorem dJ11_addLast_30 : decode cJ11_addLast 30 = .ok (.getfield 20, 3) := dk_180 0 20 (dk_at dksJ11_addLast_1 6 rfl rfl)
theorem dJ11_addLast_33 : decode cJ11_addLast 33 = .ok (.aload_n 2, 1) := dk_44 (dk_at dksJ11_addLast_1 9 rfl rfl)
theorem dJ11_addLast_34 : decode cJ11_addLast 34 = .ok (.arraylength, 1) := dk_190 (dk_at dksJ11_addLast_1 10 rfl rfl)
theorem dJ11_addLast_35 : decode cJ11_addLast 35 = .ok (.invokestatic 74, 3) := dk_184 0 74 (dk_at dksJ11_addLast_1 11 rfl rfl)
theorem dJ11_addLast_38 : decode cJ11_addLast 38 = .ok (.dup_x1, 1) := dk_90 (dk_at dksJ11_addLast_1 14 rfl rfl)
theorem dJ11_addLast_39 : decode cJ11_addLast 39 = .ok (.putfield 20, 3) := dk_181 0 20 (dk_at dksJ11_addLast_1 15 rfl rfl)
theorem dJ11_addLast_42 : decode cJ11_addLast 42 = .ok (.if_icmp .ne 8, 3) := dk_160 0 8 (dk_at dksJ11_addLast_1 18 rfl rfl)
theorem dJ11_addLast_45 : decode cJ11_addLast 45 = .ok (.aload_n 0, 1) := dk_42 (dk_at dksJ11_addLast_1 21 rfl rfl)
theorem dJ11_addLast_46 : decode cJ11_addLast 46 = .ok (.iconst 1, 1) := dk_4 (dk_at dksJ11_addLast_1 22 rfl rfl)
theorem dJ11_addLast_47 : decode cJ11_addLast 47 = .ok (.invokevirtual 71, 3) := dk_182 0 71 (dk_at dksJ11_addLast_2 0 rfl rfl)
theorem dJ11_addLast_50 : decode cJ11_addLast 50 = .ok (.return_, 1) := dk_177 (dk_at dksJ11_addLast_2 3 rfl rfl)
abbrev cJ11_grow : ByteArray := prog_55_method_1_code
def yJ11_grow : MethodName := ⟨RJ11, "grow", "(I)V"⟩
def dkwJ11_grow_7 : List UInt8 := [177]
abbrev dktJ11_grow_7 : List UInt8 := dkwJ11_grow_7 ++ []
def dkwJ11_grow_6 : List UInt8 := [181, 0, 24, 54, 8, 21, 7, 21, 8, 162, 0, 15, 25, 5, 21, 7, 1, 83, 132, 7, 1, 167, 255, 240]
abbrev dktJ11_grow_6 : List UInt8 := dkwJ11_grow_6 ++ dktJ11_grow_7
def dkwJ11_grow_5 : List UInt8 := [42, 180, 0, 24, 100, 184, 0, 27, 42, 180, 0, 24, 54, 7, 42, 89, 180, 0, 24, 21, 6, 96, 90]
abbrev dktJ11_grow_5 : List UInt8 := dkwJ11_grow_5 ++ dktJ11_grow_6
def dkwJ11_grow_4 : List UInt8 := [198, 0, 71, 29, 28, 100, 54, 6, 25, 5, 42, 180, 0, 24, 25, 5, 42, 180, 0, 24, 21, 6, 96, 28]
abbrev dktJ11_grow_4 : List UInt8 := dkwJ11_grow_4 ++ dktJ11_grow_5
def dkwJ11_grow_3 : List UInt8 := [180, 0, 24, 161, 0, 24, 42, 180, 0, 20, 42, 180, 0, 24, 160, 0, 81, 25, 5, 42, 180, 0, 24, 50]
abbrev dktJ11_grow_3 : List UInt8 := dkwJ11_grow_3 ++ dktJ11_grow_4
def dkwJ11_grow_2 : List UInt8 := [182, 0, 10, 62, 42, 42, 180, 0, 3, 29, 184, 0, 14, 90, 181, 0, 3, 58, 5, 42, 180, 0, 20, 42]
abbrev dktJ11_grow_2 : List UInt8 := dkwJ11_grow_2 ++ dktJ11_grow_3
def dkwJ11_grow_1 : List UInt8 := [21, 4, 27, 161, 0, 15, 28, 21, 4, 96, 89, 62, 18, 9, 100, 158, 0, 11, 42, 27, 21, 4]
abbrev dktJ11_grow_1 : List UInt8 := dkwJ11_grow_1 ++ dktJ11_grow_2
def dkwJ11_grow_0 : List UInt8 := [42, 180, 0, 3, 190, 61, 28, 16, 64, 162, 0, 9, 28, 5, 96, 167, 0, 6, 28, 4, 122, 54, 4]
abbrev dktJ11_grow_0 : List UInt8 := dkwJ11_grow_0 ++ dktJ11_grow_1
theorem dksJ11_grow_0 : cJ11_grow.data.toList.drop 0 = dktJ11_grow_0 := by decide +kernel
theorem dksJ11_grow_1 : cJ11_grow.data.toList.drop 23 = dktJ11_grow_1 := dk_seg dksJ11_grow_0 23 rfl rfl
theorem dksJ11_grow_2 : cJ11_grow.data.toList.drop 45 = dktJ11_grow_2 := dk_seg dksJ11_grow_1 22 rfl rfl
theorem dksJ11_grow_3 : cJ11_grow.data.toList.drop 69 = dktJ11_grow_3 := dk_seg dksJ11_grow_2 24 rfl rfl
theorem dksJ11_grow_4 : cJ11_grow.data.toList.drop 93 = dktJ11_grow_4 := dk_seg dksJ11_grow_3 24 rfl rfl
theorem dksJ11_grow_5 : cJ11_grow.data.toList.drop 117 = dktJ11_grow_5 := dk_seg dksJ11_grow_4 24 rfl rfl
theorem dksJ11_grow_6 : cJ11_grow.data.toList.drop 140 = dktJ11_grow_6 := dk_seg dksJ11_grow_5 23 rfl rfl
theorem dksJ11_grow_7 : cJ11_grow.data.toList.drop 164 = dktJ11_grow_7 := dk_seg dksJ11_grow_6 24 rfl rfl
theorem dJ11_grow_0 : decode cJ11_grow 0 = .ok (.aload_n 0, 1) := dk_42 (dk_at dksJ11_grow_0 0 rfl rfl)
theorem dJ11_grow_1 : decode cJ11_grow 1 = .ok (.getfield 3, 3) := dk_180 0 3 (dk_at dksJ11_grow_0 1 rfl rfl)
theorem dJ11_grow_4 : decode cJ11_grow 4 = .ok (.arraylength, 1) := dk_190 (dk_at dksJ11_grow_0 4 rfl rfl)
theorem dJ11_grow_5 : decode cJ11_grow 5 = .ok (.istore_n 2, 1) := dk_61 (dk_at dksJ11_grow_0 5 rfl rfl)
theorem dJ11_grow_6 : decode cJ11_grow 6 = .ok (.iload_n 2, 1) := dk_28 (dk_at dksJ11_grow_0 6 rfl rfl)
theorem dJ11_grow_7 : decode cJ11_grow 7 = .ok (.bipush 64, 2) := dk_16 64 (dk_at dksJ11_grow_0 7 rfl rfl)
theorem dJ11_grow_9 : decode cJ11_grow 9 = .ok (.if_icmp .ge 9, 3) := dk_162 0 9 (dk_at dksJ11_grow_0 9 rfl rfl)
theorem dJ11_grow_12 : decode cJ11_grow 12 = .ok (.iload_n 2, 1) := dk_28 (dk_at dksJ11_grow_0 12 rfl rfl)
theorem dJ11_grow_13 : decode cJ11_grow 13 = .ok (.iconst 2, 1) := dk_5 (dk_at dksJ11_grow_0 13 rfl rfl)
theorem dJ11_grow_14 : decode cJ11_grow 14 = .ok (.iadd, 1) := dk_96 (dk_at dksJ11_grow_0 14 rfl rfl)
theorem dJ11_grow_15 : decode cJ11_grow 15 = .ok (.goto 6, 3) := dk_167 0 6 (dk_at dksJ11_grow_0 15 rfl rfl)
theorem dJ11_grow_18 : decode cJ11_grow 18 = .ok (.iload_n 2, 1) := dk_28 (dk_at dksJ11_grow_0 18 rfl rfl)
theorem dJ11_grow_19 : decode cJ11_grow 19 = .ok (.iconst 1, 1) := dk_4 (dk_at dksJ11_grow_0 19 rfl rfl)
theorem dJ11_grow_20 : decode cJ11_grow 20 = .ok (.ishr, 1) := dk_122 (dk_at dksJ11_grow_0 20 rfl rfl)
theorem dJ11_grow_21 : decode cJ11_grow 21 = .ok (.istore 4, 2) := dk_54 4 (dk_at dksJ11_grow_0 21 rfl rfl)
theorem dJ11_grow_23 : decode cJ11_grow 23 = .ok (.iload 4, 2) := dk_21 4 (dk_at dksJ11_grow_1 0 rfl rfl)
theorem dJ11_grow_25 : decode cJ11_grow 25 = .ok (.iload_n 1, 1) := dk_27 (dk_at dksJ11_grow_1 2 rfl rfl)
theorem dJ11_grow_26 : decode cJ11_grow 26 = .ok (.if_icmp .lt 15, 3) := dk_161 0 15 (dk_at dksJ11_grow_1 3 rfl rfl)
theorem dJ11_grow_29 : decode cJ11_grow 29 = .ok (.iload_n 2, 1) := dk_28 (dk_at dksJ11_grow_1 6 rfl rfl)
theorem dJ11_grow_30 : decode cJ11_grow 30 = .ok (.iload 4, 2) := dk_21 4 (dk_at dksJ11_grow_1 7 rfl rfl)
theorem dJ11_grow_32 : decode cJ11_grow 32 = .ok (.iadd, 1) := dk_96 (dk_at dksJ11_grow_1 9 rfl rfl)
theorem dJ11_grow_33 : decode cJ11_grow 33 = .ok (.dup, 1) := dk_89 (dk_at dksJ11_grow_1 10 rfl rfl)
theorem dJ11_grow_34 : decode cJ11_grow 34 = .ok (.istore_n 3, 1) := dk_62 (dk_at dksJ11_grow_1 11 rfl rfl)
theorem dJ11_grow_35 : decode cJ11_grow 35 = .ok (.ldc 9, 2) := dk_18 9 (dk_at dksJ11_grow_1 12 rfl rfl)
theorem dJ11_grow_37 : decode cJ11_grow 37 = .ok (.isub, 1) := dk_100 (dk_at dksJ11_grow_1 14 rfl rfl)
theorem dJ11_grow_38 : decode cJ11_grow 38 = .ok (.ifCond .le 11, 3) := dk_158 0 11 (dk_at dksJ11_grow_1 15 rfl rfl)
theorem dJ11_grow_41 : decode cJ11_grow 41 = .ok (.aload_n 0, 1) := dk_42 (dk_at dksJ11_grow_1 18 rfl rfl)
theorem dJ11_grow_42 : decode cJ11_grow 42 = .ok (.iload_n 1, 1) := dk_27 (dk_at dksJ11_grow_1 19 rfl rfl)
theorem dJ11_grow_43 : decode cJ11_grow 43 = .ok (.iload 4, 2) := dk_21 4 (dk_at dksJ11_grow_1 20 rfl rfl)
theorem dJ11_grow_45 : decode cJ11_grow 45 = .ok (.invokevirtual 10, 3) := dk_182 0 10 (dk_at dksJ11_grow_2 0 rfl rfl)
theorem dJ11_grow_48 : decode cJ11_grow 48 = .ok (.istore_n 3, 1) := dk_62 (dk_at dksJ11_grow_2 3 rfl rfl)
theorem dJ11_grow_49 : decode cJ11_grow 49 = .ok (.aload_n 0, 1) := dk_42 (dk_at dksJ11_grow_2 4 rfl rfl)
theorem dJ11_grow_50 : decode cJ11_grow 50 = .ok (.aload_n 0, 1) := dk_42 (dk_at dksJ11_grow_2 5 rfl rfl)
theorem dJ11_grow_51 : decode cJ11_grow 51 = .ok (.getfield 3, 3) := dk_180 0 3 (dk_at dksJ11_grow_2 6 rfl rfl)
theorem dJ11_grow_54 : decode cJ11_grow 54 = .ok (.iload_n 3, 1) := dk_29 (dk_at dksJ11_grow_2 9 rfl rfl)
theorem dJ11_grow_55 : decode cJ11_grow 55 = .ok (.invokestatic 14, 3) := dk_184 0 14 (dk_at dksJ11_grow_2 10 rfl rfl)
theorem dJ11_grow_58 : decode cJ11_grow 58 = .ok (.dup_x1, 1) := dk_90 (dk_at dksJ11_grow_2 13 rfl rfl)
theorem dJ11_grow_59 : decode cJ11_grow 59 = .ok (.putfield 3, 3) := dk_181 0 3 (dk_at dksJ11_grow_2 14 rfl rfl)
theorem dJ11_grow_62 : decode cJ11_grow 62 = .ok (.astore 5, 2) := dk_58 5 (dk_at dksJ11_grow_2 17 rfl rfl)
theorem dJ11_grow_64 : decode cJ11_grow 64 = .ok (.aload_n 0, 1) := dk_42 (dk_at dksJ11_grow_2 19 rfl rfl)
theorem dJ11_grow_65 : decode cJ11_grow 65 = .ok (.getfield 20, 3) := dk_180 0 20 (dk_at dksJ11_grow_2 20 rfl rfl)
theorem dJ11_grow_68 : decode cJ11_grow 68 = .ok (.aload_n 0, 1) := dk_42 (dk_at dksJ11_grow_2 23 rfl rfl)
theorem dJ11_grow_69 : decode cJ11_grow 69 = .ok (.getfield 24, 3) := dk_180 0 24 (dk_at dksJ11_grow_3 0 rfl rfl)
theorem dJ11_grow_72 : decode cJ11_grow 72 = .ok (.if_icmp .lt 24, 3) := dk_161 0 24 (dk_at dksJ11_grow_3 3 rfl rfl)
theorem dJ11_grow_75 : decode cJ11_grow 75 = .ok (.aload_n 0, 1) := dk_42 (dk_at dksJ11_grow_3 6 rfl rfl)
theorem dJ11_grow_76 : decode cJ11_grow 76 = .ok (.getfield 20, 3) := dk_180 0 20 (dk_at dksJ11_grow_3 7 rfl rfl)
theorem dJ11_grow_79 : decode cJ11_grow 79 = .ok (.aload_n 0, 1) := dk_42 (dk_at dksJ11_grow_3 10 rfl rfl)
theorem dJ11_grow_80 : decode cJ11_grow 80 = .ok (.getfield 24, 3) := dk_180 0 24 (dk_at dksJ11_grow_3 11 rfl rfl)
theorem dJ11_grow_83 : decode cJ11_grow 83 = .ok (.if_icmp .ne 81, 3) := dk_160 0 81 (dk_at dksJ11_grow_3 14 rfl rfl)
theorem dJ11_grow_86 : decode cJ11_grow 86 = .ok (.aload 5, 2) := dk_25 5 (dk_at dksJ11_grow_3 17 rfl rfl)
theorem dJ11_grow_88 : decode cJ11_grow 88 = .ok (.aload_n 0, 1) := dk_42 (dk_at dksJ11_grow_3 19 rfl rfl)
theorem dJ11_grow_89 : decode cJ11_grow 89 = .ok (.getfield 24, 3) := dk_180 0 24 (dk_at dksJ11_grow_3 20 rfl rfl)
theorem dJ11_grow_92 : decode cJ11_grow 92 = .ok (.aaload, 1) := dk_50 (dk_at dksJ11_grow_3 23 rfl rfl)
theorem dJ11_grow_93 : decode cJ11_grow 93 = .ok (.ifnull 71, 3) := dk_198 0 71 (dk_at dksJ11_grow_4 0 rfl rfl)
theorem dJ11_grow_96 : decode cJ11_grow 96 = .ok (.iload_n 3, 1) := dk_29 (dk_at dksJ11_grow_4 3 rfl rfl)
theorem dJ11_grow_97 : decode cJ11_grow 97 = .ok (.iload_n 2, 1) := dk_28 (dk_at dksJ11_grow_4 4 rfl rfl)
theorem dJ11_grow_98 : decode cJ11_grow 98 = .ok (.isub, 1) := dk_100 (dk_at dksJ11_grow_4 5 rfl rfl)
theorem dJ11_grow_99 : decode cJ11_grow 99 = .ok (.istore 6, 2) := dk_54 6 (dk_at dksJ11_grow_4 6 rfl rfl)
theorem dJ11_grow_101 : decode cJ11_grow 101 = .ok (.aload 5, 2) := dk_25 5 (dk_at dksJ11_grow_4 8 rfl rfl)
theorem dJ11_grow_103 : decode cJ11_grow 103 = .ok (.aload_n 0, 1) := dk_42 (dk_at dksJ11_grow_4 10 rfl rfl)
theorem dJ11_grow_104 : decode cJ11_grow 104 = .ok (.getfield 24, 3) := dk_180 0 24 (dk_at dksJ11_grow_4 11 rfl rfl)
theorem dJ11_grow_107 : decode cJ11_grow 107 = .ok (.aload 5, 2) := dk_25 5 (dk_at dksJ11_grow_4 14 rfl rfl)
theorem dJ11_grow_109 : decode cJ11_grow 109 = .ok (.aload_n 0, 1) := dk_42 (dk_at dksJ11_grow_4 16 rfl rfl)
theorem dJ11_grow_110 : decode cJ11_grow 110 = .ok (.getfield 24, 3) := dk_180 0 24 (dk_at dksJ11_grow_4 17 rfl rfl)
theorem dJ11_grow_113 : decode cJ11_grow 113 = .ok (.iload 6, 2) := dk_21 6 (dk_at dksJ11_grow_4 20 rfl rfl)
theorem dJ11_grow_115 : decode cJ11_grow 115 = .ok (.iadd, 1) := dk_96 (dk_at dksJ11_grow_4 22 rfl rfl)
theorem dJ11_grow_116 : decode cJ11_grow 116 = .ok (.iload_n 2, 1) := dk_28 (dk_at dksJ11_grow_4 23 rfl rfl)
theorem dJ11_grow_117 : decode cJ11_grow 117 = .ok (.aload_n 0, 1) := dk_42 (dk_at dksJ11_grow_5 0 rfl rfl)
theorem dJ11_grow_118 : decode cJ11_grow 118 = .ok (.getfield 24, 3) := dk_180 0 24 (dk_at dksJ11_grow_5 1 rfl rfl)
theorem dJ11_grow_121 : decode cJ11_grow 121 = .ok (.isub, 1) := dk_100 (dk_at dksJ11_grow_5 4 rfl rfl)
theorem dJ11_grow_122 : decode cJ11_grow 122 = .ok (.invokestatic 27, 3) := dk_184 0 27 (dk_at dksJ11_grow_5 5 rfl rfl)
theorem dJ11_grow_125 : decode cJ11_grow 125 = .ok (.aload_n 0, 1) := dk_42 (dk_at dksJ11_grow_5 8 rfl rfl)
theorem dJ11_grow_126 : decode cJ11_grow 126 = .ok (.getfield 24, 3) := dk_180 0 24 (dk_at dksJ11_grow_5 9 rfl rfl)
theorem dJ11_grow_129 : decode cJ11_grow 129 = .ok (.istore 7, 2) := dk_54 7 (dk_at dksJ11_grow_5 12 rfl rfl)
theorem dJ11_grow_131 : decode cJ11_grow 131 = .ok (.aload_n 0, 1) := dk_42 (dk_at dksJ11_grow_5 14 rfl rfl)
theorem dJ11_grow_132 : decode cJ11_grow 132 = .ok (.dup, 1) := dk_89 (dk_at dksJ11_grow_5 15 rfl rfl)
theorem dJ11_grow_133 : decode cJ11_grow 133 = .ok (.getfield 24, 3) := dk_180 0 24 (dk_at dksJ11_grow_5 16 rfl rfl)
theorem dJ11_grow_136 : decode cJ11_grow 136 = .ok (.iload 6, 2) := dk_21 6 (dk_at dksJ11_grow_5 19 rfl rfl)
theorem dJ11_grow_138 : decode cJ11_grow 138 = .ok (.iadd, 1) := dk_96 (dk_at dksJ11_grow_5 21 rfl rfl)
theorem dJ11_grow_139 : decode cJ11_grow 139 = .ok (.dup_x1, 1) := dk_90 (dk_at dksJ11_grow_5 22 rfl rfl)
theorem dJ11_grow_140 : decode cJ11_grow 140 = .ok (.putfield 24, 3) := dk_181 0 24 (dk_at dksJ11_grow_6 0 rfl rfl)
theorem dJ11_grow_143 : decode cJ11_grow 143 = .ok (.istore 8, 2) := dk_54 8 (dk_at dksJ11_grow_6 3 rfl rfl)
theorem dJ11_grow_145 : decode cJ11_grow 145 = .ok (.iload 7, 2) := dk_21 7 (dk_at dksJ11_grow_6 5 rfl rfl)
theorem dJ11_grow_147 : decode cJ11_grow 147 = .ok (.iload 8, 2) := dk_21 8 (dk_at dksJ11_grow_6 7 rfl rfl)
theorem dJ11_grow_149 : decode cJ11_grow 149 = .ok (.if_icmp .ge 15, 3) := dk_162 0 15 (dk_at dksJ11_grow_6 9 rfl rfl)
theorem dJ11_grow_152 : decode cJ11_grow 152 = .ok (.aload 5, 2) := dk_25 5 (dk_at dksJ11_grow_6 12 rfl rfl)
theorem dJ11_grow_154 : decode cJ11_grow 154 = .ok (.iload 7, 2) := dk_21 7 (dk_at dksJ11_grow_6 14 rfl rfl)
theorem dJ11_grow_156 : decode cJ11_grow 156 = .ok (.aconst_null, 1) := dk_1 (dk_at dksJ11_grow_6 16 rfl rfl)
theorem dJ11_grow_157 : decode cJ11_grow 157 = .ok (.aastore, 1) := dk_83 (dk_at dksJ11_grow_6 17 rfl rfl)
theorem dJ11_grow_158 : decode cJ11_grow 158 = .ok (.iinc 7 1, 3) := dk_132 7 1 (dk_at dksJ11_grow_6 18 rfl rfl)
theorem dJ11_grow_161 : decode cJ11_grow 161 = .ok (.goto (-16), 3) := dk_167 255 240 (dk_at dksJ11_grow_6 21 rfl rfl)
theorem dJ11_grow_164 : decode cJ11_grow 164 = .ok (.return_, 1) := dk_177 (dk_at dksJ11_grow_7 0 rfl rfl)
abbrev cJ11_newCapacity : ByteArray := prog_55_method_2_code
def yJ11_newCapacity : MethodName := ⟨RJ11, "newCapacity", "(II)I"⟩
def dkwJ11_newCapacity_2 : List UInt8 := [18, 9, 100, 156, 0, 9, 29, 28, 96, 167, 0, 5, 18, 9, 172]
abbrev dktJ11_newCapacity_2 : List UInt8 := dkwJ11_newCapacity_2 ++ []
def dkwJ11_newCapacity_1 : List UInt8 := [187, 0, 33, 89, 18, 35, 183, 0, 37, 191, 18, 41, 172, 27, 28, 164, 0, 6, 21, 4, 172, 29, 28, 96]
abbrev dktJ11_newCapacity_1 : List UInt8 := dkwJ11_newCapacity_1 ++ dktJ11_newCapacity_2
def dkwJ11_newCapacity_0 : List UInt8 := [42, 180, 0, 3, 190, 62, 29, 27, 96, 89, 54, 4, 18, 9, 100, 158, 0, 21, 21, 4, 156, 0, 13]
abbrev dktJ11_newCapacity_0 : List UInt8 := dkwJ11_newCapacity_0 ++ dktJ11_newCapacity_1
theorem dksJ11_newCapacity_0 : cJ11_newCapacity.data.toList.drop 0 = dktJ11_newCapacity_0 := by decide +kernel
theorem dksJ11_newCapacity_1 : cJ11_newCapacity.data.toList.drop 23 = dktJ11_newCapacity_1 := dk_seg dksJ11_newCapacity_0 23 rfl rfl
theorem dksJ11_newCapacity_2 : cJ11_newCapacity.data.toList.drop 47 = dktJ11_newCapacity_2 := dk_seg dksJ11_newCapacity_1 24 rfl rfl
theorem dJ11_newCapacity_0 : decode cJ11_newCapacity 0 = .ok (.aload_n 0, 1) := dk_42 (dk_at dksJ11_newCapacity_0 0 rfl rfl)
theorem dJ11_newCapacity_1 : decode cJ11_newCapacity 1 = .ok (.getfield 3, 3) := dk_180 0 3 (dk_at dksJ11_newCapacity_0 1 rfl rfl)
theorem dJ11_newCapacity_4 : decode cJ11_newCapacity 4 = .ok (.arraylength, 1) := dk_190 (dk_at dksJ11_newCapacity_0 4 rfl rfl)
theorem dJ11_newCapacity_5 : decode cJ11_newCapacity 5 = .ok (.istore_n 3, 1) := dk_62 (dk_at dksJ11_newCapacity_0 5 rfl rfl)
theorem dJ11_newCapacity_6 : decode cJ11_newCapacity 6 = .ok (.iload_n 3, 1) := dk_29 (dk_at dksJ11_newCapacity_0 6 rfl rfl)
theorem dJ11_newCapacity_7 : decode cJ11_newCapacity 7 = .ok (.iload_n 1, 1) := dk_27 (dk_at dksJ11_newCapacity_0 7 rfl rfl)
theorem dJ11_newCapacity_8 : decode cJ11_newCapacity 8 = .ok (.iadd, 1) := dk_96 (dk_at dksJ11_newCapacity_0 8 rfl rfl)
theorem dJ11_newCapacity_9 : decode cJ11_newCapacity 9 = .ok (.dup, 1) := dk_89 (dk_at dksJ11_newCapacity_0 9 rfl rfl)
theorem dJ11_newCapacity_10 : decode cJ11_newCapacity 10 = .ok (.istore 4, 2) := dk_54 4 (dk_at dksJ11_newCapacity_0 10 rfl rfl)
theorem dJ11_newCapacity_12 : decode cJ11_newCapacity 12 = .ok (.ldc 9, 2) := dk_18 9 (dk_at dksJ11_newCapacity_0 12 rfl rfl)
theorem dJ11_newCapacity_14 : decode cJ11_newCapacity 14 = .ok (.isub, 1) := dk_100 (dk_at dksJ11_newCapacity_0 14 rfl rfl)
theorem dJ11_newCapacity_15 : decode cJ11_newCapacity 15 = .ok (.ifCond .le 21, 3) := dk_158 0 21 (dk_at dksJ11_newCapacity_0 15 rfl rfl)
theorem dJ11_newCapacity_18 : decode cJ11_newCapacity 18 = .ok (.iload 4, 2) := dk_21 4 (dk_at dksJ11_newCapacity_0 18 rfl rfl)
theorem dJ11_newCapacity_20 : decode cJ11_newCapacity 20 = .ok (.ifCond .ge 13, 3) := dk_156 0 13 (dk_at dksJ11_newCapacity_0 20 rfl rfl)
theorem dJ11_newCapacity_23 : decode cJ11_newCapacity 23 = .ok (.new 33, 3) := dk_187 0 33 (dk_at dksJ11_newCapacity_1 0 rfl rfl)
theorem dJ11_newCapacity_26 : decode cJ11_newCapacity 26 = .ok (.dup, 1) := dk_89 (dk_at dksJ11_newCapacity_1 3 rfl rfl)
theorem dJ11_newCapacity_27 : decode cJ11_newCapacity 27 = .ok (.ldc 35, 2) := dk_18 35 (dk_at dksJ11_newCapacity_1 4 rfl rfl)
theorem dJ11_newCapacity_29 : decode cJ11_newCapacity 29 = .ok (.invokespecial 37, 3) := dk_183 0 37 (dk_at dksJ11_newCapacity_1 6 rfl rfl)
theorem dJ11_newCapacity_32 : decode cJ11_newCapacity 32 = .ok (.athrow, 1) := dk_191 (dk_at dksJ11_newCapacity_1 9 rfl rfl)
theorem dJ11_newCapacity_33 : decode cJ11_newCapacity 33 = .ok (.ldc 41, 2) := dk_18 41 (dk_at dksJ11_newCapacity_1 10 rfl rfl)
theorem dJ11_newCapacity_35 : decode cJ11_newCapacity 35 = .ok (.ireturn, 1) := dk_172 (dk_at dksJ11_newCapacity_1 12 rfl rfl)
theorem dJ11_newCapacity_36 : decode cJ11_newCapacity 36 = .ok (.iload_n 1, 1) := dk_27 (dk_at dksJ11_newCapacity_1 13 rfl rfl)
theorem dJ11_newCapacity_37 : decode cJ11_newCapacity 37 = .ok (.iload_n 2, 1) := dk_28 (dk_at dksJ11_newCapacity_1 14 rfl rfl)
theorem dJ11_newCapacity_38 : decode cJ11_newCapacity 38 = .ok (.if_icmp .le 6, 3) := dk_164 0 6 (dk_at dksJ11_newCapacity_1 15 rfl rfl)
theorem dJ11_newCapacity_41 : decode cJ11_newCapacity 41 = .ok (.iload 4, 2) := dk_21 4 (dk_at dksJ11_newCapacity_1 18 rfl rfl)
theorem dJ11_newCapacity_43 : decode cJ11_newCapacity 43 = .ok (.ireturn, 1) := dk_172 (dk_at dksJ11_newCapacity_1 20 rfl rfl)
theorem dJ11_newCapacity_44 : decode cJ11_newCapacity 44 = .ok (.iload_n 3, 1) := dk_29 (dk_at dksJ11_newCapacity_1 21 rfl rfl)
theorem dJ11_newCapacity_45 : decode cJ11_newCapacity 45 = .ok (.iload_n 2, 1) := dk_28 (dk_at dksJ11_newCapacity_1 22 rfl rfl)
theorem dJ11_newCapacity_46 : decode cJ11_newCapacity 46 = .ok (.iadd, 1) := dk_96 (dk_at dksJ11_newCapacity_1 23 rfl rfl)
theorem dJ11_newCapacity_47 : decode cJ11_newCapacity 47 = .ok (.ldc 9, 2) := dk_18 9 (dk_at dksJ11_newCapacity_2 0 rfl rfl)
theorem dJ11_newCapacity_49 : decode cJ11_newCapacity 49 = .ok (.isub, 1) := dk_100 (dk_at dksJ11_newCapacity_2 2 rfl rfl)
theorem dJ11_newCapacity_50 : decode cJ11_newCapacity 50 = .ok (.ifCond .ge 9, 3) := dk_156 0 9 (dk_at dksJ11_newCapacity_2 3 rfl rfl)
theorem dJ11_newCapacity_53 : decode cJ11_newCapacity 53 = .ok (.iload_n 3, 1) := dk_29 (dk_at dksJ11_newCapacity_2 6 rfl rfl)
theorem dJ11_newCapacity_54 : decode cJ11_newCapacity 54 = .ok (.iload_n 2, 1) := dk_28 (dk_at dksJ11_newCapacity_2 7 rfl rfl)
theorem dJ11_newCapacity_55 : decode cJ11_newCapacity 55 = .ok (.iadd, 1) := dk_96 (dk_at dksJ11_newCapacity_2 8 rfl rfl)
theorem dJ11_newCapacity_56 : decode cJ11_newCapacity 56 = .ok (.goto 5, 3) := dk_167 0 5 (dk_at dksJ11_newCapacity_2 9 rfl rfl)
theorem dJ11_newCapacity_59 : decode cJ11_newCapacity 59 = .ok (.ldc 9, 2) := dk_18 9 (dk_at dksJ11_newCapacity_2 12 rfl rfl)
theorem dJ11_newCapacity_61 : decode cJ11_newCapacity 61 = .ok (.ireturn, 1) := dk_172 (dk_at dksJ11_newCapacity_2 14 rfl rfl)
abbrev cJ11_peekFirst : ByteArray := prog_55_method_24_code
def yJ11_peekFirst : MethodName := ⟨RJ11, "peekFirst", "()Ljava/lang/Object;"⟩
def dkwJ11_peekFirst_0 : List UInt8 := [42, 180, 0, 3, 42, 180, 0, 24, 184, 0, 103, 176]
abbrev dktJ11_peekFirst_0 : List UInt8 := dkwJ11_peekFirst_0 ++ []
theorem dksJ11_peekFirst_0 : cJ11_peekFirst.data.toList.drop 0 = dktJ11_peekFirst_0 := by decide +kernel
theorem dJ11_peekFirst_0 : decode cJ11_peekFirst 0 = .ok (.aload_n 0, 1) := dk_42 (dk_at dksJ11_peekFirst_0 0 rfl rfl)
theorem dJ11_peekFirst_1 : decode cJ11_peekFirst 1 = .ok (.getfield 3, 3) := dk_180 0 3 (dk_at dksJ11_peekFirst_0 1 rfl rfl)
theorem dJ11_peekFirst_4 : decode cJ11_peekFirst 4 = .ok (.aload_n 0, 1) := dk_42 (dk_at dksJ11_peekFirst_0 4 rfl rfl)
theorem dJ11_peekFirst_5 : decode cJ11_peekFirst 5 = .ok (.getfield 24, 3) := dk_180 0 24 (dk_at dksJ11_peekFirst_0 5 rfl rfl)
theorem dJ11_peekFirst_8 : decode cJ11_peekFirst 8 = .ok (.invokestatic 103, 3) := dk_184 0 103 (dk_at dksJ11_peekFirst_0 8 rfl rfl)
theorem dJ11_peekFirst_11 : decode cJ11_peekFirst 11 = .ok (.areturn, 1) := dk_176 (dk_at dksJ11_peekFirst_0 11 rfl rfl)
abbrev cJ11_elementAt : ByteArray := prog_55_method_10_code
def yJ11_elementAt : MethodName := ⟨RJ11, "elementAt", "([Ljava/lang/Object;I)Ljava/lang/Object;"⟩
def dkwJ11_elementAt_0 : List UInt8 := [42, 27, 50, 176]
abbrev dktJ11_elementAt_0 : List UInt8 := dkwJ11_elementAt_0 ++ []
theorem dksJ11_elementAt_0 : cJ11_elementAt.data.toList.drop 0 = dktJ11_elementAt_0 := by decide +kernel
theorem dJ11_elementAt_0 : decode cJ11_elementAt 0 = .ok (.aload_n 0, 1) := dk_42 (dk_at dksJ11_elementAt_0 0 rfl rfl)
theorem dJ11_elementAt_1 : decode cJ11_elementAt 1 = .ok (.iload_n 1, 1) := dk_27 (dk_at dksJ11_elementAt_0 1 rfl rfl)
theorem dJ11_elementAt_2 : decode cJ11_elementAt 2 = .ok (.aaload, 1) := dk_50 (dk_at dksJ11_elementAt_0 2 rfl rfl)
theorem dJ11_elementAt_3 : decode cJ11_elementAt 3 = .ok (.areturn, 1) := dk_176 (dk_at dksJ11_elementAt_0 3 rfl rfl)
abbrev cJ11_removeFirst : ByteArray := prog_55_method_18_code
def yJ11_removeFirst : MethodName := ⟨RJ11, "removeFirst", "()Ljava/lang/Object;"⟩
def dkwJ11_removeFirst_0 : List UInt8 := [42, 182, 0, 93, 76, 43, 199, 0, 11, 187, 0, 97, 89, 183, 0, 99, 191, 43, 176]
abbrev dktJ11_removeFirst_0 : List UInt8 := dkwJ11_removeFirst_0 ++ []
theorem dksJ11_removeFirst_0 : cJ11_removeFirst.data.toList.drop 0 = dktJ11_removeFirst_0 := by decide +kernel
theorem dJ11_removeFirst_0 : decode cJ11_removeFirst 0 = .ok (.aload_n 0, 1) := dk_42 (dk_at dksJ11_removeFirst_0 0 rfl rfl)
theorem dJ11_removeFirst_1 : decode cJ11_removeFirst 1 = .ok (.invokevirtual 93, 3) := dk_182 0 93 (dk_at dksJ11_removeFirst_0 1 rfl rfl)
theorem dJ11_removeFirst_4 : decode cJ11_removeFirst 4 = .ok (.astore_n 1, 1) := dk_76 (dk_at dksJ11_removeFirst_0 4 rfl rfl)
theorem dJ11_removeFirst_5 : decode cJ11_removeFirst 5 = .ok (.aload_n 1, 1) := dk_43 (dk_at dksJ11_removeFirst_0 5 rfl rfl)
theorem dJ11_removeFirst_6 : decode cJ11_removeFirst 6 = .ok (.ifnonnull 11, 3) := dk_199 0 11 (dk_at dksJ11_removeFirst_0 6 rfl rfl)
theorem dJ11_removeFirst_9 : decode cJ11_removeFirst 9 = .ok (.new 97, 3) := dk_187 0 97 (dk_at dksJ11_removeFirst_0 9 rfl rfl)
theorem dJ11_removeFirst_12 : decode cJ11_removeFirst 12 = .ok (.dup, 1) := dk_89 (dk_at dksJ11_removeFirst_0 12 rfl rfl)
theorem dJ11_removeFirst_13 : decode cJ11_removeFirst 13 = .ok (.invokespecial 99, 3) := dk_183 0 99 (dk_at dksJ11_removeFirst_0 13 rfl rfl)
theorem dJ11_removeFirst_16 : decode cJ11_removeFirst 16 = .ok (.athrow, 1) := dk_191 (dk_at dksJ11_removeFirst_0 16 rfl rfl)
theorem dJ11_removeFirst_17 : decode cJ11_removeFirst 17 = .ok (.aload_n 1, 1) := dk_43 (dk_at dksJ11_removeFirst_0 17 rfl rfl)
theorem dJ11_removeFirst_18 : decode cJ11_removeFirst 18 = .ok (.areturn, 1) := dk_176 (dk_at dksJ11_removeFirst_0 18 rfl rfl)
abbrev cJ11_pollFirst : ByteArray := prog_55_method_20_code
def yJ11_pollFirst : MethodName := ⟨RJ11, "pollFirst", "()Ljava/lang/Object;"⟩
def dkwJ11_pollFirst_1 : List UInt8 := [42, 28, 43, 190, 184, 0, 74, 181, 0, 24, 45, 176]
abbrev dktJ11_pollFirst_1 : List UInt8 := dkwJ11_pollFirst_1 ++ []
def dkwJ11_pollFirst_0 : List UInt8 := [42, 180, 0, 3, 89, 76, 42, 180, 0, 24, 89, 61, 184, 0, 103, 78, 45, 198, 0, 17, 43, 28, 1, 83]
abbrev dktJ11_pollFirst_0 : List UInt8 := dkwJ11_pollFirst_0 ++ dktJ11_pollFirst_1
theorem dksJ11_pollFirst_0 : cJ11_pollFirst.data.toList.drop 0 = dktJ11_pollFirst_0 := by decide +kernel
theorem dksJ11_pollFirst_1 : cJ11_pollFirst.data.toList.drop 24 = dktJ11_pollFirst_1 := dk_seg dksJ11_pollFirst_0 24 rfl rfl
theorem dJ11_pollFirst_0 : decode cJ11_pollFirst 0 = .ok (.aload_n 0, 1) := dk_42 (dk_at dksJ11_pollFirst_0 0 rfl rfl)
theorem dJ11_pollFirst_1 : decode cJ11_pollFirst 1 = .ok (.getfield 3, 3) := dk_180 0 3 (dk_at dksJ11_pollFirst_0 1 rfl rfl)
theorem dJ11_pollFirst_4 : decode cJ11_pollFirst 4 = .ok (.dup, 1) := dk_89 (dk_at dksJ11_pollFirst_0 4 rfl rfl)
theorem dJ11_pollFirst_5 : decode cJ11_pollFirst 5 = .ok (.astore_n 1, 1) := dk_76 (dk_at dksJ11_pollFirst_0 5 rfl rfl)
theorem dJ11_pollFirst_6 : decode cJ11_pollFirst 6 = .ok (.aload_n 0, 1) := dk_42 (dk_at dksJ11_pollFirst_0 6 rfl rfl)
theorem dJ11_pollFirst_7 : decode cJ11_pollFirst 7 = .ok (.getfield 24, 3) := dk_180 0 24 (dk_at dksJ11_pollFirst_0 7 rfl rfl)
theorem dJ11_pollFirst_10 : decode cJ11_pollFirst 10 = .ok (.dup, 1) := dk_89 (dk_at dksJ11_pollFirst_0 10 rfl rfl)
theorem dJ11_pollFirst_11 : decode cJ11_pollFirst 11 = .ok (.istore_n 2, 1) := dk_61 (dk_at dksJ11_pollFirst_0 11 rfl rfl)
theorem dJ11_pollFirst_12 : decode cJ11_pollFirst 12 = .ok (.invokestatic 103, 3) := dk_184 0 103 (dk_at dksJ11_pollFirst_0 12 rfl rfl)
theorem dJ11_pollFirst_15 : decode cJ11_pollFirst 15 = .ok (.astore_n 3, 1) := dk_78 (dk_at dksJ11_pollFirst_0 15 rfl rfl)
theorem dJ11_pollFirst_16 : decode cJ11_pollFirst 16 = .ok (.aload_n 3, 1) := dk_45 (dk_at dksJ11_pollFirst_0 16 rfl rfl)
theorem dJ11_pollFirst_17 : decode cJ11_pollFirst 17 = .ok (.ifnull 17, 3) := dk_198 0 17 (dk_at dksJ11_pollFirst_0 17 rfl rfl)
theorem dJ11_pollFirst_20 : decode cJ11_pollFirst 20 = .ok (.aload_n 1, 1) := dk_43 (dk_at dksJ11_pollFirst_0 20 rfl rfl)
theorem dJ11_pollFirst_21 : decode cJ11_pollFirst 21 = .ok (.iload_n 2, 1) := dk_28 (dk_at dksJ11_pollFirst_0 21 rfl rfl)
theorem dJ11_pollFirst_22 : decode cJ11_pollFirst 22 = .ok (.aconst_null, 1) := dk_1 (dk_at dksJ11_pollFirst_0 22 rfl rfl)
theorem dJ11_pollFirst_23 : decode cJ11_pollFirst 23 = .ok (.aastore, 1) := dk_83 (dk_at dksJ11_pollFirst_0 23 rfl rfl)
theorem dJ11_pollFirst_24 : decode cJ11_pollFirst 24 = .ok (.aload_n 0, 1) := dk_42 (dk_at dksJ11_pollFirst_1 0 rfl rfl)
theorem dJ11_pollFirst_25 : decode cJ11_pollFirst 25 = .ok (.iload_n 2, 1) := dk_28 (dk_at dksJ11_pollFirst_1 1 rfl rfl)
theorem dJ11_pollFirst_26 : decode cJ11_pollFirst 26 = .ok (.aload_n 1, 1) := dk_43 (dk_at dksJ11_pollFirst_1 2 rfl rfl)
theorem dJ11_pollFirst_27 : decode cJ11_pollFirst 27 = .ok (.arraylength, 1) := dk_190 (dk_at dksJ11_pollFirst_1 3 rfl rfl)
theorem dJ11_pollFirst_28 : decode cJ11_pollFirst 28 = .ok (.invokestatic 74, 3) := dk_184 0 74 (dk_at dksJ11_pollFirst_1 4 rfl rfl)
theorem dJ11_pollFirst_31 : decode cJ11_pollFirst 31 = .ok (.putfield 24, 3) := dk_181 0 24 (dk_at dksJ11_pollFirst_1 7 rfl rfl)
theorem dJ11_pollFirst_34 : decode cJ11_pollFirst 34 = .ok (.aload_n 3, 1) := dk_45 (dk_at dksJ11_pollFirst_1 10 rfl rfl)
theorem dJ11_pollFirst_35 : decode cJ11_pollFirst 35 = .ok (.areturn, 1) := dk_176 (dk_at dksJ11_pollFirst_1 11 rfl rfl)
abbrev cJ11_iterator : ByteArray := prog_55_method_39_code
def yJ11_iterator : MethodName := ⟨RJ11, "iterator", "()Ljava/util/Iterator;"⟩
def dkwJ11_iterator_0 : List UInt8 := [187, 0, 131, 89, 42, 183, 0, 133, 176]
abbrev dktJ11_iterator_0 : List UInt8 := dkwJ11_iterator_0 ++ []
theorem dksJ11_iterator_0 : cJ11_iterator.data.toList.drop 0 = dktJ11_iterator_0 := by decide +kernel
theorem dJ11_iterator_0 : decode cJ11_iterator 0 = .ok (.new 131, 3) := dk_187 0 131 (dk_at dksJ11_iterator_0 0 rfl rfl)
theorem dJ11_iterator_3 : decode cJ11_iterator 3 = .ok (.dup, 1) := dk_89 (dk_at dksJ11_iterator_0 3 rfl rfl)
theorem dJ11_iterator_4 : decode cJ11_iterator 4 = .ok (.aload_n 0, 1) := dk_42 (dk_at dksJ11_iterator_0 4 rfl rfl)
theorem dJ11_iterator_5 : decode cJ11_iterator 5 = .ok (.invokespecial 133, 3) := dk_183 0 133 (dk_at dksJ11_iterator_0 5 rfl rfl)
theorem dJ11_iterator_8 : decode cJ11_iterator 8 = .ok (.areturn, 1) := dk_176 (dk_at dksJ11_iterator_0 8 rfl rfl)
abbrev cJ11_isEmpty : ByteArray := prog_55_method_38_code
def yJ11_isEmpty : MethodName := ⟨RJ11, "isEmpty", "()Z"⟩
def dkwJ11_isEmpty_0 : List UInt8 := [42, 180, 0, 24, 42, 180, 0, 20, 160, 0, 7, 4, 167, 0, 4, 3, 172]
abbrev dktJ11_isEmpty_0 : List UInt8 := dkwJ11_isEmpty_0 ++ []
theorem dksJ11_isEmpty_0 : cJ11_isEmpty.data.toList.drop 0 = dktJ11_isEmpty_0 := by decide +kernel
theorem dJ11_isEmpty_0 : decode cJ11_isEmpty 0 = .ok (.aload_n 0, 1) := dk_42 (dk_at dksJ11_isEmpty_0 0 rfl rfl)
theorem dJ11_isEmpty_1 : decode cJ11_isEmpty 1 = .ok (.getfield 24, 3) := dk_180 0 24 (dk_at dksJ11_isEmpty_0 1 rfl rfl)
theorem dJ11_isEmpty_4 : decode cJ11_isEmpty 4 = .ok (.aload_n 0, 1) := dk_42 (dk_at dksJ11_isEmpty_0 4 rfl rfl)
theorem dJ11_isEmpty_5 : decode cJ11_isEmpty 5 = .ok (.getfield 20, 3) := dk_180 0 20 (dk_at dksJ11_isEmpty_0 5 rfl rfl)
theorem dJ11_isEmpty_8 : decode cJ11_isEmpty 8 = .ok (.if_icmp .ne 7, 3) := dk_160 0 7 (dk_at dksJ11_isEmpty_0 8 rfl rfl)
theorem dJ11_isEmpty_11 : decode cJ11_isEmpty 11 = .ok (.iconst 1, 1) := dk_4 (dk_at dksJ11_isEmpty_0 11 rfl rfl)
theorem dJ11_isEmpty_12 : decode cJ11_isEmpty 12 = .ok (.goto 4, 3) := dk_167 0 4 (dk_at dksJ11_isEmpty_0 12 rfl rfl)
theorem dJ11_isEmpty_15 : decode cJ11_isEmpty 15 = .ok (.iconst 0, 1) := dk_3 (dk_at dksJ11_isEmpty_0 15 rfl rfl)
theorem dJ11_isEmpty_16 : decode cJ11_isEmpty 16 = .ok (.ireturn, 1) := dk_172 (dk_at dksJ11_isEmpty_0 16 rfl rfl)
theorem q121 : (Jvm.Cond.initialized "java/util/ArrayDeque") ∈ lw_all := lw_g (lw_at lw_m1 24 rfl) rfl
theorem q450 : (Jvm.Cond.selects "java/util/ArrayDeque" ({ cls := "java/lang/Object", name := "getClass", desc := "()Ljava/lang/Class;" } : Jvm.MethodName) ({ cls := "java/lang/Object", name := "getClass", desc := "()Ljava/lang/Class;" } : Jvm.MethodName)) ∈ lw_all := lw_g (lw_at lw_m2 113 rfl) rfl
theorem q581 : (Jvm.Cond.instantiable "java/util/ArrayDeque" (3 : Nat)) ∈ lw_all := lw_g (lw_at lw_m3 4 rfl) rfl
theorem q583 : (Jvm.Cond.instanceMethod ({ cls := "java/util/ArrayDeque", name := "<init>", desc := "()V" } : Jvm.MethodName)) ∈ lw_all := lw_g (lw_at lw_m3 6 rfl) rfl
theorem q584 : (Jvm.Cond.code ({ cls := "java/util/ArrayDeque", name := "<init>", desc := "()V" } : Jvm.MethodName) prog_55_method_3_code (1 : Nat) (Option.none : Option Jvm.ClassFile.FieldType)) ∈ lw_all := lw_g (lw_at lw_m3 7 rfl) rfl
theorem q585 : (Jvm.Cond.methodLink "java/util/ArrayDeque" (42 : Nat) ({ cls := "java/util/AbstractCollection", name := "<init>", desc := "()V" } : Jvm.MethodName)) ∈ lw_all := lw_g (lw_at lw_m3 8 rfl) rfl
theorem q586 : (Jvm.Cond.classLink "java/util/ArrayDeque" (47 : Nat) "java/lang/Object") ∈ lw_all := lw_g (lw_at lw_m3 9 rfl) rfl
theorem q587 : (Jvm.Cond.fieldLink "java/util/ArrayDeque" (3 : Nat) "java/util/ArrayDeque" "elements" "[Ljava/lang/Object;") ∈ lw_all := lw_g (lw_at lw_m3 10 rfl) rfl
theorem q590 : (Jvm.Cond.fieldLink "java/util/ArrayDeque" (24 : Nat) "java/util/ArrayDeque" "head" "I") ∈ lw_all := lw_g (lw_at lw_m3 13 rfl) rfl
theorem q591 : (Jvm.Cond.fieldLink "java/util/ArrayDeque" (20 : Nat) "java/util/ArrayDeque" "tail" "I") ∈ lw_all := lw_g (lw_at lw_m3 14 rfl) rfl
theorem q592 : (Jvm.Cond.lays "java/util/ArrayDeque" "java/util/ArrayDeque" "elements" "[Ljava/lang/Object;") ∈ lw_all := lw_g (lw_at lw_m3 15 rfl) rfl
theorem q593 : (Jvm.Cond.soleField "java/util/ArrayDeque" "elements") ∈ lw_all := lw_g (lw_at lw_m3 16 rfl) rfl
theorem q594 : (Jvm.Cond.lays "java/util/ArrayDeque" "java/util/ArrayDeque" "head" "I") ∈ lw_all := lw_g (lw_at lw_m3 17 rfl) rfl
theorem q595 : (Jvm.Cond.soleField "java/util/ArrayDeque" "head") ∈ lw_all := lw_g (lw_at lw_m3 18 rfl) rfl
theorem q596 : (Jvm.Cond.lays "java/util/ArrayDeque" "java/util/ArrayDeque" "tail" "I") ∈ lw_all := lw_g (lw_at lw_m3 19 rfl) rfl
theorem q597 : (Jvm.Cond.soleField "java/util/ArrayDeque" "tail") ∈ lw_all := lw_g (lw_at lw_m3 20 rfl) rfl
theorem q598 : (Jvm.Cond.superclass "java/util/ArrayDeque" "java/util/AbstractCollection") ∈ lw_all := lw_g (lw_at lw_m3 21 rfl) rfl
theorem q612 : (Jvm.Cond.selects "java/util/ArrayDeque" ({ cls := "java/util/AbstractCollection", name := "size", desc := "()I" } : Jvm.MethodName) ({ cls := "java/util/ArrayDeque", name := "size", desc := "()I" } : Jvm.MethodName)) ∈ lw_all := lw_g (lw_at lw_m3 35 rfl) rfl
theorem q613 : (Jvm.Cond.instanceMethod ({ cls := "java/util/ArrayDeque", name := "size", desc := "()I" } : Jvm.MethodName)) ∈ lw_all := lw_g (lw_at lw_m3 36 rfl) rfl
theorem q614 : (Jvm.Cond.code ({ cls := "java/util/ArrayDeque", name := "size", desc := "()I" } : Jvm.MethodName) prog_55_method_37_code (1 : Nat) (Option.some Jvm.ClassFile.FieldType.int)) ∈ lw_all := lw_g (lw_at lw_m3 37 rfl) rfl
theorem q615 : (Jvm.Cond.methodLink "java/util/ArrayDeque" (127 : Nat) ({ cls := "java/util/ArrayDeque", name := "sub", desc := "(III)I" } : Jvm.MethodName)) ∈ lw_all := lw_g (lw_at lw_m3 38 rfl) rfl
theorem q616 : (Jvm.Cond.static ({ cls := "java/util/ArrayDeque", name := "sub", desc := "(III)I" } : Jvm.MethodName)) ∈ lw_all := lw_g (lw_at lw_m3 39 rfl) rfl
theorem q617 : (Jvm.Cond.code ({ cls := "java/util/ArrayDeque", name := "sub", desc := "(III)I" } : Jvm.MethodName) prog_55_method_9_code (3 : Nat) (Option.some Jvm.ClassFile.FieldType.int)) ∈ lw_all := lw_g (lw_at lw_m3 40 rfl) rfl
theorem q1184 : (Jvm.Cond.static ({ cls := "java/util/ArrayDeque", name := "nonNullElementAt", desc := "([Ljava/lang/Object;I)Ljava/lang/Object;" } : Jvm.MethodName)) ∈ lw_all := lw_g (lw_at lw_m5 127 rfl) rfl
theorem q1185 : (Jvm.Cond.code ({ cls := "java/util/ArrayDeque", name := "nonNullElementAt", desc := "([Ljava/lang/Object;I)Ljava/lang/Object;" } : Jvm.MethodName) prog_55_method_11_code (3 : Nat) (Option.some (Jvm.ClassFile.FieldType.object "java/lang/Object"))) ∈ lw_all := lw_g (lw_at lw_m5 128 rfl) rfl
theorem q1187 : (Jvm.Cond.static ({ cls := "java/util/ArrayDeque", name := "inc", desc := "(II)I" } : Jvm.MethodName)) ∈ lw_all := lw_g (lw_at lw_m5 130 rfl) rfl
theorem q1188 : (Jvm.Cond.code ({ cls := "java/util/ArrayDeque", name := "inc", desc := "(II)I" } : Jvm.MethodName) prog_55_method_6_code (2 : Nat) (Option.some Jvm.ClassFile.FieldType.int)) ∈ lw_all := lw_g (lw_at lw_m5 131 rfl) rfl
theorem q1297 : (Jvm.Cond.instanceMethod ({ cls := "java/util/ArrayDeque", name := "addLast", desc := "(Ljava/lang/Object;)V" } : Jvm.MethodName)) ∈ lw_all := lw_g (lw_at lw_m6 0 rfl) rfl
theorem q1298 : (Jvm.Cond.selects "java/util/ArrayDeque" ({ cls := "java/util/ArrayDeque", name := "addLast", desc := "(Ljava/lang/Object;)V" } : Jvm.MethodName) ({ cls := "java/util/ArrayDeque", name := "addLast", desc := "(Ljava/lang/Object;)V" } : Jvm.MethodName)) ∈ lw_all := lw_g (lw_at lw_m6 1 rfl) rfl
theorem q1299 : (Jvm.Cond.code ({ cls := "java/util/ArrayDeque", name := "addLast", desc := "(Ljava/lang/Object;)V" } : Jvm.MethodName) prog_55_method_13_code (3 : Nat) (Option.none : Option Jvm.ClassFile.FieldType)) ∈ lw_all := lw_g (lw_at lw_m6 2 rfl) rfl
theorem q1300 : (Jvm.Cond.methodLink "java/util/ArrayDeque" (74 : Nat) ({ cls := "java/util/ArrayDeque", name := "inc", desc := "(II)I" } : Jvm.MethodName)) ∈ lw_all := lw_g (lw_at lw_m6 3 rfl) rfl
theorem q1301 : (Jvm.Cond.methodLink "java/util/ArrayDeque" (71 : Nat) ({ cls := "java/util/ArrayDeque", name := "grow", desc := "(I)V" } : Jvm.MethodName)) ∈ lw_all := lw_g (lw_at lw_m6 4 rfl) rfl
theorem q1302 : (Jvm.Cond.privateMethod ({ cls := "java/util/ArrayDeque", name := "grow", desc := "(I)V" } : Jvm.MethodName)) ∈ lw_tbl := lw_at lw_m6 5 rfl
theorem q1303 : (Jvm.Cond.instanceMethod ({ cls := "java/util/ArrayDeque", name := "grow", desc := "(I)V" } : Jvm.MethodName)) ∈ lw_all := lw_g (lw_at lw_m6 6 rfl) rfl
theorem q1304 : (Jvm.Cond.code ({ cls := "java/util/ArrayDeque", name := "grow", desc := "(I)V" } : Jvm.MethodName) prog_55_method_1_code (9 : Nat) (Option.none : Option Jvm.ClassFile.FieldType)) ∈ lw_all := lw_g (lw_at lw_m6 7 rfl) rfl
theorem q1305 : (Jvm.Cond.constant "java/util/ArrayDeque" (9 : Nat) (2147483639 : Int32)) ∈ lw_all := lw_g (lw_at lw_m6 8 rfl) rfl
theorem q1306 : (Jvm.Cond.methodLink "java/util/ArrayDeque" (10 : Nat) ({ cls := "java/util/ArrayDeque", name := "newCapacity", desc := "(II)I" } : Jvm.MethodName)) ∈ lw_all := lw_g (lw_at lw_m6 9 rfl) rfl
theorem q1307 : (Jvm.Cond.privateMethod ({ cls := "java/util/ArrayDeque", name := "newCapacity", desc := "(II)I" } : Jvm.MethodName)) ∈ lw_tbl := lw_at lw_m6 10 rfl
theorem q1308 : (Jvm.Cond.instanceMethod ({ cls := "java/util/ArrayDeque", name := "newCapacity", desc := "(II)I" } : Jvm.MethodName)) ∈ lw_all := lw_g (lw_at lw_m6 11 rfl) rfl
theorem q1309 : (Jvm.Cond.code ({ cls := "java/util/ArrayDeque", name := "newCapacity", desc := "(II)I" } : Jvm.MethodName) prog_55_method_2_code (5 : Nat) (Option.some Jvm.ClassFile.FieldType.int)) ∈ lw_all := lw_g (lw_at lw_m6 12 rfl) rfl
theorem q1310 : (Jvm.Cond.constant "java/util/ArrayDeque" (41 : Nat) (2147483647 : Int32)) ∈ lw_all := lw_g (lw_at lw_m6 13 rfl) rfl
theorem q1311 : (Jvm.Cond.methodLink "java/util/ArrayDeque" (14 : Nat) ({ cls := "java/util/Arrays", name := "copyOf", desc := "([Ljava/lang/Object;I)[Ljava/lang/Object;" } : Jvm.MethodName)) ∈ lw_all := lw_g (lw_at lw_m6 14 rfl) rfl
theorem q1312 : (Jvm.Cond.methodLink "java/util/ArrayDeque" (27 : Nat) ({ cls := "java/lang/System", name := "arraycopy", desc := "(Ljava/lang/Object;ILjava/lang/Object;II)V" } : Jvm.MethodName)) ∈ lw_all := lw_g (lw_at lw_m6 15 rfl) rfl
theorem q1576 : (Jvm.Cond.instanceMethod ({ cls := "java/util/ArrayDeque", name := "peekFirst", desc := "()Ljava/lang/Object;" } : Jvm.MethodName)) ∈ lw_all := lw_g (lw_at lw_m7 39 rfl) rfl
theorem q1577 : (Jvm.Cond.selects "java/util/ArrayDeque" ({ cls := "java/util/ArrayDeque", name := "peekFirst", desc := "()Ljava/lang/Object;" } : Jvm.MethodName) ({ cls := "java/util/ArrayDeque", name := "peekFirst", desc := "()Ljava/lang/Object;" } : Jvm.MethodName)) ∈ lw_all := lw_g (lw_at lw_m7 40 rfl) rfl
theorem q1578 : (Jvm.Cond.code ({ cls := "java/util/ArrayDeque", name := "peekFirst", desc := "()Ljava/lang/Object;" } : Jvm.MethodName) prog_55_method_24_code (1 : Nat) (Option.some (Jvm.ClassFile.FieldType.object "java/lang/Object"))) ∈ lw_all := lw_g (lw_at lw_m7 41 rfl) rfl
theorem q1579 : (Jvm.Cond.methodLink "java/util/ArrayDeque" (103 : Nat) ({ cls := "java/util/ArrayDeque", name := "elementAt", desc := "([Ljava/lang/Object;I)Ljava/lang/Object;" } : Jvm.MethodName)) ∈ lw_all := lw_g (lw_at lw_m7 42 rfl) rfl
theorem q1580 : (Jvm.Cond.static ({ cls := "java/util/ArrayDeque", name := "elementAt", desc := "([Ljava/lang/Object;I)Ljava/lang/Object;" } : Jvm.MethodName)) ∈ lw_all := lw_g (lw_at lw_m7 43 rfl) rfl
theorem q1581 : (Jvm.Cond.code ({ cls := "java/util/ArrayDeque", name := "elementAt", desc := "([Ljava/lang/Object;I)Ljava/lang/Object;" } : Jvm.MethodName) prog_55_method_10_code (2 : Nat) (Option.some (Jvm.ClassFile.FieldType.object "java/lang/Object"))) ∈ lw_all := lw_g (lw_at lw_m7 44 rfl) rfl
theorem q1588 : (Jvm.Cond.instanceMethod ({ cls := "java/util/ArrayDeque", name := "removeFirst", desc := "()Ljava/lang/Object;" } : Jvm.MethodName)) ∈ lw_all := lw_g (lw_at lw_m7 51 rfl) rfl
theorem q1589 : (Jvm.Cond.selects "java/util/ArrayDeque" ({ cls := "java/util/ArrayDeque", name := "removeFirst", desc := "()Ljava/lang/Object;" } : Jvm.MethodName) ({ cls := "java/util/ArrayDeque", name := "removeFirst", desc := "()Ljava/lang/Object;" } : Jvm.MethodName)) ∈ lw_all := lw_g (lw_at lw_m7 52 rfl) rfl
theorem q1590 : (Jvm.Cond.code ({ cls := "java/util/ArrayDeque", name := "removeFirst", desc := "()Ljava/lang/Object;" } : Jvm.MethodName) prog_55_method_18_code (2 : Nat) (Option.some (Jvm.ClassFile.FieldType.object "java/lang/Object"))) ∈ lw_all := lw_g (lw_at lw_m7 53 rfl) rfl
theorem q1591 : (Jvm.Cond.methodLink "java/util/ArrayDeque" (93 : Nat) ({ cls := "java/util/ArrayDeque", name := "pollFirst", desc := "()Ljava/lang/Object;" } : Jvm.MethodName)) ∈ lw_all := lw_g (lw_at lw_m7 54 rfl) rfl
theorem q1592 : (Jvm.Cond.instanceMethod ({ cls := "java/util/ArrayDeque", name := "pollFirst", desc := "()Ljava/lang/Object;" } : Jvm.MethodName)) ∈ lw_all := lw_g (lw_at lw_m7 55 rfl) rfl
theorem q1593 : (Jvm.Cond.selects "java/util/ArrayDeque" ({ cls := "java/util/ArrayDeque", name := "pollFirst", desc := "()Ljava/lang/Object;" } : Jvm.MethodName) ({ cls := "java/util/ArrayDeque", name := "pollFirst", desc := "()Ljava/lang/Object;" } : Jvm.MethodName)) ∈ lw_all := lw_g (lw_at lw_m7 56 rfl) rfl
theorem q1594 : (Jvm.Cond.code ({ cls := "java/util/ArrayDeque", name := "pollFirst", desc := "()Ljava/lang/Object;" } : Jvm.MethodName) prog_55_method_20_code (4 : Nat) (Option.some (Jvm.ClassFile.FieldType.object "java/lang/Object"))) ∈ lw_all := lw_g (lw_at lw_m7 57 rfl) rfl
theorem q1662 : (Jvm.Cond.castable "java/util/ArrayDeque" "java/lang/Iterable") ∈ lw_tbl := lw_at lw_m7 125 rfl
theorem q1663 : (Jvm.Cond.selects "java/util/ArrayDeque" ({ cls := "java/lang/Iterable", name := "iterator", desc := "()Ljava/util/Iterator;" } : Jvm.MethodName) ({ cls := "java/util/ArrayDeque", name := "iterator", desc := "()Ljava/util/Iterator;" } : Jvm.MethodName)) ∈ lw_all := lw_g (lw_at lw_m7 126 rfl) rfl
theorem q1664 : (Jvm.Cond.unhidden "java/util/ArrayDeque" "iterator" "()Ljava/util/Iterator;") ∈ lw_tbl := lw_at lw_m7 127 rfl
theorem q1665 : (Jvm.Cond.instanceMethod ({ cls := "java/util/ArrayDeque", name := "iterator", desc := "()Ljava/util/Iterator;" } : Jvm.MethodName)) ∈ lw_all := lw_g (lw_at lw_m7 128 rfl) rfl
theorem q1666 : (Jvm.Cond.publicMethod ({ cls := "java/util/ArrayDeque", name := "iterator", desc := "()Ljava/util/Iterator;" } : Jvm.MethodName)) ∈ lw_tbl := lw_at lw_m7 129 rfl
theorem q1667 : (Jvm.Cond.code ({ cls := "java/util/ArrayDeque", name := "iterator", desc := "()Ljava/util/Iterator;" } : Jvm.MethodName) prog_55_method_39_code (1 : Nat) (Option.some (Jvm.ClassFile.FieldType.object "java/util/Iterator"))) ∈ lw_all := lw_g (lw_at lw_m7 130 rfl) rfl
theorem q1668 : (Jvm.Cond.classLink "java/util/ArrayDeque" (131 : Nat) "java/util/ArrayDeque$DeqIterator") ∈ lw_all := lw_g (lw_at lw_m7 131 rfl) rfl
theorem q1670 : (Jvm.Cond.methodLink "java/util/ArrayDeque" (133 : Nat) ({ cls := "java/util/ArrayDeque$DeqIterator", name := "<init>", desc := "(Ljava/util/ArrayDeque;)V" } : Jvm.MethodName)) ∈ lw_all := lw_g (lw_at lw_m7 133 rfl) rfl
theorem q1838 : (Jvm.Cond.instanceMethod ({ cls := "java/util/ArrayDeque", name := "isEmpty", desc := "()Z" } : Jvm.MethodName)) ∈ lw_all := lw_g (lw_at lw_m8 61 rfl) rfl
theorem q1839 : (Jvm.Cond.selects "java/util/ArrayDeque" ({ cls := "java/util/ArrayDeque", name := "isEmpty", desc := "()Z" } : Jvm.MethodName) ({ cls := "java/util/ArrayDeque", name := "isEmpty", desc := "()Z" } : Jvm.MethodName)) ∈ lw_all := lw_g (lw_at lw_m8 62 rfl) rfl
theorem q1840 : (Jvm.Cond.code ({ cls := "java/util/ArrayDeque", name := "isEmpty", desc := "()Z" } : Jvm.MethodName) prog_55_method_38_code (1 : Nat) (Option.some Jvm.ClassFile.FieldType.boolean)) ∈ lw_all := lw_g (lw_at lw_m8 63 rfl) rfl
theorem q2928 : (Jvm.Cond.selects "java/util/ArrayDeque" ({ cls := "java/util/ArrayDeque", name := "size", desc := "()I" } : Jvm.MethodName) ({ cls := "java/util/ArrayDeque", name := "size", desc := "()I" } : Jvm.MethodName)) ∈ lw_all := lw_g (lw_at lw_m12 191 rfl) rfl
theorem q2956 : (Jvm.Cond.castable "java/util/ArrayDeque" "java/lang/Object") ∈ lw_tbl := lw_at lw_m12 219 rfl
theorem in_J11 : ∀ w ∈ wsJ110, w ∈ lw_all := lw_in wsJ110 [592, 594, 596] (by decide +kernel) (by decide +kernel)
/-! java/lang/AbstractStringBuilder -/
set_option maxRecDepth 100000
def RJ12 : String := "java/lang/AbstractStringBuilder"
abbrev cJ12_init : ByteArray := prog_29_method_2_code
def yJ12_init : MethodName := ⟨RJ12, "<init>", "(I)V"⟩
def dkwJ12_init_1 : List UInt8 := [167, 0, 16, 42, 27, 184, 0, 26, 181, 0, 15, 42, 4, 181, 0, 22, 177]
abbrev dktJ12_init_1 : List UInt8 := dkwJ12_init_1 ++ []
def dkwJ12_init_0 : List UInt8 := [42, 183, 0, 3, 178, 0, 18, 153, 0, 18, 42, 27, 188, 8, 181, 0, 15, 42, 3, 181, 0, 22]
abbrev dktJ12_init_0 : List UInt8 := dkwJ12_init_0 ++ dktJ12_init_1
theorem dksJ12_init_0 : cJ12_init.data.toList.drop 0 = dktJ12_init_0 := by decide +kernel
theorem dksJ12_init_1 : cJ12_init.data.toList.drop 22 = dktJ12_init_1 := dk_seg dksJ12_init_0 22 rfl rfl
theorem dJ12_init_0 : decode cJ12_init 0 = .ok (.aload_n 0, 1) := dk_42 (dk_at dksJ12_init_0 0 rfl rfl)
theorem dJ12_init_1 : decode cJ12_init 1 = .ok (.invokespecial 3, 3) := dk_183 0 3 (dk_at dksJ12_init_0 1 rfl rfl)
theorem dJ12_init_4 : decode cJ12_init 4 = .ok (.getstatic 18, 3) := dk_178 0 18 (dk_at dksJ12_init_0 4 rfl rfl)
theorem dJ12_init_7 : decode cJ12_init 7 = .ok (.ifCond .eq 18, 3) := dk_153 0 18 (dk_at dksJ12_init_0 7 rfl rfl)
theorem dJ12_init_10 : decode cJ12_init 10 = .ok (.aload_n 0, 1) := dk_42 (dk_at dksJ12_init_0 10 rfl rfl)
theorem dJ12_init_11 : decode cJ12_init 11 = .ok (.iload_n 1, 1) := dk_27 (dk_at dksJ12_init_0 11 rfl rfl)
theorem dJ12_init_12 : decode cJ12_init 12 = .ok (.newarray .byte, 2) := dk_188_8 (dk_at dksJ12_init_0 12 rfl rfl)
theorem dJ12_init_14 : decode cJ12_init 14 = .ok (.putfield 15, 3) := dk_181 0 15 (dk_at dksJ12_init_0 14 rfl rfl)
theorem dJ12_init_17 : decode cJ12_init 17 = .ok (.aload_n 0, 1) := dk_42 (dk_at dksJ12_init_0 17 rfl rfl)
theorem dJ12_init_18 : decode cJ12_init 18 = .ok (.iconst 0, 1) := dk_3 (dk_at dksJ12_init_0 18 rfl rfl)
theorem dJ12_init_19 : decode cJ12_init 19 = .ok (.putfield 22, 3) := dk_181 0 22 (dk_at dksJ12_init_0 19 rfl rfl)
theorem dJ12_init_22 : decode cJ12_init 22 = .ok (.goto 16, 3) := dk_167 0 16 (dk_at dksJ12_init_1 0 rfl rfl)
theorem dJ12_init_25 : decode cJ12_init 25 = .ok (.aload_n 0, 1) := dk_42 (dk_at dksJ12_init_1 3 rfl rfl)
theorem dJ12_init_26 : decode cJ12_init 26 = .ok (.iload_n 1, 1) := dk_27 (dk_at dksJ12_init_1 4 rfl rfl)
theorem dJ12_init_27 : decode cJ12_init 27 = .ok (.invokestatic 26, 3) := dk_184 0 26 (dk_at dksJ12_init_1 5 rfl rfl)
theorem dJ12_init_30 : decode cJ12_init 30 = .ok (.putfield 15, 3) := dk_181 0 15 (dk_at dksJ12_init_1 8 rfl rfl)
theorem dJ12_init_33 : decode cJ12_init 33 = .ok (.aload_n 0, 1) := dk_42 (dk_at dksJ12_init_1 11 rfl rfl)
theorem dJ12_init_34 : decode cJ12_init 34 = .ok (.iconst 1, 1) := dk_4 (dk_at dksJ12_init_1 12 rfl rfl)
theorem dJ12_init_35 : decode cJ12_init 35 = .ok (.putfield 22, 3) := dk_181 0 22 (dk_at dksJ12_init_1 13 rfl rfl)
theorem dJ12_init_38 : decode cJ12_init 38 = .ok (.return_, 1) := dk_177 (dk_at dksJ12_init_1 16 rfl rfl)
abbrev cJ12_append : ByteArray := prog_29_method_22_code
def yJ12_append : MethodName := ⟨RJ12, "append", "(Ljava/lang/String;)Ljava/lang/AbstractStringBuilder;"⟩
def dkwJ12_append_1 : List UInt8 := [42, 42, 180, 0, 79, 43, 182, 0, 208, 42, 89, 180, 0, 79, 28, 96, 181, 0, 79, 42, 176]
abbrev dktJ12_append_1 : List UInt8 := dkwJ12_append_1 ++ []
def dkwJ12_append_0 : List UInt8 := [43, 199, 0, 8, 42, 182, 0, 204, 176, 43, 182, 0, 32, 61, 42, 42, 180, 0, 79, 28, 96, 182, 0, 100]
abbrev dktJ12_append_0 : List UInt8 := dkwJ12_append_0 ++ dktJ12_append_1
theorem dksJ12_append_0 : cJ12_append.data.toList.drop 0 = dktJ12_append_0 := by decide +kernel
theorem dksJ12_append_1 : cJ12_append.data.toList.drop 24 = dktJ12_append_1 := dk_seg dksJ12_append_0 24 rfl rfl
theorem dJ12_append_0 : decode cJ12_append 0 = .ok (.aload_n 1, 1) := dk_43 (dk_at dksJ12_append_0 0 rfl rfl)
theorem dJ12_append_1 : decode cJ12_append 1 = .ok (.ifnonnull 8, 3) := dk_199 0 8 (dk_at dksJ12_append_0 1 rfl rfl)
theorem dJ12_append_4 : decode cJ12_append 4 = .ok (.aload_n 0, 1) := dk_42 (dk_at dksJ12_append_0 4 rfl rfl)
theorem dJ12_append_5 : decode cJ12_append 5 = .ok (.invokevirtual 204, 3) := dk_182 0 204 (dk_at dksJ12_append_0 5 rfl rfl)
theorem dJ12_append_8 : decode cJ12_append 8 = .ok (.areturn, 1) := dk_176 (dk_at dksJ12_append_0 8 rfl rfl)
theorem dJ12_append_9 : decode cJ12_append 9 = .ok (.aload_n 1, 1) := dk_43 (dk_at dksJ12_append_0 9 rfl rfl)
theorem dJ12_append_10 : decode cJ12_append 10 = .ok (.invokevirtual 32, 3) := dk_182 0 32 (dk_at dksJ12_append_0 10 rfl rfl)
theorem dJ12_append_13 : decode cJ12_append 13 = .ok (.istore_n 2, 1) := dk_61 (dk_at dksJ12_append_0 13 rfl rfl)
theorem dJ12_append_14 : decode cJ12_append 14 = .ok (.aload_n 0, 1) := dk_42 (dk_at dksJ12_append_0 14 rfl rfl)
theorem dJ12_append_15 : decode cJ12_append 15 = .ok (.aload_n 0, 1) := dk_42 (dk_at dksJ12_append_0 15 rfl rfl)
theorem dJ12_append_16 : decode cJ12_append 16 = .ok (.getfield 79, 3) := dk_180 0 79 (dk_at dksJ12_append_0 16 rfl rfl)
theorem dJ12_append_19 : decode cJ12_append 19 = .ok (.iload_n 2, 1) := dk_28 (dk_at dksJ12_append_0 19 rfl rfl)
theorem dJ12_append_20 : decode cJ12_append 20 = .ok (.iadd, 1) := dk_96 (dk_at dksJ12_append_0 20 rfl rfl)
theorem dJ12_append_21 : decode cJ12_append 21 = .ok (.invokevirtual 100, 3) := dk_182 0 100 (dk_at dksJ12_append_0 21 rfl rfl)
theorem dJ12_append_24 : decode cJ12_append 24 = .ok (.aload_n 0, 1) := dk_42 (dk_at dksJ12_append_1 0 rfl rfl)
theorem dJ12_append_25 : decode cJ12_append 25 = .ok (.aload_n 0, 1) := dk_42 (dk_at dksJ12_append_1 1 rfl rfl)
theorem dJ12_append_26 : decode cJ12_append 26 = .ok (.getfield 79, 3) := dk_180 0 79 (dk_at dksJ12_append_1 2 rfl rfl)
theorem dJ12_append_29 : decode cJ12_append 29 = .ok (.aload_n 1, 1) := dk_43 (dk_at dksJ12_append_1 5 rfl rfl)
theorem dJ12_append_30 : decode cJ12_append 30 = .ok (.invokevirtual 208, 3) := dk_182 0 208 (dk_at dksJ12_append_1 6 rfl rfl)
theorem dJ12_append_33 : decode cJ12_append 33 = .ok (.aload_n 0, 1) := dk_42 (dk_at dksJ12_append_1 9 rfl rfl)
theorem dJ12_append_34 : decode cJ12_append 34 = .ok (.dup, 1) := dk_89 (dk_at dksJ12_append_1 10 rfl rfl)
theorem dJ12_append_35 : decode cJ12_append 35 = .ok (.getfield 79, 3) := dk_180 0 79 (dk_at dksJ12_append_1 11 rfl rfl)
theorem dJ12_append_38 : decode cJ12_append 38 = .ok (.iload_n 2, 1) := dk_28 (dk_at dksJ12_append_1 14 rfl rfl)
theorem dJ12_append_39 : decode cJ12_append 39 = .ok (.iadd, 1) := dk_96 (dk_at dksJ12_append_1 15 rfl rfl)
theorem dJ12_append_40 : decode cJ12_append 40 = .ok (.putfield 79, 3) := dk_181 0 79 (dk_at dksJ12_append_1 16 rfl rfl)
theorem dJ12_append_43 : decode cJ12_append 43 = .ok (.aload_n 0, 1) := dk_42 (dk_at dksJ12_append_1 19 rfl rfl)
theorem dJ12_append_44 : decode cJ12_append 44 = .ok (.areturn, 1) := dk_176 (dk_at dksJ12_append_1 20 rfl rfl)
abbrev cJ12_appendNull : ByteArray := prog_29_method_26_code
def yJ12_appendNull : MethodName := ⟨RJ12, "appendNull", "()Ljava/lang/AbstractStringBuilder;"⟩
def dkwJ12_appendNull_3 : List UInt8 := [184, 0, 226, 60, 42, 27, 181, 0, 79, 42, 176]
abbrev dktJ12_appendNull_3 : List UInt8 := dkwJ12_appendNull_3 ++ []
def dkwJ12_appendNull_2 : List UInt8 := [16, 108, 84, 44, 27, 132, 1, 1, 16, 108, 84, 167, 0, 17, 44, 27, 16, 110, 16, 117, 16, 108, 16, 108]
abbrev dktJ12_appendNull_2 : List UInt8 := dkwJ12_appendNull_2 ++ dktJ12_appendNull_3
def dkwJ12_appendNull_1 : List UInt8 := [153, 0, 38, 44, 27, 132, 1, 1, 16, 110, 84, 44, 27, 132, 1, 1, 16, 117, 84, 44, 27, 132, 1, 1]
abbrev dktJ12_appendNull_1 : List UInt8 := dkwJ12_appendNull_1 ++ dktJ12_appendNull_2
def dkwJ12_appendNull_0 : List UInt8 := [42, 42, 180, 0, 79, 7, 96, 182, 0, 100, 42, 180, 0, 79, 60, 42, 180, 0, 15, 77, 42, 182, 0, 83]
abbrev dktJ12_appendNull_0 : List UInt8 := dkwJ12_appendNull_0 ++ dktJ12_appendNull_1
theorem dksJ12_appendNull_0 : cJ12_appendNull.data.toList.drop 0 = dktJ12_appendNull_0 := by decide +kernel
theorem dksJ12_appendNull_1 : cJ12_appendNull.data.toList.drop 24 = dktJ12_appendNull_1 := dk_seg dksJ12_appendNull_0 24 rfl rfl
theorem dksJ12_appendNull_2 : cJ12_appendNull.data.toList.drop 48 = dktJ12_appendNull_2 := dk_seg dksJ12_appendNull_1 24 rfl rfl
theorem dksJ12_appendNull_3 : cJ12_appendNull.data.toList.drop 72 = dktJ12_appendNull_3 := dk_seg dksJ12_appendNull_2 24 rfl rfl
theorem dJ12_appendNull_0 : decode cJ12_appendNull 0 = .ok (.aload_n 0, 1) := dk_42 (dk_at dksJ12_appendNull_0 0 rfl rfl)
theorem dJ12_appendNull_1 : decode cJ12_appendNull 1 = .ok (.aload_n 0, 1) := dk_42 (dk_at dksJ12_appendNull_0 1 rfl rfl)
theorem dJ12_appendNull_2 : decode cJ12_appendNull 2 = .ok (.getfield 79, 3) := dk_180 0 79 (dk_at dksJ12_appendNull_0 2 rfl rfl)
theorem dJ12_appendNull_5 : decode cJ12_appendNull 5 = .ok (.iconst 4, 1) := dk_7 (dk_at dksJ12_appendNull_0 5 rfl rfl)
theorem dJ12_appendNull_6 : decode cJ12_appendNull 6 = .ok (.iadd, 1) := dk_96 (dk_at dksJ12_appendNull_0 6 rfl rfl)
theorem dJ12_appendNull_7 : decode cJ12_appendNull 7 = .ok (.invokevirtual 100, 3) := dk_182 0 100 (dk_at dksJ12_appendNull_0 7 rfl rfl)
theorem dJ12_appendNull_10 : decode cJ12_appendNull 10 = .ok (.aload_n 0, 1) := dk_42 (dk_at dksJ12_appendNull_0 10 rfl rfl)
theorem dJ12_appendNull_11 : decode cJ12_appendNull 11 = .ok (.getfield 79, 3) := dk_180 0 79 (dk_at dksJ12_appendNull_0 11 rfl rfl)
theorem dJ12_appendNull_14 : decode cJ12_appendNull 14 = .ok (.istore_n 1, 1) := dk_60 (dk_at dksJ12_appendNull_0 14 rfl rfl)
theorem dJ12_appendNull_15 : decode cJ12_appendNull 15 = .ok (.aload_n 0, 1) := dk_42 (dk_at dksJ12_appendNull_0 15 rfl rfl)
theorem dJ12_appendNull_16 : decode cJ12_appendNull 16 = .ok (.getfield 15, 3) := dk_180 0 15 (dk_at dksJ12_appendNull_0 16 rfl rfl)
theorem dJ12_appendNull_19 : decode cJ12_appendNull 19 = .ok (.astore_n 2, 1) := dk_77 (dk_at dksJ12_appendNull_0 19 rfl rfl)
theorem dJ12_appendNull_20 : decode cJ12_appendNull 20 = .ok (.aload_n 0, 1) := dk_42 (dk_at dksJ12_appendNull_0 20 rfl rfl)
theorem dJ12_appendNull_21 : decode cJ12_appendNull 21 = .ok (.invokevirtual 83, 3) := dk_182 0 83 (dk_at dksJ12_appendNull_0 21 rfl rfl)
theorem dJ12_appendNull_24 : decode cJ12_appendNull 24 = .ok (.ifCond .eq 38, 3) := dk_153 0 38 (dk_at dksJ12_appendNull_1 0 rfl rfl)
theorem dJ12_appendNull_27 : decode cJ12_appendNull 27 = .ok (.aload_n 2, 1) := dk_44 (dk_at dksJ12_appendNull_1 3 rfl rfl)
theorem dJ12_appendNull_28 : decode cJ12_appendNull 28 = .ok (.iload_n 1, 1) := dk_27 (dk_at dksJ12_appendNull_1 4 rfl rfl)
theorem dJ12_appendNull_29 : decode cJ12_appendNull 29 = .ok (.iinc 1 1, 3) := dk_132 1 1 (dk_at dksJ12_appendNull_1 5 rfl rfl)
theorem dJ12_appendNull_32 : decode cJ12_appendNull 32 = .ok (.bipush 110, 2) := dk_16 110 (dk_at dksJ12_appendNull_1 8 rfl rfl)
theorem dJ12_appendNull_34 : decode cJ12_appendNull 34 = .ok (.bastore, 1) := dk_84 (dk_at dksJ12_appendNull_1 10 rfl rfl)
theorem dJ12_appendNull_35 : decode cJ12_appendNull 35 = .ok (.aload_n 2, 1) := dk_44 (dk_at dksJ12_appendNull_1 11 rfl rfl)
theorem dJ12_appendNull_36 : decode cJ12_appendNull 36 = .ok (.iload_n 1, 1) := dk_27 (dk_at dksJ12_appendNull_1 12 rfl rfl)
theorem dJ12_appendNull_37 : decode cJ12_appendNull 37 = .ok (.iinc 1 1, 3) := dk_132 1 1 (dk_at dksJ12_appendNull_1 13 rfl rfl)
theorem dJ12_appendNull_40 : decode cJ12_appendNull 40 = .ok (.bipush 117, 2) := dk_16 117 (dk_at dksJ12_appendNull_1 16 rfl rfl)
theorem dJ12_appendNull_42 : decode cJ12_appendNull 42 = .ok (.bastore, 1) := dk_84 (dk_at dksJ12_appendNull_1 18 rfl rfl)
theorem dJ12_appendNull_43 : decode cJ12_appendNull 43 = .ok (.aload_n 2, 1) := dk_44 (dk_at dksJ12_appendNull_1 19 rfl rfl)
theorem dJ12_appendNull_44 : decode cJ12_appendNull 44 = .ok (.iload_n 1, 1) := dk_27 (dk_at dksJ12_appendNull_1 20 rfl rfl)
theorem dJ12_appendNull_45 : decode cJ12_appendNull 45 = .ok (.iinc 1 1, 3) := dk_132 1 1 (dk_at dksJ12_appendNull_1 21 rfl rfl)
theorem dJ12_appendNull_48 : decode cJ12_appendNull 48 = .ok (.bipush 108, 2) := dk_16 108 (dk_at dksJ12_appendNull_2 0 rfl rfl)
theorem dJ12_appendNull_50 : decode cJ12_appendNull 50 = .ok (.bastore, 1) := dk_84 (dk_at dksJ12_appendNull_2 2 rfl rfl)
theorem dJ12_appendNull_51 : decode cJ12_appendNull 51 = .ok (.aload_n 2, 1) := dk_44 (dk_at dksJ12_appendNull_2 3 rfl rfl)
theorem dJ12_appendNull_52 : decode cJ12_appendNull 52 = .ok (.iload_n 1, 1) := dk_27 (dk_at dksJ12_appendNull_2 4 rfl rfl)
theorem dJ12_appendNull_53 : decode cJ12_appendNull 53 = .ok (.iinc 1 1, 3) := dk_132 1 1 (dk_at dksJ12_appendNull_2 5 rfl rfl)
theorem dJ12_appendNull_56 : decode cJ12_appendNull 56 = .ok (.bipush 108, 2) := dk_16 108 (dk_at dksJ12_appendNull_2 8 rfl rfl)
theorem dJ12_appendNull_58 : decode cJ12_appendNull 58 = .ok (.bastore, 1) := dk_84 (dk_at dksJ12_appendNull_2 10 rfl rfl)
theorem dJ12_appendNull_59 : decode cJ12_appendNull 59 = .ok (.goto 17, 3) := dk_167 0 17 (dk_at dksJ12_appendNull_2 11 rfl rfl)
theorem dJ12_appendNull_62 : decode cJ12_appendNull 62 = .ok (.aload_n 2, 1) := dk_44 (dk_at dksJ12_appendNull_2 14 rfl rfl)
theorem dJ12_appendNull_63 : decode cJ12_appendNull 63 = .ok (.iload_n 1, 1) := dk_27 (dk_at dksJ12_appendNull_2 15 rfl rfl)
theorem dJ12_appendNull_64 : decode cJ12_appendNull 64 = .ok (.bipush 110, 2) := dk_16 110 (dk_at dksJ12_appendNull_2 16 rfl rfl)
theorem dJ12_appendNull_66 : decode cJ12_appendNull 66 = .ok (.bipush 117, 2) := dk_16 117 (dk_at dksJ12_appendNull_2 18 rfl rfl)
theorem dJ12_appendNull_68 : decode cJ12_appendNull 68 = .ok (.bipush 108, 2) := dk_16 108 (dk_at dksJ12_appendNull_2 20 rfl rfl)
theorem dJ12_appendNull_70 : decode cJ12_appendNull 70 = .ok (.bipush 108, 2) := dk_16 108 (dk_at dksJ12_appendNull_2 22 rfl rfl)
theorem dJ12_appendNull_72 : decode cJ12_appendNull 72 = .ok (.invokestatic 226, 3) := dk_184 0 226 (dk_at dksJ12_appendNull_3 0 rfl rfl)
theorem dJ12_appendNull_75 : decode cJ12_appendNull 75 = .ok (.istore_n 1, 1) := dk_60 (dk_at dksJ12_appendNull_3 3 rfl rfl)
theorem dJ12_appendNull_76 : decode cJ12_appendNull 76 = .ok (.aload_n 0, 1) := dk_42 (dk_at dksJ12_appendNull_3 4 rfl rfl)
theorem dJ12_appendNull_77 : decode cJ12_appendNull 77 = .ok (.iload_n 1, 1) := dk_27 (dk_at dksJ12_appendNull_3 5 rfl rfl)
theorem dJ12_appendNull_78 : decode cJ12_appendNull 78 = .ok (.putfield 79, 3) := dk_181 0 79 (dk_at dksJ12_appendNull_3 6 rfl rfl)
theorem dJ12_appendNull_81 : decode cJ12_appendNull 81 = .ok (.aload_n 0, 1) := dk_42 (dk_at dksJ12_appendNull_3 9 rfl rfl)
theorem dJ12_appendNull_82 : decode cJ12_appendNull 82 = .ok (.areturn, 1) := dk_176 (dk_at dksJ12_appendNull_3 10 rfl rfl)
abbrev cJ12_ensureCapacityInternal : ByteArray := prog_29_method_9_code
def yJ12_ensureCapacityInternal : MethodName := ⟨RJ12, "ensureCapacityInternal", "(I)V"⟩
def dkwJ12_ensureCapacityInternal_1 : List UInt8 := [182, 0, 104, 42, 180, 0, 22, 120, 184, 0, 108, 181, 0, 15, 177]
abbrev dktJ12_ensureCapacityInternal_1 : List UInt8 := dkwJ12_ensureCapacityInternal_1 ++ []
def dkwJ12_ensureCapacityInternal_0 : List UInt8 := [42, 180, 0, 15, 190, 42, 180, 0, 22, 122, 61, 27, 28, 100, 158, 0, 24, 42, 42, 180, 0, 15, 42, 27]
abbrev dktJ12_ensureCapacityInternal_0 : List UInt8 := dkwJ12_ensureCapacityInternal_0 ++ dktJ12_ensureCapacityInternal_1
theorem dksJ12_ensureCapacityInternal_0 : cJ12_ensureCapacityInternal.data.toList.drop 0 = dktJ12_ensureCapacityInternal_0 := by decide +kernel
theorem dksJ12_ensureCapacityInternal_1 : cJ12_ensureCapacityInternal.data.toList.drop 24 = dktJ12_ensureCapacityInternal_1 := dk_seg dksJ12_ensureCapacityInternal_0 24 rfl rfl
theorem dJ12_ensureCapacityInternal_0 : decode cJ12_ensureCapacityInternal 0 = .ok (.aload_n 0, 1) := dk_42 (dk_at dksJ12_ensureCapacityInternal_0 0 rfl rfl)
theorem dJ12_ensureCapacityInternal_1 : decode cJ12_ensureCapacityInternal 1 = .ok (.getfield 15, 3) := dk_180 0 15 (dk_at dksJ12_ensureCapacityInternal_0 1 rfl rfl)
theorem dJ12_ensureCapacityInternal_4 : decode cJ12_ensureCapacityInternal 4 = .ok (.arraylength, 1) := dk_190 (dk_at dksJ12_ensureCapacityInternal_0 4 rfl rfl)
theorem dJ12_ensureCapacityInternal_5 : decode cJ12_ensureCapacityInternal 5 = .ok (.aload_n 0, 1) := dk_42 (dk_at dksJ12_ensureCapacityInternal_0 5 rfl rfl)
theorem dJ12_ensureCapacityInternal_6 : decode cJ12_ensureCapacityInternal 6 = .ok (.getfield 22, 3) := dk_180 0 22 (dk_at dksJ12_ensureCapacityInternal_0 6 rfl rfl)
theorem dJ12_ensureCapacityInternal_9 : decode cJ12_ensureCapacityInternal 9 = .ok (.ishr, 1) := dk_122 (dk_at dksJ12_ensureCapacityInternal_0 9 rfl rfl)
theorem dJ12_ensureCapacityInternal_10 : decode cJ12_ensureCapacityInternal 10 = .ok (.istore_n 2, 1) := dk_61 (dk_at dksJ12_ensureCapacityInternal_0 10 rfl rfl)
theorem dJ12_ensureCapacityInternal_11 : decode cJ12_ensureCapacityInternal 11 = .ok (.iload_n 1, 1) := dk_27 (dk_at dksJ12_ensureCapacityInternal_0 11 rfl rfl)
theorem dJ12_ensureCapacityInternal_12 : decode cJ12_ensureCapacityInternal 12 = .ok (.iload_n 2, 1) := dk_28 (dk_at dksJ12_ensureCapacityInternal_0 12 rfl rfl)
theorem dJ12_ensureCapacityInternal_13 : decode cJ12_ensureCapacityInternal 13 = .ok (.isub, 1) := dk_100 (dk_at dksJ12_ensureCapacityInternal_0 13 rfl rfl)
theorem dJ12_ensureCapacityInternal_14 : decode cJ12_ensureCapacityInternal 14 = .ok (.ifCond .le 24, 3) := dk_158 0 24 (dk_at dksJ12_ensureCapacityInternal_0 14 rfl rfl)
theorem dJ12_ensureCapacityInternal_17 : decode cJ12_ensureCapacityInternal 17 = .ok (.aload_n 0, 1) := dk_42 (dk_at dksJ12_ensureCapacityInternal_0 17 rfl rfl)
theorem dJ12_ensureCapacityInternal_18 : decode cJ12_ensureCapacityInternal 18 = .ok (.aload_n 0, 1) := dk_42 (dk_at dksJ12_ensureCapacityInternal_0 18 rfl rfl)
theorem dJ12_ensureCapacityInternal_19 : decode cJ12_ensureCapacityInternal 19 = .ok (.getfield 15, 3) := dk_180 0 15 (dk_at dksJ12_ensureCapacityInternal_0 19 rfl rfl)
theorem dJ12_ensureCapacityInternal_22 : decode cJ12_ensureCapacityInternal 22 = .ok (.aload_n 0, 1) := dk_42 (dk_at dksJ12_ensureCapacityInternal_0 22 rfl rfl)
theorem dJ12_ensureCapacityInternal_23 : decode cJ12_ensureCapacityInternal 23 = .ok (.iload_n 1, 1) := dk_27 (dk_at dksJ12_ensureCapacityInternal_0 23 rfl rfl)
theorem dJ12_ensureCapacityInternal_24 : decode cJ12_ensureCapacityInternal 24 = .ok (.invokevirtual 104, 3) := dk_182 0 104 (dk_at dksJ12_ensureCapacityInternal_1 0 rfl rfl)
theorem dJ12_ensureCapacityInternal_27 : decode cJ12_ensureCapacityInternal 27 = .ok (.aload_n 0, 1) := dk_42 (dk_at dksJ12_ensureCapacityInternal_1 3 rfl rfl)
theorem dJ12_ensureCapacityInternal_28 : decode cJ12_ensureCapacityInternal 28 = .ok (.getfield 22, 3) := dk_180 0 22 (dk_at dksJ12_ensureCapacityInternal_1 4 rfl rfl)
theorem dJ12_ensureCapacityInternal_31 : decode cJ12_ensureCapacityInternal 31 = .ok (.ishl, 1) := dk_120 (dk_at dksJ12_ensureCapacityInternal_1 7 rfl rfl)
theorem dJ12_ensureCapacityInternal_32 : decode cJ12_ensureCapacityInternal 32 = .ok (.invokestatic 108, 3) := dk_184 0 108 (dk_at dksJ12_ensureCapacityInternal_1 8 rfl rfl)
theorem dJ12_ensureCapacityInternal_35 : decode cJ12_ensureCapacityInternal 35 = .ok (.putfield 15, 3) := dk_181 0 15 (dk_at dksJ12_ensureCapacityInternal_1 11 rfl rfl)
theorem dJ12_ensureCapacityInternal_38 : decode cJ12_ensureCapacityInternal 38 = .ok (.return_, 1) := dk_177 (dk_at dksJ12_ensureCapacityInternal_1 14 rfl rfl)
abbrev cJ12_newCapacity : ByteArray := prog_29_method_10_code
def yJ12_newCapacity : MethodName := ⟨RJ12, "newCapacity", "(I)I"⟩
def dkwJ12_newCapacity_2 : List UInt8 := [183, 0, 124, 191, 21, 5, 42, 180, 0, 22, 122, 172]
abbrev dktJ12_newCapacity_2 : List UInt8 := dkwJ12_newCapacity_2 ++ []
def dkwJ12_newCapacity_1 : List UInt8 := [180, 0, 22, 120, 96, 184, 0, 114, 54, 5, 21, 5, 18, 39, 160, 0, 13, 187, 0, 120, 89, 18, 122]
abbrev dktJ12_newCapacity_1 : List UInt8 := dkwJ12_newCapacity_1 ++ dktJ12_newCapacity_2
def dkwJ12_newCapacity_0 : List UInt8 := [42, 180, 0, 15, 190, 61, 27, 42, 180, 0, 22, 120, 62, 29, 28, 100, 54, 4, 28, 21, 4, 28, 5, 42]
abbrev dktJ12_newCapacity_0 : List UInt8 := dkwJ12_newCapacity_0 ++ dktJ12_newCapacity_1
theorem dksJ12_newCapacity_0 : cJ12_newCapacity.data.toList.drop 0 = dktJ12_newCapacity_0 := by decide +kernel
theorem dksJ12_newCapacity_1 : cJ12_newCapacity.data.toList.drop 24 = dktJ12_newCapacity_1 := dk_seg dksJ12_newCapacity_0 24 rfl rfl
theorem dksJ12_newCapacity_2 : cJ12_newCapacity.data.toList.drop 47 = dktJ12_newCapacity_2 := dk_seg dksJ12_newCapacity_1 23 rfl rfl
theorem dJ12_newCapacity_0 : decode cJ12_newCapacity 0 = .ok (.aload_n 0, 1) := dk_42 (dk_at dksJ12_newCapacity_0 0 rfl rfl)
theorem dJ12_newCapacity_1 : decode cJ12_newCapacity 1 = .ok (.getfield 15, 3) := dk_180 0 15 (dk_at dksJ12_newCapacity_0 1 rfl rfl)
theorem dJ12_newCapacity_4 : decode cJ12_newCapacity 4 = .ok (.arraylength, 1) := dk_190 (dk_at dksJ12_newCapacity_0 4 rfl rfl)
theorem dJ12_newCapacity_5 : decode cJ12_newCapacity 5 = .ok (.istore_n 2, 1) := dk_61 (dk_at dksJ12_newCapacity_0 5 rfl rfl)
theorem dJ12_newCapacity_6 : decode cJ12_newCapacity 6 = .ok (.iload_n 1, 1) := dk_27 (dk_at dksJ12_newCapacity_0 6 rfl rfl)
theorem dJ12_newCapacity_7 : decode cJ12_newCapacity 7 = .ok (.aload_n 0, 1) := dk_42 (dk_at dksJ12_newCapacity_0 7 rfl rfl)
theorem dJ12_newCapacity_8 : decode cJ12_newCapacity 8 = .ok (.getfield 22, 3) := dk_180 0 22 (dk_at dksJ12_newCapacity_0 8 rfl rfl)
theorem dJ12_newCapacity_11 : decode cJ12_newCapacity 11 = .ok (.ishl, 1) := dk_120 (dk_at dksJ12_newCapacity_0 11 rfl rfl)
theorem dJ12_newCapacity_12 : decode cJ12_newCapacity 12 = .ok (.istore_n 3, 1) := dk_62 (dk_at dksJ12_newCapacity_0 12 rfl rfl)
theorem dJ12_newCapacity_13 : decode cJ12_newCapacity 13 = .ok (.iload_n 3, 1) := dk_29 (dk_at dksJ12_newCapacity_0 13 rfl rfl)
theorem dJ12_newCapacity_14 : decode cJ12_newCapacity 14 = .ok (.iload_n 2, 1) := dk_28 (dk_at dksJ12_newCapacity_0 14 rfl rfl)
theorem dJ12_newCapacity_15 : decode cJ12_newCapacity 15 = .ok (.isub, 1) := dk_100 (dk_at dksJ12_newCapacity_0 15 rfl rfl)
theorem dJ12_newCapacity_16 : decode cJ12_newCapacity 16 = .ok (.istore 4, 2) := dk_54 4 (dk_at dksJ12_newCapacity_0 16 rfl rfl)
theorem dJ12_newCapacity_18 : decode cJ12_newCapacity 18 = .ok (.iload_n 2, 1) := dk_28 (dk_at dksJ12_newCapacity_0 18 rfl rfl)
theorem dJ12_newCapacity_19 : decode cJ12_newCapacity 19 = .ok (.iload 4, 2) := dk_21 4 (dk_at dksJ12_newCapacity_0 19 rfl rfl)
theorem dJ12_newCapacity_21 : decode cJ12_newCapacity 21 = .ok (.iload_n 2, 1) := dk_28 (dk_at dksJ12_newCapacity_0 21 rfl rfl)
theorem dJ12_newCapacity_22 : decode cJ12_newCapacity 22 = .ok (.iconst 2, 1) := dk_5 (dk_at dksJ12_newCapacity_0 22 rfl rfl)
theorem dJ12_newCapacity_23 : decode cJ12_newCapacity 23 = .ok (.aload_n 0, 1) := dk_42 (dk_at dksJ12_newCapacity_0 23 rfl rfl)
theorem dJ12_newCapacity_24 : decode cJ12_newCapacity 24 = .ok (.getfield 22, 3) := dk_180 0 22 (dk_at dksJ12_newCapacity_1 0 rfl rfl)
theorem dJ12_newCapacity_27 : decode cJ12_newCapacity 27 = .ok (.ishl, 1) := dk_120 (dk_at dksJ12_newCapacity_1 3 rfl rfl)
theorem dJ12_newCapacity_28 : decode cJ12_newCapacity 28 = .ok (.iadd, 1) := dk_96 (dk_at dksJ12_newCapacity_1 4 rfl rfl)
theorem dJ12_newCapacity_29 : decode cJ12_newCapacity 29 = .ok (.invokestatic 114, 3) := dk_184 0 114 (dk_at dksJ12_newCapacity_1 5 rfl rfl)
theorem dJ12_newCapacity_32 : decode cJ12_newCapacity 32 = .ok (.istore 5, 2) := dk_54 5 (dk_at dksJ12_newCapacity_1 8 rfl rfl)
theorem dJ12_newCapacity_34 : decode cJ12_newCapacity 34 = .ok (.iload 5, 2) := dk_21 5 (dk_at dksJ12_newCapacity_1 10 rfl rfl)
theorem dJ12_newCapacity_36 : decode cJ12_newCapacity 36 = .ok (.ldc 39, 2) := dk_18 39 (dk_at dksJ12_newCapacity_1 12 rfl rfl)
theorem dJ12_newCapacity_38 : decode cJ12_newCapacity 38 = .ok (.if_icmp .ne 13, 3) := dk_160 0 13 (dk_at dksJ12_newCapacity_1 14 rfl rfl)
theorem dJ12_newCapacity_41 : decode cJ12_newCapacity 41 = .ok (.new 120, 3) := dk_187 0 120 (dk_at dksJ12_newCapacity_1 17 rfl rfl)
theorem dJ12_newCapacity_44 : decode cJ12_newCapacity 44 = .ok (.dup, 1) := dk_89 (dk_at dksJ12_newCapacity_1 20 rfl rfl)
theorem dJ12_newCapacity_45 : decode cJ12_newCapacity 45 = .ok (.ldc 122, 2) := dk_18 122 (dk_at dksJ12_newCapacity_1 21 rfl rfl)
theorem dJ12_newCapacity_47 : decode cJ12_newCapacity 47 = .ok (.invokespecial 124, 3) := dk_183 0 124 (dk_at dksJ12_newCapacity_2 0 rfl rfl)
theorem dJ12_newCapacity_50 : decode cJ12_newCapacity 50 = .ok (.athrow, 1) := dk_191 (dk_at dksJ12_newCapacity_2 3 rfl rfl)
theorem dJ12_newCapacity_51 : decode cJ12_newCapacity 51 = .ok (.iload 5, 2) := dk_21 5 (dk_at dksJ12_newCapacity_2 4 rfl rfl)
theorem dJ12_newCapacity_53 : decode cJ12_newCapacity 53 = .ok (.aload_n 0, 1) := dk_42 (dk_at dksJ12_newCapacity_2 6 rfl rfl)
theorem dJ12_newCapacity_54 : decode cJ12_newCapacity 54 = .ok (.getfield 22, 3) := dk_180 0 22 (dk_at dksJ12_newCapacity_2 7 rfl rfl)
theorem dJ12_newCapacity_57 : decode cJ12_newCapacity 57 = .ok (.ishr, 1) := dk_122 (dk_at dksJ12_newCapacity_2 10 rfl rfl)
theorem dJ12_newCapacity_58 : decode cJ12_newCapacity 58 = .ok (.ireturn, 1) := dk_172 (dk_at dksJ12_newCapacity_2 11 rfl rfl)
abbrev cJ12_isLatin1 : ByteArray := prog_29_method_68_code
def yJ12_isLatin1 : MethodName := ⟨RJ12, "isLatin1", "()Z"⟩
def dkwJ12_isLatin1_0 : List UInt8 := [178, 0, 18, 153, 0, 14, 42, 180, 0, 22, 154, 0, 7, 4, 167, 0, 4, 3, 172]
abbrev dktJ12_isLatin1_0 : List UInt8 := dkwJ12_isLatin1_0 ++ []
theorem dksJ12_isLatin1_0 : cJ12_isLatin1.data.toList.drop 0 = dktJ12_isLatin1_0 := by decide +kernel
theorem dJ12_isLatin1_0 : decode cJ12_isLatin1 0 = .ok (.getstatic 18, 3) := dk_178 0 18 (dk_at dksJ12_isLatin1_0 0 rfl rfl)
theorem dJ12_isLatin1_3 : decode cJ12_isLatin1 3 = .ok (.ifCond .eq 14, 3) := dk_153 0 14 (dk_at dksJ12_isLatin1_0 3 rfl rfl)
theorem dJ12_isLatin1_6 : decode cJ12_isLatin1 6 = .ok (.aload_n 0, 1) := dk_42 (dk_at dksJ12_isLatin1_0 6 rfl rfl)
theorem dJ12_isLatin1_7 : decode cJ12_isLatin1 7 = .ok (.getfield 22, 3) := dk_180 0 22 (dk_at dksJ12_isLatin1_0 7 rfl rfl)
theorem dJ12_isLatin1_10 : decode cJ12_isLatin1 10 = .ok (.ifCond .ne 7, 3) := dk_154 0 7 (dk_at dksJ12_isLatin1_0 10 rfl rfl)
theorem dJ12_isLatin1_13 : decode cJ12_isLatin1 13 = .ok (.iconst 1, 1) := dk_4 (dk_at dksJ12_isLatin1_0 13 rfl rfl)
theorem dJ12_isLatin1_14 : decode cJ12_isLatin1 14 = .ok (.goto 4, 3) := dk_167 0 4 (dk_at dksJ12_isLatin1_0 14 rfl rfl)
theorem dJ12_isLatin1_17 : decode cJ12_isLatin1 17 = .ok (.iconst 0, 1) := dk_3 (dk_at dksJ12_isLatin1_0 17 rfl rfl)
theorem dJ12_isLatin1_18 : decode cJ12_isLatin1 18 = .ok (.ireturn, 1) := dk_172 (dk_at dksJ12_isLatin1_0 18 rfl rfl)
abbrev cJ12_putStringAt : ByteArray := prog_29_method_73_code
def yJ12_putStringAt : MethodName := ⟨RJ12, "putStringAt", "(ILjava/lang/String;)V"⟩
def dkwJ12_putStringAt_0 : List UInt8 := [42, 44, 182, 1, 141, 44, 42, 180, 0, 15, 27, 42, 180, 0, 22, 182, 1, 143, 177]
abbrev dktJ12_putStringAt_0 : List UInt8 := dkwJ12_putStringAt_0 ++ []
theorem dksJ12_putStringAt_0 : cJ12_putStringAt.data.toList.drop 0 = dktJ12_putStringAt_0 := by decide +kernel
theorem dJ12_putStringAt_0 : decode cJ12_putStringAt 0 = .ok (.aload_n 0, 1) := dk_42 (dk_at dksJ12_putStringAt_0 0 rfl rfl)
theorem dJ12_putStringAt_1 : decode cJ12_putStringAt 1 = .ok (.aload_n 2, 1) := dk_44 (dk_at dksJ12_putStringAt_0 1 rfl rfl)
theorem dJ12_putStringAt_2 : decode cJ12_putStringAt 2 = .ok (.invokevirtual 397, 3) := dk_182 1 141 (dk_at dksJ12_putStringAt_0 2 rfl rfl)
theorem dJ12_putStringAt_5 : decode cJ12_putStringAt 5 = .ok (.aload_n 2, 1) := dk_44 (dk_at dksJ12_putStringAt_0 5 rfl rfl)
theorem dJ12_putStringAt_6 : decode cJ12_putStringAt 6 = .ok (.aload_n 0, 1) := dk_42 (dk_at dksJ12_putStringAt_0 6 rfl rfl)
theorem dJ12_putStringAt_7 : decode cJ12_putStringAt 7 = .ok (.getfield 15, 3) := dk_180 0 15 (dk_at dksJ12_putStringAt_0 7 rfl rfl)
theorem dJ12_putStringAt_10 : decode cJ12_putStringAt 10 = .ok (.iload_n 1, 1) := dk_27 (dk_at dksJ12_putStringAt_0 10 rfl rfl)
theorem dJ12_putStringAt_11 : decode cJ12_putStringAt 11 = .ok (.aload_n 0, 1) := dk_42 (dk_at dksJ12_putStringAt_0 11 rfl rfl)
theorem dJ12_putStringAt_12 : decode cJ12_putStringAt 12 = .ok (.getfield 22, 3) := dk_180 0 22 (dk_at dksJ12_putStringAt_0 12 rfl rfl)
theorem dJ12_putStringAt_15 : decode cJ12_putStringAt 15 = .ok (.invokevirtual 399, 3) := dk_182 1 143 (dk_at dksJ12_putStringAt_0 15 rfl rfl)
theorem dJ12_putStringAt_18 : decode cJ12_putStringAt 18 = .ok (.return_, 1) := dk_177 (dk_at dksJ12_putStringAt_0 18 rfl rfl)
abbrev cJ12_inflateIfNeededFor : ByteArray := prog_29_method_71_code
def yJ12_inflateIfNeededFor : MethodName := ⟨RJ12, "inflateIfNeededFor", "(Ljava/lang/String;)V"⟩
def dkwJ12_inflateIfNeededFor_0 : List UInt8 := [178, 0, 18, 153, 0, 18, 42, 180, 0, 22, 43, 182, 0, 40, 159, 0, 7, 42, 182, 0, 195, 177]
abbrev dktJ12_inflateIfNeededFor_0 : List UInt8 := dkwJ12_inflateIfNeededFor_0 ++ []
theorem dksJ12_inflateIfNeededFor_0 : cJ12_inflateIfNeededFor.data.toList.drop 0 = dktJ12_inflateIfNeededFor_0 := by decide +kernel
theorem dJ12_inflateIfNeededFor_0 : decode cJ12_inflateIfNeededFor 0 = .ok (.getstatic 18, 3) := dk_178 0 18 (dk_at dksJ12_inflateIfNeededFor_0 0 rfl rfl)
theorem dJ12_inflateIfNeededFor_3 : decode cJ12_inflateIfNeededFor 3 = .ok (.ifCond .eq 18, 3) := dk_153 0 18 (dk_at dksJ12_inflateIfNeededFor_0 3 rfl rfl)
theorem dJ12_inflateIfNeededFor_6 : decode cJ12_inflateIfNeededFor 6 = .ok (.aload_n 0, 1) := dk_42 (dk_at dksJ12_inflateIfNeededFor_0 6 rfl rfl)
theorem dJ12_inflateIfNeededFor_7 : decode cJ12_inflateIfNeededFor 7 = .ok (.getfield 22, 3) := dk_180 0 22 (dk_at dksJ12_inflateIfNeededFor_0 7 rfl rfl)
theorem dJ12_inflateIfNeededFor_10 : decode cJ12_inflateIfNeededFor 10 = .ok (.aload_n 1, 1) := dk_43 (dk_at dksJ12_inflateIfNeededFor_0 10 rfl rfl)
theorem dJ12_inflateIfNeededFor_11 : decode cJ12_inflateIfNeededFor 11 = .ok (.invokevirtual 40, 3) := dk_182 0 40 (dk_at dksJ12_inflateIfNeededFor_0 11 rfl rfl)
theorem dJ12_inflateIfNeededFor_14 : decode cJ12_inflateIfNeededFor 14 = .ok (.if_icmp .eq 7, 3) := dk_159 0 7 (dk_at dksJ12_inflateIfNeededFor_0 14 rfl rfl)
theorem dJ12_inflateIfNeededFor_17 : decode cJ12_inflateIfNeededFor 17 = .ok (.aload_n 0, 1) := dk_42 (dk_at dksJ12_inflateIfNeededFor_0 17 rfl rfl)
theorem dJ12_inflateIfNeededFor_18 : decode cJ12_inflateIfNeededFor 18 = .ok (.invokevirtual 195, 3) := dk_182 0 195 (dk_at dksJ12_inflateIfNeededFor_0 18 rfl rfl)
theorem dJ12_inflateIfNeededFor_21 : decode cJ12_inflateIfNeededFor 21 = .ok (.return_, 1) := dk_177 (dk_at dksJ12_inflateIfNeededFor_0 21 rfl rfl)
abbrev cJ12_inflate : ByteArray := prog_29_method_11_code
def yJ12_inflate : MethodName := ⟨RJ12, "inflate", "()V"⟩
def dkwJ12_inflate_1 : List UInt8 := [42, 180, 0, 79, 184, 0, 125, 42, 43, 181, 0, 15, 42, 4, 181, 0, 22, 177]
abbrev dktJ12_inflate_1 : List UInt8 := dkwJ12_inflate_1 ++ []
def dkwJ12_inflate_0 : List UInt8 := [42, 182, 0, 83, 154, 0, 4, 177, 42, 180, 0, 15, 190, 184, 0, 26, 76, 42, 180, 0, 15, 3, 43, 3]
abbrev dktJ12_inflate_0 : List UInt8 := dkwJ12_inflate_0 ++ dktJ12_inflate_1
theorem dksJ12_inflate_0 : cJ12_inflate.data.toList.drop 0 = dktJ12_inflate_0 := by decide +kernel
theorem dksJ12_inflate_1 : cJ12_inflate.data.toList.drop 24 = dktJ12_inflate_1 := dk_seg dksJ12_inflate_0 24 rfl rfl
theorem dJ12_inflate_0 : decode cJ12_inflate 0 = .ok (.aload_n 0, 1) := dk_42 (dk_at dksJ12_inflate_0 0 rfl rfl)
theorem dJ12_inflate_1 : decode cJ12_inflate 1 = .ok (.invokevirtual 83, 3) := dk_182 0 83 (dk_at dksJ12_inflate_0 1 rfl rfl)
theorem dJ12_inflate_4 : decode cJ12_inflate 4 = .ok (.ifCond .ne 4, 3) := dk_154 0 4 (dk_at dksJ12_inflate_0 4 rfl rfl)
theorem dJ12_inflate_7 : decode cJ12_inflate 7 = .ok (.return_, 1) := dk_177 (dk_at dksJ12_inflate_0 7 rfl rfl)
theorem dJ12_inflate_8 : decode cJ12_inflate 8 = .ok (.aload_n 0, 1) := dk_42 (dk_at dksJ12_inflate_0 8 rfl rfl)
theorem dJ12_inflate_9 : decode cJ12_inflate 9 = .ok (.getfield 15, 3) := dk_180 0 15 (dk_at dksJ12_inflate_0 9 rfl rfl)
theorem dJ12_inflate_12 : decode cJ12_inflate 12 = .ok (.arraylength, 1) := dk_190 (dk_at dksJ12_inflate_0 12 rfl rfl)
theorem dJ12_inflate_13 : decode cJ12_inflate 13 = .ok (.invokestatic 26, 3) := dk_184 0 26 (dk_at dksJ12_inflate_0 13 rfl rfl)
theorem dJ12_inflate_16 : decode cJ12_inflate 16 = .ok (.astore_n 1, 1) := dk_76 (dk_at dksJ12_inflate_0 16 rfl rfl)
theorem dJ12_inflate_17 : decode cJ12_inflate 17 = .ok (.aload_n 0, 1) := dk_42 (dk_at dksJ12_inflate_0 17 rfl rfl)
theorem dJ12_inflate_18 : decode cJ12_inflate 18 = .ok (.getfield 15, 3) := dk_180 0 15 (dk_at dksJ12_inflate_0 18 rfl rfl)
theorem dJ12_inflate_21 : decode cJ12_inflate 21 = .ok (.iconst 0, 1) := dk_3 (dk_at dksJ12_inflate_0 21 rfl rfl)
theorem dJ12_inflate_22 : decode cJ12_inflate 22 = .ok (.aload_n 1, 1) := dk_43 (dk_at dksJ12_inflate_0 22 rfl rfl)
theorem dJ12_inflate_23 : decode cJ12_inflate 23 = .ok (.iconst 0, 1) := dk_3 (dk_at dksJ12_inflate_0 23 rfl rfl)
theorem dJ12_inflate_24 : decode cJ12_inflate 24 = .ok (.aload_n 0, 1) := dk_42 (dk_at dksJ12_inflate_1 0 rfl rfl)
theorem dJ12_inflate_25 : decode cJ12_inflate 25 = .ok (.getfield 79, 3) := dk_180 0 79 (dk_at dksJ12_inflate_1 1 rfl rfl)
theorem dJ12_inflate_28 : decode cJ12_inflate 28 = .ok (.invokestatic 125, 3) := dk_184 0 125 (dk_at dksJ12_inflate_1 4 rfl rfl)
theorem dJ12_inflate_31 : decode cJ12_inflate 31 = .ok (.aload_n 0, 1) := dk_42 (dk_at dksJ12_inflate_1 7 rfl rfl)
theorem dJ12_inflate_32 : decode cJ12_inflate 32 = .ok (.aload_n 1, 1) := dk_43 (dk_at dksJ12_inflate_1 8 rfl rfl)
theorem dJ12_inflate_33 : decode cJ12_inflate 33 = .ok (.putfield 15, 3) := dk_181 0 15 (dk_at dksJ12_inflate_1 9 rfl rfl)
theorem dJ12_inflate_36 : decode cJ12_inflate 36 = .ok (.aload_n 0, 1) := dk_42 (dk_at dksJ12_inflate_1 12 rfl rfl)
theorem dJ12_inflate_37 : decode cJ12_inflate 37 = .ok (.iconst 1, 1) := dk_4 (dk_at dksJ12_inflate_1 13 rfl rfl)
theorem dJ12_inflate_38 : decode cJ12_inflate 38 = .ok (.putfield 22, 3) := dk_181 0 22 (dk_at dksJ12_inflate_1 14 rfl rfl)
theorem dJ12_inflate_41 : decode cJ12_inflate 41 = .ok (.return_, 1) := dk_177 (dk_at dksJ12_inflate_1 17 rfl rfl)
abbrev cJ12_getValue : ByteArray := prog_29_method_64_code
def yJ12_getValue : MethodName := ⟨RJ12, "getValue", "()[B"⟩
theorem dJ12_getValue_0 : decode cJ12_getValue 0 = .ok (.aload_n 0, 1) := by decide +kernel
theorem dJ12_getValue_1 : decode cJ12_getValue 1 = .ok (.getfield 15, 3) := by decide +kernel
theorem dJ12_getValue_4 : decode cJ12_getValue 4 = .ok (.areturn, 1) := by decide +kernel
abbrev cJ12_length : ByteArray := prog_29_method_6_code
def yJ12_length : MethodName := ⟨RJ12, "length", "()I"⟩
theorem dJ12_length_0 : decode cJ12_length 0 = .ok (.aload_n 0, 1) := by decide +kernel
theorem dJ12_length_1 : decode cJ12_length 1 = .ok (.getfield 79, 3) := by decide +kernel
theorem dJ12_length_4 : decode cJ12_length 4 = .ok (.ireturn, 1) := by decide +kernel
abbrev cJ12_append_2 : ByteArray := prog_29_method_31_code
def yJ12_append_2 : MethodName := ⟨RJ12, "append", "(C)Ljava/lang/AbstractStringBuilder;"⟩
def dkwJ12_append_2_3 : List UInt8 := [181, 0, 79, 27, 184, 0, 197, 42, 176]
abbrev dktJ12_append_2_3 : List UInt8 := dkwJ12_append_2_3 ++ []
def dkwJ12_append_2_2 : List UInt8 := [182, 0, 83, 153, 0, 7, 42, 182, 0, 195, 42, 180, 0, 15, 42, 89, 180, 0, 79, 90, 4, 96]
abbrev dktJ12_append_2_2 : List UInt8 := dkwJ12_append_2_2 ++ dktJ12_append_2_3
def dkwJ12_append_2_1 : List UInt8 := [42, 180, 0, 15, 42, 89, 180, 0, 79, 90, 4, 96, 181, 0, 79, 27, 145, 84, 167, 0, 33, 42]
abbrev dktJ12_append_2_1 : List UInt8 := dkwJ12_append_2_1 ++ dktJ12_append_2_2
def dkwJ12_append_2_0 : List UInt8 := [42, 42, 180, 0, 79, 4, 96, 182, 0, 100, 42, 182, 0, 83, 153, 0, 31, 27, 184, 0, 191, 153, 0, 24]
abbrev dktJ12_append_2_0 : List UInt8 := dkwJ12_append_2_0 ++ dktJ12_append_2_1
theorem dksJ12_append_2_0 : cJ12_append_2.data.toList.drop 0 = dktJ12_append_2_0 := by decide +kernel
theorem dksJ12_append_2_1 : cJ12_append_2.data.toList.drop 24 = dktJ12_append_2_1 := dk_seg dksJ12_append_2_0 24 rfl rfl
theorem dksJ12_append_2_2 : cJ12_append_2.data.toList.drop 46 = dktJ12_append_2_2 := dk_seg dksJ12_append_2_1 22 rfl rfl
theorem dksJ12_append_2_3 : cJ12_append_2.data.toList.drop 68 = dktJ12_append_2_3 := dk_seg dksJ12_append_2_2 22 rfl rfl
theorem dJ12_append_2_0 : decode cJ12_append_2 0 = .ok (.aload_n 0, 1) := dk_42 (dk_at dksJ12_append_2_0 0 rfl rfl)
theorem dJ12_append_2_1 : decode cJ12_append_2 1 = .ok (.aload_n 0, 1) := dk_42 (dk_at dksJ12_append_2_0 1 rfl rfl)
theorem dJ12_append_2_2 : decode cJ12_append_2 2 = .ok (.getfield 79, 3) := dk_180 0 79 (dk_at dksJ12_append_2_0 2 rfl rfl)
theorem dJ12_append_2_5 : decode cJ12_append_2 5 = .ok (.iconst 1, 1) := dk_4 (dk_at dksJ12_append_2_0 5 rfl rfl)
theorem dJ12_append_2_6 : decode cJ12_append_2 6 = .ok (.iadd, 1) := dk_96 (dk_at dksJ12_append_2_0 6 rfl rfl)
theorem dJ12_append_2_7 : decode cJ12_append_2 7 = .ok (.invokevirtual 100, 3) := dk_182 0 100 (dk_at dksJ12_append_2_0 7 rfl rfl)
theorem dJ12_append_2_10 : decode cJ12_append_2 10 = .ok (.aload_n 0, 1) := dk_42 (dk_at dksJ12_append_2_0 10 rfl rfl)
theorem dJ12_append_2_11 : decode cJ12_append_2 11 = .ok (.invokevirtual 83, 3) := dk_182 0 83 (dk_at dksJ12_append_2_0 11 rfl rfl)
theorem dJ12_append_2_14 : decode cJ12_append_2 14 = .ok (.ifCond .eq 31, 3) := dk_153 0 31 (dk_at dksJ12_append_2_0 14 rfl rfl)
theorem dJ12_append_2_17 : decode cJ12_append_2 17 = .ok (.iload_n 1, 1) := dk_27 (dk_at dksJ12_append_2_0 17 rfl rfl)
theorem dJ12_append_2_18 : decode cJ12_append_2 18 = .ok (.invokestatic 191, 3) := dk_184 0 191 (dk_at dksJ12_append_2_0 18 rfl rfl)
theorem dJ12_append_2_21 : decode cJ12_append_2 21 = .ok (.ifCond .eq 24, 3) := dk_153 0 24 (dk_at dksJ12_append_2_0 21 rfl rfl)
theorem dJ12_append_2_24 : decode cJ12_append_2 24 = .ok (.aload_n 0, 1) := dk_42 (dk_at dksJ12_append_2_1 0 rfl rfl)
theorem dJ12_append_2_25 : decode cJ12_append_2 25 = .ok (.getfield 15, 3) := dk_180 0 15 (dk_at dksJ12_append_2_1 1 rfl rfl)
theorem dJ12_append_2_28 : decode cJ12_append_2 28 = .ok (.aload_n 0, 1) := dk_42 (dk_at dksJ12_append_2_1 4 rfl rfl)
theorem dJ12_append_2_29 : decode cJ12_append_2 29 = .ok (.dup, 1) := dk_89 (dk_at dksJ12_append_2_1 5 rfl rfl)
theorem dJ12_append_2_30 : decode cJ12_append_2 30 = .ok (.getfield 79, 3) := dk_180 0 79 (dk_at dksJ12_append_2_1 6 rfl rfl)
theorem dJ12_append_2_33 : decode cJ12_append_2 33 = .ok (.dup_x1, 1) := dk_90 (dk_at dksJ12_append_2_1 9 rfl rfl)
theorem dJ12_append_2_34 : decode cJ12_append_2 34 = .ok (.iconst 1, 1) := dk_4 (dk_at dksJ12_append_2_1 10 rfl rfl)
theorem dJ12_append_2_35 : decode cJ12_append_2 35 = .ok (.iadd, 1) := dk_96 (dk_at dksJ12_append_2_1 11 rfl rfl)
theorem dJ12_append_2_36 : decode cJ12_append_2 36 = .ok (.putfield 79, 3) := dk_181 0 79 (dk_at dksJ12_append_2_1 12 rfl rfl)
theorem dJ12_append_2_39 : decode cJ12_append_2 39 = .ok (.iload_n 1, 1) := dk_27 (dk_at dksJ12_append_2_1 15 rfl rfl)
theorem dJ12_append_2_40 : decode cJ12_append_2 40 = .ok (.i2b, 1) := dk_145 (dk_at dksJ12_append_2_1 16 rfl rfl)
theorem dJ12_append_2_41 : decode cJ12_append_2 41 = .ok (.bastore, 1) := dk_84 (dk_at dksJ12_append_2_1 17 rfl rfl)
theorem dJ12_append_2_42 : decode cJ12_append_2 42 = .ok (.goto 33, 3) := dk_167 0 33 (dk_at dksJ12_append_2_1 18 rfl rfl)
theorem dJ12_append_2_45 : decode cJ12_append_2 45 = .ok (.aload_n 0, 1) := dk_42 (dk_at dksJ12_append_2_1 21 rfl rfl)
theorem dJ12_append_2_46 : decode cJ12_append_2 46 = .ok (.invokevirtual 83, 3) := dk_182 0 83 (dk_at dksJ12_append_2_2 0 rfl rfl)
theorem dJ12_append_2_49 : decode cJ12_append_2 49 = .ok (.ifCond .eq 7, 3) := dk_153 0 7 (dk_at dksJ12_append_2_2 3 rfl rfl)
theorem dJ12_append_2_52 : decode cJ12_append_2 52 = .ok (.aload_n 0, 1) := dk_42 (dk_at dksJ12_append_2_2 6 rfl rfl)
theorem dJ12_append_2_53 : decode cJ12_append_2 53 = .ok (.invokevirtual 195, 3) := dk_182 0 195 (dk_at dksJ12_append_2_2 7 rfl rfl)
theorem dJ12_append_2_56 : decode cJ12_append_2 56 = .ok (.aload_n 0, 1) := dk_42 (dk_at dksJ12_append_2_2 10 rfl rfl)
theorem dJ12_append_2_57 : decode cJ12_append_2 57 = .ok (.getfield 15, 3) := dk_180 0 15 (dk_at dksJ12_append_2_2 11 rfl rfl)
theorem dJ12_append_2_60 : decode cJ12_append_2 60 = .ok (.aload_n 0, 1) := dk_42 (dk_at dksJ12_append_2_2 14 rfl rfl)
theorem dJ12_append_2_61 : decode cJ12_append_2 61 = .ok (.dup, 1) := dk_89 (dk_at dksJ12_append_2_2 15 rfl rfl)
theorem dJ12_append_2_62 : decode cJ12_append_2 62 = .ok (.getfield 79, 3) := dk_180 0 79 (dk_at dksJ12_append_2_2 16 rfl rfl)
theorem dJ12_append_2_65 : decode cJ12_append_2 65 = .ok (.dup_x1, 1) := dk_90 (dk_at dksJ12_append_2_2 19 rfl rfl)
theorem dJ12_append_2_66 : decode cJ12_append_2 66 = .ok (.iconst 1, 1) := dk_4 (dk_at dksJ12_append_2_2 20 rfl rfl)
theorem dJ12_append_2_67 : decode cJ12_append_2 67 = .ok (.iadd, 1) := dk_96 (dk_at dksJ12_append_2_2 21 rfl rfl)
theorem dJ12_append_2_68 : decode cJ12_append_2 68 = .ok (.putfield 79, 3) := dk_181 0 79 (dk_at dksJ12_append_2_3 0 rfl rfl)
theorem dJ12_append_2_71 : decode cJ12_append_2 71 = .ok (.iload_n 1, 1) := dk_27 (dk_at dksJ12_append_2_3 3 rfl rfl)
theorem dJ12_append_2_72 : decode cJ12_append_2 72 = .ok (.invokestatic 197, 3) := dk_184 0 197 (dk_at dksJ12_append_2_3 4 rfl rfl)
theorem dJ12_append_2_75 : decode cJ12_append_2 75 = .ok (.aload_n 0, 1) := dk_42 (dk_at dksJ12_append_2_3 7 rfl rfl)
theorem dJ12_append_2_76 : decode cJ12_append_2 76 = .ok (.areturn, 1) := dk_176 (dk_at dksJ12_append_2_3 8 rfl rfl)
abbrev cJ12_charAt : ByteArray := prog_29_method_14_code
def yJ12_charAt : MethodName := ⟨RJ12, "charAt", "(I)C"⟩
def dkwJ12_charAt_1 : List UInt8 := [21, 4, 184, 0, 144, 28, 154, 0, 12, 45, 27, 51, 17, 0, 255, 126, 146, 172, 45, 27, 184, 0, 148, 172]
abbrev dktJ12_charAt_1 : List UInt8 := dkwJ12_charAt_1 ++ []
def dkwJ12_charAt_0 : List UInt8 := [42, 180, 0, 22, 61, 42, 180, 0, 15, 78, 42, 180, 0, 79, 45, 190, 28, 122, 184, 0, 138, 54, 4, 27]
abbrev dktJ12_charAt_0 : List UInt8 := dkwJ12_charAt_0 ++ dktJ12_charAt_1
theorem dksJ12_charAt_0 : cJ12_charAt.data.toList.drop 0 = dktJ12_charAt_0 := by decide +kernel
theorem dksJ12_charAt_1 : cJ12_charAt.data.toList.drop 24 = dktJ12_charAt_1 := dk_seg dksJ12_charAt_0 24 rfl rfl
theorem dJ12_charAt_0 : decode cJ12_charAt 0 = .ok (.aload_n 0, 1) := dk_42 (dk_at dksJ12_charAt_0 0 rfl rfl)
theorem dJ12_charAt_1 : decode cJ12_charAt 1 = .ok (.getfield 22, 3) := dk_180 0 22 (dk_at dksJ12_charAt_0 1 rfl rfl)
theorem dJ12_charAt_4 : decode cJ12_charAt 4 = .ok (.istore_n 2, 1) := dk_61 (dk_at dksJ12_charAt_0 4 rfl rfl)
theorem dJ12_charAt_5 : decode cJ12_charAt 5 = .ok (.aload_n 0, 1) := dk_42 (dk_at dksJ12_charAt_0 5 rfl rfl)
theorem dJ12_charAt_6 : decode cJ12_charAt 6 = .ok (.getfield 15, 3) := dk_180 0 15 (dk_at dksJ12_charAt_0 6 rfl rfl)
theorem dJ12_charAt_9 : decode cJ12_charAt 9 = .ok (.astore_n 3, 1) := dk_78 (dk_at dksJ12_charAt_0 9 rfl rfl)
theorem dJ12_charAt_10 : decode cJ12_charAt 10 = .ok (.aload_n 0, 1) := dk_42 (dk_at dksJ12_charAt_0 10 rfl rfl)
theorem dJ12_charAt_11 : decode cJ12_charAt 11 = .ok (.getfield 79, 3) := dk_180 0 79 (dk_at dksJ12_charAt_0 11 rfl rfl)
theorem dJ12_charAt_14 : decode cJ12_charAt 14 = .ok (.aload_n 3, 1) := dk_45 (dk_at dksJ12_charAt_0 14 rfl rfl)
theorem dJ12_charAt_15 : decode cJ12_charAt 15 = .ok (.arraylength, 1) := dk_190 (dk_at dksJ12_charAt_0 15 rfl rfl)
theorem dJ12_charAt_16 : decode cJ12_charAt 16 = .ok (.iload_n 2, 1) := dk_28 (dk_at dksJ12_charAt_0 16 rfl rfl)
theorem dJ12_charAt_17 : decode cJ12_charAt 17 = .ok (.ishr, 1) := dk_122 (dk_at dksJ12_charAt_0 17 rfl rfl)
theorem dJ12_charAt_18 : decode cJ12_charAt 18 = .ok (.invokestatic 138, 3) := dk_184 0 138 (dk_at dksJ12_charAt_0 18 rfl rfl)
theorem dJ12_charAt_21 : decode cJ12_charAt 21 = .ok (.istore 4, 2) := dk_54 4 (dk_at dksJ12_charAt_0 21 rfl rfl)
theorem dJ12_charAt_23 : decode cJ12_charAt 23 = .ok (.iload_n 1, 1) := dk_27 (dk_at dksJ12_charAt_0 23 rfl rfl)
theorem dJ12_charAt_24 : decode cJ12_charAt 24 = .ok (.iload 4, 2) := dk_21 4 (dk_at dksJ12_charAt_1 0 rfl rfl)
theorem dJ12_charAt_26 : decode cJ12_charAt 26 = .ok (.invokestatic 144, 3) := dk_184 0 144 (dk_at dksJ12_charAt_1 2 rfl rfl)
theorem dJ12_charAt_29 : decode cJ12_charAt 29 = .ok (.iload_n 2, 1) := dk_28 (dk_at dksJ12_charAt_1 5 rfl rfl)
theorem dJ12_charAt_30 : decode cJ12_charAt 30 = .ok (.ifCond .ne 12, 3) := dk_154 0 12 (dk_at dksJ12_charAt_1 6 rfl rfl)
theorem dJ12_charAt_33 : decode cJ12_charAt 33 = .ok (.aload_n 3, 1) := dk_45 (dk_at dksJ12_charAt_1 9 rfl rfl)
theorem dJ12_charAt_34 : decode cJ12_charAt 34 = .ok (.iload_n 1, 1) := dk_27 (dk_at dksJ12_charAt_1 10 rfl rfl)
theorem dJ12_charAt_35 : decode cJ12_charAt 35 = .ok (.baload, 1) := dk_51 (dk_at dksJ12_charAt_1 11 rfl rfl)
theorem dJ12_charAt_36 : decode cJ12_charAt 36 = .ok (.sipush 255, 3) := dk_17 0 255 (dk_at dksJ12_charAt_1 12 rfl rfl)
theorem dJ12_charAt_39 : decode cJ12_charAt 39 = .ok (.iand, 1) := dk_126 (dk_at dksJ12_charAt_1 15 rfl rfl)
theorem dJ12_charAt_40 : decode cJ12_charAt 40 = .ok (.i2c, 1) := dk_146 (dk_at dksJ12_charAt_1 16 rfl rfl)
theorem dJ12_charAt_41 : decode cJ12_charAt 41 = .ok (.ireturn, 1) := dk_172 (dk_at dksJ12_charAt_1 17 rfl rfl)
theorem dJ12_charAt_42 : decode cJ12_charAt 42 = .ok (.aload_n 3, 1) := dk_45 (dk_at dksJ12_charAt_1 18 rfl rfl)
theorem dJ12_charAt_43 : decode cJ12_charAt 43 = .ok (.iload_n 1, 1) := dk_27 (dk_at dksJ12_charAt_1 19 rfl rfl)
theorem dJ12_charAt_44 : decode cJ12_charAt 44 = .ok (.invokestatic 148, 3) := dk_184 0 148 (dk_at dksJ12_charAt_1 20 rfl rfl)
theorem dJ12_charAt_47 : decode cJ12_charAt 47 = .ok (.ireturn, 1) := dk_172 (dk_at dksJ12_charAt_1 23 rfl rfl)
abbrev cJ12_setLength : ByteArray := prog_29_method_13_code
def yJ12_setLength : MethodName := ⟨RJ12, "setLength", "(I)V"⟩
def dkwJ12_setLength_3 : List UInt8 := [164, 0, 8, 42, 4, 181, 0, 73, 42, 27, 181, 0, 79, 177]
abbrev dktJ12_setLength_3 : List UInt8 := dkwJ12_setLength_3 ++ []
def dkwJ12_setLength_2 : List UInt8 := [167, 0, 31, 42, 180, 0, 15, 42, 180, 0, 79, 27, 184, 0, 137, 167, 0, 16, 42, 180, 0, 79, 27]
abbrev dktJ12_setLength_2 : List UInt8 := dkwJ12_setLength_2 ++ dktJ12_setLength_3
def dkwJ12_setLength_1 : List UInt8 := [162, 0, 40, 42, 182, 0, 83, 153, 0, 18, 42, 180, 0, 15, 42, 180, 0, 79, 27, 184, 0, 133]
abbrev dktJ12_setLength_1 : List UInt8 := dkwJ12_setLength_1 ++ dktJ12_setLength_2
def dkwJ12_setLength_0 : List UInt8 := [27, 156, 0, 12, 187, 0, 129, 89, 27, 183, 0, 131, 191, 42, 27, 182, 0, 100, 42, 180, 0, 79, 27]
abbrev dktJ12_setLength_0 : List UInt8 := dkwJ12_setLength_0 ++ dktJ12_setLength_1
theorem dksJ12_setLength_0 : cJ12_setLength.data.toList.drop 0 = dktJ12_setLength_0 := by decide +kernel
theorem dksJ12_setLength_1 : cJ12_setLength.data.toList.drop 23 = dktJ12_setLength_1 := dk_seg dksJ12_setLength_0 23 rfl rfl
theorem dksJ12_setLength_2 : cJ12_setLength.data.toList.drop 45 = dktJ12_setLength_2 := dk_seg dksJ12_setLength_1 22 rfl rfl
theorem dksJ12_setLength_3 : cJ12_setLength.data.toList.drop 68 = dktJ12_setLength_3 := dk_seg dksJ12_setLength_2 23 rfl rfl
theorem dJ12_setLength_0 : decode cJ12_setLength 0 = .ok (.iload_n 1, 1) := dk_27 (dk_at dksJ12_setLength_0 0 rfl rfl)
theorem dJ12_setLength_1 : decode cJ12_setLength 1 = .ok (.ifCond .ge 12, 3) := dk_156 0 12 (dk_at dksJ12_setLength_0 1 rfl rfl)
theorem dJ12_setLength_4 : decode cJ12_setLength 4 = .ok (.new 129, 3) := dk_187 0 129 (dk_at dksJ12_setLength_0 4 rfl rfl)
theorem dJ12_setLength_7 : decode cJ12_setLength 7 = .ok (.dup, 1) := dk_89 (dk_at dksJ12_setLength_0 7 rfl rfl)
theorem dJ12_setLength_8 : decode cJ12_setLength 8 = .ok (.iload_n 1, 1) := dk_27 (dk_at dksJ12_setLength_0 8 rfl rfl)
theorem dJ12_setLength_9 : decode cJ12_setLength 9 = .ok (.invokespecial 131, 3) := dk_183 0 131 (dk_at dksJ12_setLength_0 9 rfl rfl)
theorem dJ12_setLength_12 : decode cJ12_setLength 12 = .ok (.athrow, 1) := dk_191 (dk_at dksJ12_setLength_0 12 rfl rfl)
theorem dJ12_setLength_13 : decode cJ12_setLength 13 = .ok (.aload_n 0, 1) := dk_42 (dk_at dksJ12_setLength_0 13 rfl rfl)
theorem dJ12_setLength_14 : decode cJ12_setLength 14 = .ok (.iload_n 1, 1) := dk_27 (dk_at dksJ12_setLength_0 14 rfl rfl)
theorem dJ12_setLength_15 : decode cJ12_setLength 15 = .ok (.invokevirtual 100, 3) := dk_182 0 100 (dk_at dksJ12_setLength_0 15 rfl rfl)
theorem dJ12_setLength_18 : decode cJ12_setLength 18 = .ok (.aload_n 0, 1) := dk_42 (dk_at dksJ12_setLength_0 18 rfl rfl)
theorem dJ12_setLength_19 : decode cJ12_setLength 19 = .ok (.getfield 79, 3) := dk_180 0 79 (dk_at dksJ12_setLength_0 19 rfl rfl)
theorem dJ12_setLength_22 : decode cJ12_setLength 22 = .ok (.iload_n 1, 1) := dk_27 (dk_at dksJ12_setLength_0 22 rfl rfl)
theorem dJ12_setLength_23 : decode cJ12_setLength 23 = .ok (.if_icmp .ge 40, 3) := dk_162 0 40 (dk_at dksJ12_setLength_1 0 rfl rfl)
theorem dJ12_setLength_26 : decode cJ12_setLength 26 = .ok (.aload_n 0, 1) := dk_42 (dk_at dksJ12_setLength_1 3 rfl rfl)
theorem dJ12_setLength_27 : decode cJ12_setLength 27 = .ok (.invokevirtual 83, 3) := dk_182 0 83 (dk_at dksJ12_setLength_1 4 rfl rfl)
theorem dJ12_setLength_30 : decode cJ12_setLength 30 = .ok (.ifCond .eq 18, 3) := dk_153 0 18 (dk_at dksJ12_setLength_1 7 rfl rfl)
theorem dJ12_setLength_33 : decode cJ12_setLength 33 = .ok (.aload_n 0, 1) := dk_42 (dk_at dksJ12_setLength_1 10 rfl rfl)
theorem dJ12_setLength_34 : decode cJ12_setLength 34 = .ok (.getfield 15, 3) := dk_180 0 15 (dk_at dksJ12_setLength_1 11 rfl rfl)
theorem dJ12_setLength_37 : decode cJ12_setLength 37 = .ok (.aload_n 0, 1) := dk_42 (dk_at dksJ12_setLength_1 14 rfl rfl)
theorem dJ12_setLength_38 : decode cJ12_setLength 38 = .ok (.getfield 79, 3) := dk_180 0 79 (dk_at dksJ12_setLength_1 15 rfl rfl)
theorem dJ12_setLength_41 : decode cJ12_setLength 41 = .ok (.iload_n 1, 1) := dk_27 (dk_at dksJ12_setLength_1 18 rfl rfl)
theorem dJ12_setLength_42 : decode cJ12_setLength 42 = .ok (.invokestatic 133, 3) := dk_184 0 133 (dk_at dksJ12_setLength_1 19 rfl rfl)
theorem dJ12_setLength_45 : decode cJ12_setLength 45 = .ok (.goto 31, 3) := dk_167 0 31 (dk_at dksJ12_setLength_2 0 rfl rfl)
theorem dJ12_setLength_48 : decode cJ12_setLength 48 = .ok (.aload_n 0, 1) := dk_42 (dk_at dksJ12_setLength_2 3 rfl rfl)
theorem dJ12_setLength_49 : decode cJ12_setLength 49 = .ok (.getfield 15, 3) := dk_180 0 15 (dk_at dksJ12_setLength_2 4 rfl rfl)
theorem dJ12_setLength_52 : decode cJ12_setLength 52 = .ok (.aload_n 0, 1) := dk_42 (dk_at dksJ12_setLength_2 7 rfl rfl)
theorem dJ12_setLength_53 : decode cJ12_setLength 53 = .ok (.getfield 79, 3) := dk_180 0 79 (dk_at dksJ12_setLength_2 8 rfl rfl)
theorem dJ12_setLength_56 : decode cJ12_setLength 56 = .ok (.iload_n 1, 1) := dk_27 (dk_at dksJ12_setLength_2 11 rfl rfl)
theorem dJ12_setLength_57 : decode cJ12_setLength 57 = .ok (.invokestatic 137, 3) := dk_184 0 137 (dk_at dksJ12_setLength_2 12 rfl rfl)
theorem dJ12_setLength_60 : decode cJ12_setLength 60 = .ok (.goto 16, 3) := dk_167 0 16 (dk_at dksJ12_setLength_2 15 rfl rfl)
theorem dJ12_setLength_63 : decode cJ12_setLength 63 = .ok (.aload_n 0, 1) := dk_42 (dk_at dksJ12_setLength_2 18 rfl rfl)
theorem dJ12_setLength_64 : decode cJ12_setLength 64 = .ok (.getfield 79, 3) := dk_180 0 79 (dk_at dksJ12_setLength_2 19 rfl rfl)
theorem dJ12_setLength_67 : decode cJ12_setLength 67 = .ok (.iload_n 1, 1) := dk_27 (dk_at dksJ12_setLength_2 22 rfl rfl)
theorem dJ12_setLength_68 : decode cJ12_setLength 68 = .ok (.if_icmp .le 8, 3) := dk_164 0 8 (dk_at dksJ12_setLength_3 0 rfl rfl)
theorem dJ12_setLength_71 : decode cJ12_setLength 71 = .ok (.aload_n 0, 1) := dk_42 (dk_at dksJ12_setLength_3 3 rfl rfl)
theorem dJ12_setLength_72 : decode cJ12_setLength 72 = .ok (.iconst 1, 1) := dk_4 (dk_at dksJ12_setLength_3 4 rfl rfl)
theorem dJ12_setLength_73 : decode cJ12_setLength 73 = .ok (.putfield 73, 3) := dk_181 0 73 (dk_at dksJ12_setLength_3 5 rfl rfl)
theorem dJ12_setLength_76 : decode cJ12_setLength 76 = .ok (.aload_n 0, 1) := dk_42 (dk_at dksJ12_setLength_3 8 rfl rfl)
theorem dJ12_setLength_77 : decode cJ12_setLength 77 = .ok (.iload_n 1, 1) := dk_27 (dk_at dksJ12_setLength_3 9 rfl rfl)
theorem dJ12_setLength_78 : decode cJ12_setLength 78 = .ok (.putfield 79, 3) := dk_181 0 79 (dk_at dksJ12_setLength_3 10 rfl rfl)
theorem dJ12_setLength_81 : decode cJ12_setLength 81 = .ok (.return_, 1) := dk_177 (dk_at dksJ12_setLength_3 13 rfl rfl)
abbrev cJ12_append_3 : ByteArray := prog_29_method_32_code
def yJ12_append_3 : MethodName := ⟨RJ12, "append", "(I)Ljava/lang/AbstractStringBuilder;"⟩
def dkwJ12_append_3_2 : List UInt8 := [42, 29, 181, 0, 79, 42, 176]
abbrev dktJ12_append_3_2 : List UInt8 := dkwJ12_append_3_2 ++ []
def dkwJ12_append_3_1 : List UInt8 := [27, 29, 42, 180, 0, 15, 184, 0, 248, 87, 167, 0, 14, 27, 28, 29, 42, 180, 0, 15, 184, 0, 251, 87]
abbrev dktJ12_append_3_1 : List UInt8 := dkwJ12_append_3_1 ++ dktJ12_append_3_2
def dkwJ12_append_3_0 : List UInt8 := [42, 180, 0, 79, 61, 28, 27, 184, 0, 245, 96, 62, 42, 29, 182, 0, 100, 42, 182, 0, 83, 153, 0, 16]
abbrev dktJ12_append_3_0 : List UInt8 := dkwJ12_append_3_0 ++ dktJ12_append_3_1
theorem dksJ12_append_3_0 : cJ12_append_3.data.toList.drop 0 = dktJ12_append_3_0 := by decide +kernel
theorem dksJ12_append_3_1 : cJ12_append_3.data.toList.drop 24 = dktJ12_append_3_1 := dk_seg dksJ12_append_3_0 24 rfl rfl
theorem dksJ12_append_3_2 : cJ12_append_3.data.toList.drop 48 = dktJ12_append_3_2 := dk_seg dksJ12_append_3_1 24 rfl rfl
theorem dJ12_append_3_0 : decode cJ12_append_3 0 = .ok (.aload_n 0, 1) := dk_42 (dk_at dksJ12_append_3_0 0 rfl rfl)
theorem dJ12_append_3_1 : decode cJ12_append_3 1 = .ok (.getfield 79, 3) := dk_180 0 79 (dk_at dksJ12_append_3_0 1 rfl rfl)
theorem dJ12_append_3_4 : decode cJ12_append_3 4 = .ok (.istore_n 2, 1) := dk_61 (dk_at dksJ12_append_3_0 4 rfl rfl)
theorem dJ12_append_3_5 : decode cJ12_append_3 5 = .ok (.iload_n 2, 1) := dk_28 (dk_at dksJ12_append_3_0 5 rfl rfl)
theorem dJ12_append_3_6 : decode cJ12_append_3 6 = .ok (.iload_n 1, 1) := dk_27 (dk_at dksJ12_append_3_0 6 rfl rfl)
theorem dJ12_append_3_7 : decode cJ12_append_3 7 = .ok (.invokestatic 245, 3) := dk_184 0 245 (dk_at dksJ12_append_3_0 7 rfl rfl)
theorem dJ12_append_3_10 : decode cJ12_append_3 10 = .ok (.iadd, 1) := dk_96 (dk_at dksJ12_append_3_0 10 rfl rfl)
theorem dJ12_append_3_11 : decode cJ12_append_3 11 = .ok (.istore_n 3, 1) := dk_62 (dk_at dksJ12_append_3_0 11 rfl rfl)
theorem dJ12_append_3_12 : decode cJ12_append_3 12 = .ok (.aload_n 0, 1) := dk_42 (dk_at dksJ12_append_3_0 12 rfl rfl)
theorem dJ12_append_3_13 : decode cJ12_append_3 13 = .ok (.iload_n 3, 1) := dk_29 (dk_at dksJ12_append_3_0 13 rfl rfl)
theorem dJ12_append_3_14 : decode cJ12_append_3 14 = .ok (.invokevirtual 100, 3) := dk_182 0 100 (dk_at dksJ12_append_3_0 14 rfl rfl)
theorem dJ12_append_3_17 : decode cJ12_append_3 17 = .ok (.aload_n 0, 1) := dk_42 (dk_at dksJ12_append_3_0 17 rfl rfl)
theorem dJ12_append_3_18 : decode cJ12_append_3 18 = .ok (.invokevirtual 83, 3) := dk_182 0 83 (dk_at dksJ12_append_3_0 18 rfl rfl)
theorem dJ12_append_3_21 : decode cJ12_append_3 21 = .ok (.ifCond .eq 16, 3) := dk_153 0 16 (dk_at dksJ12_append_3_0 21 rfl rfl)
theorem dJ12_append_3_24 : decode cJ12_append_3 24 = .ok (.iload_n 1, 1) := dk_27 (dk_at dksJ12_append_3_1 0 rfl rfl)
theorem dJ12_append_3_25 : decode cJ12_append_3 25 = .ok (.iload_n 3, 1) := dk_29 (dk_at dksJ12_append_3_1 1 rfl rfl)
theorem dJ12_append_3_26 : decode cJ12_append_3 26 = .ok (.aload_n 0, 1) := dk_42 (dk_at dksJ12_append_3_1 2 rfl rfl)
theorem dJ12_append_3_27 : decode cJ12_append_3 27 = .ok (.getfield 15, 3) := dk_180 0 15 (dk_at dksJ12_append_3_1 3 rfl rfl)
theorem dJ12_append_3_30 : decode cJ12_append_3 30 = .ok (.invokestatic 248, 3) := dk_184 0 248 (dk_at dksJ12_append_3_1 6 rfl rfl)
theorem dJ12_append_3_33 : decode cJ12_append_3 33 = .ok (.pop, 1) := dk_87 (dk_at dksJ12_append_3_1 9 rfl rfl)
theorem dJ12_append_3_34 : decode cJ12_append_3 34 = .ok (.goto 14, 3) := dk_167 0 14 (dk_at dksJ12_append_3_1 10 rfl rfl)
theorem dJ12_append_3_37 : decode cJ12_append_3 37 = .ok (.iload_n 1, 1) := dk_27 (dk_at dksJ12_append_3_1 13 rfl rfl)
theorem dJ12_append_3_38 : decode cJ12_append_3 38 = .ok (.iload_n 2, 1) := dk_28 (dk_at dksJ12_append_3_1 14 rfl rfl)
theorem dJ12_append_3_39 : decode cJ12_append_3 39 = .ok (.iload_n 3, 1) := dk_29 (dk_at dksJ12_append_3_1 15 rfl rfl)
theorem dJ12_append_3_40 : decode cJ12_append_3 40 = .ok (.aload_n 0, 1) := dk_42 (dk_at dksJ12_append_3_1 16 rfl rfl)
theorem dJ12_append_3_41 : decode cJ12_append_3 41 = .ok (.getfield 15, 3) := dk_180 0 15 (dk_at dksJ12_append_3_1 17 rfl rfl)
theorem dJ12_append_3_44 : decode cJ12_append_3 44 = .ok (.invokestatic 251, 3) := dk_184 0 251 (dk_at dksJ12_append_3_1 20 rfl rfl)
theorem dJ12_append_3_47 : decode cJ12_append_3 47 = .ok (.pop, 1) := dk_87 (dk_at dksJ12_append_3_1 23 rfl rfl)
theorem dJ12_append_3_48 : decode cJ12_append_3 48 = .ok (.aload_n 0, 1) := dk_42 (dk_at dksJ12_append_3_2 0 rfl rfl)
theorem dJ12_append_3_49 : decode cJ12_append_3 49 = .ok (.iload_n 3, 1) := dk_29 (dk_at dksJ12_append_3_2 1 rfl rfl)
theorem dJ12_append_3_50 : decode cJ12_append_3 50 = .ok (.putfield 79, 3) := dk_181 0 79 (dk_at dksJ12_append_3_2 2 rfl rfl)
theorem dJ12_append_3_53 : decode cJ12_append_3 53 = .ok (.aload_n 0, 1) := dk_42 (dk_at dksJ12_append_3_2 5 rfl rfl)
theorem dJ12_append_3_54 : decode cJ12_append_3 54 = .ok (.areturn, 1) := dk_176 (dk_at dksJ12_append_3_2 6 rfl rfl)
theorem q123 : (Jvm.Cond.initialized "java/lang/AbstractStringBuilder") ∈ lw_all := lw_g (lw_at lw_m1 26 rfl) rfl
theorem q687 : (Jvm.Cond.instanceMethod ({ cls := "java/lang/AbstractStringBuilder", name := "<init>", desc := "(I)V" } : Jvm.MethodName)) ∈ lw_all := lw_g (lw_at lw_m3 110 rfl) rfl
theorem q688 : (Jvm.Cond.code ({ cls := "java/lang/AbstractStringBuilder", name := "<init>", desc := "(I)V" } : Jvm.MethodName) prog_29_method_2_code (2 : Nat) (Option.none : Option Jvm.ClassFile.FieldType)) ∈ lw_all := lw_g (lw_at lw_m3 111 rfl) rfl
theorem q689 : (Jvm.Cond.methodLink "java/lang/AbstractStringBuilder" (3 : Nat) ({ cls := "java/lang/Object", name := "<init>", desc := "()V" } : Jvm.MethodName)) ∈ lw_all := lw_g (lw_at lw_m3 112 rfl) rfl
theorem q690 : (Jvm.Cond.fieldLink "java/lang/AbstractStringBuilder" (18 : Nat) "java/lang/String" "COMPACT_STRINGS" "Z") ∈ lw_all := lw_g (lw_at lw_m3 113 rfl) rfl
theorem q692 : (Jvm.Cond.methodLink "java/lang/AbstractStringBuilder" (26 : Nat) ({ cls := "java/lang/StringUTF16", name := "newBytesFor", desc := "(I)[B" } : Jvm.MethodName)) ∈ lw_all := lw_g (lw_at lw_m3 115 rfl) rfl
theorem q699 : (Jvm.Cond.fieldLink "java/lang/AbstractStringBuilder" (15 : Nat) "java/lang/AbstractStringBuilder" "value" "[B") ∈ lw_all := lw_g (lw_at lw_m3 122 rfl) rfl
theorem q700 : (Jvm.Cond.fieldLink "java/lang/AbstractStringBuilder" (22 : Nat) "java/lang/AbstractStringBuilder" "coder" "B") ∈ lw_all := lw_g (lw_at lw_m3 123 rfl) rfl
theorem q701 : (Jvm.Cond.fieldLink "java/lang/AbstractStringBuilder" (73 : Nat) "java/lang/AbstractStringBuilder" "maybeLatin1" "Z") ∈ lw_all := lw_g (lw_at lw_m3 124 rfl) rfl
theorem q703 : (Jvm.Cond.fieldLink "java/lang/AbstractStringBuilder" (79 : Nat) "java/lang/AbstractStringBuilder" "count" "I") ∈ lw_all := lw_g (lw_at lw_m3 126 rfl) rfl
theorem q705 : (Jvm.Cond.soleField "java/lang/AbstractStringBuilder" "value") ∈ lw_all := lw_g (lw_at lw_m3 128 rfl) rfl
theorem q707 : (Jvm.Cond.soleField "java/lang/AbstractStringBuilder" "coder") ∈ lw_all := lw_g (lw_at lw_m3 130 rfl) rfl
theorem q709 : (Jvm.Cond.soleField "java/lang/AbstractStringBuilder" "maybeLatin1") ∈ lw_all := lw_g (lw_at lw_m3 132 rfl) rfl
theorem q711 : (Jvm.Cond.soleField "java/lang/AbstractStringBuilder" "count") ∈ lw_all := lw_g (lw_at lw_m3 134 rfl) rfl
theorem q1004 : (Jvm.Cond.instanceMethod ({ cls := "java/lang/AbstractStringBuilder", name := "append", desc := "(Ljava/lang/String;)Ljava/lang/AbstractStringBuilder;" } : Jvm.MethodName)) ∈ lw_all := lw_g (lw_at lw_m4 187 rfl) rfl
theorem q1005 : (Jvm.Cond.code ({ cls := "java/lang/AbstractStringBuilder", name := "append", desc := "(Ljava/lang/String;)Ljava/lang/AbstractStringBuilder;" } : Jvm.MethodName) prog_29_method_22_code (3 : Nat) (Option.some (Jvm.ClassFile.FieldType.object "java/lang/AbstractStringBuilder"))) ∈ lw_all := lw_g (lw_at lw_m4 188 rfl) rfl
theorem q1006 : (Jvm.Cond.methodLink "java/lang/AbstractStringBuilder" (204 : Nat) ({ cls := "java/lang/AbstractStringBuilder", name := "appendNull", desc := "()Ljava/lang/AbstractStringBuilder;" } : Jvm.MethodName)) ∈ lw_all := lw_g (lw_at lw_m4 189 rfl) rfl
theorem q1007 : (Jvm.Cond.privateMethod ({ cls := "java/lang/AbstractStringBuilder", name := "appendNull", desc := "()Ljava/lang/AbstractStringBuilder;" } : Jvm.MethodName)) ∈ lw_tbl := lw_at lw_m4 190 rfl
theorem q1008 : (Jvm.Cond.instanceMethod ({ cls := "java/lang/AbstractStringBuilder", name := "appendNull", desc := "()Ljava/lang/AbstractStringBuilder;" } : Jvm.MethodName)) ∈ lw_all := lw_g (lw_at lw_m4 191 rfl) rfl
theorem q1009 : (Jvm.Cond.code ({ cls := "java/lang/AbstractStringBuilder", name := "appendNull", desc := "()Ljava/lang/AbstractStringBuilder;" } : Jvm.MethodName) prog_29_method_26_code (3 : Nat) (Option.some (Jvm.ClassFile.FieldType.object "java/lang/AbstractStringBuilder"))) ∈ lw_all := lw_g (lw_at lw_m4 192 rfl) rfl
theorem q1010 : (Jvm.Cond.methodLink "java/lang/AbstractStringBuilder" (100 : Nat) ({ cls := "java/lang/AbstractStringBuilder", name := "ensureCapacityInternal", desc := "(I)V" } : Jvm.MethodName)) ∈ lw_all := lw_g (lw_at lw_m4 193 rfl) rfl
theorem q1011 : (Jvm.Cond.privateMethod ({ cls := "java/lang/AbstractStringBuilder", name := "ensureCapacityInternal", desc := "(I)V" } : Jvm.MethodName)) ∈ lw_tbl := lw_at lw_m4 194 rfl
theorem q1012 : (Jvm.Cond.instanceMethod ({ cls := "java/lang/AbstractStringBuilder", name := "ensureCapacityInternal", desc := "(I)V" } : Jvm.MethodName)) ∈ lw_all := lw_g (lw_at lw_m4 195 rfl) rfl
theorem q1013 : (Jvm.Cond.code ({ cls := "java/lang/AbstractStringBuilder", name := "ensureCapacityInternal", desc := "(I)V" } : Jvm.MethodName) prog_29_method_9_code (3 : Nat) (Option.none : Option Jvm.ClassFile.FieldType)) ∈ lw_all := lw_g (lw_at lw_m4 196 rfl) rfl
theorem q1014 : (Jvm.Cond.methodLink "java/lang/AbstractStringBuilder" (104 : Nat) ({ cls := "java/lang/AbstractStringBuilder", name := "newCapacity", desc := "(I)I" } : Jvm.MethodName)) ∈ lw_all := lw_g (lw_at lw_m4 197 rfl) rfl
theorem q1015 : (Jvm.Cond.privateMethod ({ cls := "java/lang/AbstractStringBuilder", name := "newCapacity", desc := "(I)I" } : Jvm.MethodName)) ∈ lw_tbl := lw_at lw_m4 198 rfl
theorem q1016 : (Jvm.Cond.instanceMethod ({ cls := "java/lang/AbstractStringBuilder", name := "newCapacity", desc := "(I)I" } : Jvm.MethodName)) ∈ lw_all := lw_g (lw_at lw_m4 199 rfl) rfl
theorem q1017 : (Jvm.Cond.code ({ cls := "java/lang/AbstractStringBuilder", name := "newCapacity", desc := "(I)I" } : Jvm.MethodName) prog_29_method_10_code (6 : Nat) (Option.some Jvm.ClassFile.FieldType.int)) ∈ lw_all := lw_g (lw_at lw_m4 200 rfl) rfl
theorem q1018 : (Jvm.Cond.methodLink "java/lang/AbstractStringBuilder" (114 : Nat) ({ cls := "jdk/internal/util/ArraysSupport", name := "newLength", desc := "(III)I" } : Jvm.MethodName)) ∈ lw_all := lw_g (lw_at lw_m4 201 rfl) rfl
theorem q1019 : (Jvm.Cond.constant "java/lang/AbstractStringBuilder" (39 : Nat) (2147483647 : Int32)) ∈ lw_all := lw_g (lw_at lw_m4 202 rfl) rfl
theorem q1020 : (Jvm.Cond.methodLink "java/lang/AbstractStringBuilder" (108 : Nat) ({ cls := "java/util/Arrays", name := "copyOf", desc := "([BI)[B" } : Jvm.MethodName)) ∈ lw_all := lw_g (lw_at lw_m4 203 rfl) rfl
theorem q1030 : (Jvm.Cond.methodLink "java/lang/AbstractStringBuilder" (83 : Nat) ({ cls := "java/lang/AbstractStringBuilder", name := "isLatin1", desc := "()Z" } : Jvm.MethodName)) ∈ lw_all := lw_g (lw_at lw_m4 213 rfl) rfl
theorem q1031 : (Jvm.Cond.instanceMethod ({ cls := "java/lang/AbstractStringBuilder", name := "isLatin1", desc := "()Z" } : Jvm.MethodName)) ∈ lw_all := lw_g (lw_at lw_m4 214 rfl) rfl
theorem q1032 : (Jvm.Cond.sameMethod "java/lang/AbstractStringBuilder" "java/lang/AbstractStringBuilder" "isLatin1" "()Z") ∈ lw_all := lw_g (lw_at lw_m4 215 rfl) rfl
theorem q1034 : (Jvm.Cond.code ({ cls := "java/lang/AbstractStringBuilder", name := "isLatin1", desc := "()Z" } : Jvm.MethodName) prog_29_method_68_code (1 : Nat) (Option.some Jvm.ClassFile.FieldType.boolean)) ∈ lw_all := lw_g (lw_at lw_m4 217 rfl) rfl
theorem q1035 : (Jvm.Cond.methodLink "java/lang/AbstractStringBuilder" (226 : Nat) ({ cls := "java/lang/StringUTF16", name := "putCharsAt", desc := "([BICCCC)I" } : Jvm.MethodName)) ∈ lw_all := lw_g (lw_at lw_m4 218 rfl) rfl
theorem q1061 : (Jvm.Cond.methodLink "java/lang/AbstractStringBuilder" (32 : Nat) ({ cls := "java/lang/String", name := "length", desc := "()I" } : Jvm.MethodName)) ∈ lw_all := lw_g (lw_at lw_m5 4 rfl) rfl
theorem q1070 : (Jvm.Cond.methodLink "java/lang/AbstractStringBuilder" (208 : Nat) ({ cls := "java/lang/AbstractStringBuilder", name := "putStringAt", desc := "(ILjava/lang/String;)V" } : Jvm.MethodName)) ∈ lw_all := lw_g (lw_at lw_m5 13 rfl) rfl
theorem q1071 : (Jvm.Cond.privateMethod ({ cls := "java/lang/AbstractStringBuilder", name := "putStringAt", desc := "(ILjava/lang/String;)V" } : Jvm.MethodName)) ∈ lw_tbl := lw_at lw_m5 14 rfl
theorem q1072 : (Jvm.Cond.instanceMethod ({ cls := "java/lang/AbstractStringBuilder", name := "putStringAt", desc := "(ILjava/lang/String;)V" } : Jvm.MethodName)) ∈ lw_all := lw_g (lw_at lw_m5 15 rfl) rfl
theorem q1073 : (Jvm.Cond.code ({ cls := "java/lang/AbstractStringBuilder", name := "putStringAt", desc := "(ILjava/lang/String;)V" } : Jvm.MethodName) prog_29_method_73_code (3 : Nat) (Option.none : Option Jvm.ClassFile.FieldType)) ∈ lw_all := lw_g (lw_at lw_m5 16 rfl) rfl
theorem q1074 : (Jvm.Cond.methodLink "java/lang/AbstractStringBuilder" (397 : Nat) ({ cls := "java/lang/AbstractStringBuilder", name := "inflateIfNeededFor", desc := "(Ljava/lang/String;)V" } : Jvm.MethodName)) ∈ lw_all := lw_g (lw_at lw_m5 17 rfl) rfl
theorem q1075 : (Jvm.Cond.privateMethod ({ cls := "java/lang/AbstractStringBuilder", name := "inflateIfNeededFor", desc := "(Ljava/lang/String;)V" } : Jvm.MethodName)) ∈ lw_tbl := lw_at lw_m5 18 rfl
theorem q1076 : (Jvm.Cond.instanceMethod ({ cls := "java/lang/AbstractStringBuilder", name := "inflateIfNeededFor", desc := "(Ljava/lang/String;)V" } : Jvm.MethodName)) ∈ lw_all := lw_g (lw_at lw_m5 19 rfl) rfl
theorem q1077 : (Jvm.Cond.code ({ cls := "java/lang/AbstractStringBuilder", name := "inflateIfNeededFor", desc := "(Ljava/lang/String;)V" } : Jvm.MethodName) prog_29_method_71_code (2 : Nat) (Option.none : Option Jvm.ClassFile.FieldType)) ∈ lw_all := lw_g (lw_at lw_m5 20 rfl) rfl
theorem q1078 : (Jvm.Cond.methodLink "java/lang/AbstractStringBuilder" (40 : Nat) ({ cls := "java/lang/String", name := "coder", desc := "()B" } : Jvm.MethodName)) ∈ lw_all := lw_g (lw_at lw_m5 21 rfl) rfl
theorem q1079 : (Jvm.Cond.methodLink "java/lang/AbstractStringBuilder" (195 : Nat) ({ cls := "java/lang/AbstractStringBuilder", name := "inflate", desc := "()V" } : Jvm.MethodName)) ∈ lw_all := lw_g (lw_at lw_m5 22 rfl) rfl
theorem q1080 : (Jvm.Cond.privateMethod ({ cls := "java/lang/AbstractStringBuilder", name := "inflate", desc := "()V" } : Jvm.MethodName)) ∈ lw_tbl := lw_at lw_m5 23 rfl
theorem q1081 : (Jvm.Cond.instanceMethod ({ cls := "java/lang/AbstractStringBuilder", name := "inflate", desc := "()V" } : Jvm.MethodName)) ∈ lw_all := lw_g (lw_at lw_m5 24 rfl) rfl
theorem q1082 : (Jvm.Cond.code ({ cls := "java/lang/AbstractStringBuilder", name := "inflate", desc := "()V" } : Jvm.MethodName) prog_29_method_11_code (2 : Nat) (Option.none : Option Jvm.ClassFile.FieldType)) ∈ lw_all := lw_g (lw_at lw_m5 25 rfl) rfl
theorem q1083 : (Jvm.Cond.methodLink "java/lang/AbstractStringBuilder" (125 : Nat) ({ cls := "java/lang/StringLatin1", name := "inflate", desc := "([BI[BII)V" } : Jvm.MethodName)) ∈ lw_all := lw_g (lw_at lw_m5 26 rfl) rfl
theorem q1098 : (Jvm.Cond.methodLink "java/lang/AbstractStringBuilder" (399 : Nat) ({ cls := "java/lang/String", name := "getBytes", desc := "([BIB)V" } : Jvm.MethodName)) ∈ lw_all := lw_g (lw_at lw_m5 41 rfl) rfl
theorem q1119 : (Jvm.Cond.instanceMethod ({ cls := "java/lang/AbstractStringBuilder", name := "getValue", desc := "()[B" } : Jvm.MethodName)) ∈ lw_all := lw_g (lw_at lw_m5 62 rfl) rfl
theorem q1120 : (Jvm.Cond.sameMethod "java/lang/AbstractStringBuilder" "java/lang/AbstractStringBuilder" "getValue" "()[B") ∈ lw_all := lw_g (lw_at lw_m5 63 rfl) rfl
theorem q1122 : (Jvm.Cond.code ({ cls := "java/lang/AbstractStringBuilder", name := "getValue", desc := "()[B" } : Jvm.MethodName) prog_29_method_64_code (1 : Nat) (Option.some (Jvm.ClassFile.FieldType.array Jvm.ClassFile.FieldType.byte))) ∈ lw_all := lw_g (lw_at lw_m5 65 rfl) rfl
theorem q1124 : (Jvm.Cond.instanceMethod ({ cls := "java/lang/AbstractStringBuilder", name := "length", desc := "()I" } : Jvm.MethodName)) ∈ lw_all := lw_g (lw_at lw_m5 67 rfl) rfl
theorem q1125 : (Jvm.Cond.sameMethod "java/lang/AbstractStringBuilder" "java/lang/AbstractStringBuilder" "length" "()I") ∈ lw_all := lw_g (lw_at lw_m5 68 rfl) rfl
theorem q1130 : (Jvm.Cond.code ({ cls := "java/lang/AbstractStringBuilder", name := "length", desc := "()I" } : Jvm.MethodName) prog_29_method_6_code (1 : Nat) (Option.some Jvm.ClassFile.FieldType.int)) ∈ lw_all := lw_g (lw_at lw_m5 73 rfl) rfl
theorem q2050 : (Jvm.Cond.instanceMethod ({ cls := "java/lang/AbstractStringBuilder", name := "append", desc := "(C)Ljava/lang/AbstractStringBuilder;" } : Jvm.MethodName)) ∈ lw_all := lw_g (lw_at lw_m9 33 rfl) rfl
theorem q2051 : (Jvm.Cond.code ({ cls := "java/lang/AbstractStringBuilder", name := "append", desc := "(C)Ljava/lang/AbstractStringBuilder;" } : Jvm.MethodName) prog_29_method_31_code (2 : Nat) (Option.some (Jvm.ClassFile.FieldType.object "java/lang/AbstractStringBuilder"))) ∈ lw_all := lw_g (lw_at lw_m9 34 rfl) rfl
theorem q2052 : (Jvm.Cond.methodLink "java/lang/AbstractStringBuilder" (191 : Nat) ({ cls := "java/lang/StringLatin1", name := "canEncode", desc := "(C)Z" } : Jvm.MethodName)) ∈ lw_all := lw_g (lw_at lw_m9 35 rfl) rfl
theorem q2055 : (Jvm.Cond.methodLink "java/lang/AbstractStringBuilder" (197 : Nat) ({ cls := "java/lang/StringUTF16", name := "putCharSB", desc := "([BII)V" } : Jvm.MethodName)) ∈ lw_all := lw_g (lw_at lw_m9 38 rfl) rfl
theorem q2105 : (Jvm.Cond.instanceMethod ({ cls := "java/lang/AbstractStringBuilder", name := "charAt", desc := "(I)C" } : Jvm.MethodName)) ∈ lw_all := lw_g (lw_at lw_m9 88 rfl) rfl
theorem q2106 : (Jvm.Cond.code ({ cls := "java/lang/AbstractStringBuilder", name := "charAt", desc := "(I)C" } : Jvm.MethodName) prog_29_method_14_code (5 : Nat) (Option.some Jvm.ClassFile.FieldType.char)) ∈ lw_all := lw_g (lw_at lw_m9 89 rfl) rfl
theorem q2107 : (Jvm.Cond.methodLink "java/lang/AbstractStringBuilder" (138 : Nat) ({ cls := "java/lang/Math", name := "min", desc := "(II)I" } : Jvm.MethodName)) ∈ lw_all := lw_g (lw_at lw_m9 90 rfl) rfl
theorem q2108 : (Jvm.Cond.methodLink "java/lang/AbstractStringBuilder" (144 : Nat) ({ cls := "java/lang/String", name := "checkIndex", desc := "(II)V" } : Jvm.MethodName)) ∈ lw_all := lw_g (lw_at lw_m9 91 rfl) rfl
theorem q2109 : (Jvm.Cond.methodLink "java/lang/AbstractStringBuilder" (148 : Nat) ({ cls := "java/lang/StringUTF16", name := "getChar", desc := "([BI)C" } : Jvm.MethodName)) ∈ lw_all := lw_g (lw_at lw_m9 92 rfl) rfl
theorem q2328 : (Jvm.Cond.instanceMethod ({ cls := "java/lang/AbstractStringBuilder", name := "setLength", desc := "(I)V" } : Jvm.MethodName)) ∈ lw_all := lw_g (lw_at lw_m10 71 rfl) rfl
theorem q2329 : (Jvm.Cond.code ({ cls := "java/lang/AbstractStringBuilder", name := "setLength", desc := "(I)V" } : Jvm.MethodName) prog_29_method_13_code (2 : Nat) (Option.none : Option Jvm.ClassFile.FieldType)) ∈ lw_all := lw_g (lw_at lw_m10 72 rfl) rfl
theorem q2330 : (Jvm.Cond.methodLink "java/lang/AbstractStringBuilder" (133 : Nat) ({ cls := "java/lang/StringLatin1", name := "fillNull", desc := "([BII)V" } : Jvm.MethodName)) ∈ lw_all := lw_g (lw_at lw_m10 73 rfl) rfl
theorem q2339 : (Jvm.Cond.methodLink "java/lang/AbstractStringBuilder" (137 : Nat) ({ cls := "java/lang/StringUTF16", name := "fillNull", desc := "([BII)V" } : Jvm.MethodName)) ∈ lw_all := lw_g (lw_at lw_m10 82 rfl) rfl
theorem q2365 : (Jvm.Cond.instanceMethod ({ cls := "java/lang/AbstractStringBuilder", name := "append", desc := "(I)Ljava/lang/AbstractStringBuilder;" } : Jvm.MethodName)) ∈ lw_all := lw_g (lw_at lw_m10 108 rfl) rfl
theorem q2366 : (Jvm.Cond.code ({ cls := "java/lang/AbstractStringBuilder", name := "append", desc := "(I)Ljava/lang/AbstractStringBuilder;" } : Jvm.MethodName) prog_29_method_32_code (4 : Nat) (Option.some (Jvm.ClassFile.FieldType.object "java/lang/AbstractStringBuilder"))) ∈ lw_all := lw_g (lw_at lw_m10 109 rfl) rfl
theorem q2367 : (Jvm.Cond.methodLink "java/lang/AbstractStringBuilder" (245 : Nat) ({ cls := "java/lang/Integer", name := "stringSize", desc := "(I)I" } : Jvm.MethodName)) ∈ lw_all := lw_g (lw_at lw_m10 110 rfl) rfl
theorem q2370 : (Jvm.Cond.methodLink "java/lang/AbstractStringBuilder" (248 : Nat) ({ cls := "java/lang/Integer", name := "getChars", desc := "(II[B)I" } : Jvm.MethodName)) ∈ lw_all := lw_g (lw_at lw_m10 113 rfl) rfl
theorem q2377 : (Jvm.Cond.methodLink "java/lang/AbstractStringBuilder" (251 : Nat) ({ cls := "java/lang/StringUTF16", name := "getChars", desc := "(III[B)I" } : Jvm.MethodName)) ∈ lw_all := lw_g (lw_at lw_m10 120 rfl) rfl
theorem q2920 : (Jvm.Cond.sameMethod "java/lang/AbstractStringBuilder" "java/lang/AbstractStringBuilder" "append" "(Ljava/lang/String;)Ljava/lang/AbstractStringBuilder;") ∈ lw_all := lw_g (lw_at lw_m12 183 rfl) rfl
theorem q2921 : (Jvm.Cond.sameMethod "java/lang/AbstractStringBuilder" "java/lang/AbstractStringBuilder" "appendNull" "()Ljava/lang/AbstractStringBuilder;") ∈ lw_all := lw_g (lw_at lw_m12 184 rfl) rfl
theorem q2922 : (Jvm.Cond.sameMethod "java/lang/AbstractStringBuilder" "java/lang/AbstractStringBuilder" "ensureCapacityInternal" "(I)V") ∈ lw_all := lw_g (lw_at lw_m12 185 rfl) rfl
theorem q2923 : (Jvm.Cond.sameMethod "java/lang/AbstractStringBuilder" "java/lang/AbstractStringBuilder" "newCapacity" "(I)I") ∈ lw_all := lw_g (lw_at lw_m12 186 rfl) rfl
theorem q2924 : (Jvm.Cond.sameMethod "java/lang/AbstractStringBuilder" "java/lang/AbstractStringBuilder" "putStringAt" "(ILjava/lang/String;)V") ∈ lw_all := lw_g (lw_at lw_m12 187 rfl) rfl
theorem q2925 : (Jvm.Cond.sameMethod "java/lang/AbstractStringBuilder" "java/lang/AbstractStringBuilder" "inflateIfNeededFor" "(Ljava/lang/String;)V") ∈ lw_all := lw_g (lw_at lw_m12 188 rfl) rfl
theorem q2926 : (Jvm.Cond.sameMethod "java/lang/AbstractStringBuilder" "java/lang/AbstractStringBuilder" "inflate" "()V") ∈ lw_all := lw_g (lw_at lw_m12 189 rfl) rfl
theorem q2930 : (Jvm.Cond.sameMethod "java/lang/AbstractStringBuilder" "java/lang/AbstractStringBuilder" "append" "(C)Ljava/lang/AbstractStringBuilder;") ∈ lw_all := lw_g (lw_at lw_m12 193 rfl) rfl
theorem q2931 : (Jvm.Cond.sameMethod "java/lang/AbstractStringBuilder" "java/lang/AbstractStringBuilder" "charAt" "(I)C") ∈ lw_all := lw_g (lw_at lw_m12 194 rfl) rfl
theorem q2932 : (Jvm.Cond.sameMethod "java/lang/AbstractStringBuilder" "java/lang/AbstractStringBuilder" "setLength" "(I)V") ∈ lw_all := lw_g (lw_at lw_m12 195 rfl) rfl
theorem q2933 : (Jvm.Cond.sameMethod "java/lang/AbstractStringBuilder" "java/lang/AbstractStringBuilder" "append" "(I)Ljava/lang/AbstractStringBuilder;") ∈ lw_all := lw_g (lw_at lw_m12 196 rfl) rfl
/-! java/lang/StringBuilder -/
set_option maxRecDepth 100000
def RJ13 : String := "java/lang/StringBuilder"
def TJ13 : u_T := fun k => match k with
  | 0 => ("java/lang/AbstractStringBuilder", "value", "[B", false)
  | 1 => ("java/lang/AbstractStringBuilder", "coder", "B", false)
  | 2 => ("java/lang/AbstractStringBuilder", "maybeLatin1", "Z", false)
  | _ => ("java/lang/AbstractStringBuilder", "count", "I", false)
def tyJ13 : Nat → FieldType := fun k => match k with
  | 0 => .array .byte
  | 1 => .byte
  | 2 => .boolean
  | _ => .int
abbrev wsJ130 : List Cond := u_ws RJ13 TJ13 4
theorem nmJ13 : ∀ a, a < 4 → ∀ b, b < 4 → a ≠ b → (TJ13 a).2.1 ≠ (TJ13 b).2.1 := by decide +kernel
theorem tyJ13_ok : ∀ k, k < 4 → parseFieldDescriptor (TJ13 k).2.2.1 = some (tyJ13 k) := by decide +kernel
abbrev cJ13_init : ByteArray := prog_43_method_1_code
def yJ13_init : MethodName := ⟨RJ13, "<init>", "()V"⟩
def dkwJ13_init_0 : List UInt8 := [42, 16, 16, 183, 0, 1, 177]
abbrev dktJ13_init_0 : List UInt8 := dkwJ13_init_0 ++ []
theorem dksJ13_init_0 : cJ13_init.data.toList.drop 0 = dktJ13_init_0 := by decide +kernel
theorem dJ13_init_0 : decode cJ13_init 0 = .ok (.aload_n 0, 1) := dk_42 (dk_at dksJ13_init_0 0 rfl rfl)
theorem dJ13_init_1 : decode cJ13_init 1 = .ok (.bipush 16, 2) := dk_16 16 (dk_at dksJ13_init_0 1 rfl rfl)
theorem dJ13_init_3 : decode cJ13_init 3 = .ok (.invokespecial 1, 3) := dk_183 0 1 (dk_at dksJ13_init_0 3 rfl rfl)
theorem dJ13_init_6 : decode cJ13_init 6 = .ok (.return_, 1) := dk_177 (dk_at dksJ13_init_0 6 rfl rfl)
abbrev cJ13_append : ByteArray := prog_43_method_7_code
def yJ13_append : MethodName := ⟨RJ13, "append", "(Ljava/lang/String;)Ljava/lang/StringBuilder;"⟩
def dkwJ13_append_0 : List UInt8 := [42, 43, 183, 0, 29, 87, 42, 176]
abbrev dktJ13_append_0 : List UInt8 := dkwJ13_append_0 ++ []
theorem dksJ13_append_0 : cJ13_append.data.toList.drop 0 = dktJ13_append_0 := by decide +kernel
theorem dJ13_append_0 : decode cJ13_append 0 = .ok (.aload_n 0, 1) := dk_42 (dk_at dksJ13_append_0 0 rfl rfl)
theorem dJ13_append_1 : decode cJ13_append 1 = .ok (.aload_n 1, 1) := dk_43 (dk_at dksJ13_append_0 1 rfl rfl)
theorem dJ13_append_2 : decode cJ13_append 2 = .ok (.invokespecial 29, 3) := dk_183 0 29 (dk_at dksJ13_append_0 2 rfl rfl)
theorem dJ13_append_5 : decode cJ13_append 5 = .ok (.pop, 1) := dk_87 (dk_at dksJ13_append_0 5 rfl rfl)
theorem dJ13_append_6 : decode cJ13_append 6 = .ok (.aload_n 0, 1) := dk_42 (dk_at dksJ13_append_0 6 rfl rfl)
theorem dJ13_append_7 : decode cJ13_append 7 = .ok (.areturn, 1) := dk_176 (dk_at dksJ13_append_0 7 rfl rfl)
abbrev cJ13_toString : ByteArray := prog_43_method_42_code
def yJ13_toString : MethodName := ⟨RJ13, "toString", "()Ljava/lang/String;"⟩
def dkwJ13_toString_0 : List UInt8 := [187, 0, 18, 89, 42, 183, 0, 137, 176]
abbrev dktJ13_toString_0 : List UInt8 := dkwJ13_toString_0 ++ []
theorem dksJ13_toString_0 : cJ13_toString.data.toList.drop 0 = dktJ13_toString_0 := by decide +kernel
theorem dJ13_toString_0 : decode cJ13_toString 0 = .ok (.new 18, 3) := dk_187 0 18 (dk_at dksJ13_toString_0 0 rfl rfl)
theorem dJ13_toString_3 : decode cJ13_toString 3 = .ok (.dup, 1) := dk_89 (dk_at dksJ13_toString_0 3 rfl rfl)
theorem dJ13_toString_4 : decode cJ13_toString 4 = .ok (.aload_n 0, 1) := dk_42 (dk_at dksJ13_toString_0 4 rfl rfl)
theorem dJ13_toString_5 : decode cJ13_toString 5 = .ok (.invokespecial 137, 3) := dk_183 0 137 (dk_at dksJ13_toString_0 5 rfl rfl)
theorem dJ13_toString_8 : decode cJ13_toString 8 = .ok (.areturn, 1) := dk_176 (dk_at dksJ13_toString_0 8 rfl rfl)
abbrev cJ13_length : ByteArray := prog_43_method_93_code
def yJ13_length : MethodName := ⟨RJ13, "length", "()I"⟩
theorem dJ13_length_0 : decode cJ13_length 0 = .ok (.aload_n 0, 1) := by decide +kernel
theorem dJ13_length_1 : decode cJ13_length 1 = .ok (.invokespecial 343, 3) := by decide +kernel
theorem dJ13_length_4 : decode cJ13_length 4 = .ok (.ireturn, 1) := by decide +kernel
abbrev cJ13_append_2 : ByteArray := prog_43_method_14_code
def yJ13_append_2 : MethodName := ⟨RJ13, "append", "(C)Ljava/lang/StringBuilder;"⟩
def dkwJ13_append_2_0 : List UInt8 := [42, 27, 183, 0, 50, 87, 42, 176]
abbrev dktJ13_append_2_0 : List UInt8 := dkwJ13_append_2_0 ++ []
theorem dksJ13_append_2_0 : cJ13_append_2.data.toList.drop 0 = dktJ13_append_2_0 := by decide +kernel
theorem dJ13_append_2_0 : decode cJ13_append_2 0 = .ok (.aload_n 0, 1) := dk_42 (dk_at dksJ13_append_2_0 0 rfl rfl)
theorem dJ13_append_2_1 : decode cJ13_append_2 1 = .ok (.iload_n 1, 1) := dk_27 (dk_at dksJ13_append_2_0 1 rfl rfl)
theorem dJ13_append_2_2 : decode cJ13_append_2 2 = .ok (.invokespecial 50, 3) := dk_183 0 50 (dk_at dksJ13_append_2_0 2 rfl rfl)
theorem dJ13_append_2_5 : decode cJ13_append_2 5 = .ok (.pop, 1) := dk_87 (dk_at dksJ13_append_2_0 5 rfl rfl)
theorem dJ13_append_2_6 : decode cJ13_append_2 6 = .ok (.aload_n 0, 1) := dk_42 (dk_at dksJ13_append_2_0 6 rfl rfl)
theorem dJ13_append_2_7 : decode cJ13_append_2 7 = .ok (.areturn, 1) := dk_176 (dk_at dksJ13_append_2_0 7 rfl rfl)
abbrev cJ13_charAt : ByteArray := prog_43_method_88_code
def yJ13_charAt : MethodName := ⟨RJ13, "charAt", "(I)C"⟩
def dkwJ13_charAt_0 : List UInt8 := [42, 27, 183, 1, 73, 172]
abbrev dktJ13_charAt_0 : List UInt8 := dkwJ13_charAt_0 ++ []
theorem dksJ13_charAt_0 : cJ13_charAt.data.toList.drop 0 = dktJ13_charAt_0 := by decide +kernel
theorem dJ13_charAt_0 : decode cJ13_charAt 0 = .ok (.aload_n 0, 1) := dk_42 (dk_at dksJ13_charAt_0 0 rfl rfl)
theorem dJ13_charAt_1 : decode cJ13_charAt 1 = .ok (.iload_n 1, 1) := dk_27 (dk_at dksJ13_charAt_0 1 rfl rfl)
theorem dJ13_charAt_2 : decode cJ13_charAt 2 = .ok (.invokespecial 329, 3) := dk_183 1 73 (dk_at dksJ13_charAt_0 2 rfl rfl)
theorem dJ13_charAt_5 : decode cJ13_charAt 5 = .ok (.ireturn, 1) := dk_172 (dk_at dksJ13_charAt_0 5 rfl rfl)
abbrev cJ13_setLength : ByteArray := prog_43_method_89_code
def yJ13_setLength : MethodName := ⟨RJ13, "setLength", "(I)V"⟩
def dkwJ13_setLength_0 : List UInt8 := [42, 27, 183, 1, 77, 177]
abbrev dktJ13_setLength_0 : List UInt8 := dkwJ13_setLength_0 ++ []
theorem dksJ13_setLength_0 : cJ13_setLength.data.toList.drop 0 = dktJ13_setLength_0 := by decide +kernel
theorem dJ13_setLength_0 : decode cJ13_setLength 0 = .ok (.aload_n 0, 1) := dk_42 (dk_at dksJ13_setLength_0 0 rfl rfl)
theorem dJ13_setLength_1 : decode cJ13_setLength 1 = .ok (.iload_n 1, 1) := dk_27 (dk_at dksJ13_setLength_0 1 rfl rfl)
theorem dJ13_setLength_2 : decode cJ13_setLength 2 = .ok (.invokespecial 333, 3) := dk_183 1 77 (dk_at dksJ13_setLength_0 2 rfl rfl)
theorem dJ13_setLength_5 : decode cJ13_setLength 5 = .ok (.return_, 1) := dk_177 (dk_at dksJ13_setLength_0 5 rfl rfl)
abbrev cJ13_append_3 : ByteArray := prog_43_method_15_code
def yJ13_append_3 : MethodName := ⟨RJ13, "append", "(I)Ljava/lang/StringBuilder;"⟩
def dkwJ13_append_3_0 : List UInt8 := [42, 27, 183, 0, 53, 87, 42, 176]
abbrev dktJ13_append_3_0 : List UInt8 := dkwJ13_append_3_0 ++ []
theorem dksJ13_append_3_0 : cJ13_append_3.data.toList.drop 0 = dktJ13_append_3_0 := by decide +kernel
theorem dJ13_append_3_0 : decode cJ13_append_3 0 = .ok (.aload_n 0, 1) := dk_42 (dk_at dksJ13_append_3_0 0 rfl rfl)
theorem dJ13_append_3_1 : decode cJ13_append_3 1 = .ok (.iload_n 1, 1) := dk_27 (dk_at dksJ13_append_3_0 1 rfl rfl)
theorem dJ13_append_3_2 : decode cJ13_append_3 2 = .ok (.invokespecial 53, 3) := dk_183 0 53 (dk_at dksJ13_append_3_0 2 rfl rfl)
theorem dJ13_append_3_5 : decode cJ13_append_3 5 = .ok (.pop, 1) := dk_87 (dk_at dksJ13_append_3_0 5 rfl rfl)
theorem dJ13_append_3_6 : decode cJ13_append_3 6 = .ok (.aload_n 0, 1) := dk_42 (dk_at dksJ13_append_3_0 6 rfl rfl)
theorem dJ13_append_3_7 : decode cJ13_append_3 7 = .ok (.areturn, 1) := dk_176 (dk_at dksJ13_append_3_0 7 rfl rfl)
theorem q124 : (Jvm.Cond.initialized "java/lang/StringBuilder") ∈ lw_all := lw_g (lw_at lw_m1 27 rfl) rfl
theorem q448 : (Jvm.Cond.selects "java/lang/StringBuilder" ({ cls := "java/lang/Object", name := "getClass", desc := "()Ljava/lang/Class;" } : Jvm.MethodName) ({ cls := "java/lang/Object", name := "getClass", desc := "()Ljava/lang/Class;" } : Jvm.MethodName)) ∈ lw_all := lw_g (lw_at lw_m2 111 rfl) rfl
theorem q682 : (Jvm.Cond.instantiable "java/lang/StringBuilder" (4 : Nat)) ∈ lw_all := lw_g (lw_at lw_m3 105 rfl) rfl
theorem q684 : (Jvm.Cond.instanceMethod ({ cls := "java/lang/StringBuilder", name := "<init>", desc := "()V" } : Jvm.MethodName)) ∈ lw_all := lw_g (lw_at lw_m3 107 rfl) rfl
theorem q685 : (Jvm.Cond.code ({ cls := "java/lang/StringBuilder", name := "<init>", desc := "()V" } : Jvm.MethodName) prog_43_method_1_code (1 : Nat) (Option.none : Option Jvm.ClassFile.FieldType)) ∈ lw_all := lw_g (lw_at lw_m3 108 rfl) rfl
theorem q686 : (Jvm.Cond.methodLink "java/lang/StringBuilder" (1 : Nat) ({ cls := "java/lang/AbstractStringBuilder", name := "<init>", desc := "(I)V" } : Jvm.MethodName)) ∈ lw_all := lw_g (lw_at lw_m3 109 rfl) rfl
theorem q704 : (Jvm.Cond.lays "java/lang/StringBuilder" "java/lang/AbstractStringBuilder" "value" "[B") ∈ lw_all := lw_g (lw_at lw_m3 127 rfl) rfl
theorem q706 : (Jvm.Cond.lays "java/lang/StringBuilder" "java/lang/AbstractStringBuilder" "coder" "B") ∈ lw_all := lw_g (lw_at lw_m3 129 rfl) rfl
theorem q708 : (Jvm.Cond.lays "java/lang/StringBuilder" "java/lang/AbstractStringBuilder" "maybeLatin1" "Z") ∈ lw_all := lw_g (lw_at lw_m3 131 rfl) rfl
theorem q710 : (Jvm.Cond.lays "java/lang/StringBuilder" "java/lang/AbstractStringBuilder" "count" "I") ∈ lw_all := lw_g (lw_at lw_m3 133 rfl) rfl
theorem q712 : (Jvm.Cond.superclass "java/lang/StringBuilder" "java/lang/AbstractStringBuilder") ∈ lw_all := lw_g (lw_at lw_m3 135 rfl) rfl
theorem q1000 : (Jvm.Cond.instanceMethod ({ cls := "java/lang/StringBuilder", name := "append", desc := "(Ljava/lang/String;)Ljava/lang/StringBuilder;" } : Jvm.MethodName)) ∈ lw_all := lw_g (lw_at lw_m4 183 rfl) rfl
theorem q1001 : (Jvm.Cond.selects "java/lang/StringBuilder" ({ cls := "java/lang/StringBuilder", name := "append", desc := "(Ljava/lang/String;)Ljava/lang/StringBuilder;" } : Jvm.MethodName) ({ cls := "java/lang/StringBuilder", name := "append", desc := "(Ljava/lang/String;)Ljava/lang/StringBuilder;" } : Jvm.MethodName)) ∈ lw_all := lw_g (lw_at lw_m4 184 rfl) rfl
theorem q1002 : (Jvm.Cond.code ({ cls := "java/lang/StringBuilder", name := "append", desc := "(Ljava/lang/String;)Ljava/lang/StringBuilder;" } : Jvm.MethodName) prog_43_method_7_code (2 : Nat) (Option.some (Jvm.ClassFile.FieldType.object "java/lang/StringBuilder"))) ∈ lw_all := lw_g (lw_at lw_m4 185 rfl) rfl
theorem q1003 : (Jvm.Cond.methodLink "java/lang/StringBuilder" (29 : Nat) ({ cls := "java/lang/AbstractStringBuilder", name := "append", desc := "(Ljava/lang/String;)Ljava/lang/AbstractStringBuilder;" } : Jvm.MethodName)) ∈ lw_all := lw_g (lw_at lw_m4 186 rfl) rfl
theorem q1033 : (Jvm.Cond.selects "java/lang/StringBuilder" ({ cls := "java/lang/AbstractStringBuilder", name := "isLatin1", desc := "()Z" } : Jvm.MethodName) ({ cls := "java/lang/AbstractStringBuilder", name := "isLatin1", desc := "()Z" } : Jvm.MethodName)) ∈ lw_all := lw_g (lw_at lw_m4 216 rfl) rfl
theorem q1106 : (Jvm.Cond.instanceMethod ({ cls := "java/lang/StringBuilder", name := "toString", desc := "()Ljava/lang/String;" } : Jvm.MethodName)) ∈ lw_all := lw_g (lw_at lw_m5 49 rfl) rfl
theorem q1107 : (Jvm.Cond.selects "java/lang/StringBuilder" ({ cls := "java/lang/StringBuilder", name := "toString", desc := "()Ljava/lang/String;" } : Jvm.MethodName) ({ cls := "java/lang/StringBuilder", name := "toString", desc := "()Ljava/lang/String;" } : Jvm.MethodName)) ∈ lw_all := lw_g (lw_at lw_m5 50 rfl) rfl
theorem q1108 : (Jvm.Cond.code ({ cls := "java/lang/StringBuilder", name := "toString", desc := "()Ljava/lang/String;" } : Jvm.MethodName) prog_43_method_42_code (1 : Nat) (Option.some (Jvm.ClassFile.FieldType.object "java/lang/String"))) ∈ lw_all := lw_g (lw_at lw_m5 51 rfl) rfl
theorem q1109 : (Jvm.Cond.classLink "java/lang/StringBuilder" (18 : Nat) "java/lang/String") ∈ lw_all := lw_g (lw_at lw_m5 52 rfl) rfl
theorem q1111 : (Jvm.Cond.methodLink "java/lang/StringBuilder" (137 : Nat) ({ cls := "java/lang/String", name := "<init>", desc := "(Ljava/lang/StringBuilder;)V" } : Jvm.MethodName)) ∈ lw_all := lw_g (lw_at lw_m5 54 rfl) rfl
theorem q1121 : (Jvm.Cond.selects "java/lang/StringBuilder" ({ cls := "java/lang/AbstractStringBuilder", name := "getValue", desc := "()[B" } : Jvm.MethodName) ({ cls := "java/lang/AbstractStringBuilder", name := "getValue", desc := "()[B" } : Jvm.MethodName)) ∈ lw_all := lw_g (lw_at lw_m5 64 rfl) rfl
theorem q1126 : (Jvm.Cond.selects "java/lang/StringBuilder" ({ cls := "java/lang/AbstractStringBuilder", name := "length", desc := "()I" } : Jvm.MethodName) ({ cls := "java/lang/StringBuilder", name := "length", desc := "()I" } : Jvm.MethodName)) ∈ lw_all := lw_g (lw_at lw_m5 69 rfl) rfl
theorem q1127 : (Jvm.Cond.instanceMethod ({ cls := "java/lang/StringBuilder", name := "length", desc := "()I" } : Jvm.MethodName)) ∈ lw_all := lw_g (lw_at lw_m5 70 rfl) rfl
theorem q1128 : (Jvm.Cond.code ({ cls := "java/lang/StringBuilder", name := "length", desc := "()I" } : Jvm.MethodName) prog_43_method_93_code (1 : Nat) (Option.some Jvm.ClassFile.FieldType.int)) ∈ lw_all := lw_g (lw_at lw_m5 71 rfl) rfl
theorem q1129 : (Jvm.Cond.methodLink "java/lang/StringBuilder" (343 : Nat) ({ cls := "java/lang/AbstractStringBuilder", name := "length", desc := "()I" } : Jvm.MethodName)) ∈ lw_all := lw_g (lw_at lw_m5 72 rfl) rfl
theorem q2046 : (Jvm.Cond.instanceMethod ({ cls := "java/lang/StringBuilder", name := "append", desc := "(C)Ljava/lang/StringBuilder;" } : Jvm.MethodName)) ∈ lw_all := lw_g (lw_at lw_m9 29 rfl) rfl
theorem q2047 : (Jvm.Cond.selects "java/lang/StringBuilder" ({ cls := "java/lang/StringBuilder", name := "append", desc := "(C)Ljava/lang/StringBuilder;" } : Jvm.MethodName) ({ cls := "java/lang/StringBuilder", name := "append", desc := "(C)Ljava/lang/StringBuilder;" } : Jvm.MethodName)) ∈ lw_all := lw_g (lw_at lw_m9 30 rfl) rfl
theorem q2048 : (Jvm.Cond.code ({ cls := "java/lang/StringBuilder", name := "append", desc := "(C)Ljava/lang/StringBuilder;" } : Jvm.MethodName) prog_43_method_14_code (2 : Nat) (Option.some (Jvm.ClassFile.FieldType.object "java/lang/StringBuilder"))) ∈ lw_all := lw_g (lw_at lw_m9 31 rfl) rfl
theorem q2049 : (Jvm.Cond.methodLink "java/lang/StringBuilder" (50 : Nat) ({ cls := "java/lang/AbstractStringBuilder", name := "append", desc := "(C)Ljava/lang/AbstractStringBuilder;" } : Jvm.MethodName)) ∈ lw_all := lw_g (lw_at lw_m9 32 rfl) rfl
theorem q2101 : (Jvm.Cond.instanceMethod ({ cls := "java/lang/StringBuilder", name := "charAt", desc := "(I)C" } : Jvm.MethodName)) ∈ lw_all := lw_g (lw_at lw_m9 84 rfl) rfl
theorem q2102 : (Jvm.Cond.selects "java/lang/StringBuilder" ({ cls := "java/lang/StringBuilder", name := "charAt", desc := "(I)C" } : Jvm.MethodName) ({ cls := "java/lang/StringBuilder", name := "charAt", desc := "(I)C" } : Jvm.MethodName)) ∈ lw_all := lw_g (lw_at lw_m9 85 rfl) rfl
theorem q2103 : (Jvm.Cond.code ({ cls := "java/lang/StringBuilder", name := "charAt", desc := "(I)C" } : Jvm.MethodName) prog_43_method_88_code (2 : Nat) (Option.some Jvm.ClassFile.FieldType.char)) ∈ lw_all := lw_g (lw_at lw_m9 86 rfl) rfl
theorem q2104 : (Jvm.Cond.methodLink "java/lang/StringBuilder" (329 : Nat) ({ cls := "java/lang/AbstractStringBuilder", name := "charAt", desc := "(I)C" } : Jvm.MethodName)) ∈ lw_all := lw_g (lw_at lw_m9 87 rfl) rfl
theorem q2324 : (Jvm.Cond.instanceMethod ({ cls := "java/lang/StringBuilder", name := "setLength", desc := "(I)V" } : Jvm.MethodName)) ∈ lw_all := lw_g (lw_at lw_m10 67 rfl) rfl
theorem q2325 : (Jvm.Cond.selects "java/lang/StringBuilder" ({ cls := "java/lang/StringBuilder", name := "setLength", desc := "(I)V" } : Jvm.MethodName) ({ cls := "java/lang/StringBuilder", name := "setLength", desc := "(I)V" } : Jvm.MethodName)) ∈ lw_all := lw_g (lw_at lw_m10 68 rfl) rfl
theorem q2326 : (Jvm.Cond.code ({ cls := "java/lang/StringBuilder", name := "setLength", desc := "(I)V" } : Jvm.MethodName) prog_43_method_89_code (2 : Nat) (Option.none : Option Jvm.ClassFile.FieldType)) ∈ lw_all := lw_g (lw_at lw_m10 69 rfl) rfl
theorem q2327 : (Jvm.Cond.methodLink "java/lang/StringBuilder" (333 : Nat) ({ cls := "java/lang/AbstractStringBuilder", name := "setLength", desc := "(I)V" } : Jvm.MethodName)) ∈ lw_all := lw_g (lw_at lw_m10 70 rfl) rfl
theorem q2361 : (Jvm.Cond.instanceMethod ({ cls := "java/lang/StringBuilder", name := "append", desc := "(I)Ljava/lang/StringBuilder;" } : Jvm.MethodName)) ∈ lw_all := lw_g (lw_at lw_m10 104 rfl) rfl
theorem q2362 : (Jvm.Cond.selects "java/lang/StringBuilder" ({ cls := "java/lang/StringBuilder", name := "append", desc := "(I)Ljava/lang/StringBuilder;" } : Jvm.MethodName) ({ cls := "java/lang/StringBuilder", name := "append", desc := "(I)Ljava/lang/StringBuilder;" } : Jvm.MethodName)) ∈ lw_all := lw_g (lw_at lw_m10 105 rfl) rfl
theorem q2363 : (Jvm.Cond.code ({ cls := "java/lang/StringBuilder", name := "append", desc := "(I)Ljava/lang/StringBuilder;" } : Jvm.MethodName) prog_43_method_15_code (2 : Nat) (Option.some (Jvm.ClassFile.FieldType.object "java/lang/StringBuilder"))) ∈ lw_all := lw_g (lw_at lw_m10 106 rfl) rfl
theorem q2364 : (Jvm.Cond.methodLink "java/lang/StringBuilder" (53 : Nat) ({ cls := "java/lang/AbstractStringBuilder", name := "append", desc := "(I)Ljava/lang/AbstractStringBuilder;" } : Jvm.MethodName)) ∈ lw_all := lw_g (lw_at lw_m10 107 rfl) rfl
theorem q2929 : (Jvm.Cond.selects "java/lang/StringBuilder" ({ cls := "java/lang/StringBuilder", name := "length", desc := "()I" } : Jvm.MethodName) ({ cls := "java/lang/StringBuilder", name := "length", desc := "()I" } : Jvm.MethodName)) ∈ lw_all := lw_g (lw_at lw_m12 192 rfl) rfl
theorem q2958 : (Jvm.Cond.castable "java/lang/StringBuilder" "java/lang/Object") ∈ lw_tbl := lw_at lw_m12 221 rfl
theorem in_J13 : ∀ w ∈ wsJ130, w ∈ lw_all := lw_in wsJ130 [704, 706, 708, 710] (by decide +kernel) (by decide +kernel)
/-! java/lang/String -/
set_option maxRecDepth 100000
def RJ14 : String := "java/lang/String"
def TJ14 : u_T := fun k => match k with
  | 0 => ("java/lang/String", "value", "[B", true)
  | 1 => ("java/lang/String", "coder", "B", true)
  | 2 => ("java/lang/String", "hash", "I", false)
  | _ => ("java/lang/String", "hashIsZero", "Z", false)
def tyJ14 : Nat → FieldType := fun k => match k with
  | 0 => .array .byte
  | 1 => .byte
  | 2 => .int
  | _ => .boolean
abbrev wsJ140 : List Cond := u_ws RJ14 TJ14 4
theorem nmJ14 : ∀ a, a < 4 → ∀ b, b < 4 → a ≠ b → (TJ14 a).2.1 ≠ (TJ14 b).2.1 := by decide +kernel
theorem tyJ14_ok : ∀ k, k < 4 → parseFieldDescriptor (TJ14 k).2.2.1 = some (tyJ14 k) := by decide +kernel
abbrev cJ14_checkBoundsBeginEnd : ByteArray := prog_42_method_158_code
def yJ14_checkBoundsBeginEnd : MethodName := ⟨RJ14, "checkBoundsBeginEnd", "(III)V"⟩
def dkwJ14_checkBoundsBeginEnd_0 : List UInt8 := [26, 27, 28, 178, 4, 29, 184, 4, 38, 87, 177]
abbrev dktJ14_checkBoundsBeginEnd_0 : List UInt8 := dkwJ14_checkBoundsBeginEnd_0 ++ []
theorem dksJ14_checkBoundsBeginEnd_0 : cJ14_checkBoundsBeginEnd.data.toList.drop 0 = dktJ14_checkBoundsBeginEnd_0 := by decide +kernel
theorem dJ14_checkBoundsBeginEnd_0 : decode cJ14_checkBoundsBeginEnd 0 = .ok (.iload_n 0, 1) := dk_26 (dk_at dksJ14_checkBoundsBeginEnd_0 0 rfl rfl)
theorem dJ14_checkBoundsBeginEnd_1 : decode cJ14_checkBoundsBeginEnd 1 = .ok (.iload_n 1, 1) := dk_27 (dk_at dksJ14_checkBoundsBeginEnd_0 1 rfl rfl)
theorem dJ14_checkBoundsBeginEnd_2 : decode cJ14_checkBoundsBeginEnd 2 = .ok (.iload_n 2, 1) := dk_28 (dk_at dksJ14_checkBoundsBeginEnd_0 2 rfl rfl)
theorem dJ14_checkBoundsBeginEnd_3 : decode cJ14_checkBoundsBeginEnd 3 = .ok (.getstatic 1053, 3) := dk_178 4 29 (dk_at dksJ14_checkBoundsBeginEnd_0 3 rfl rfl)
theorem dJ14_checkBoundsBeginEnd_6 : decode cJ14_checkBoundsBeginEnd 6 = .ok (.invokestatic 1062, 3) := dk_184 4 38 (dk_at dksJ14_checkBoundsBeginEnd_0 6 rfl rfl)
theorem dJ14_checkBoundsBeginEnd_9 : decode cJ14_checkBoundsBeginEnd 9 = .ok (.pop, 1) := dk_87 (dk_at dksJ14_checkBoundsBeginEnd_0 9 rfl rfl)
theorem dJ14_checkBoundsBeginEnd_10 : decode cJ14_checkBoundsBeginEnd 10 = .ok (.return_, 1) := dk_177 (dk_at dksJ14_checkBoundsBeginEnd_0 10 rfl rfl)
abbrev cJ14_length : ByteArray := prog_42_method_54_code
def yJ14_length : MethodName := ⟨RJ14, "length", "()I"⟩
def dkwJ14_length_0 : List UInt8 := [42, 180, 0, 9, 190, 42, 182, 1, 79, 122, 172]
abbrev dktJ14_length_0 : List UInt8 := dkwJ14_length_0 ++ []
theorem dksJ14_length_0 : cJ14_length.data.toList.drop 0 = dktJ14_length_0 := by decide +kernel
theorem dJ14_length_0 : decode cJ14_length 0 = .ok (.aload_n 0, 1) := dk_42 (dk_at dksJ14_length_0 0 rfl rfl)
theorem dJ14_length_1 : decode cJ14_length 1 = .ok (.getfield 9, 3) := dk_180 0 9 (dk_at dksJ14_length_0 1 rfl rfl)
theorem dJ14_length_4 : decode cJ14_length 4 = .ok (.arraylength, 1) := dk_190 (dk_at dksJ14_length_0 4 rfl rfl)
theorem dJ14_length_5 : decode cJ14_length 5 = .ok (.aload_n 0, 1) := dk_42 (dk_at dksJ14_length_0 5 rfl rfl)
theorem dJ14_length_6 : decode cJ14_length 6 = .ok (.invokevirtual 335, 3) := dk_182 1 79 (dk_at dksJ14_length_0 6 rfl rfl)
theorem dJ14_length_9 : decode cJ14_length 9 = .ok (.ishr, 1) := dk_122 (dk_at dksJ14_length_0 9 rfl rfl)
theorem dJ14_length_10 : decode cJ14_length 10 = .ok (.ireturn, 1) := dk_172 (dk_at dksJ14_length_0 10 rfl rfl)
abbrev cJ14_coder : ByteArray := prog_42_method_152_code
def yJ14_coder : MethodName := ⟨RJ14, "coder", "()B"⟩
def dkwJ14_coder_0 : List UInt8 := [178, 0, 38, 153, 0, 10, 42, 180, 0, 15, 167, 0, 4, 4, 172]
abbrev dktJ14_coder_0 : List UInt8 := dkwJ14_coder_0 ++ []
theorem dksJ14_coder_0 : cJ14_coder.data.toList.drop 0 = dktJ14_coder_0 := by decide +kernel
theorem dJ14_coder_0 : decode cJ14_coder 0 = .ok (.getstatic 38, 3) := dk_178 0 38 (dk_at dksJ14_coder_0 0 rfl rfl)
theorem dJ14_coder_3 : decode cJ14_coder 3 = .ok (.ifCond .eq 10, 3) := dk_153 0 10 (dk_at dksJ14_coder_0 3 rfl rfl)
theorem dJ14_coder_6 : decode cJ14_coder 6 = .ok (.aload_n 0, 1) := dk_42 (dk_at dksJ14_coder_0 6 rfl rfl)
theorem dJ14_coder_7 : decode cJ14_coder 7 = .ok (.getfield 15, 3) := dk_180 0 15 (dk_at dksJ14_coder_0 7 rfl rfl)
theorem dJ14_coder_10 : decode cJ14_coder 10 = .ok (.goto 4, 3) := dk_167 0 4 (dk_at dksJ14_coder_0 10 rfl rfl)
theorem dJ14_coder_13 : decode cJ14_coder 13 = .ok (.iconst 1, 1) := dk_4 (dk_at dksJ14_coder_0 13 rfl rfl)
theorem dJ14_coder_14 : decode cJ14_coder 14 = .ok (.ireturn, 1) := dk_172 (dk_at dksJ14_coder_0 14 rfl rfl)
abbrev cJ14_checkBoundsOffCount : ByteArray := prog_42_method_157_code
def yJ14_checkBoundsOffCount : MethodName := ⟨RJ14, "checkBoundsOffCount", "(III)I"⟩
def dkwJ14_checkBoundsOffCount_0 : List UInt8 := [26, 27, 28, 178, 4, 29, 184, 4, 41, 172]
abbrev dktJ14_checkBoundsOffCount_0 : List UInt8 := dkwJ14_checkBoundsOffCount_0 ++ []
theorem dksJ14_checkBoundsOffCount_0 : cJ14_checkBoundsOffCount.data.toList.drop 0 = dktJ14_checkBoundsOffCount_0 := by decide +kernel
theorem dJ14_checkBoundsOffCount_0 : decode cJ14_checkBoundsOffCount 0 = .ok (.iload_n 0, 1) := dk_26 (dk_at dksJ14_checkBoundsOffCount_0 0 rfl rfl)
theorem dJ14_checkBoundsOffCount_1 : decode cJ14_checkBoundsOffCount 1 = .ok (.iload_n 1, 1) := dk_27 (dk_at dksJ14_checkBoundsOffCount_0 1 rfl rfl)
theorem dJ14_checkBoundsOffCount_2 : decode cJ14_checkBoundsOffCount 2 = .ok (.iload_n 2, 1) := dk_28 (dk_at dksJ14_checkBoundsOffCount_0 2 rfl rfl)
theorem dJ14_checkBoundsOffCount_3 : decode cJ14_checkBoundsOffCount 3 = .ok (.getstatic 1053, 3) := dk_178 4 29 (dk_at dksJ14_checkBoundsOffCount_0 3 rfl rfl)
theorem dJ14_checkBoundsOffCount_6 : decode cJ14_checkBoundsOffCount 6 = .ok (.invokestatic 1065, 3) := dk_184 4 41 (dk_at dksJ14_checkBoundsOffCount_0 6 rfl rfl)
theorem dJ14_checkBoundsOffCount_9 : decode cJ14_checkBoundsOffCount 9 = .ok (.ireturn, 1) := dk_172 (dk_at dksJ14_checkBoundsOffCount_0 9 rfl rfl)
abbrev cJ14_getBytes : ByteArray := prog_42_method_147_code
def yJ14_getBytes : MethodName := ⟨RJ14, "getBytes", "([BIB)V"⟩
def dkwJ14_getBytes_1 : List UInt8 := [184, 0, 212, 167, 0, 18, 42, 180, 0, 9, 3, 43, 28, 42, 180, 0, 9, 190, 184, 0, 106, 177]
abbrev dktJ14_getBytes_1 : List UInt8 := dkwJ14_getBytes_1 ++ []
def dkwJ14_getBytes_0 : List UInt8 := [42, 182, 1, 79, 29, 160, 0, 23, 42, 180, 0, 9, 3, 43, 28, 29, 120, 42, 180, 0, 9, 190]
abbrev dktJ14_getBytes_0 : List UInt8 := dkwJ14_getBytes_0 ++ dktJ14_getBytes_1
theorem dksJ14_getBytes_0 : cJ14_getBytes.data.toList.drop 0 = dktJ14_getBytes_0 := by decide +kernel
theorem dksJ14_getBytes_1 : cJ14_getBytes.data.toList.drop 22 = dktJ14_getBytes_1 := dk_seg dksJ14_getBytes_0 22 rfl rfl
theorem dJ14_getBytes_0 : decode cJ14_getBytes 0 = .ok (.aload_n 0, 1) := dk_42 (dk_at dksJ14_getBytes_0 0 rfl rfl)
theorem dJ14_getBytes_1 : decode cJ14_getBytes 1 = .ok (.invokevirtual 335, 3) := dk_182 1 79 (dk_at dksJ14_getBytes_0 1 rfl rfl)
theorem dJ14_getBytes_4 : decode cJ14_getBytes 4 = .ok (.iload_n 3, 1) := dk_29 (dk_at dksJ14_getBytes_0 4 rfl rfl)
theorem dJ14_getBytes_5 : decode cJ14_getBytes 5 = .ok (.if_icmp .ne 23, 3) := dk_160 0 23 (dk_at dksJ14_getBytes_0 5 rfl rfl)
theorem dJ14_getBytes_8 : decode cJ14_getBytes 8 = .ok (.aload_n 0, 1) := dk_42 (dk_at dksJ14_getBytes_0 8 rfl rfl)
theorem dJ14_getBytes_9 : decode cJ14_getBytes 9 = .ok (.getfield 9, 3) := dk_180 0 9 (dk_at dksJ14_getBytes_0 9 rfl rfl)
theorem dJ14_getBytes_12 : decode cJ14_getBytes 12 = .ok (.iconst 0, 1) := dk_3 (dk_at dksJ14_getBytes_0 12 rfl rfl)
theorem dJ14_getBytes_13 : decode cJ14_getBytes 13 = .ok (.aload_n 1, 1) := dk_43 (dk_at dksJ14_getBytes_0 13 rfl rfl)
theorem dJ14_getBytes_14 : decode cJ14_getBytes 14 = .ok (.iload_n 2, 1) := dk_28 (dk_at dksJ14_getBytes_0 14 rfl rfl)
theorem dJ14_getBytes_15 : decode cJ14_getBytes 15 = .ok (.iload_n 3, 1) := dk_29 (dk_at dksJ14_getBytes_0 15 rfl rfl)
theorem dJ14_getBytes_16 : decode cJ14_getBytes 16 = .ok (.ishl, 1) := dk_120 (dk_at dksJ14_getBytes_0 16 rfl rfl)
theorem dJ14_getBytes_17 : decode cJ14_getBytes 17 = .ok (.aload_n 0, 1) := dk_42 (dk_at dksJ14_getBytes_0 17 rfl rfl)
theorem dJ14_getBytes_18 : decode cJ14_getBytes 18 = .ok (.getfield 9, 3) := dk_180 0 9 (dk_at dksJ14_getBytes_0 18 rfl rfl)
theorem dJ14_getBytes_21 : decode cJ14_getBytes 21 = .ok (.arraylength, 1) := dk_190 (dk_at dksJ14_getBytes_0 21 rfl rfl)
theorem dJ14_getBytes_22 : decode cJ14_getBytes 22 = .ok (.invokestatic 212, 3) := dk_184 0 212 (dk_at dksJ14_getBytes_1 0 rfl rfl)
theorem dJ14_getBytes_25 : decode cJ14_getBytes 25 = .ok (.goto 18, 3) := dk_167 0 18 (dk_at dksJ14_getBytes_1 3 rfl rfl)
theorem dJ14_getBytes_28 : decode cJ14_getBytes 28 = .ok (.aload_n 0, 1) := dk_42 (dk_at dksJ14_getBytes_1 6 rfl rfl)
theorem dJ14_getBytes_29 : decode cJ14_getBytes 29 = .ok (.getfield 9, 3) := dk_180 0 9 (dk_at dksJ14_getBytes_1 7 rfl rfl)
theorem dJ14_getBytes_32 : decode cJ14_getBytes 32 = .ok (.iconst 0, 1) := dk_3 (dk_at dksJ14_getBytes_1 10 rfl rfl)
theorem dJ14_getBytes_33 : decode cJ14_getBytes 33 = .ok (.aload_n 1, 1) := dk_43 (dk_at dksJ14_getBytes_1 11 rfl rfl)
theorem dJ14_getBytes_34 : decode cJ14_getBytes 34 = .ok (.iload_n 2, 1) := dk_28 (dk_at dksJ14_getBytes_1 12 rfl rfl)
theorem dJ14_getBytes_35 : decode cJ14_getBytes 35 = .ok (.aload_n 0, 1) := dk_42 (dk_at dksJ14_getBytes_1 13 rfl rfl)
theorem dJ14_getBytes_36 : decode cJ14_getBytes 36 = .ok (.getfield 9, 3) := dk_180 0 9 (dk_at dksJ14_getBytes_1 14 rfl rfl)
theorem dJ14_getBytes_39 : decode cJ14_getBytes 39 = .ok (.arraylength, 1) := dk_190 (dk_at dksJ14_getBytes_1 17 rfl rfl)
theorem dJ14_getBytes_40 : decode cJ14_getBytes 40 = .ok (.invokestatic 106, 3) := dk_184 0 106 (dk_at dksJ14_getBytes_1 18 rfl rfl)
theorem dJ14_getBytes_43 : decode cJ14_getBytes 43 = .ok (.return_, 1) := dk_177 (dk_at dksJ14_getBytes_1 21 rfl rfl)
abbrev cJ14_init : ByteArray := prog_42_method_53_code
def yJ14_init : MethodName := ⟨RJ14, "<init>", "(Ljava/lang/StringBuilder;)V"⟩
def dkwJ14_init_0 : List UInt8 := [42, 43, 1, 183, 1, 233, 177]
abbrev dktJ14_init_0 : List UInt8 := dkwJ14_init_0 ++ []
theorem dksJ14_init_0 : cJ14_init.data.toList.drop 0 = dktJ14_init_0 := by decide +kernel
theorem dJ14_init_0 : decode cJ14_init 0 = .ok (.aload_n 0, 1) := dk_42 (dk_at dksJ14_init_0 0 rfl rfl)
theorem dJ14_init_1 : decode cJ14_init 1 = .ok (.aload_n 1, 1) := dk_43 (dk_at dksJ14_init_0 1 rfl rfl)
theorem dJ14_init_2 : decode cJ14_init 2 = .ok (.aconst_null, 1) := dk_1 (dk_at dksJ14_init_0 2 rfl rfl)
theorem dJ14_init_3 : decode cJ14_init 3 = .ok (.invokespecial 489, 3) := dk_183 1 233 (dk_at dksJ14_init_0 3 rfl rfl)
theorem dJ14_init_6 : decode cJ14_init 6 = .ok (.return_, 1) := dk_177 (dk_at dksJ14_init_0 6 rfl rfl)
abbrev cJ14_init_2 : ByteArray := prog_42_method_150_code
def yJ14_init_2 : MethodName := ⟨RJ14, "<init>", "(Ljava/lang/AbstractStringBuilder;Ljava/lang/Void;)V"⟩
def dkwJ14_init_2_4 : List UInt8 := [181, 0, 9, 177]
abbrev dktJ14_init_2_4 : List UInt8 := dkwJ14_init_2_4 ++ []
def dkwJ14_init_2_3 : List UInt8 := [184, 0, 47, 181, 0, 15, 177, 42, 4, 181, 0, 15, 42, 45, 3, 21, 4, 4, 120, 184, 0, 54]
abbrev dktJ14_init_2_3 : List UInt8 := dkwJ14_init_2_3 ++ dktJ14_init_2_4
def dkwJ14_init_2_2 : List UInt8 := [180, 4, 24, 153, 0, 28, 42, 45, 3, 21, 4, 184, 4, 27, 181, 0, 9, 42, 42, 180, 0, 9, 21, 4]
abbrev dktJ14_init_2_2 : List UInt8 := dkwJ14_init_2_2 ++ dktJ14_init_2_3
def dkwJ14_init_2_1 : List UInt8 := [181, 0, 15, 42, 45, 3, 21, 4, 184, 0, 54, 181, 0, 9, 167, 0, 59, 178, 0, 38, 153, 0, 35, 43]
abbrev dktJ14_init_2_1 : List UInt8 := dkwJ14_init_2_1 ++ dktJ14_init_2_2
def dkwJ14_init_2_0 : List UInt8 := [42, 183, 0, 1, 43, 182, 2, 40, 78, 43, 182, 2, 37, 54, 4, 43, 182, 4, 23, 153, 0, 22, 42, 3]
abbrev dktJ14_init_2_0 : List UInt8 := dkwJ14_init_2_0 ++ dktJ14_init_2_1
theorem dksJ14_init_2_0 : cJ14_init_2.data.toList.drop 0 = dktJ14_init_2_0 := by decide +kernel
theorem dksJ14_init_2_1 : cJ14_init_2.data.toList.drop 24 = dktJ14_init_2_1 := dk_seg dksJ14_init_2_0 24 rfl rfl
theorem dksJ14_init_2_2 : cJ14_init_2.data.toList.drop 48 = dktJ14_init_2_2 := dk_seg dksJ14_init_2_1 24 rfl rfl
theorem dksJ14_init_2_3 : cJ14_init_2.data.toList.drop 72 = dktJ14_init_2_3 := dk_seg dksJ14_init_2_2 24 rfl rfl
theorem dksJ14_init_2_4 : cJ14_init_2.data.toList.drop 94 = dktJ14_init_2_4 := dk_seg dksJ14_init_2_3 22 rfl rfl
theorem dJ14_init_2_0 : decode cJ14_init_2 0 = .ok (.aload_n 0, 1) := dk_42 (dk_at dksJ14_init_2_0 0 rfl rfl)
theorem dJ14_init_2_1 : decode cJ14_init_2 1 = .ok (.invokespecial 1, 3) := dk_183 0 1 (dk_at dksJ14_init_2_0 1 rfl rfl)
theorem dJ14_init_2_4 : decode cJ14_init_2 4 = .ok (.aload_n 1, 1) := dk_43 (dk_at dksJ14_init_2_0 4 rfl rfl)
theorem dJ14_init_2_5 : decode cJ14_init_2 5 = .ok (.invokevirtual 552, 3) := dk_182 2 40 (dk_at dksJ14_init_2_0 5 rfl rfl)
theorem dJ14_init_2_8 : decode cJ14_init_2 8 = .ok (.astore_n 3, 1) := dk_78 (dk_at dksJ14_init_2_0 8 rfl rfl)
theorem dJ14_init_2_9 : decode cJ14_init_2 9 = .ok (.aload_n 1, 1) := dk_43 (dk_at dksJ14_init_2_0 9 rfl rfl)
theorem dJ14_init_2_10 : decode cJ14_init_2 10 = .ok (.invokevirtual 549, 3) := dk_182 2 37 (dk_at dksJ14_init_2_0 10 rfl rfl)
theorem dJ14_init_2_13 : decode cJ14_init_2 13 = .ok (.istore 4, 2) := dk_54 4 (dk_at dksJ14_init_2_0 13 rfl rfl)
theorem dJ14_init_2_15 : decode cJ14_init_2 15 = .ok (.aload_n 1, 1) := dk_43 (dk_at dksJ14_init_2_0 15 rfl rfl)
theorem dJ14_init_2_16 : decode cJ14_init_2 16 = .ok (.invokevirtual 1047, 3) := dk_182 4 23 (dk_at dksJ14_init_2_0 16 rfl rfl)
theorem dJ14_init_2_19 : decode cJ14_init_2 19 = .ok (.ifCond .eq 22, 3) := dk_153 0 22 (dk_at dksJ14_init_2_0 19 rfl rfl)
theorem dJ14_init_2_22 : decode cJ14_init_2 22 = .ok (.aload_n 0, 1) := dk_42 (dk_at dksJ14_init_2_0 22 rfl rfl)
theorem dJ14_init_2_23 : decode cJ14_init_2 23 = .ok (.iconst 0, 1) := dk_3 (dk_at dksJ14_init_2_0 23 rfl rfl)
theorem dJ14_init_2_24 : decode cJ14_init_2 24 = .ok (.putfield 15, 3) := dk_181 0 15 (dk_at dksJ14_init_2_1 0 rfl rfl)
theorem dJ14_init_2_27 : decode cJ14_init_2 27 = .ok (.aload_n 0, 1) := dk_42 (dk_at dksJ14_init_2_1 3 rfl rfl)
theorem dJ14_init_2_28 : decode cJ14_init_2 28 = .ok (.aload_n 3, 1) := dk_45 (dk_at dksJ14_init_2_1 4 rfl rfl)
theorem dJ14_init_2_29 : decode cJ14_init_2 29 = .ok (.iconst 0, 1) := dk_3 (dk_at dksJ14_init_2_1 5 rfl rfl)
theorem dJ14_init_2_30 : decode cJ14_init_2 30 = .ok (.iload 4, 2) := dk_21 4 (dk_at dksJ14_init_2_1 6 rfl rfl)
theorem dJ14_init_2_32 : decode cJ14_init_2 32 = .ok (.invokestatic 54, 3) := dk_184 0 54 (dk_at dksJ14_init_2_1 8 rfl rfl)
theorem dJ14_init_2_35 : decode cJ14_init_2 35 = .ok (.putfield 9, 3) := dk_181 0 9 (dk_at dksJ14_init_2_1 11 rfl rfl)
theorem dJ14_init_2_38 : decode cJ14_init_2 38 = .ok (.goto 59, 3) := dk_167 0 59 (dk_at dksJ14_init_2_1 14 rfl rfl)
theorem dJ14_init_2_41 : decode cJ14_init_2 41 = .ok (.getstatic 38, 3) := dk_178 0 38 (dk_at dksJ14_init_2_1 17 rfl rfl)
theorem dJ14_init_2_44 : decode cJ14_init_2 44 = .ok (.ifCond .eq 35, 3) := dk_153 0 35 (dk_at dksJ14_init_2_1 20 rfl rfl)
theorem dJ14_init_2_47 : decode cJ14_init_2 47 = .ok (.aload_n 1, 1) := dk_43 (dk_at dksJ14_init_2_1 23 rfl rfl)
theorem dJ14_init_2_48 : decode cJ14_init_2 48 = .ok (.getfield 1048, 3) := dk_180 4 24 (dk_at dksJ14_init_2_2 0 rfl rfl)
theorem dJ14_init_2_51 : decode cJ14_init_2 51 = .ok (.ifCond .eq 28, 3) := dk_153 0 28 (dk_at dksJ14_init_2_2 3 rfl rfl)
theorem dJ14_init_2_54 : decode cJ14_init_2 54 = .ok (.aload_n 0, 1) := dk_42 (dk_at dksJ14_init_2_2 6 rfl rfl)
theorem dJ14_init_2_55 : decode cJ14_init_2 55 = .ok (.aload_n 3, 1) := dk_45 (dk_at dksJ14_init_2_2 7 rfl rfl)
theorem dJ14_init_2_56 : decode cJ14_init_2 56 = .ok (.iconst 0, 1) := dk_3 (dk_at dksJ14_init_2_2 8 rfl rfl)
theorem dJ14_init_2_57 : decode cJ14_init_2 57 = .ok (.iload 4, 2) := dk_21 4 (dk_at dksJ14_init_2_2 9 rfl rfl)
theorem dJ14_init_2_59 : decode cJ14_init_2 59 = .ok (.invokestatic 1051, 3) := dk_184 4 27 (dk_at dksJ14_init_2_2 11 rfl rfl)
theorem dJ14_init_2_62 : decode cJ14_init_2 62 = .ok (.putfield 9, 3) := dk_181 0 9 (dk_at dksJ14_init_2_2 14 rfl rfl)
theorem dJ14_init_2_65 : decode cJ14_init_2 65 = .ok (.aload_n 0, 1) := dk_42 (dk_at dksJ14_init_2_2 17 rfl rfl)
theorem dJ14_init_2_66 : decode cJ14_init_2 66 = .ok (.aload_n 0, 1) := dk_42 (dk_at dksJ14_init_2_2 18 rfl rfl)
theorem dJ14_init_2_67 : decode cJ14_init_2 67 = .ok (.getfield 9, 3) := dk_180 0 9 (dk_at dksJ14_init_2_2 19 rfl rfl)
theorem dJ14_init_2_70 : decode cJ14_init_2 70 = .ok (.iload 4, 2) := dk_21 4 (dk_at dksJ14_init_2_2 22 rfl rfl)
theorem dJ14_init_2_72 : decode cJ14_init_2 72 = .ok (.invokestatic 47, 3) := dk_184 0 47 (dk_at dksJ14_init_2_3 0 rfl rfl)
theorem dJ14_init_2_75 : decode cJ14_init_2 75 = .ok (.putfield 15, 3) := dk_181 0 15 (dk_at dksJ14_init_2_3 3 rfl rfl)
theorem dJ14_init_2_78 : decode cJ14_init_2 78 = .ok (.return_, 1) := dk_177 (dk_at dksJ14_init_2_3 6 rfl rfl)
theorem dJ14_init_2_79 : decode cJ14_init_2 79 = .ok (.aload_n 0, 1) := dk_42 (dk_at dksJ14_init_2_3 7 rfl rfl)
theorem dJ14_init_2_80 : decode cJ14_init_2 80 = .ok (.iconst 1, 1) := dk_4 (dk_at dksJ14_init_2_3 8 rfl rfl)
theorem dJ14_init_2_81 : decode cJ14_init_2 81 = .ok (.putfield 15, 3) := dk_181 0 15 (dk_at dksJ14_init_2_3 9 rfl rfl)
theorem dJ14_init_2_84 : decode cJ14_init_2 84 = .ok (.aload_n 0, 1) := dk_42 (dk_at dksJ14_init_2_3 12 rfl rfl)
theorem dJ14_init_2_85 : decode cJ14_init_2 85 = .ok (.aload_n 3, 1) := dk_45 (dk_at dksJ14_init_2_3 13 rfl rfl)
theorem dJ14_init_2_86 : decode cJ14_init_2 86 = .ok (.iconst 0, 1) := dk_3 (dk_at dksJ14_init_2_3 14 rfl rfl)
theorem dJ14_init_2_87 : decode cJ14_init_2 87 = .ok (.iload 4, 2) := dk_21 4 (dk_at dksJ14_init_2_3 15 rfl rfl)
theorem dJ14_init_2_89 : decode cJ14_init_2 89 = .ok (.iconst 1, 1) := dk_4 (dk_at dksJ14_init_2_3 17 rfl rfl)
theorem dJ14_init_2_90 : decode cJ14_init_2 90 = .ok (.ishl, 1) := dk_120 (dk_at dksJ14_init_2_3 18 rfl rfl)
theorem dJ14_init_2_91 : decode cJ14_init_2 91 = .ok (.invokestatic 54, 3) := dk_184 0 54 (dk_at dksJ14_init_2_3 19 rfl rfl)
theorem dJ14_init_2_94 : decode cJ14_init_2 94 = .ok (.putfield 9, 3) := dk_181 0 9 (dk_at dksJ14_init_2_4 0 rfl rfl)
theorem dJ14_init_2_97 : decode cJ14_init_2 97 = .ok (.return_, 1) := dk_177 (dk_at dksJ14_init_2_4 3 rfl rfl)
abbrev cJ14_checkIndex : ByteArray := prog_42_method_155_code
def yJ14_checkIndex : MethodName := ⟨RJ14, "checkIndex", "(II)V"⟩
def dkwJ14_checkIndex_0 : List UInt8 := [26, 27, 178, 4, 29, 184, 4, 35, 87, 177]
abbrev dktJ14_checkIndex_0 : List UInt8 := dkwJ14_checkIndex_0 ++ []
theorem dksJ14_checkIndex_0 : cJ14_checkIndex.data.toList.drop 0 = dktJ14_checkIndex_0 := by decide +kernel
theorem dJ14_checkIndex_0 : decode cJ14_checkIndex 0 = .ok (.iload_n 0, 1) := dk_26 (dk_at dksJ14_checkIndex_0 0 rfl rfl)
theorem dJ14_checkIndex_1 : decode cJ14_checkIndex 1 = .ok (.iload_n 1, 1) := dk_27 (dk_at dksJ14_checkIndex_0 1 rfl rfl)
theorem dJ14_checkIndex_2 : decode cJ14_checkIndex 2 = .ok (.getstatic 1053, 3) := dk_178 4 29 (dk_at dksJ14_checkIndex_0 2 rfl rfl)
theorem dJ14_checkIndex_5 : decode cJ14_checkIndex 5 = .ok (.invokestatic 1059, 3) := dk_184 4 35 (dk_at dksJ14_checkIndex_0 5 rfl rfl)
theorem dJ14_checkIndex_8 : decode cJ14_checkIndex 8 = .ok (.pop, 1) := dk_87 (dk_at dksJ14_checkIndex_0 8 rfl rfl)
theorem dJ14_checkIndex_9 : decode cJ14_checkIndex 9 = .ok (.return_, 1) := dk_177 (dk_at dksJ14_checkIndex_0 9 rfl rfl)
abbrev cJ14_indexOf : ByteArray := prog_42_method_79_code
def yJ14_indexOf : MethodName := ⟨RJ14, "indexOf", "(I)I"⟩
def dkwJ14_indexOf_0 : List UInt8 := [42, 27, 3, 182, 2, 121, 172]
abbrev dktJ14_indexOf_0 : List UInt8 := dkwJ14_indexOf_0 ++ []
theorem dksJ14_indexOf_0 : cJ14_indexOf.data.toList.drop 0 = dktJ14_indexOf_0 := by decide +kernel
theorem dJ14_indexOf_0 : decode cJ14_indexOf 0 = .ok (.aload_n 0, 1) := dk_42 (dk_at dksJ14_indexOf_0 0 rfl rfl)
theorem dJ14_indexOf_1 : decode cJ14_indexOf 1 = .ok (.iload_n 1, 1) := dk_27 (dk_at dksJ14_indexOf_0 1 rfl rfl)
theorem dJ14_indexOf_2 : decode cJ14_indexOf 2 = .ok (.iconst 0, 1) := dk_3 (dk_at dksJ14_indexOf_0 2 rfl rfl)
theorem dJ14_indexOf_3 : decode cJ14_indexOf 3 = .ok (.invokevirtual 633, 3) := dk_182 2 121 (dk_at dksJ14_indexOf_0 3 rfl rfl)
theorem dJ14_indexOf_6 : decode cJ14_indexOf 6 = .ok (.ireturn, 1) := dk_172 (dk_at dksJ14_indexOf_0 6 rfl rfl)
abbrev cJ14_indexOf_2 : ByteArray := prog_42_method_80_code
def yJ14_indexOf_2 : MethodName := ⟨RJ14, "indexOf", "(II)I"⟩
def dkwJ14_indexOf_2_1 : List UInt8 := [180, 0, 9, 27, 28, 42, 182, 1, 249, 184, 2, 128, 172]
abbrev dktJ14_indexOf_2_1 : List UInt8 := dkwJ14_indexOf_2_1 ++ []
def dkwJ14_indexOf_2_0 : List UInt8 := [42, 182, 1, 236, 153, 0, 19, 42, 180, 0, 9, 27, 28, 42, 182, 1, 249, 184, 2, 125, 167, 0, 16, 42]
abbrev dktJ14_indexOf_2_0 : List UInt8 := dkwJ14_indexOf_2_0 ++ dktJ14_indexOf_2_1
theorem dksJ14_indexOf_2_0 : cJ14_indexOf_2.data.toList.drop 0 = dktJ14_indexOf_2_0 := by decide +kernel
theorem dksJ14_indexOf_2_1 : cJ14_indexOf_2.data.toList.drop 24 = dktJ14_indexOf_2_1 := dk_seg dksJ14_indexOf_2_0 24 rfl rfl
theorem dJ14_indexOf_2_0 : decode cJ14_indexOf_2 0 = .ok (.aload_n 0, 1) := dk_42 (dk_at dksJ14_indexOf_2_0 0 rfl rfl)
theorem dJ14_indexOf_2_1 : decode cJ14_indexOf_2 1 = .ok (.invokevirtual 492, 3) := dk_182 1 236 (dk_at dksJ14_indexOf_2_0 1 rfl rfl)
theorem dJ14_indexOf_2_4 : decode cJ14_indexOf_2 4 = .ok (.ifCond .eq 19, 3) := dk_153 0 19 (dk_at dksJ14_indexOf_2_0 4 rfl rfl)
theorem dJ14_indexOf_2_7 : decode cJ14_indexOf_2 7 = .ok (.aload_n 0, 1) := dk_42 (dk_at dksJ14_indexOf_2_0 7 rfl rfl)
theorem dJ14_indexOf_2_8 : decode cJ14_indexOf_2 8 = .ok (.getfield 9, 3) := dk_180 0 9 (dk_at dksJ14_indexOf_2_0 8 rfl rfl)
theorem dJ14_indexOf_2_11 : decode cJ14_indexOf_2 11 = .ok (.iload_n 1, 1) := dk_27 (dk_at dksJ14_indexOf_2_0 11 rfl rfl)
theorem dJ14_indexOf_2_12 : decode cJ14_indexOf_2 12 = .ok (.iload_n 2, 1) := dk_28 (dk_at dksJ14_indexOf_2_0 12 rfl rfl)
theorem dJ14_indexOf_2_13 : decode cJ14_indexOf_2 13 = .ok (.aload_n 0, 1) := dk_42 (dk_at dksJ14_indexOf_2_0 13 rfl rfl)
theorem dJ14_indexOf_2_14 : decode cJ14_indexOf_2 14 = .ok (.invokevirtual 505, 3) := dk_182 1 249 (dk_at dksJ14_indexOf_2_0 14 rfl rfl)
theorem dJ14_indexOf_2_17 : decode cJ14_indexOf_2 17 = .ok (.invokestatic 637, 3) := dk_184 2 125 (dk_at dksJ14_indexOf_2_0 17 rfl rfl)
theorem dJ14_indexOf_2_20 : decode cJ14_indexOf_2 20 = .ok (.goto 16, 3) := dk_167 0 16 (dk_at dksJ14_indexOf_2_0 20 rfl rfl)
theorem dJ14_indexOf_2_23 : decode cJ14_indexOf_2 23 = .ok (.aload_n 0, 1) := dk_42 (dk_at dksJ14_indexOf_2_0 23 rfl rfl)
theorem dJ14_indexOf_2_24 : decode cJ14_indexOf_2 24 = .ok (.getfield 9, 3) := dk_180 0 9 (dk_at dksJ14_indexOf_2_1 0 rfl rfl)
theorem dJ14_indexOf_2_27 : decode cJ14_indexOf_2 27 = .ok (.iload_n 1, 1) := dk_27 (dk_at dksJ14_indexOf_2_1 3 rfl rfl)
theorem dJ14_indexOf_2_28 : decode cJ14_indexOf_2 28 = .ok (.iload_n 2, 1) := dk_28 (dk_at dksJ14_indexOf_2_1 4 rfl rfl)
theorem dJ14_indexOf_2_29 : decode cJ14_indexOf_2 29 = .ok (.aload_n 0, 1) := dk_42 (dk_at dksJ14_indexOf_2_1 5 rfl rfl)
theorem dJ14_indexOf_2_30 : decode cJ14_indexOf_2 30 = .ok (.invokevirtual 505, 3) := dk_182 1 249 (dk_at dksJ14_indexOf_2_1 6 rfl rfl)
theorem dJ14_indexOf_2_33 : decode cJ14_indexOf_2 33 = .ok (.invokestatic 640, 3) := dk_184 2 128 (dk_at dksJ14_indexOf_2_1 9 rfl rfl)
theorem dJ14_indexOf_2_36 : decode cJ14_indexOf_2 36 = .ok (.ireturn, 1) := dk_172 (dk_at dksJ14_indexOf_2_1 12 rfl rfl)
abbrev cJ14_isLatin1 : ByteArray := prog_42_method_154_code
def yJ14_isLatin1 : MethodName := ⟨RJ14, "isLatin1", "()Z"⟩
def dkwJ14_isLatin1_0 : List UInt8 := [178, 0, 38, 153, 0, 14, 42, 180, 0, 15, 154, 0, 7, 4, 167, 0, 4, 3, 172]
abbrev dktJ14_isLatin1_0 : List UInt8 := dkwJ14_isLatin1_0 ++ []
theorem dksJ14_isLatin1_0 : cJ14_isLatin1.data.toList.drop 0 = dktJ14_isLatin1_0 := by decide +kernel
theorem dJ14_isLatin1_0 : decode cJ14_isLatin1 0 = .ok (.getstatic 38, 3) := dk_178 0 38 (dk_at dksJ14_isLatin1_0 0 rfl rfl)
theorem dJ14_isLatin1_3 : decode cJ14_isLatin1 3 = .ok (.ifCond .eq 14, 3) := dk_153 0 14 (dk_at dksJ14_isLatin1_0 3 rfl rfl)
theorem dJ14_isLatin1_6 : decode cJ14_isLatin1 6 = .ok (.aload_n 0, 1) := dk_42 (dk_at dksJ14_isLatin1_0 6 rfl rfl)
theorem dJ14_isLatin1_7 : decode cJ14_isLatin1 7 = .ok (.getfield 15, 3) := dk_180 0 15 (dk_at dksJ14_isLatin1_0 7 rfl rfl)
theorem dJ14_isLatin1_10 : decode cJ14_isLatin1 10 = .ok (.ifCond .ne 7, 3) := dk_154 0 7 (dk_at dksJ14_isLatin1_0 10 rfl rfl)
theorem dJ14_isLatin1_13 : decode cJ14_isLatin1 13 = .ok (.iconst 1, 1) := dk_4 (dk_at dksJ14_isLatin1_0 13 rfl rfl)
theorem dJ14_isLatin1_14 : decode cJ14_isLatin1 14 = .ok (.goto 4, 3) := dk_167 0 4 (dk_at dksJ14_isLatin1_0 14 rfl rfl)
theorem dJ14_isLatin1_17 : decode cJ14_isLatin1 17 = .ok (.iconst 0, 1) := dk_3 (dk_at dksJ14_isLatin1_0 17 rfl rfl)
theorem dJ14_isLatin1_18 : decode cJ14_isLatin1 18 = .ok (.ireturn, 1) := dk_172 (dk_at dksJ14_isLatin1_0 18 rfl rfl)
abbrev cJ14_charAt : ByteArray := prog_42_method_56_code
def yJ14_charAt : MethodName := ⟨RJ14, "charAt", "(I)C"⟩
def dkwJ14_charAt_1 : List UInt8 := [172]
abbrev dktJ14_charAt_1 : List UInt8 := dkwJ14_charAt_1 ++ []
def dkwJ14_charAt_0 : List UInt8 := [42, 182, 1, 236, 153, 0, 12, 42, 180, 0, 9, 27, 184, 1, 239, 172, 42, 180, 0, 9, 27, 184, 1, 242]
abbrev dktJ14_charAt_0 : List UInt8 := dkwJ14_charAt_0 ++ dktJ14_charAt_1
theorem dksJ14_charAt_0 : cJ14_charAt.data.toList.drop 0 = dktJ14_charAt_0 := by decide +kernel
theorem dksJ14_charAt_1 : cJ14_charAt.data.toList.drop 24 = dktJ14_charAt_1 := dk_seg dksJ14_charAt_0 24 rfl rfl
theorem dJ14_charAt_0 : decode cJ14_charAt 0 = .ok (.aload_n 0, 1) := dk_42 (dk_at dksJ14_charAt_0 0 rfl rfl)
theorem dJ14_charAt_1 : decode cJ14_charAt 1 = .ok (.invokevirtual 492, 3) := dk_182 1 236 (dk_at dksJ14_charAt_0 1 rfl rfl)
theorem dJ14_charAt_4 : decode cJ14_charAt 4 = .ok (.ifCond .eq 12, 3) := dk_153 0 12 (dk_at dksJ14_charAt_0 4 rfl rfl)
theorem dJ14_charAt_7 : decode cJ14_charAt 7 = .ok (.aload_n 0, 1) := dk_42 (dk_at dksJ14_charAt_0 7 rfl rfl)
theorem dJ14_charAt_8 : decode cJ14_charAt 8 = .ok (.getfield 9, 3) := dk_180 0 9 (dk_at dksJ14_charAt_0 8 rfl rfl)
theorem dJ14_charAt_11 : decode cJ14_charAt 11 = .ok (.iload_n 1, 1) := dk_27 (dk_at dksJ14_charAt_0 11 rfl rfl)
theorem dJ14_charAt_12 : decode cJ14_charAt 12 = .ok (.invokestatic 495, 3) := dk_184 1 239 (dk_at dksJ14_charAt_0 12 rfl rfl)
theorem dJ14_charAt_15 : decode cJ14_charAt 15 = .ok (.ireturn, 1) := dk_172 (dk_at dksJ14_charAt_0 15 rfl rfl)
theorem dJ14_charAt_16 : decode cJ14_charAt 16 = .ok (.aload_n 0, 1) := dk_42 (dk_at dksJ14_charAt_0 16 rfl rfl)
theorem dJ14_charAt_17 : decode cJ14_charAt 17 = .ok (.getfield 9, 3) := dk_180 0 9 (dk_at dksJ14_charAt_0 17 rfl rfl)
theorem dJ14_charAt_20 : decode cJ14_charAt 20 = .ok (.iload_n 1, 1) := dk_27 (dk_at dksJ14_charAt_0 20 rfl rfl)
theorem dJ14_charAt_21 : decode cJ14_charAt 21 = .ok (.invokestatic 498, 3) := dk_184 1 242 (dk_at dksJ14_charAt_0 21 rfl rfl)
theorem dJ14_charAt_24 : decode cJ14_charAt 24 = .ok (.ireturn, 1) := dk_172 (dk_at dksJ14_charAt_1 0 rfl rfl)
theorem q125 : (Jvm.Cond.initialized "java/lang/String") ∈ lw_all := lw_g (lw_at lw_m1 28 rfl) rfl
theorem q447 : (Jvm.Cond.selects "java/lang/String" ({ cls := "java/lang/Object", name := "getClass", desc := "()Ljava/lang/Class;" } : Jvm.MethodName) ({ cls := "java/lang/Object", name := "getClass", desc := "()Ljava/lang/Class;" } : Jvm.MethodName)) ∈ lw_all := lw_g (lw_at lw_m2 110 rfl) rfl
theorem q691 : (Jvm.Cond.laysStatic "java/lang/String" "COMPACT_STRINGS" "Z") ∈ lw_tbl := lw_at lw_m3 114 rfl
theorem q702 : (Jvm.Cond.fieldLink "java/lang/String" (1048 : Nat) "java/lang/AbstractStringBuilder" "maybeLatin1" "Z") ∈ lw_all := lw_g (lw_at lw_m3 125 rfl) rfl
theorem q1045 : (Jvm.Cond.static ({ cls := "java/lang/String", name := "checkBoundsBeginEnd", desc := "(III)V" } : Jvm.MethodName)) ∈ lw_all := lw_g (lw_at lw_m4 228 rfl) rfl
theorem q1046 : (Jvm.Cond.code ({ cls := "java/lang/String", name := "checkBoundsBeginEnd", desc := "(III)V" } : Jvm.MethodName) prog_42_method_158_code (3 : Nat) (Option.none : Option Jvm.ClassFile.FieldType)) ∈ lw_all := lw_g (lw_at lw_m4 229 rfl) rfl
theorem q1047 : (Jvm.Cond.fieldLink "java/lang/String" (1053 : Nat) "jdk/internal/util/Preconditions" "SIOOBE_FORMATTER" "Ljava/util/function/BiFunction;") ∈ lw_all := lw_g (lw_at lw_m4 230 rfl) rfl
theorem q1049 : (Jvm.Cond.methodLink "java/lang/String" (1062 : Nat) ({ cls := "jdk/internal/util/Preconditions", name := "checkFromToIndex", desc := "(IIILjava/util/function/BiFunction;)I" } : Jvm.MethodName)) ∈ lw_all := lw_g (lw_at lw_m4 232 rfl) rfl
theorem q1062 : (Jvm.Cond.instanceMethod ({ cls := "java/lang/String", name := "length", desc := "()I" } : Jvm.MethodName)) ∈ lw_all := lw_g (lw_at lw_m5 5 rfl) rfl
theorem q1063 : (Jvm.Cond.selects "java/lang/String" ({ cls := "java/lang/String", name := "length", desc := "()I" } : Jvm.MethodName) ({ cls := "java/lang/String", name := "length", desc := "()I" } : Jvm.MethodName)) ∈ lw_all := lw_g (lw_at lw_m5 6 rfl) rfl
theorem q1064 : (Jvm.Cond.code ({ cls := "java/lang/String", name := "length", desc := "()I" } : Jvm.MethodName) prog_42_method_54_code (1 : Nat) (Option.some Jvm.ClassFile.FieldType.int)) ∈ lw_all := lw_g (lw_at lw_m5 7 rfl) rfl
theorem q1065 : (Jvm.Cond.methodLink "java/lang/String" (335 : Nat) ({ cls := "java/lang/String", name := "coder", desc := "()B" } : Jvm.MethodName)) ∈ lw_all := lw_g (lw_at lw_m5 8 rfl) rfl
theorem q1066 : (Jvm.Cond.instanceMethod ({ cls := "java/lang/String", name := "coder", desc := "()B" } : Jvm.MethodName)) ∈ lw_all := lw_g (lw_at lw_m5 9 rfl) rfl
theorem q1067 : (Jvm.Cond.selects "java/lang/String" ({ cls := "java/lang/String", name := "coder", desc := "()B" } : Jvm.MethodName) ({ cls := "java/lang/String", name := "coder", desc := "()B" } : Jvm.MethodName)) ∈ lw_all := lw_g (lw_at lw_m5 10 rfl) rfl
theorem q1068 : (Jvm.Cond.code ({ cls := "java/lang/String", name := "coder", desc := "()B" } : Jvm.MethodName) prog_42_method_152_code (1 : Nat) (Option.some Jvm.ClassFile.FieldType.byte)) ∈ lw_all := lw_g (lw_at lw_m5 11 rfl) rfl
theorem q1069 : (Jvm.Cond.fieldLink "java/lang/String" (38 : Nat) "java/lang/String" "COMPACT_STRINGS" "Z") ∈ lw_all := lw_g (lw_at lw_m5 12 rfl) rfl
theorem q1093 : (Jvm.Cond.static ({ cls := "java/lang/String", name := "checkBoundsOffCount", desc := "(III)I" } : Jvm.MethodName)) ∈ lw_all := lw_g (lw_at lw_m5 36 rfl) rfl
theorem q1094 : (Jvm.Cond.code ({ cls := "java/lang/String", name := "checkBoundsOffCount", desc := "(III)I" } : Jvm.MethodName) prog_42_method_157_code (3 : Nat) (Option.some Jvm.ClassFile.FieldType.int)) ∈ lw_all := lw_g (lw_at lw_m5 37 rfl) rfl
theorem q1095 : (Jvm.Cond.methodLink "java/lang/String" (1065 : Nat) ({ cls := "jdk/internal/util/Preconditions", name := "checkFromIndexSize", desc := "(IIILjava/util/function/BiFunction;)I" } : Jvm.MethodName)) ∈ lw_all := lw_g (lw_at lw_m5 38 rfl) rfl
theorem q1099 : (Jvm.Cond.instanceMethod ({ cls := "java/lang/String", name := "getBytes", desc := "([BIB)V" } : Jvm.MethodName)) ∈ lw_all := lw_g (lw_at lw_m5 42 rfl) rfl
theorem q1100 : (Jvm.Cond.selects "java/lang/String" ({ cls := "java/lang/String", name := "getBytes", desc := "([BIB)V" } : Jvm.MethodName) ({ cls := "java/lang/String", name := "getBytes", desc := "([BIB)V" } : Jvm.MethodName)) ∈ lw_all := lw_g (lw_at lw_m5 43 rfl) rfl
theorem q1101 : (Jvm.Cond.code ({ cls := "java/lang/String", name := "getBytes", desc := "([BIB)V" } : Jvm.MethodName) prog_42_method_147_code (4 : Nat) (Option.none : Option Jvm.ClassFile.FieldType)) ∈ lw_all := lw_g (lw_at lw_m5 44 rfl) rfl
theorem q1102 : (Jvm.Cond.methodLink "java/lang/String" (212 : Nat) ({ cls := "java/lang/System", name := "arraycopy", desc := "(Ljava/lang/Object;ILjava/lang/Object;II)V" } : Jvm.MethodName)) ∈ lw_all := lw_g (lw_at lw_m5 45 rfl) rfl
theorem q1103 : (Jvm.Cond.methodLink "java/lang/String" (106 : Nat) ({ cls := "java/lang/StringLatin1", name := "inflate", desc := "([BI[BII)V" } : Jvm.MethodName)) ∈ lw_all := lw_g (lw_at lw_m5 46 rfl) rfl
theorem q1110 : (Jvm.Cond.instantiable "java/lang/String" (4 : Nat)) ∈ lw_all := lw_g (lw_at lw_m5 53 rfl) rfl
theorem q1112 : (Jvm.Cond.instanceMethod ({ cls := "java/lang/String", name := "<init>", desc := "(Ljava/lang/StringBuilder;)V" } : Jvm.MethodName)) ∈ lw_all := lw_g (lw_at lw_m5 55 rfl) rfl
theorem q1113 : (Jvm.Cond.code ({ cls := "java/lang/String", name := "<init>", desc := "(Ljava/lang/StringBuilder;)V" } : Jvm.MethodName) prog_42_method_53_code (2 : Nat) (Option.none : Option Jvm.ClassFile.FieldType)) ∈ lw_all := lw_g (lw_at lw_m5 56 rfl) rfl
theorem q1114 : (Jvm.Cond.methodLink "java/lang/String" (489 : Nat) ({ cls := "java/lang/String", name := "<init>", desc := "(Ljava/lang/AbstractStringBuilder;Ljava/lang/Void;)V" } : Jvm.MethodName)) ∈ lw_all := lw_g (lw_at lw_m5 57 rfl) rfl
theorem q1115 : (Jvm.Cond.instanceMethod ({ cls := "java/lang/String", name := "<init>", desc := "(Ljava/lang/AbstractStringBuilder;Ljava/lang/Void;)V" } : Jvm.MethodName)) ∈ lw_all := lw_g (lw_at lw_m5 58 rfl) rfl
theorem q1116 : (Jvm.Cond.code ({ cls := "java/lang/String", name := "<init>", desc := "(Ljava/lang/AbstractStringBuilder;Ljava/lang/Void;)V" } : Jvm.MethodName) prog_42_method_150_code (5 : Nat) (Option.none : Option Jvm.ClassFile.FieldType)) ∈ lw_all := lw_g (lw_at lw_m5 59 rfl) rfl
theorem q1117 : (Jvm.Cond.methodLink "java/lang/String" (1 : Nat) ({ cls := "java/lang/Object", name := "<init>", desc := "()V" } : Jvm.MethodName)) ∈ lw_all := lw_g (lw_at lw_m5 60 rfl) rfl
theorem q1118 : (Jvm.Cond.methodLink "java/lang/String" (552 : Nat) ({ cls := "java/lang/AbstractStringBuilder", name := "getValue", desc := "()[B" } : Jvm.MethodName)) ∈ lw_all := lw_g (lw_at lw_m5 61 rfl) rfl
theorem q1123 : (Jvm.Cond.methodLink "java/lang/String" (549 : Nat) ({ cls := "java/lang/AbstractStringBuilder", name := "length", desc := "()I" } : Jvm.MethodName)) ∈ lw_all := lw_g (lw_at lw_m5 66 rfl) rfl
theorem q1131 : (Jvm.Cond.methodLink "java/lang/String" (1047 : Nat) ({ cls := "java/lang/AbstractStringBuilder", name := "isLatin1", desc := "()Z" } : Jvm.MethodName)) ∈ lw_all := lw_g (lw_at lw_m5 74 rfl) rfl
theorem q1132 : (Jvm.Cond.methodLink "java/lang/String" (54 : Nat) ({ cls := "java/util/Arrays", name := "copyOfRange", desc := "([BII)[B" } : Jvm.MethodName)) ∈ lw_all := lw_g (lw_at lw_m5 75 rfl) rfl
theorem q1141 : (Jvm.Cond.methodLink "java/lang/String" (1051 : Nat) ({ cls := "java/lang/StringUTF16", name := "compress", desc := "([BII)[B" } : Jvm.MethodName)) ∈ lw_all := lw_g (lw_at lw_m5 84 rfl) rfl
theorem q1151 : (Jvm.Cond.methodLink "java/lang/String" (47 : Nat) ({ cls := "java/lang/StringUTF16", name := "coderFromArrayLen", desc := "([BI)B" } : Jvm.MethodName)) ∈ lw_all := lw_g (lw_at lw_m5 94 rfl) rfl
theorem q1154 : (Jvm.Cond.fieldLink "java/lang/String" (9 : Nat) "java/lang/String" "value" "[B") ∈ lw_all := lw_g (lw_at lw_m5 97 rfl) rfl
theorem q1155 : (Jvm.Cond.fieldLink "java/lang/String" (15 : Nat) "java/lang/String" "coder" "B") ∈ lw_all := lw_g (lw_at lw_m5 98 rfl) rfl
theorem q1156 : (Jvm.Cond.laysFinal "java/lang/String" "java/lang/String" "value" "[B") ∈ lw_all := lw_g (lw_at lw_m5 99 rfl) rfl
theorem q1157 : (Jvm.Cond.soleField "java/lang/String" "value") ∈ lw_all := lw_g (lw_at lw_m5 100 rfl) rfl
theorem q1158 : (Jvm.Cond.laysFinal "java/lang/String" "java/lang/String" "coder" "B") ∈ lw_all := lw_g (lw_at lw_m5 101 rfl) rfl
theorem q1159 : (Jvm.Cond.soleField "java/lang/String" "coder") ∈ lw_all := lw_g (lw_at lw_m5 102 rfl) rfl
theorem q1160 : (Jvm.Cond.lays "java/lang/String" "java/lang/String" "hash" "I") ∈ lw_all := lw_g (lw_at lw_m5 103 rfl) rfl
theorem q1161 : (Jvm.Cond.soleField "java/lang/String" "hash") ∈ lw_all := lw_g (lw_at lw_m5 104 rfl) rfl
theorem q1162 : (Jvm.Cond.lays "java/lang/String" "java/lang/String" "hashIsZero" "Z") ∈ lw_all := lw_g (lw_at lw_m5 105 rfl) rfl
theorem q1163 : (Jvm.Cond.soleField "java/lang/String" "hashIsZero") ∈ lw_all := lw_g (lw_at lw_m5 106 rfl) rfl
theorem q1164 : (Jvm.Cond.superclass "java/lang/String" "java/lang/Object") ∈ lw_all := lw_g (lw_at lw_m5 107 rfl) rfl
theorem q2062 : (Jvm.Cond.static ({ cls := "java/lang/String", name := "checkIndex", desc := "(II)V" } : Jvm.MethodName)) ∈ lw_all := lw_g (lw_at lw_m9 45 rfl) rfl
theorem q2063 : (Jvm.Cond.code ({ cls := "java/lang/String", name := "checkIndex", desc := "(II)V" } : Jvm.MethodName) prog_42_method_155_code (2 : Nat) (Option.none : Option Jvm.ClassFile.FieldType)) ∈ lw_all := lw_g (lw_at lw_m9 46 rfl) rfl
theorem q2064 : (Jvm.Cond.methodLink "java/lang/String" (1059 : Nat) ({ cls := "jdk/internal/util/Preconditions", name := "checkIndex", desc := "(IILjava/util/function/BiFunction;)I" } : Jvm.MethodName)) ∈ lw_all := lw_g (lw_at lw_m9 47 rfl) rfl
theorem q2121 : (Jvm.Cond.instanceMethod ({ cls := "java/lang/String", name := "indexOf", desc := "(I)I" } : Jvm.MethodName)) ∈ lw_all := lw_g (lw_at lw_m9 104 rfl) rfl
theorem q2122 : (Jvm.Cond.selects "java/lang/String" ({ cls := "java/lang/String", name := "indexOf", desc := "(I)I" } : Jvm.MethodName) ({ cls := "java/lang/String", name := "indexOf", desc := "(I)I" } : Jvm.MethodName)) ∈ lw_all := lw_g (lw_at lw_m9 105 rfl) rfl
theorem q2123 : (Jvm.Cond.code ({ cls := "java/lang/String", name := "indexOf", desc := "(I)I" } : Jvm.MethodName) prog_42_method_79_code (2 : Nat) (Option.some Jvm.ClassFile.FieldType.int)) ∈ lw_all := lw_g (lw_at lw_m9 106 rfl) rfl
theorem q2124 : (Jvm.Cond.methodLink "java/lang/String" (633 : Nat) ({ cls := "java/lang/String", name := "indexOf", desc := "(II)I" } : Jvm.MethodName)) ∈ lw_all := lw_g (lw_at lw_m9 107 rfl) rfl
theorem q2125 : (Jvm.Cond.instanceMethod ({ cls := "java/lang/String", name := "indexOf", desc := "(II)I" } : Jvm.MethodName)) ∈ lw_all := lw_g (lw_at lw_m9 108 rfl) rfl
theorem q2126 : (Jvm.Cond.selects "java/lang/String" ({ cls := "java/lang/String", name := "indexOf", desc := "(II)I" } : Jvm.MethodName) ({ cls := "java/lang/String", name := "indexOf", desc := "(II)I" } : Jvm.MethodName)) ∈ lw_all := lw_g (lw_at lw_m9 109 rfl) rfl
theorem q2127 : (Jvm.Cond.code ({ cls := "java/lang/String", name := "indexOf", desc := "(II)I" } : Jvm.MethodName) prog_42_method_80_code (3 : Nat) (Option.some Jvm.ClassFile.FieldType.int)) ∈ lw_all := lw_g (lw_at lw_m9 110 rfl) rfl
theorem q2128 : (Jvm.Cond.methodLink "java/lang/String" (492 : Nat) ({ cls := "java/lang/String", name := "isLatin1", desc := "()Z" } : Jvm.MethodName)) ∈ lw_all := lw_g (lw_at lw_m9 111 rfl) rfl
theorem q2129 : (Jvm.Cond.instanceMethod ({ cls := "java/lang/String", name := "isLatin1", desc := "()Z" } : Jvm.MethodName)) ∈ lw_all := lw_g (lw_at lw_m9 112 rfl) rfl
theorem q2130 : (Jvm.Cond.selects "java/lang/String" ({ cls := "java/lang/String", name := "isLatin1", desc := "()Z" } : Jvm.MethodName) ({ cls := "java/lang/String", name := "isLatin1", desc := "()Z" } : Jvm.MethodName)) ∈ lw_all := lw_g (lw_at lw_m9 113 rfl) rfl
theorem q2131 : (Jvm.Cond.code ({ cls := "java/lang/String", name := "isLatin1", desc := "()Z" } : Jvm.MethodName) prog_42_method_154_code (1 : Nat) (Option.some Jvm.ClassFile.FieldType.boolean)) ∈ lw_all := lw_g (lw_at lw_m9 114 rfl) rfl
theorem q2132 : (Jvm.Cond.methodLink "java/lang/String" (505 : Nat) ({ cls := "java/lang/String", name := "length", desc := "()I" } : Jvm.MethodName)) ∈ lw_all := lw_g (lw_at lw_m9 115 rfl) rfl
theorem q2133 : (Jvm.Cond.methodLink "java/lang/String" (637 : Nat) ({ cls := "java/lang/StringLatin1", name := "indexOf", desc := "([BIII)I" } : Jvm.MethodName)) ∈ lw_all := lw_g (lw_at lw_m9 116 rfl) rfl
theorem q2144 : (Jvm.Cond.methodLink "java/lang/String" (640 : Nat) ({ cls := "java/lang/StringUTF16", name := "indexOf", desc := "([BIII)I" } : Jvm.MethodName)) ∈ lw_all := lw_g (lw_at lw_m9 127 rfl) rfl
theorem q2390 : (Jvm.Cond.instanceMethod ({ cls := "java/lang/String", name := "charAt", desc := "(I)C" } : Jvm.MethodName)) ∈ lw_all := lw_g (lw_at lw_m10 133 rfl) rfl
theorem q2391 : (Jvm.Cond.selects "java/lang/String" ({ cls := "java/lang/String", name := "charAt", desc := "(I)C" } : Jvm.MethodName) ({ cls := "java/lang/String", name := "charAt", desc := "(I)C" } : Jvm.MethodName)) ∈ lw_all := lw_g (lw_at lw_m10 134 rfl) rfl
theorem q2392 : (Jvm.Cond.code ({ cls := "java/lang/String", name := "charAt", desc := "(I)C" } : Jvm.MethodName) prog_42_method_56_code (2 : Nat) (Option.some Jvm.ClassFile.FieldType.char)) ∈ lw_all := lw_g (lw_at lw_m10 135 rfl) rfl
theorem q2393 : (Jvm.Cond.methodLink "java/lang/String" (495 : Nat) ({ cls := "java/lang/StringLatin1", name := "charAt", desc := "([BI)C" } : Jvm.MethodName)) ∈ lw_all := lw_g (lw_at lw_m10 136 rfl) rfl
theorem q2397 : (Jvm.Cond.methodLink "java/lang/String" (498 : Nat) ({ cls := "java/lang/StringUTF16", name := "charAt", desc := "([BI)C" } : Jvm.MethodName)) ∈ lw_all := lw_g (lw_at lw_m10 140 rfl) rfl
theorem q2976 : (Jvm.Cond.castable "java/lang/String" "java/lang/Object") ∈ lw_tbl := lw_at lw_m12 239 rfl
theorem in_J14 : ∀ w ∈ wsJ140, w ∈ lw_all := lw_in wsJ140 [1156, 1158, 1160, 1162] (by decide +kernel) (by decide +kernel)
/-! java/lang/StringUTF16 -/
set_option maxRecDepth 100000
def RJ15 : String := "java/lang/StringUTF16"
abbrev cJ15_newBytesFor : ByteArray := prog_45_method_2_code
def yJ15_newBytesFor : MethodName := ⟨RJ15, "newBytesFor", "(I)[B"⟩
def dkwJ15_newBytesFor_0 : List UInt8 := [26, 184, 0, 11, 188, 8, 176]
abbrev dktJ15_newBytesFor_0 : List UInt8 := dkwJ15_newBytesFor_0 ++ []
theorem dksJ15_newBytesFor_0 : cJ15_newBytesFor.data.toList.drop 0 = dktJ15_newBytesFor_0 := by decide +kernel
theorem dJ15_newBytesFor_0 : decode cJ15_newBytesFor 0 = .ok (.iload_n 0, 1) := dk_26 (dk_at dksJ15_newBytesFor_0 0 rfl rfl)
theorem dJ15_newBytesFor_1 : decode cJ15_newBytesFor 1 = .ok (.invokestatic 11, 3) := dk_184 0 11 (dk_at dksJ15_newBytesFor_0 1 rfl rfl)
theorem dJ15_newBytesFor_4 : decode cJ15_newBytesFor 4 = .ok (.newarray .byte, 2) := dk_188_8 (dk_at dksJ15_newBytesFor_0 4 rfl rfl)
theorem dJ15_newBytesFor_6 : decode cJ15_newBytesFor 6 = .ok (.areturn, 1) := dk_176 (dk_at dksJ15_newBytesFor_0 6 rfl rfl)
abbrev cJ15_newBytesLength : ByteArray := prog_45_method_3_code
def yJ15_newBytesLength : MethodName := ⟨RJ15, "newBytesLength", "(I)I"⟩
def dkwJ15_newBytesLength_2 : List UInt8 := [182, 0, 32, 182, 0, 37, 183, 0, 41, 191, 26, 4, 120, 172]
abbrev dktJ15_newBytesLength_2 : List UInt8 := dkwJ15_newBytesLength_2 ++ []
def dkwJ15_newBytesLength_1 : List UInt8 := [187, 0, 23, 89, 183, 0, 25, 18, 26, 182, 0, 28, 26, 182, 0, 32, 18, 35, 182, 0, 28, 18, 20]
abbrev dktJ15_newBytesLength_1 : List UInt8 := dkwJ15_newBytesLength_1 ++ dktJ15_newBytesLength_2
def dkwJ15_newBytesLength_0 : List UInt8 := [26, 156, 0, 11, 187, 0, 17, 89, 183, 0, 19, 191, 26, 18, 20, 161, 0, 40, 187, 0, 21, 89]
abbrev dktJ15_newBytesLength_0 : List UInt8 := dkwJ15_newBytesLength_0 ++ dktJ15_newBytesLength_1
theorem dksJ15_newBytesLength_0 : cJ15_newBytesLength.data.toList.drop 0 = dktJ15_newBytesLength_0 := by decide +kernel
theorem dksJ15_newBytesLength_1 : cJ15_newBytesLength.data.toList.drop 22 = dktJ15_newBytesLength_1 := dk_seg dksJ15_newBytesLength_0 22 rfl rfl
theorem dksJ15_newBytesLength_2 : cJ15_newBytesLength.data.toList.drop 45 = dktJ15_newBytesLength_2 := dk_seg dksJ15_newBytesLength_1 23 rfl rfl
theorem dJ15_newBytesLength_0 : decode cJ15_newBytesLength 0 = .ok (.iload_n 0, 1) := dk_26 (dk_at dksJ15_newBytesLength_0 0 rfl rfl)
theorem dJ15_newBytesLength_1 : decode cJ15_newBytesLength 1 = .ok (.ifCond .ge 11, 3) := dk_156 0 11 (dk_at dksJ15_newBytesLength_0 1 rfl rfl)
theorem dJ15_newBytesLength_4 : decode cJ15_newBytesLength 4 = .ok (.new 17, 3) := dk_187 0 17 (dk_at dksJ15_newBytesLength_0 4 rfl rfl)
theorem dJ15_newBytesLength_7 : decode cJ15_newBytesLength 7 = .ok (.dup, 1) := dk_89 (dk_at dksJ15_newBytesLength_0 7 rfl rfl)
theorem dJ15_newBytesLength_8 : decode cJ15_newBytesLength 8 = .ok (.invokespecial 19, 3) := dk_183 0 19 (dk_at dksJ15_newBytesLength_0 8 rfl rfl)
theorem dJ15_newBytesLength_11 : decode cJ15_newBytesLength 11 = .ok (.athrow, 1) := dk_191 (dk_at dksJ15_newBytesLength_0 11 rfl rfl)
theorem dJ15_newBytesLength_12 : decode cJ15_newBytesLength 12 = .ok (.iload_n 0, 1) := dk_26 (dk_at dksJ15_newBytesLength_0 12 rfl rfl)
theorem dJ15_newBytesLength_13 : decode cJ15_newBytesLength 13 = .ok (.ldc 20, 2) := dk_18 20 (dk_at dksJ15_newBytesLength_0 13 rfl rfl)
theorem dJ15_newBytesLength_15 : decode cJ15_newBytesLength 15 = .ok (.if_icmp .lt 40, 3) := dk_161 0 40 (dk_at dksJ15_newBytesLength_0 15 rfl rfl)
theorem dJ15_newBytesLength_18 : decode cJ15_newBytesLength 18 = .ok (.new 21, 3) := dk_187 0 21 (dk_at dksJ15_newBytesLength_0 18 rfl rfl)
theorem dJ15_newBytesLength_21 : decode cJ15_newBytesLength 21 = .ok (.dup, 1) := dk_89 (dk_at dksJ15_newBytesLength_0 21 rfl rfl)
theorem dJ15_newBytesLength_22 : decode cJ15_newBytesLength 22 = .ok (.new 23, 3) := dk_187 0 23 (dk_at dksJ15_newBytesLength_1 0 rfl rfl)
theorem dJ15_newBytesLength_25 : decode cJ15_newBytesLength 25 = .ok (.dup, 1) := dk_89 (dk_at dksJ15_newBytesLength_1 3 rfl rfl)
theorem dJ15_newBytesLength_26 : decode cJ15_newBytesLength 26 = .ok (.invokespecial 25, 3) := dk_183 0 25 (dk_at dksJ15_newBytesLength_1 4 rfl rfl)
theorem dJ15_newBytesLength_29 : decode cJ15_newBytesLength 29 = .ok (.ldc 26, 2) := dk_18 26 (dk_at dksJ15_newBytesLength_1 7 rfl rfl)
theorem dJ15_newBytesLength_31 : decode cJ15_newBytesLength 31 = .ok (.invokevirtual 28, 3) := dk_182 0 28 (dk_at dksJ15_newBytesLength_1 9 rfl rfl)
theorem dJ15_newBytesLength_34 : decode cJ15_newBytesLength 34 = .ok (.iload_n 0, 1) := dk_26 (dk_at dksJ15_newBytesLength_1 12 rfl rfl)
theorem dJ15_newBytesLength_35 : decode cJ15_newBytesLength 35 = .ok (.invokevirtual 32, 3) := dk_182 0 32 (dk_at dksJ15_newBytesLength_1 13 rfl rfl)
theorem dJ15_newBytesLength_38 : decode cJ15_newBytesLength 38 = .ok (.ldc 35, 2) := dk_18 35 (dk_at dksJ15_newBytesLength_1 16 rfl rfl)
theorem dJ15_newBytesLength_40 : decode cJ15_newBytesLength 40 = .ok (.invokevirtual 28, 3) := dk_182 0 28 (dk_at dksJ15_newBytesLength_1 18 rfl rfl)
theorem dJ15_newBytesLength_43 : decode cJ15_newBytesLength 43 = .ok (.ldc 20, 2) := dk_18 20 (dk_at dksJ15_newBytesLength_1 21 rfl rfl)
theorem dJ15_newBytesLength_45 : decode cJ15_newBytesLength 45 = .ok (.invokevirtual 32, 3) := dk_182 0 32 (dk_at dksJ15_newBytesLength_2 0 rfl rfl)
theorem dJ15_newBytesLength_48 : decode cJ15_newBytesLength 48 = .ok (.invokevirtual 37, 3) := dk_182 0 37 (dk_at dksJ15_newBytesLength_2 3 rfl rfl)
theorem dJ15_newBytesLength_51 : decode cJ15_newBytesLength 51 = .ok (.invokespecial 41, 3) := dk_183 0 41 (dk_at dksJ15_newBytesLength_2 6 rfl rfl)
theorem dJ15_newBytesLength_54 : decode cJ15_newBytesLength 54 = .ok (.athrow, 1) := dk_191 (dk_at dksJ15_newBytesLength_2 9 rfl rfl)
theorem dJ15_newBytesLength_55 : decode cJ15_newBytesLength 55 = .ok (.iload_n 0, 1) := dk_26 (dk_at dksJ15_newBytesLength_2 10 rfl rfl)
theorem dJ15_newBytesLength_56 : decode cJ15_newBytesLength 56 = .ok (.iconst 1, 1) := dk_4 (dk_at dksJ15_newBytesLength_2 11 rfl rfl)
theorem dJ15_newBytesLength_57 : decode cJ15_newBytesLength 57 = .ok (.ishl, 1) := dk_120 (dk_at dksJ15_newBytesLength_2 12 rfl rfl)
theorem dJ15_newBytesLength_58 : decode cJ15_newBytesLength 58 = .ok (.ireturn, 1) := dk_172 (dk_at dksJ15_newBytesLength_2 13 rfl rfl)
abbrev cJ15_putCharsAt : ByteArray := prog_45_method_81_code
def yJ15_putCharsAt : MethodName := ⟨RJ15, "putCharsAt", "([BICCCC)I"⟩
def dkwJ15_putCharsAt_3 : List UInt8 := [21, 6, 172]
abbrev dktJ15_putCharsAt_3 : List UInt8 := dkwJ15_putCharsAt_3 ++ []
def dkwJ15_putCharsAt_2 : List UInt8 := [184, 0, 111, 178, 0, 44, 154, 0, 17, 27, 21, 6, 159, 0, 11, 187, 0, 52, 89, 183, 0, 66, 191]
abbrev dktJ15_putCharsAt_2 : List UInt8 := dkwJ15_putCharsAt_2 ++ dktJ15_putCharsAt_3
def dkwJ15_putCharsAt_1 : List UInt8 := [132, 1, 1, 29, 184, 0, 111, 42, 27, 132, 1, 1, 21, 4, 184, 0, 111, 42, 27, 132, 1, 1, 21, 5]
abbrev dktJ15_putCharsAt_1 : List UInt8 := dkwJ15_putCharsAt_1 ++ dktJ15_putCharsAt_2
def dkwJ15_putCharsAt_0 : List UInt8 := [27, 7, 96, 54, 6, 27, 21, 6, 42, 184, 0, 96, 42, 27, 132, 1, 1, 28, 184, 0, 111, 42, 27]
abbrev dktJ15_putCharsAt_0 : List UInt8 := dkwJ15_putCharsAt_0 ++ dktJ15_putCharsAt_1
theorem dksJ15_putCharsAt_0 : cJ15_putCharsAt.data.toList.drop 0 = dktJ15_putCharsAt_0 := by decide +kernel
theorem dksJ15_putCharsAt_1 : cJ15_putCharsAt.data.toList.drop 23 = dktJ15_putCharsAt_1 := dk_seg dksJ15_putCharsAt_0 23 rfl rfl
theorem dksJ15_putCharsAt_2 : cJ15_putCharsAt.data.toList.drop 47 = dktJ15_putCharsAt_2 := dk_seg dksJ15_putCharsAt_1 24 rfl rfl
theorem dksJ15_putCharsAt_3 : cJ15_putCharsAt.data.toList.drop 70 = dktJ15_putCharsAt_3 := dk_seg dksJ15_putCharsAt_2 23 rfl rfl
theorem dJ15_putCharsAt_0 : decode cJ15_putCharsAt 0 = .ok (.iload_n 1, 1) := dk_27 (dk_at dksJ15_putCharsAt_0 0 rfl rfl)
theorem dJ15_putCharsAt_1 : decode cJ15_putCharsAt 1 = .ok (.iconst 4, 1) := dk_7 (dk_at dksJ15_putCharsAt_0 1 rfl rfl)
theorem dJ15_putCharsAt_2 : decode cJ15_putCharsAt 2 = .ok (.iadd, 1) := dk_96 (dk_at dksJ15_putCharsAt_0 2 rfl rfl)
theorem dJ15_putCharsAt_3 : decode cJ15_putCharsAt 3 = .ok (.istore 6, 2) := dk_54 6 (dk_at dksJ15_putCharsAt_0 3 rfl rfl)
theorem dJ15_putCharsAt_5 : decode cJ15_putCharsAt 5 = .ok (.iload_n 1, 1) := dk_27 (dk_at dksJ15_putCharsAt_0 5 rfl rfl)
theorem dJ15_putCharsAt_6 : decode cJ15_putCharsAt 6 = .ok (.iload 6, 2) := dk_21 6 (dk_at dksJ15_putCharsAt_0 6 rfl rfl)
theorem dJ15_putCharsAt_8 : decode cJ15_putCharsAt 8 = .ok (.aload_n 0, 1) := dk_42 (dk_at dksJ15_putCharsAt_0 8 rfl rfl)
theorem dJ15_putCharsAt_9 : decode cJ15_putCharsAt 9 = .ok (.invokestatic 96, 3) := dk_184 0 96 (dk_at dksJ15_putCharsAt_0 9 rfl rfl)
theorem dJ15_putCharsAt_12 : decode cJ15_putCharsAt 12 = .ok (.aload_n 0, 1) := dk_42 (dk_at dksJ15_putCharsAt_0 12 rfl rfl)
theorem dJ15_putCharsAt_13 : decode cJ15_putCharsAt 13 = .ok (.iload_n 1, 1) := dk_27 (dk_at dksJ15_putCharsAt_0 13 rfl rfl)
theorem dJ15_putCharsAt_14 : decode cJ15_putCharsAt 14 = .ok (.iinc 1 1, 3) := dk_132 1 1 (dk_at dksJ15_putCharsAt_0 14 rfl rfl)
theorem dJ15_putCharsAt_17 : decode cJ15_putCharsAt 17 = .ok (.iload_n 2, 1) := dk_28 (dk_at dksJ15_putCharsAt_0 17 rfl rfl)
theorem dJ15_putCharsAt_18 : decode cJ15_putCharsAt 18 = .ok (.invokestatic 111, 3) := dk_184 0 111 (dk_at dksJ15_putCharsAt_0 18 rfl rfl)
theorem dJ15_putCharsAt_21 : decode cJ15_putCharsAt 21 = .ok (.aload_n 0, 1) := dk_42 (dk_at dksJ15_putCharsAt_0 21 rfl rfl)
theorem dJ15_putCharsAt_22 : decode cJ15_putCharsAt 22 = .ok (.iload_n 1, 1) := dk_27 (dk_at dksJ15_putCharsAt_0 22 rfl rfl)
theorem dJ15_putCharsAt_23 : decode cJ15_putCharsAt 23 = .ok (.iinc 1 1, 3) := dk_132 1 1 (dk_at dksJ15_putCharsAt_1 0 rfl rfl)
theorem dJ15_putCharsAt_26 : decode cJ15_putCharsAt 26 = .ok (.iload_n 3, 1) := dk_29 (dk_at dksJ15_putCharsAt_1 3 rfl rfl)
theorem dJ15_putCharsAt_27 : decode cJ15_putCharsAt 27 = .ok (.invokestatic 111, 3) := dk_184 0 111 (dk_at dksJ15_putCharsAt_1 4 rfl rfl)
theorem dJ15_putCharsAt_30 : decode cJ15_putCharsAt 30 = .ok (.aload_n 0, 1) := dk_42 (dk_at dksJ15_putCharsAt_1 7 rfl rfl)
theorem dJ15_putCharsAt_31 : decode cJ15_putCharsAt 31 = .ok (.iload_n 1, 1) := dk_27 (dk_at dksJ15_putCharsAt_1 8 rfl rfl)
theorem dJ15_putCharsAt_32 : decode cJ15_putCharsAt 32 = .ok (.iinc 1 1, 3) := dk_132 1 1 (dk_at dksJ15_putCharsAt_1 9 rfl rfl)
theorem dJ15_putCharsAt_35 : decode cJ15_putCharsAt 35 = .ok (.iload 4, 2) := dk_21 4 (dk_at dksJ15_putCharsAt_1 12 rfl rfl)
theorem dJ15_putCharsAt_37 : decode cJ15_putCharsAt 37 = .ok (.invokestatic 111, 3) := dk_184 0 111 (dk_at dksJ15_putCharsAt_1 14 rfl rfl)
theorem dJ15_putCharsAt_40 : decode cJ15_putCharsAt 40 = .ok (.aload_n 0, 1) := dk_42 (dk_at dksJ15_putCharsAt_1 17 rfl rfl)
theorem dJ15_putCharsAt_41 : decode cJ15_putCharsAt 41 = .ok (.iload_n 1, 1) := dk_27 (dk_at dksJ15_putCharsAt_1 18 rfl rfl)
theorem dJ15_putCharsAt_42 : decode cJ15_putCharsAt 42 = .ok (.iinc 1 1, 3) := dk_132 1 1 (dk_at dksJ15_putCharsAt_1 19 rfl rfl)
theorem dJ15_putCharsAt_45 : decode cJ15_putCharsAt 45 = .ok (.iload 5, 2) := dk_21 5 (dk_at dksJ15_putCharsAt_1 22 rfl rfl)
theorem dJ15_putCharsAt_47 : decode cJ15_putCharsAt 47 = .ok (.invokestatic 111, 3) := dk_184 0 111 (dk_at dksJ15_putCharsAt_2 0 rfl rfl)
theorem dJ15_putCharsAt_50 : decode cJ15_putCharsAt 50 = .ok (.getstatic 44, 3) := dk_178 0 44 (dk_at dksJ15_putCharsAt_2 3 rfl rfl)
theorem dJ15_putCharsAt_53 : decode cJ15_putCharsAt 53 = .ok (.ifCond .ne 17, 3) := dk_154 0 17 (dk_at dksJ15_putCharsAt_2 6 rfl rfl)
theorem dJ15_putCharsAt_56 : decode cJ15_putCharsAt 56 = .ok (.iload_n 1, 1) := dk_27 (dk_at dksJ15_putCharsAt_2 9 rfl rfl)
theorem dJ15_putCharsAt_57 : decode cJ15_putCharsAt 57 = .ok (.iload 6, 2) := dk_21 6 (dk_at dksJ15_putCharsAt_2 10 rfl rfl)
theorem dJ15_putCharsAt_59 : decode cJ15_putCharsAt 59 = .ok (.if_icmp .eq 11, 3) := dk_159 0 11 (dk_at dksJ15_putCharsAt_2 12 rfl rfl)
theorem dJ15_putCharsAt_62 : decode cJ15_putCharsAt 62 = .ok (.new 52, 3) := dk_187 0 52 (dk_at dksJ15_putCharsAt_2 15 rfl rfl)
theorem dJ15_putCharsAt_65 : decode cJ15_putCharsAt 65 = .ok (.dup, 1) := dk_89 (dk_at dksJ15_putCharsAt_2 18 rfl rfl)
theorem dJ15_putCharsAt_66 : decode cJ15_putCharsAt 66 = .ok (.invokespecial 66, 3) := dk_183 0 66 (dk_at dksJ15_putCharsAt_2 19 rfl rfl)
theorem dJ15_putCharsAt_69 : decode cJ15_putCharsAt 69 = .ok (.athrow, 1) := dk_191 (dk_at dksJ15_putCharsAt_2 22 rfl rfl)
theorem dJ15_putCharsAt_70 : decode cJ15_putCharsAt 70 = .ok (.iload 6, 2) := dk_21 6 (dk_at dksJ15_putCharsAt_3 0 rfl rfl)
theorem dJ15_putCharsAt_72 : decode cJ15_putCharsAt 72 = .ok (.ireturn, 1) := dk_172 (dk_at dksJ15_putCharsAt_3 2 rfl rfl)
abbrev cJ15_checkBoundsBeginEnd : ByteArray := prog_45_method_93_code
def yJ15_checkBoundsBeginEnd : MethodName := ⟨RJ15, "checkBoundsBeginEnd", "(II[B)V"⟩
def dkwJ15_checkBoundsBeginEnd_0 : List UInt8 := [26, 27, 44, 184, 0, 48, 184, 0, 241, 177]
abbrev dktJ15_checkBoundsBeginEnd_0 : List UInt8 := dkwJ15_checkBoundsBeginEnd_0 ++ []
theorem dksJ15_checkBoundsBeginEnd_0 : cJ15_checkBoundsBeginEnd.data.toList.drop 0 = dktJ15_checkBoundsBeginEnd_0 := by decide +kernel
theorem dJ15_checkBoundsBeginEnd_0 : decode cJ15_checkBoundsBeginEnd 0 = .ok (.iload_n 0, 1) := dk_26 (dk_at dksJ15_checkBoundsBeginEnd_0 0 rfl rfl)
theorem dJ15_checkBoundsBeginEnd_1 : decode cJ15_checkBoundsBeginEnd 1 = .ok (.iload_n 1, 1) := dk_27 (dk_at dksJ15_checkBoundsBeginEnd_0 1 rfl rfl)
theorem dJ15_checkBoundsBeginEnd_2 : decode cJ15_checkBoundsBeginEnd 2 = .ok (.aload_n 2, 1) := dk_44 (dk_at dksJ15_checkBoundsBeginEnd_0 2 rfl rfl)
theorem dJ15_checkBoundsBeginEnd_3 : decode cJ15_checkBoundsBeginEnd 3 = .ok (.invokestatic 48, 3) := dk_184 0 48 (dk_at dksJ15_checkBoundsBeginEnd_0 3 rfl rfl)
theorem dJ15_checkBoundsBeginEnd_6 : decode cJ15_checkBoundsBeginEnd 6 = .ok (.invokestatic 241, 3) := dk_184 0 241 (dk_at dksJ15_checkBoundsBeginEnd_0 6 rfl rfl)
theorem dJ15_checkBoundsBeginEnd_9 : decode cJ15_checkBoundsBeginEnd 9 = .ok (.return_, 1) := dk_177 (dk_at dksJ15_checkBoundsBeginEnd_0 9 rfl rfl)
abbrev cJ15_length : ByteArray := prog_45_method_6_code
def yJ15_length : MethodName := ⟨RJ15, "length", "([B)I"⟩
def dkwJ15_length_0 : List UInt8 := [42, 190, 4, 122, 172]
abbrev dktJ15_length_0 : List UInt8 := dkwJ15_length_0 ++ []
theorem dksJ15_length_0 : cJ15_length.data.toList.drop 0 = dktJ15_length_0 := by decide +kernel
theorem dJ15_length_0 : decode cJ15_length 0 = .ok (.aload_n 0, 1) := dk_42 (dk_at dksJ15_length_0 0 rfl rfl)
theorem dJ15_length_1 : decode cJ15_length 1 = .ok (.arraylength, 1) := dk_190 (dk_at dksJ15_length_0 1 rfl rfl)
theorem dJ15_length_2 : decode cJ15_length 2 = .ok (.iconst 1, 1) := dk_4 (dk_at dksJ15_length_0 2 rfl rfl)
theorem dJ15_length_3 : decode cJ15_length 3 = .ok (.ishr, 1) := dk_122 (dk_at dksJ15_length_0 3 rfl rfl)
theorem dJ15_length_4 : decode cJ15_length 4 = .ok (.ireturn, 1) := dk_172 (dk_at dksJ15_length_0 4 rfl rfl)
abbrev cJ15_putChar : ByteArray := prog_45_method_4_code
def yJ15_putChar : MethodName := ⟨RJ15, "putChar", "([BII)V"⟩
def dkwJ15_putChar_2 : List UInt8 := [178, 0, 63, 122, 145, 84, 177]
abbrev dktJ15_putChar_2 : List UInt8 := dkwJ15_putChar_2 ++ []
def dkwJ15_putChar_1 : List UInt8 := [183, 0, 56, 191, 27, 4, 120, 60, 42, 27, 132, 1, 1, 28, 178, 0, 59, 122, 145, 84, 42, 27, 28]
abbrev dktJ15_putChar_1 : List UInt8 := dkwJ15_putChar_1 ++ dktJ15_putChar_2
def dkwJ15_putChar_0 : List UInt8 := [178, 0, 44, 154, 0, 25, 27, 155, 0, 11, 27, 42, 184, 0, 48, 161, 0, 13, 187, 0, 52, 89, 18, 54]
abbrev dktJ15_putChar_0 : List UInt8 := dkwJ15_putChar_0 ++ dktJ15_putChar_1
theorem dksJ15_putChar_0 : cJ15_putChar.data.toList.drop 0 = dktJ15_putChar_0 := by decide +kernel
theorem dksJ15_putChar_1 : cJ15_putChar.data.toList.drop 24 = dktJ15_putChar_1 := dk_seg dksJ15_putChar_0 24 rfl rfl
theorem dksJ15_putChar_2 : cJ15_putChar.data.toList.drop 47 = dktJ15_putChar_2 := dk_seg dksJ15_putChar_1 23 rfl rfl
theorem dJ15_putChar_0 : decode cJ15_putChar 0 = .ok (.getstatic 44, 3) := dk_178 0 44 (dk_at dksJ15_putChar_0 0 rfl rfl)
theorem dJ15_putChar_3 : decode cJ15_putChar 3 = .ok (.ifCond .ne 25, 3) := dk_154 0 25 (dk_at dksJ15_putChar_0 3 rfl rfl)
theorem dJ15_putChar_6 : decode cJ15_putChar 6 = .ok (.iload_n 1, 1) := dk_27 (dk_at dksJ15_putChar_0 6 rfl rfl)
theorem dJ15_putChar_7 : decode cJ15_putChar 7 = .ok (.ifCond .lt 11, 3) := dk_155 0 11 (dk_at dksJ15_putChar_0 7 rfl rfl)
theorem dJ15_putChar_10 : decode cJ15_putChar 10 = .ok (.iload_n 1, 1) := dk_27 (dk_at dksJ15_putChar_0 10 rfl rfl)
theorem dJ15_putChar_11 : decode cJ15_putChar 11 = .ok (.aload_n 0, 1) := dk_42 (dk_at dksJ15_putChar_0 11 rfl rfl)
theorem dJ15_putChar_12 : decode cJ15_putChar 12 = .ok (.invokestatic 48, 3) := dk_184 0 48 (dk_at dksJ15_putChar_0 12 rfl rfl)
theorem dJ15_putChar_15 : decode cJ15_putChar 15 = .ok (.if_icmp .lt 13, 3) := dk_161 0 13 (dk_at dksJ15_putChar_0 15 rfl rfl)
theorem dJ15_putChar_18 : decode cJ15_putChar 18 = .ok (.new 52, 3) := dk_187 0 52 (dk_at dksJ15_putChar_0 18 rfl rfl)
theorem dJ15_putChar_21 : decode cJ15_putChar 21 = .ok (.dup, 1) := dk_89 (dk_at dksJ15_putChar_0 21 rfl rfl)
theorem dJ15_putChar_22 : decode cJ15_putChar 22 = .ok (.ldc 54, 2) := dk_18 54 (dk_at dksJ15_putChar_0 22 rfl rfl)
theorem dJ15_putChar_24 : decode cJ15_putChar 24 = .ok (.invokespecial 56, 3) := dk_183 0 56 (dk_at dksJ15_putChar_1 0 rfl rfl)
theorem dJ15_putChar_27 : decode cJ15_putChar 27 = .ok (.athrow, 1) := dk_191 (dk_at dksJ15_putChar_1 3 rfl rfl)
theorem dJ15_putChar_28 : decode cJ15_putChar 28 = .ok (.iload_n 1, 1) := dk_27 (dk_at dksJ15_putChar_1 4 rfl rfl)
theorem dJ15_putChar_29 : decode cJ15_putChar 29 = .ok (.iconst 1, 1) := dk_4 (dk_at dksJ15_putChar_1 5 rfl rfl)
theorem dJ15_putChar_30 : decode cJ15_putChar 30 = .ok (.ishl, 1) := dk_120 (dk_at dksJ15_putChar_1 6 rfl rfl)
theorem dJ15_putChar_31 : decode cJ15_putChar 31 = .ok (.istore_n 1, 1) := dk_60 (dk_at dksJ15_putChar_1 7 rfl rfl)
theorem dJ15_putChar_32 : decode cJ15_putChar 32 = .ok (.aload_n 0, 1) := dk_42 (dk_at dksJ15_putChar_1 8 rfl rfl)
theorem dJ15_putChar_33 : decode cJ15_putChar 33 = .ok (.iload_n 1, 1) := dk_27 (dk_at dksJ15_putChar_1 9 rfl rfl)
theorem dJ15_putChar_34 : decode cJ15_putChar 34 = .ok (.iinc 1 1, 3) := dk_132 1 1 (dk_at dksJ15_putChar_1 10 rfl rfl)
theorem dJ15_putChar_37 : decode cJ15_putChar 37 = .ok (.iload_n 2, 1) := dk_28 (dk_at dksJ15_putChar_1 13 rfl rfl)
theorem dJ15_putChar_38 : decode cJ15_putChar 38 = .ok (.getstatic 59, 3) := dk_178 0 59 (dk_at dksJ15_putChar_1 14 rfl rfl)
theorem dJ15_putChar_41 : decode cJ15_putChar 41 = .ok (.ishr, 1) := dk_122 (dk_at dksJ15_putChar_1 17 rfl rfl)
theorem dJ15_putChar_42 : decode cJ15_putChar 42 = .ok (.i2b, 1) := dk_145 (dk_at dksJ15_putChar_1 18 rfl rfl)
theorem dJ15_putChar_43 : decode cJ15_putChar 43 = .ok (.bastore, 1) := dk_84 (dk_at dksJ15_putChar_1 19 rfl rfl)
theorem dJ15_putChar_44 : decode cJ15_putChar 44 = .ok (.aload_n 0, 1) := dk_42 (dk_at dksJ15_putChar_1 20 rfl rfl)
theorem dJ15_putChar_45 : decode cJ15_putChar 45 = .ok (.iload_n 1, 1) := dk_27 (dk_at dksJ15_putChar_1 21 rfl rfl)
theorem dJ15_putChar_46 : decode cJ15_putChar 46 = .ok (.iload_n 2, 1) := dk_28 (dk_at dksJ15_putChar_1 22 rfl rfl)
theorem dJ15_putChar_47 : decode cJ15_putChar 47 = .ok (.getstatic 63, 3) := dk_178 0 63 (dk_at dksJ15_putChar_2 0 rfl rfl)
theorem dJ15_putChar_50 : decode cJ15_putChar 50 = .ok (.ishr, 1) := dk_122 (dk_at dksJ15_putChar_2 3 rfl rfl)
theorem dJ15_putChar_51 : decode cJ15_putChar 51 = .ok (.i2b, 1) := dk_145 (dk_at dksJ15_putChar_2 4 rfl rfl)
theorem dJ15_putChar_52 : decode cJ15_putChar 52 = .ok (.bastore, 1) := dk_84 (dk_at dksJ15_putChar_2 5 rfl rfl)
theorem dJ15_putChar_53 : decode cJ15_putChar 53 = .ok (.return_, 1) := dk_177 (dk_at dksJ15_putChar_2 6 rfl rfl)
abbrev cJ15_inflate : ByteArray := prog_45_method_86_code
def yJ15_inflate : MethodName := ⟨RJ15, "inflate", "([BI[BII)V"⟩
def dkwJ15_inflate_1 : List UInt8 := [132, 1, 1, 51, 17, 0, 255, 126, 184, 0, 111, 132, 5, 1, 167, 255, 228, 177]
abbrev dktJ15_inflate_1 : List UInt8 := dkwJ15_inflate_1 ++ []
def dkwJ15_inflate_0 : List UInt8 := [29, 21, 4, 44, 184, 0, 173, 3, 54, 5, 21, 5, 21, 4, 162, 0, 27, 44, 29, 132, 3, 1, 42, 27]
abbrev dktJ15_inflate_0 : List UInt8 := dkwJ15_inflate_0 ++ dktJ15_inflate_1
theorem dksJ15_inflate_0 : cJ15_inflate.data.toList.drop 0 = dktJ15_inflate_0 := by decide +kernel
theorem dksJ15_inflate_1 : cJ15_inflate.data.toList.drop 24 = dktJ15_inflate_1 := dk_seg dksJ15_inflate_0 24 rfl rfl
theorem dJ15_inflate_0 : decode cJ15_inflate 0 = .ok (.iload_n 3, 1) := dk_29 (dk_at dksJ15_inflate_0 0 rfl rfl)
theorem dJ15_inflate_1 : decode cJ15_inflate 1 = .ok (.iload 4, 2) := dk_21 4 (dk_at dksJ15_inflate_0 1 rfl rfl)
theorem dJ15_inflate_3 : decode cJ15_inflate 3 = .ok (.aload_n 2, 1) := dk_44 (dk_at dksJ15_inflate_0 3 rfl rfl)
theorem dJ15_inflate_4 : decode cJ15_inflate 4 = .ok (.invokestatic 173, 3) := dk_184 0 173 (dk_at dksJ15_inflate_0 4 rfl rfl)
theorem dJ15_inflate_7 : decode cJ15_inflate 7 = .ok (.iconst 0, 1) := dk_3 (dk_at dksJ15_inflate_0 7 rfl rfl)
theorem dJ15_inflate_8 : decode cJ15_inflate 8 = .ok (.istore 5, 2) := dk_54 5 (dk_at dksJ15_inflate_0 8 rfl rfl)
theorem dJ15_inflate_10 : decode cJ15_inflate 10 = .ok (.iload 5, 2) := dk_21 5 (dk_at dksJ15_inflate_0 10 rfl rfl)
theorem dJ15_inflate_12 : decode cJ15_inflate 12 = .ok (.iload 4, 2) := dk_21 4 (dk_at dksJ15_inflate_0 12 rfl rfl)
theorem dJ15_inflate_14 : decode cJ15_inflate 14 = .ok (.if_icmp .ge 27, 3) := dk_162 0 27 (dk_at dksJ15_inflate_0 14 rfl rfl)
theorem dJ15_inflate_17 : decode cJ15_inflate 17 = .ok (.aload_n 2, 1) := dk_44 (dk_at dksJ15_inflate_0 17 rfl rfl)
theorem dJ15_inflate_18 : decode cJ15_inflate 18 = .ok (.iload_n 3, 1) := dk_29 (dk_at dksJ15_inflate_0 18 rfl rfl)
theorem dJ15_inflate_19 : decode cJ15_inflate 19 = .ok (.iinc 3 1, 3) := dk_132 3 1 (dk_at dksJ15_inflate_0 19 rfl rfl)
theorem dJ15_inflate_22 : decode cJ15_inflate 22 = .ok (.aload_n 0, 1) := dk_42 (dk_at dksJ15_inflate_0 22 rfl rfl)
theorem dJ15_inflate_23 : decode cJ15_inflate 23 = .ok (.iload_n 1, 1) := dk_27 (dk_at dksJ15_inflate_0 23 rfl rfl)
theorem dJ15_inflate_24 : decode cJ15_inflate 24 = .ok (.iinc 1 1, 3) := dk_132 1 1 (dk_at dksJ15_inflate_1 0 rfl rfl)
theorem dJ15_inflate_27 : decode cJ15_inflate 27 = .ok (.baload, 1) := dk_51 (dk_at dksJ15_inflate_1 3 rfl rfl)
theorem dJ15_inflate_28 : decode cJ15_inflate 28 = .ok (.sipush 255, 3) := dk_17 0 255 (dk_at dksJ15_inflate_1 4 rfl rfl)
theorem dJ15_inflate_31 : decode cJ15_inflate 31 = .ok (.iand, 1) := dk_126 (dk_at dksJ15_inflate_1 7 rfl rfl)
theorem dJ15_inflate_32 : decode cJ15_inflate 32 = .ok (.invokestatic 111, 3) := dk_184 0 111 (dk_at dksJ15_inflate_1 8 rfl rfl)
theorem dJ15_inflate_35 : decode cJ15_inflate 35 = .ok (.iinc 5 1, 3) := dk_132 5 1 (dk_at dksJ15_inflate_1 11 rfl rfl)
theorem dJ15_inflate_38 : decode cJ15_inflate 38 = .ok (.goto (-28), 3) := dk_167 255 228 (dk_at dksJ15_inflate_1 14 rfl rfl)
theorem dJ15_inflate_41 : decode cJ15_inflate 41 = .ok (.return_, 1) := dk_177 (dk_at dksJ15_inflate_1 17 rfl rfl)
abbrev cJ15_checkBoundsOffCount : ByteArray := prog_45_method_94_code
def yJ15_checkBoundsOffCount : MethodName := ⟨RJ15, "checkBoundsOffCount", "(II[B)V"⟩
def dkwJ15_checkBoundsOffCount_0 : List UInt8 := [26, 27, 44, 184, 0, 48, 184, 1, 163, 87, 177]
abbrev dktJ15_checkBoundsOffCount_0 : List UInt8 := dkwJ15_checkBoundsOffCount_0 ++ []
theorem dksJ15_checkBoundsOffCount_0 : cJ15_checkBoundsOffCount.data.toList.drop 0 = dktJ15_checkBoundsOffCount_0 := by decide +kernel
theorem dJ15_checkBoundsOffCount_0 : decode cJ15_checkBoundsOffCount 0 = .ok (.iload_n 0, 1) := dk_26 (dk_at dksJ15_checkBoundsOffCount_0 0 rfl rfl)
theorem dJ15_checkBoundsOffCount_1 : decode cJ15_checkBoundsOffCount 1 = .ok (.iload_n 1, 1) := dk_27 (dk_at dksJ15_checkBoundsOffCount_0 1 rfl rfl)
theorem dJ15_checkBoundsOffCount_2 : decode cJ15_checkBoundsOffCount 2 = .ok (.aload_n 2, 1) := dk_44 (dk_at dksJ15_checkBoundsOffCount_0 2 rfl rfl)
theorem dJ15_checkBoundsOffCount_3 : decode cJ15_checkBoundsOffCount 3 = .ok (.invokestatic 48, 3) := dk_184 0 48 (dk_at dksJ15_checkBoundsOffCount_0 3 rfl rfl)
theorem dJ15_checkBoundsOffCount_6 : decode cJ15_checkBoundsOffCount 6 = .ok (.invokestatic 419, 3) := dk_184 1 163 (dk_at dksJ15_checkBoundsOffCount_0 6 rfl rfl)
theorem dJ15_checkBoundsOffCount_9 : decode cJ15_checkBoundsOffCount 9 = .ok (.pop, 1) := dk_87 (dk_at dksJ15_checkBoundsOffCount_0 9 rfl rfl)
theorem dJ15_checkBoundsOffCount_10 : decode cJ15_checkBoundsOffCount 10 = .ok (.return_, 1) := dk_177 (dk_at dksJ15_checkBoundsOffCount_0 10 rfl rfl)
abbrev cJ15_compress : ByteArray := prog_45_method_17_code
def yJ15_compress : MethodName := ⟨RJ15, "compress", "([BII)[B"⟩
def dkwJ15_compress_2 : List UInt8 := [25, 5, 3, 45, 3, 28, 184, 0, 123, 28, 159, 0, 6, 25, 5, 176, 45, 176]
abbrev dktJ15_compress_2 : List UInt8 := dkwJ15_compress_2 ++ []
def dkwJ15_compress_1 : List UInt8 := [27, 28, 96, 184, 0, 11, 184, 0, 126, 58, 5, 25, 5, 21, 4, 184, 0, 71, 17, 0, 255, 163, 0, 16]
abbrev dktJ15_compress_1 : List UInt8 := dkwJ15_compress_1 ++ dktJ15_compress_2
def dkwJ15_compress_0 : List UInt8 := [28, 188, 8, 78, 42, 27, 45, 3, 28, 184, 0, 123, 54, 4, 21, 4, 28, 159, 0, 47, 42, 27, 4, 120]
abbrev dktJ15_compress_0 : List UInt8 := dkwJ15_compress_0 ++ dktJ15_compress_1
theorem dksJ15_compress_0 : cJ15_compress.data.toList.drop 0 = dktJ15_compress_0 := by decide +kernel
theorem dksJ15_compress_1 : cJ15_compress.data.toList.drop 24 = dktJ15_compress_1 := dk_seg dksJ15_compress_0 24 rfl rfl
theorem dksJ15_compress_2 : cJ15_compress.data.toList.drop 48 = dktJ15_compress_2 := dk_seg dksJ15_compress_1 24 rfl rfl
theorem dJ15_compress_0 : decode cJ15_compress 0 = .ok (.iload_n 2, 1) := dk_28 (dk_at dksJ15_compress_0 0 rfl rfl)
theorem dJ15_compress_1 : decode cJ15_compress 1 = .ok (.newarray .byte, 2) := dk_188_8 (dk_at dksJ15_compress_0 1 rfl rfl)
theorem dJ15_compress_3 : decode cJ15_compress 3 = .ok (.astore_n 3, 1) := dk_78 (dk_at dksJ15_compress_0 3 rfl rfl)
theorem dJ15_compress_4 : decode cJ15_compress 4 = .ok (.aload_n 0, 1) := dk_42 (dk_at dksJ15_compress_0 4 rfl rfl)
theorem dJ15_compress_5 : decode cJ15_compress 5 = .ok (.iload_n 1, 1) := dk_27 (dk_at dksJ15_compress_0 5 rfl rfl)
theorem dJ15_compress_6 : decode cJ15_compress 6 = .ok (.aload_n 3, 1) := dk_45 (dk_at dksJ15_compress_0 6 rfl rfl)
theorem dJ15_compress_7 : decode cJ15_compress 7 = .ok (.iconst 0, 1) := dk_3 (dk_at dksJ15_compress_0 7 rfl rfl)
theorem dJ15_compress_8 : decode cJ15_compress 8 = .ok (.iload_n 2, 1) := dk_28 (dk_at dksJ15_compress_0 8 rfl rfl)
theorem dJ15_compress_9 : decode cJ15_compress 9 = .ok (.invokestatic 123, 3) := dk_184 0 123 (dk_at dksJ15_compress_0 9 rfl rfl)
theorem dJ15_compress_12 : decode cJ15_compress 12 = .ok (.istore 4, 2) := dk_54 4 (dk_at dksJ15_compress_0 12 rfl rfl)
theorem dJ15_compress_14 : decode cJ15_compress 14 = .ok (.iload 4, 2) := dk_21 4 (dk_at dksJ15_compress_0 14 rfl rfl)
theorem dJ15_compress_16 : decode cJ15_compress 16 = .ok (.iload_n 2, 1) := dk_28 (dk_at dksJ15_compress_0 16 rfl rfl)
theorem dJ15_compress_17 : decode cJ15_compress 17 = .ok (.if_icmp .eq 47, 3) := dk_159 0 47 (dk_at dksJ15_compress_0 17 rfl rfl)
theorem dJ15_compress_20 : decode cJ15_compress 20 = .ok (.aload_n 0, 1) := dk_42 (dk_at dksJ15_compress_0 20 rfl rfl)
theorem dJ15_compress_21 : decode cJ15_compress 21 = .ok (.iload_n 1, 1) := dk_27 (dk_at dksJ15_compress_0 21 rfl rfl)
theorem dJ15_compress_22 : decode cJ15_compress 22 = .ok (.iconst 1, 1) := dk_4 (dk_at dksJ15_compress_0 22 rfl rfl)
theorem dJ15_compress_23 : decode cJ15_compress 23 = .ok (.ishl, 1) := dk_120 (dk_at dksJ15_compress_0 23 rfl rfl)
theorem dJ15_compress_24 : decode cJ15_compress 24 = .ok (.iload_n 1, 1) := dk_27 (dk_at dksJ15_compress_1 0 rfl rfl)
theorem dJ15_compress_25 : decode cJ15_compress 25 = .ok (.iload_n 2, 1) := dk_28 (dk_at dksJ15_compress_1 1 rfl rfl)
theorem dJ15_compress_26 : decode cJ15_compress 26 = .ok (.iadd, 1) := dk_96 (dk_at dksJ15_compress_1 2 rfl rfl)
theorem dJ15_compress_27 : decode cJ15_compress 27 = .ok (.invokestatic 11, 3) := dk_184 0 11 (dk_at dksJ15_compress_1 3 rfl rfl)
theorem dJ15_compress_30 : decode cJ15_compress 30 = .ok (.invokestatic 126, 3) := dk_184 0 126 (dk_at dksJ15_compress_1 6 rfl rfl)
theorem dJ15_compress_33 : decode cJ15_compress 33 = .ok (.astore 5, 2) := dk_58 5 (dk_at dksJ15_compress_1 9 rfl rfl)
theorem dJ15_compress_35 : decode cJ15_compress 35 = .ok (.aload 5, 2) := dk_25 5 (dk_at dksJ15_compress_1 11 rfl rfl)
theorem dJ15_compress_37 : decode cJ15_compress 37 = .ok (.iload 4, 2) := dk_21 4 (dk_at dksJ15_compress_1 13 rfl rfl)
theorem dJ15_compress_39 : decode cJ15_compress 39 = .ok (.invokestatic 71, 3) := dk_184 0 71 (dk_at dksJ15_compress_1 15 rfl rfl)
theorem dJ15_compress_42 : decode cJ15_compress 42 = .ok (.sipush 255, 3) := dk_17 0 255 (dk_at dksJ15_compress_1 18 rfl rfl)
theorem dJ15_compress_45 : decode cJ15_compress 45 = .ok (.if_icmp .gt 16, 3) := dk_163 0 16 (dk_at dksJ15_compress_1 21 rfl rfl)
theorem dJ15_compress_48 : decode cJ15_compress 48 = .ok (.aload 5, 2) := dk_25 5 (dk_at dksJ15_compress_2 0 rfl rfl)
theorem dJ15_compress_50 : decode cJ15_compress 50 = .ok (.iconst 0, 1) := dk_3 (dk_at dksJ15_compress_2 2 rfl rfl)
theorem dJ15_compress_51 : decode cJ15_compress 51 = .ok (.aload_n 3, 1) := dk_45 (dk_at dksJ15_compress_2 3 rfl rfl)
theorem dJ15_compress_52 : decode cJ15_compress 52 = .ok (.iconst 0, 1) := dk_3 (dk_at dksJ15_compress_2 4 rfl rfl)
theorem dJ15_compress_53 : decode cJ15_compress 53 = .ok (.iload_n 2, 1) := dk_28 (dk_at dksJ15_compress_2 5 rfl rfl)
theorem dJ15_compress_54 : decode cJ15_compress 54 = .ok (.invokestatic 123, 3) := dk_184 0 123 (dk_at dksJ15_compress_2 6 rfl rfl)
theorem dJ15_compress_57 : decode cJ15_compress 57 = .ok (.iload_n 2, 1) := dk_28 (dk_at dksJ15_compress_2 9 rfl rfl)
theorem dJ15_compress_58 : decode cJ15_compress 58 = .ok (.if_icmp .eq 6, 3) := dk_159 0 6 (dk_at dksJ15_compress_2 10 rfl rfl)
theorem dJ15_compress_61 : decode cJ15_compress 61 = .ok (.aload 5, 2) := dk_25 5 (dk_at dksJ15_compress_2 13 rfl rfl)
theorem dJ15_compress_63 : decode cJ15_compress 63 = .ok (.areturn, 1) := dk_176 (dk_at dksJ15_compress_2 15 rfl rfl)
theorem dJ15_compress_64 : decode cJ15_compress 64 = .ok (.aload_n 3, 1) := dk_45 (dk_at dksJ15_compress_2 16 rfl rfl)
theorem dJ15_compress_65 : decode cJ15_compress 65 = .ok (.areturn, 1) := dk_176 (dk_at dksJ15_compress_2 17 rfl rfl)
abbrev cJ15_compress_2 : ByteArray := prog_45_method_22_code
def yJ15_compress_2 : MethodName := ⟨RJ15, "compress", "([BI[BII)I"⟩
def dkwJ15_compress_2_2 : List UInt8 := [132, 5, 1, 167, 255, 216, 21, 4, 172]
abbrev dktJ15_compress_2_2 : List UInt8 := dkwJ15_compress_2_2 ++ []
def dkwJ15_compress_2_1 : List UInt8 := [21, 6, 17, 0, 255, 164, 0, 6, 21, 5, 172, 44, 29, 21, 6, 145, 84, 132, 1, 1, 132, 3, 1]
abbrev dktJ15_compress_2_1 : List UInt8 := dkwJ15_compress_2_1 ++ dktJ15_compress_2_2
def dkwJ15_compress_2_0 : List UInt8 := [27, 21, 4, 42, 184, 0, 173, 3, 54, 5, 21, 5, 21, 4, 162, 0, 39, 42, 27, 184, 0, 71, 54, 6]
abbrev dktJ15_compress_2_0 : List UInt8 := dkwJ15_compress_2_0 ++ dktJ15_compress_2_1
theorem dksJ15_compress_2_0 : cJ15_compress_2.data.toList.drop 0 = dktJ15_compress_2_0 := by decide +kernel
theorem dksJ15_compress_2_1 : cJ15_compress_2.data.toList.drop 24 = dktJ15_compress_2_1 := dk_seg dksJ15_compress_2_0 24 rfl rfl
theorem dksJ15_compress_2_2 : cJ15_compress_2.data.toList.drop 47 = dktJ15_compress_2_2 := dk_seg dksJ15_compress_2_1 23 rfl rfl
theorem dJ15_compress_2_0 : decode cJ15_compress_2 0 = .ok (.iload_n 1, 1) := dk_27 (dk_at dksJ15_compress_2_0 0 rfl rfl)
theorem dJ15_compress_2_1 : decode cJ15_compress_2 1 = .ok (.iload 4, 2) := dk_21 4 (dk_at dksJ15_compress_2_0 1 rfl rfl)
theorem dJ15_compress_2_3 : decode cJ15_compress_2 3 = .ok (.aload_n 0, 1) := dk_42 (dk_at dksJ15_compress_2_0 3 rfl rfl)
theorem dJ15_compress_2_4 : decode cJ15_compress_2 4 = .ok (.invokestatic 173, 3) := dk_184 0 173 (dk_at dksJ15_compress_2_0 4 rfl rfl)
theorem dJ15_compress_2_7 : decode cJ15_compress_2 7 = .ok (.iconst 0, 1) := dk_3 (dk_at dksJ15_compress_2_0 7 rfl rfl)
theorem dJ15_compress_2_8 : decode cJ15_compress_2 8 = .ok (.istore 5, 2) := dk_54 5 (dk_at dksJ15_compress_2_0 8 rfl rfl)
theorem dJ15_compress_2_10 : decode cJ15_compress_2 10 = .ok (.iload 5, 2) := dk_21 5 (dk_at dksJ15_compress_2_0 10 rfl rfl)
theorem dJ15_compress_2_12 : decode cJ15_compress_2 12 = .ok (.iload 4, 2) := dk_21 4 (dk_at dksJ15_compress_2_0 12 rfl rfl)
theorem dJ15_compress_2_14 : decode cJ15_compress_2 14 = .ok (.if_icmp .ge 39, 3) := dk_162 0 39 (dk_at dksJ15_compress_2_0 14 rfl rfl)
theorem dJ15_compress_2_17 : decode cJ15_compress_2 17 = .ok (.aload_n 0, 1) := dk_42 (dk_at dksJ15_compress_2_0 17 rfl rfl)
theorem dJ15_compress_2_18 : decode cJ15_compress_2 18 = .ok (.iload_n 1, 1) := dk_27 (dk_at dksJ15_compress_2_0 18 rfl rfl)
theorem dJ15_compress_2_19 : decode cJ15_compress_2 19 = .ok (.invokestatic 71, 3) := dk_184 0 71 (dk_at dksJ15_compress_2_0 19 rfl rfl)
theorem dJ15_compress_2_22 : decode cJ15_compress_2 22 = .ok (.istore 6, 2) := dk_54 6 (dk_at dksJ15_compress_2_0 22 rfl rfl)
theorem dJ15_compress_2_24 : decode cJ15_compress_2 24 = .ok (.iload 6, 2) := dk_21 6 (dk_at dksJ15_compress_2_1 0 rfl rfl)
theorem dJ15_compress_2_26 : decode cJ15_compress_2 26 = .ok (.sipush 255, 3) := dk_17 0 255 (dk_at dksJ15_compress_2_1 2 rfl rfl)
theorem dJ15_compress_2_29 : decode cJ15_compress_2 29 = .ok (.if_icmp .le 6, 3) := dk_164 0 6 (dk_at dksJ15_compress_2_1 5 rfl rfl)
theorem dJ15_compress_2_32 : decode cJ15_compress_2 32 = .ok (.iload 5, 2) := dk_21 5 (dk_at dksJ15_compress_2_1 8 rfl rfl)
theorem dJ15_compress_2_34 : decode cJ15_compress_2 34 = .ok (.ireturn, 1) := dk_172 (dk_at dksJ15_compress_2_1 10 rfl rfl)
theorem dJ15_compress_2_35 : decode cJ15_compress_2 35 = .ok (.aload_n 2, 1) := dk_44 (dk_at dksJ15_compress_2_1 11 rfl rfl)
theorem dJ15_compress_2_36 : decode cJ15_compress_2 36 = .ok (.iload_n 3, 1) := dk_29 (dk_at dksJ15_compress_2_1 12 rfl rfl)
theorem dJ15_compress_2_37 : decode cJ15_compress_2 37 = .ok (.iload 6, 2) := dk_21 6 (dk_at dksJ15_compress_2_1 13 rfl rfl)
theorem dJ15_compress_2_39 : decode cJ15_compress_2 39 = .ok (.i2b, 1) := dk_145 (dk_at dksJ15_compress_2_1 15 rfl rfl)
theorem dJ15_compress_2_40 : decode cJ15_compress_2 40 = .ok (.bastore, 1) := dk_84 (dk_at dksJ15_compress_2_1 16 rfl rfl)
theorem dJ15_compress_2_41 : decode cJ15_compress_2 41 = .ok (.iinc 1 1, 3) := dk_132 1 1 (dk_at dksJ15_compress_2_1 17 rfl rfl)
theorem dJ15_compress_2_44 : decode cJ15_compress_2 44 = .ok (.iinc 3 1, 3) := dk_132 3 1 (dk_at dksJ15_compress_2_1 20 rfl rfl)
theorem dJ15_compress_2_47 : decode cJ15_compress_2 47 = .ok (.iinc 5 1, 3) := dk_132 5 1 (dk_at dksJ15_compress_2_2 0 rfl rfl)
theorem dJ15_compress_2_50 : decode cJ15_compress_2 50 = .ok (.goto (-40), 3) := dk_167 255 216 (dk_at dksJ15_compress_2_2 3 rfl rfl)
theorem dJ15_compress_2_53 : decode cJ15_compress_2 53 = .ok (.iload 4, 2) := dk_21 4 (dk_at dksJ15_compress_2_2 6 rfl rfl)
theorem dJ15_compress_2_55 : decode cJ15_compress_2 55 = .ok (.ireturn, 1) := dk_172 (dk_at dksJ15_compress_2_2 8 rfl rfl)
abbrev cJ15_getChar : ByteArray := prog_45_method_5_code
def yJ15_getChar : MethodName := ⟨RJ15, "getChar", "([BI)C"⟩
def dkwJ15_getChar_2 : List UInt8 := [51, 17, 0, 255, 126, 178, 0, 63, 120, 128, 146, 172]
abbrev dktJ15_getChar_2 : List UInt8 := dkwJ15_getChar_2 ++ []
def dkwJ15_getChar_1 : List UInt8 := [183, 0, 56, 191, 27, 4, 120, 60, 42, 27, 132, 1, 1, 51, 17, 0, 255, 126, 178, 0, 59, 120, 42, 27]
abbrev dktJ15_getChar_1 : List UInt8 := dkwJ15_getChar_1 ++ dktJ15_getChar_2
def dkwJ15_getChar_0 : List UInt8 := [178, 0, 44, 154, 0, 25, 27, 155, 0, 11, 27, 42, 184, 0, 48, 161, 0, 13, 187, 0, 52, 89, 18, 54]
abbrev dktJ15_getChar_0 : List UInt8 := dkwJ15_getChar_0 ++ dktJ15_getChar_1
theorem dksJ15_getChar_0 : cJ15_getChar.data.toList.drop 0 = dktJ15_getChar_0 := by decide +kernel
theorem dksJ15_getChar_1 : cJ15_getChar.data.toList.drop 24 = dktJ15_getChar_1 := dk_seg dksJ15_getChar_0 24 rfl rfl
theorem dksJ15_getChar_2 : cJ15_getChar.data.toList.drop 48 = dktJ15_getChar_2 := dk_seg dksJ15_getChar_1 24 rfl rfl
theorem dJ15_getChar_0 : decode cJ15_getChar 0 = .ok (.getstatic 44, 3) := dk_178 0 44 (dk_at dksJ15_getChar_0 0 rfl rfl)
theorem dJ15_getChar_3 : decode cJ15_getChar 3 = .ok (.ifCond .ne 25, 3) := dk_154 0 25 (dk_at dksJ15_getChar_0 3 rfl rfl)
theorem dJ15_getChar_6 : decode cJ15_getChar 6 = .ok (.iload_n 1, 1) := dk_27 (dk_at dksJ15_getChar_0 6 rfl rfl)
theorem dJ15_getChar_7 : decode cJ15_getChar 7 = .ok (.ifCond .lt 11, 3) := dk_155 0 11 (dk_at dksJ15_getChar_0 7 rfl rfl)
theorem dJ15_getChar_10 : decode cJ15_getChar 10 = .ok (.iload_n 1, 1) := dk_27 (dk_at dksJ15_getChar_0 10 rfl rfl)
theorem dJ15_getChar_11 : decode cJ15_getChar 11 = .ok (.aload_n 0, 1) := dk_42 (dk_at dksJ15_getChar_0 11 rfl rfl)
theorem dJ15_getChar_12 : decode cJ15_getChar 12 = .ok (.invokestatic 48, 3) := dk_184 0 48 (dk_at dksJ15_getChar_0 12 rfl rfl)
theorem dJ15_getChar_15 : decode cJ15_getChar 15 = .ok (.if_icmp .lt 13, 3) := dk_161 0 13 (dk_at dksJ15_getChar_0 15 rfl rfl)
theorem dJ15_getChar_18 : decode cJ15_getChar 18 = .ok (.new 52, 3) := dk_187 0 52 (dk_at dksJ15_getChar_0 18 rfl rfl)
theorem dJ15_getChar_21 : decode cJ15_getChar 21 = .ok (.dup, 1) := dk_89 (dk_at dksJ15_getChar_0 21 rfl rfl)
theorem dJ15_getChar_22 : decode cJ15_getChar 22 = .ok (.ldc 54, 2) := dk_18 54 (dk_at dksJ15_getChar_0 22 rfl rfl)
theorem dJ15_getChar_24 : decode cJ15_getChar 24 = .ok (.invokespecial 56, 3) := dk_183 0 56 (dk_at dksJ15_getChar_1 0 rfl rfl)
theorem dJ15_getChar_27 : decode cJ15_getChar 27 = .ok (.athrow, 1) := dk_191 (dk_at dksJ15_getChar_1 3 rfl rfl)
theorem dJ15_getChar_28 : decode cJ15_getChar 28 = .ok (.iload_n 1, 1) := dk_27 (dk_at dksJ15_getChar_1 4 rfl rfl)
theorem dJ15_getChar_29 : decode cJ15_getChar 29 = .ok (.iconst 1, 1) := dk_4 (dk_at dksJ15_getChar_1 5 rfl rfl)
theorem dJ15_getChar_30 : decode cJ15_getChar 30 = .ok (.ishl, 1) := dk_120 (dk_at dksJ15_getChar_1 6 rfl rfl)
theorem dJ15_getChar_31 : decode cJ15_getChar 31 = .ok (.istore_n 1, 1) := dk_60 (dk_at dksJ15_getChar_1 7 rfl rfl)
theorem dJ15_getChar_32 : decode cJ15_getChar 32 = .ok (.aload_n 0, 1) := dk_42 (dk_at dksJ15_getChar_1 8 rfl rfl)
theorem dJ15_getChar_33 : decode cJ15_getChar 33 = .ok (.iload_n 1, 1) := dk_27 (dk_at dksJ15_getChar_1 9 rfl rfl)
theorem dJ15_getChar_34 : decode cJ15_getChar 34 = .ok (.iinc 1 1, 3) := dk_132 1 1 (dk_at dksJ15_getChar_1 10 rfl rfl)
theorem dJ15_getChar_37 : decode cJ15_getChar 37 = .ok (.baload, 1) := dk_51 (dk_at dksJ15_getChar_1 13 rfl rfl)
theorem dJ15_getChar_38 : decode cJ15_getChar 38 = .ok (.sipush 255, 3) := dk_17 0 255 (dk_at dksJ15_getChar_1 14 rfl rfl)
theorem dJ15_getChar_41 : decode cJ15_getChar 41 = .ok (.iand, 1) := dk_126 (dk_at dksJ15_getChar_1 17 rfl rfl)
theorem dJ15_getChar_42 : decode cJ15_getChar 42 = .ok (.getstatic 59, 3) := dk_178 0 59 (dk_at dksJ15_getChar_1 18 rfl rfl)
theorem dJ15_getChar_45 : decode cJ15_getChar 45 = .ok (.ishl, 1) := dk_120 (dk_at dksJ15_getChar_1 21 rfl rfl)
theorem dJ15_getChar_46 : decode cJ15_getChar 46 = .ok (.aload_n 0, 1) := dk_42 (dk_at dksJ15_getChar_1 22 rfl rfl)
theorem dJ15_getChar_47 : decode cJ15_getChar 47 = .ok (.iload_n 1, 1) := dk_27 (dk_at dksJ15_getChar_1 23 rfl rfl)
theorem dJ15_getChar_48 : decode cJ15_getChar 48 = .ok (.baload, 1) := dk_51 (dk_at dksJ15_getChar_2 0 rfl rfl)
theorem dJ15_getChar_49 : decode cJ15_getChar 49 = .ok (.sipush 255, 3) := dk_17 0 255 (dk_at dksJ15_getChar_2 1 rfl rfl)
theorem dJ15_getChar_52 : decode cJ15_getChar 52 = .ok (.iand, 1) := dk_126 (dk_at dksJ15_getChar_2 4 rfl rfl)
theorem dJ15_getChar_53 : decode cJ15_getChar 53 = .ok (.getstatic 63, 3) := dk_178 0 63 (dk_at dksJ15_getChar_2 5 rfl rfl)
theorem dJ15_getChar_56 : decode cJ15_getChar 56 = .ok (.ishl, 1) := dk_120 (dk_at dksJ15_getChar_2 8 rfl rfl)
theorem dJ15_getChar_57 : decode cJ15_getChar 57 = .ok (.ior, 1) := dk_128 (dk_at dksJ15_getChar_2 9 rfl rfl)
theorem dJ15_getChar_58 : decode cJ15_getChar 58 = .ok (.i2c, 1) := dk_146 (dk_at dksJ15_getChar_2 10 rfl rfl)
theorem dJ15_getChar_59 : decode cJ15_getChar 59 = .ok (.ireturn, 1) := dk_172 (dk_at dksJ15_getChar_2 11 rfl rfl)
abbrev cJ15_coderFromArrayLen : ByteArray := prog_45_method_15_code
def yJ15_coderFromArrayLen : MethodName := ⟨RJ15, "coderFromArrayLen", "([BI)B"⟩
def dkwJ15_coderFromArrayLen_0 : List UInt8 := [27, 42, 190, 100, 16, 31, 124, 145, 172]
abbrev dktJ15_coderFromArrayLen_0 : List UInt8 := dkwJ15_coderFromArrayLen_0 ++ []
theorem dksJ15_coderFromArrayLen_0 : cJ15_coderFromArrayLen.data.toList.drop 0 = dktJ15_coderFromArrayLen_0 := by decide +kernel
theorem dJ15_coderFromArrayLen_0 : decode cJ15_coderFromArrayLen 0 = .ok (.iload_n 1, 1) := dk_27 (dk_at dksJ15_coderFromArrayLen_0 0 rfl rfl)
theorem dJ15_coderFromArrayLen_1 : decode cJ15_coderFromArrayLen 1 = .ok (.aload_n 0, 1) := dk_42 (dk_at dksJ15_coderFromArrayLen_0 1 rfl rfl)
theorem dJ15_coderFromArrayLen_2 : decode cJ15_coderFromArrayLen 2 = .ok (.arraylength, 1) := dk_190 (dk_at dksJ15_coderFromArrayLen_0 2 rfl rfl)
theorem dJ15_coderFromArrayLen_3 : decode cJ15_coderFromArrayLen 3 = .ok (.isub, 1) := dk_100 (dk_at dksJ15_coderFromArrayLen_0 3 rfl rfl)
theorem dJ15_coderFromArrayLen_4 : decode cJ15_coderFromArrayLen 4 = .ok (.bipush 31, 2) := dk_16 31 (dk_at dksJ15_coderFromArrayLen_0 4 rfl rfl)
theorem dJ15_coderFromArrayLen_6 : decode cJ15_coderFromArrayLen 6 = .ok (.iushr, 1) := dk_124 (dk_at dksJ15_coderFromArrayLen_0 6 rfl rfl)
theorem dJ15_coderFromArrayLen_7 : decode cJ15_coderFromArrayLen 7 = .ok (.i2b, 1) := dk_145 (dk_at dksJ15_coderFromArrayLen_0 7 rfl rfl)
theorem dJ15_coderFromArrayLen_8 : decode cJ15_coderFromArrayLen 8 = .ok (.ireturn, 1) := dk_172 (dk_at dksJ15_coderFromArrayLen_0 8 rfl rfl)
abbrev cJ15_putCharSB : ByteArray := prog_45_method_71_code
def yJ15_putCharSB : MethodName := ⟨RJ15, "putCharSB", "([BII)V"⟩
def dkwJ15_putCharSB_0 : List UInt8 := [27, 42, 184, 0, 67, 42, 27, 28, 184, 0, 111, 177]
abbrev dktJ15_putCharSB_0 : List UInt8 := dkwJ15_putCharSB_0 ++ []
theorem dksJ15_putCharSB_0 : cJ15_putCharSB.data.toList.drop 0 = dktJ15_putCharSB_0 := by decide +kernel
theorem dJ15_putCharSB_0 : decode cJ15_putCharSB 0 = .ok (.iload_n 1, 1) := dk_27 (dk_at dksJ15_putCharSB_0 0 rfl rfl)
theorem dJ15_putCharSB_1 : decode cJ15_putCharSB 1 = .ok (.aload_n 0, 1) := dk_42 (dk_at dksJ15_putCharSB_0 1 rfl rfl)
theorem dJ15_putCharSB_2 : decode cJ15_putCharSB 2 = .ok (.invokestatic 67, 3) := dk_184 0 67 (dk_at dksJ15_putCharSB_0 2 rfl rfl)
theorem dJ15_putCharSB_5 : decode cJ15_putCharSB 5 = .ok (.aload_n 0, 1) := dk_42 (dk_at dksJ15_putCharSB_0 5 rfl rfl)
theorem dJ15_putCharSB_6 : decode cJ15_putCharSB 6 = .ok (.iload_n 1, 1) := dk_27 (dk_at dksJ15_putCharSB_0 6 rfl rfl)
theorem dJ15_putCharSB_7 : decode cJ15_putCharSB 7 = .ok (.iload_n 2, 1) := dk_28 (dk_at dksJ15_putCharSB_0 7 rfl rfl)
theorem dJ15_putCharSB_8 : decode cJ15_putCharSB 8 = .ok (.invokestatic 111, 3) := dk_184 0 111 (dk_at dksJ15_putCharSB_0 8 rfl rfl)
theorem dJ15_putCharSB_11 : decode cJ15_putCharSB 11 = .ok (.return_, 1) := dk_177 (dk_at dksJ15_putCharSB_0 11 rfl rfl)
abbrev cJ15_checkIndex : ByteArray := prog_45_method_91_code
def yJ15_checkIndex : MethodName := ⟨RJ15, "checkIndex", "(I[B)V"⟩
def dkwJ15_checkIndex_0 : List UInt8 := [26, 43, 184, 0, 48, 184, 1, 158, 177]
abbrev dktJ15_checkIndex_0 : List UInt8 := dkwJ15_checkIndex_0 ++ []
theorem dksJ15_checkIndex_0 : cJ15_checkIndex.data.toList.drop 0 = dktJ15_checkIndex_0 := by decide +kernel
theorem dJ15_checkIndex_0 : decode cJ15_checkIndex 0 = .ok (.iload_n 0, 1) := dk_26 (dk_at dksJ15_checkIndex_0 0 rfl rfl)
theorem dJ15_checkIndex_1 : decode cJ15_checkIndex 1 = .ok (.aload_n 1, 1) := dk_43 (dk_at dksJ15_checkIndex_0 1 rfl rfl)
theorem dJ15_checkIndex_2 : decode cJ15_checkIndex 2 = .ok (.invokestatic 48, 3) := dk_184 0 48 (dk_at dksJ15_checkIndex_0 2 rfl rfl)
theorem dJ15_checkIndex_5 : decode cJ15_checkIndex 5 = .ok (.invokestatic 414, 3) := dk_184 1 158 (dk_at dksJ15_checkIndex_0 5 rfl rfl)
theorem dJ15_checkIndex_8 : decode cJ15_checkIndex 8 = .ok (.return_, 1) := dk_177 (dk_at dksJ15_checkIndex_0 8 rfl rfl)
abbrev cJ15_indexOf : ByteArray := prog_45_method_40_code
def yJ15_indexOf : MethodName := ⟨RJ15, "indexOf", "([BIII)I"⟩
def dkwJ15_indexOf_1 : List UInt8 := [18, 227, 162, 0, 11, 42, 27, 28, 29, 184, 0, 228, 172, 42, 27, 28, 29, 184, 0, 232, 172]
abbrev dktJ15_indexOf_1 : List UInt8 := dkwJ15_indexOf_1 ++ []
def dkwJ15_indexOf_0 : List UInt8 := [28, 3, 184, 0, 224, 61, 29, 42, 190, 4, 122, 184, 0, 183, 62, 28, 29, 161, 0, 5, 2, 172, 27]
abbrev dktJ15_indexOf_0 : List UInt8 := dkwJ15_indexOf_0 ++ dktJ15_indexOf_1
theorem dksJ15_indexOf_0 : cJ15_indexOf.data.toList.drop 0 = dktJ15_indexOf_0 := by decide +kernel
theorem dksJ15_indexOf_1 : cJ15_indexOf.data.toList.drop 23 = dktJ15_indexOf_1 := dk_seg dksJ15_indexOf_0 23 rfl rfl
theorem dJ15_indexOf_0 : decode cJ15_indexOf 0 = .ok (.iload_n 2, 1) := dk_28 (dk_at dksJ15_indexOf_0 0 rfl rfl)
theorem dJ15_indexOf_1 : decode cJ15_indexOf 1 = .ok (.iconst 0, 1) := dk_3 (dk_at dksJ15_indexOf_0 1 rfl rfl)
theorem dJ15_indexOf_2 : decode cJ15_indexOf 2 = .ok (.invokestatic 224, 3) := dk_184 0 224 (dk_at dksJ15_indexOf_0 2 rfl rfl)
theorem dJ15_indexOf_5 : decode cJ15_indexOf 5 = .ok (.istore_n 2, 1) := dk_61 (dk_at dksJ15_indexOf_0 5 rfl rfl)
theorem dJ15_indexOf_6 : decode cJ15_indexOf 6 = .ok (.iload_n 3, 1) := dk_29 (dk_at dksJ15_indexOf_0 6 rfl rfl)
theorem dJ15_indexOf_7 : decode cJ15_indexOf 7 = .ok (.aload_n 0, 1) := dk_42 (dk_at dksJ15_indexOf_0 7 rfl rfl)
theorem dJ15_indexOf_8 : decode cJ15_indexOf 8 = .ok (.arraylength, 1) := dk_190 (dk_at dksJ15_indexOf_0 8 rfl rfl)
theorem dJ15_indexOf_9 : decode cJ15_indexOf 9 = .ok (.iconst 1, 1) := dk_4 (dk_at dksJ15_indexOf_0 9 rfl rfl)
theorem dJ15_indexOf_10 : decode cJ15_indexOf 10 = .ok (.ishr, 1) := dk_122 (dk_at dksJ15_indexOf_0 10 rfl rfl)
theorem dJ15_indexOf_11 : decode cJ15_indexOf 11 = .ok (.invokestatic 183, 3) := dk_184 0 183 (dk_at dksJ15_indexOf_0 11 rfl rfl)
theorem dJ15_indexOf_14 : decode cJ15_indexOf 14 = .ok (.istore_n 3, 1) := dk_62 (dk_at dksJ15_indexOf_0 14 rfl rfl)
theorem dJ15_indexOf_15 : decode cJ15_indexOf 15 = .ok (.iload_n 2, 1) := dk_28 (dk_at dksJ15_indexOf_0 15 rfl rfl)
theorem dJ15_indexOf_16 : decode cJ15_indexOf 16 = .ok (.iload_n 3, 1) := dk_29 (dk_at dksJ15_indexOf_0 16 rfl rfl)
theorem dJ15_indexOf_17 : decode cJ15_indexOf 17 = .ok (.if_icmp .lt 5, 3) := dk_161 0 5 (dk_at dksJ15_indexOf_0 17 rfl rfl)
theorem dJ15_indexOf_20 : decode cJ15_indexOf 20 = .ok (.iconst (-1), 1) := dk_2 (dk_at dksJ15_indexOf_0 20 rfl rfl)
theorem dJ15_indexOf_21 : decode cJ15_indexOf 21 = .ok (.ireturn, 1) := dk_172 (dk_at dksJ15_indexOf_0 21 rfl rfl)
theorem dJ15_indexOf_22 : decode cJ15_indexOf 22 = .ok (.iload_n 1, 1) := dk_27 (dk_at dksJ15_indexOf_0 22 rfl rfl)
theorem dJ15_indexOf_23 : decode cJ15_indexOf 23 = .ok (.ldc 227, 2) := dk_18 227 (dk_at dksJ15_indexOf_1 0 rfl rfl)
theorem dJ15_indexOf_25 : decode cJ15_indexOf 25 = .ok (.if_icmp .ge 11, 3) := dk_162 0 11 (dk_at dksJ15_indexOf_1 2 rfl rfl)
theorem dJ15_indexOf_28 : decode cJ15_indexOf 28 = .ok (.aload_n 0, 1) := dk_42 (dk_at dksJ15_indexOf_1 5 rfl rfl)
theorem dJ15_indexOf_29 : decode cJ15_indexOf 29 = .ok (.iload_n 1, 1) := dk_27 (dk_at dksJ15_indexOf_1 6 rfl rfl)
theorem dJ15_indexOf_30 : decode cJ15_indexOf 30 = .ok (.iload_n 2, 1) := dk_28 (dk_at dksJ15_indexOf_1 7 rfl rfl)
theorem dJ15_indexOf_31 : decode cJ15_indexOf 31 = .ok (.iload_n 3, 1) := dk_29 (dk_at dksJ15_indexOf_1 8 rfl rfl)
theorem dJ15_indexOf_32 : decode cJ15_indexOf 32 = .ok (.invokestatic 228, 3) := dk_184 0 228 (dk_at dksJ15_indexOf_1 9 rfl rfl)
theorem dJ15_indexOf_35 : decode cJ15_indexOf 35 = .ok (.ireturn, 1) := dk_172 (dk_at dksJ15_indexOf_1 12 rfl rfl)
theorem dJ15_indexOf_36 : decode cJ15_indexOf 36 = .ok (.aload_n 0, 1) := dk_42 (dk_at dksJ15_indexOf_1 13 rfl rfl)
theorem dJ15_indexOf_37 : decode cJ15_indexOf 37 = .ok (.iload_n 1, 1) := dk_27 (dk_at dksJ15_indexOf_1 14 rfl rfl)
theorem dJ15_indexOf_38 : decode cJ15_indexOf 38 = .ok (.iload_n 2, 1) := dk_28 (dk_at dksJ15_indexOf_1 15 rfl rfl)
theorem dJ15_indexOf_39 : decode cJ15_indexOf 39 = .ok (.iload_n 3, 1) := dk_29 (dk_at dksJ15_indexOf_1 16 rfl rfl)
theorem dJ15_indexOf_40 : decode cJ15_indexOf 40 = .ok (.invokestatic 232, 3) := dk_184 0 232 (dk_at dksJ15_indexOf_1 17 rfl rfl)
theorem dJ15_indexOf_43 : decode cJ15_indexOf 43 = .ok (.ireturn, 1) := dk_172 (dk_at dksJ15_indexOf_1 20 rfl rfl)
abbrev cJ15_indexOfChar : ByteArray := prog_45_method_47_code
def yJ15_indexOfChar : MethodName := ⟨RJ15, "indexOfChar", "([BIII)I"⟩
def dkwJ15_indexOfChar_0 : List UInt8 := [28, 29, 42, 184, 0, 96, 42, 27, 28, 29, 184, 0, 244, 172]
abbrev dktJ15_indexOfChar_0 : List UInt8 := dkwJ15_indexOfChar_0 ++ []
theorem dksJ15_indexOfChar_0 : cJ15_indexOfChar.data.toList.drop 0 = dktJ15_indexOfChar_0 := by decide +kernel
theorem dJ15_indexOfChar_0 : decode cJ15_indexOfChar 0 = .ok (.iload_n 2, 1) := dk_28 (dk_at dksJ15_indexOfChar_0 0 rfl rfl)
theorem dJ15_indexOfChar_1 : decode cJ15_indexOfChar 1 = .ok (.iload_n 3, 1) := dk_29 (dk_at dksJ15_indexOfChar_0 1 rfl rfl)
theorem dJ15_indexOfChar_2 : decode cJ15_indexOfChar 2 = .ok (.aload_n 0, 1) := dk_42 (dk_at dksJ15_indexOfChar_0 2 rfl rfl)
theorem dJ15_indexOfChar_3 : decode cJ15_indexOfChar 3 = .ok (.invokestatic 96, 3) := dk_184 0 96 (dk_at dksJ15_indexOfChar_0 3 rfl rfl)
theorem dJ15_indexOfChar_6 : decode cJ15_indexOfChar 6 = .ok (.aload_n 0, 1) := dk_42 (dk_at dksJ15_indexOfChar_0 6 rfl rfl)
theorem dJ15_indexOfChar_7 : decode cJ15_indexOfChar 7 = .ok (.iload_n 1, 1) := dk_27 (dk_at dksJ15_indexOfChar_0 7 rfl rfl)
theorem dJ15_indexOfChar_8 : decode cJ15_indexOfChar 8 = .ok (.iload_n 2, 1) := dk_28 (dk_at dksJ15_indexOfChar_0 8 rfl rfl)
theorem dJ15_indexOfChar_9 : decode cJ15_indexOfChar 9 = .ok (.iload_n 3, 1) := dk_29 (dk_at dksJ15_indexOfChar_0 9 rfl rfl)
theorem dJ15_indexOfChar_10 : decode cJ15_indexOfChar 10 = .ok (.invokestatic 244, 3) := dk_184 0 244 (dk_at dksJ15_indexOfChar_0 10 rfl rfl)
theorem dJ15_indexOfChar_13 : decode cJ15_indexOfChar 13 = .ok (.ireturn, 1) := dk_172 (dk_at dksJ15_indexOfChar_0 13 rfl rfl)
abbrev cJ15_indexOfCharUnsafe : ByteArray := prog_45_method_48_code
def yJ15_indexOfCharUnsafe : MethodName := ⟨RJ15, "indexOfCharUnsafe", "([BIII)I"⟩
def dkwJ15_indexOfCharUnsafe_1 : List UInt8 := [132, 4, 1, 167, 255, 234, 2, 172]
abbrev dktJ15_indexOfCharUnsafe_1 : List UInt8 := dkwJ15_indexOfCharUnsafe_1 ++ []
def dkwJ15_indexOfCharUnsafe_0 : List UInt8 := [28, 54, 4, 21, 4, 29, 162, 0, 22, 42, 21, 4, 184, 0, 71, 27, 160, 0, 6, 21, 4, 172]
abbrev dktJ15_indexOfCharUnsafe_0 : List UInt8 := dkwJ15_indexOfCharUnsafe_0 ++ dktJ15_indexOfCharUnsafe_1
theorem dksJ15_indexOfCharUnsafe_0 : cJ15_indexOfCharUnsafe.data.toList.drop 0 = dktJ15_indexOfCharUnsafe_0 := by decide +kernel
theorem dksJ15_indexOfCharUnsafe_1 : cJ15_indexOfCharUnsafe.data.toList.drop 22 = dktJ15_indexOfCharUnsafe_1 := dk_seg dksJ15_indexOfCharUnsafe_0 22 rfl rfl
theorem dJ15_indexOfCharUnsafe_0 : decode cJ15_indexOfCharUnsafe 0 = .ok (.iload_n 2, 1) := dk_28 (dk_at dksJ15_indexOfCharUnsafe_0 0 rfl rfl)
theorem dJ15_indexOfCharUnsafe_1 : decode cJ15_indexOfCharUnsafe 1 = .ok (.istore 4, 2) := dk_54 4 (dk_at dksJ15_indexOfCharUnsafe_0 1 rfl rfl)
theorem dJ15_indexOfCharUnsafe_3 : decode cJ15_indexOfCharUnsafe 3 = .ok (.iload 4, 2) := dk_21 4 (dk_at dksJ15_indexOfCharUnsafe_0 3 rfl rfl)
theorem dJ15_indexOfCharUnsafe_5 : decode cJ15_indexOfCharUnsafe 5 = .ok (.iload_n 3, 1) := dk_29 (dk_at dksJ15_indexOfCharUnsafe_0 5 rfl rfl)
theorem dJ15_indexOfCharUnsafe_6 : decode cJ15_indexOfCharUnsafe 6 = .ok (.if_icmp .ge 22, 3) := dk_162 0 22 (dk_at dksJ15_indexOfCharUnsafe_0 6 rfl rfl)
theorem dJ15_indexOfCharUnsafe_9 : decode cJ15_indexOfCharUnsafe 9 = .ok (.aload_n 0, 1) := dk_42 (dk_at dksJ15_indexOfCharUnsafe_0 9 rfl rfl)
theorem dJ15_indexOfCharUnsafe_10 : decode cJ15_indexOfCharUnsafe 10 = .ok (.iload 4, 2) := dk_21 4 (dk_at dksJ15_indexOfCharUnsafe_0 10 rfl rfl)
theorem dJ15_indexOfCharUnsafe_12 : decode cJ15_indexOfCharUnsafe 12 = .ok (.invokestatic 71, 3) := dk_184 0 71 (dk_at dksJ15_indexOfCharUnsafe_0 12 rfl rfl)
theorem dJ15_indexOfCharUnsafe_15 : decode cJ15_indexOfCharUnsafe 15 = .ok (.iload_n 1, 1) := dk_27 (dk_at dksJ15_indexOfCharUnsafe_0 15 rfl rfl)
theorem dJ15_indexOfCharUnsafe_16 : decode cJ15_indexOfCharUnsafe 16 = .ok (.if_icmp .ne 6, 3) := dk_160 0 6 (dk_at dksJ15_indexOfCharUnsafe_0 16 rfl rfl)
theorem dJ15_indexOfCharUnsafe_19 : decode cJ15_indexOfCharUnsafe 19 = .ok (.iload 4, 2) := dk_21 4 (dk_at dksJ15_indexOfCharUnsafe_0 19 rfl rfl)
theorem dJ15_indexOfCharUnsafe_21 : decode cJ15_indexOfCharUnsafe 21 = .ok (.ireturn, 1) := dk_172 (dk_at dksJ15_indexOfCharUnsafe_0 21 rfl rfl)
theorem dJ15_indexOfCharUnsafe_22 : decode cJ15_indexOfCharUnsafe 22 = .ok (.iinc 4 1, 3) := dk_132 4 1 (dk_at dksJ15_indexOfCharUnsafe_1 0 rfl rfl)
theorem dJ15_indexOfCharUnsafe_25 : decode cJ15_indexOfCharUnsafe 25 = .ok (.goto (-22), 3) := dk_167 255 234 (dk_at dksJ15_indexOfCharUnsafe_1 3 rfl rfl)
theorem dJ15_indexOfCharUnsafe_28 : decode cJ15_indexOfCharUnsafe 28 = .ok (.iconst (-1), 1) := dk_2 (dk_at dksJ15_indexOfCharUnsafe_1 6 rfl rfl)
theorem dJ15_indexOfCharUnsafe_29 : decode cJ15_indexOfCharUnsafe 29 = .ok (.ireturn, 1) := dk_172 (dk_at dksJ15_indexOfCharUnsafe_1 7 rfl rfl)
abbrev cJ15_indexOfSupplementary : ByteArray := prog_45_method_49_code
def yJ15_indexOfSupplementary : MethodName := ⟨RJ15, "indexOfSupplementary", "([BIII)I"⟩
def dkwJ15_indexOfSupplementary_3 : List UInt8 := [167, 255, 218, 2, 172]
abbrev dktJ15_indexOfSupplementary_3 : List UInt8 := dkwJ15_indexOfSupplementary_3 ++ []
def dkwJ15_indexOfSupplementary_2 : List UInt8 := [160, 0, 19, 42, 21, 6, 4, 96, 184, 0, 71, 21, 5, 160, 0, 6, 21, 6, 172, 132, 6, 1]
abbrev dktJ15_indexOfSupplementary_2 : List UInt8 := dkwJ15_indexOfSupplementary_2 ++ dktJ15_indexOfSupplementary_3
def dkwJ15_indexOfSupplementary_1 : List UInt8 := [184, 0, 96, 28, 54, 6, 21, 6, 29, 4, 100, 162, 0, 36, 42, 21, 6, 184, 0, 71, 21, 4]
abbrev dktJ15_indexOfSupplementary_1 : List UInt8 := dkwJ15_indexOfSupplementary_1 ++ dktJ15_indexOfSupplementary_2
def dkwJ15_indexOfSupplementary_0 : List UInt8 := [27, 184, 0, 164, 153, 0, 65, 27, 184, 0, 157, 54, 4, 27, 184, 0, 161, 54, 5, 28, 29, 42]
abbrev dktJ15_indexOfSupplementary_0 : List UInt8 := dkwJ15_indexOfSupplementary_0 ++ dktJ15_indexOfSupplementary_1
theorem dksJ15_indexOfSupplementary_0 : cJ15_indexOfSupplementary.data.toList.drop 0 = dktJ15_indexOfSupplementary_0 := by decide +kernel
theorem dksJ15_indexOfSupplementary_1 : cJ15_indexOfSupplementary.data.toList.drop 22 = dktJ15_indexOfSupplementary_1 := dk_seg dksJ15_indexOfSupplementary_0 22 rfl rfl
theorem dksJ15_indexOfSupplementary_2 : cJ15_indexOfSupplementary.data.toList.drop 44 = dktJ15_indexOfSupplementary_2 := dk_seg dksJ15_indexOfSupplementary_1 22 rfl rfl
theorem dksJ15_indexOfSupplementary_3 : cJ15_indexOfSupplementary.data.toList.drop 66 = dktJ15_indexOfSupplementary_3 := dk_seg dksJ15_indexOfSupplementary_2 22 rfl rfl
theorem dJ15_indexOfSupplementary_0 : decode cJ15_indexOfSupplementary 0 = .ok (.iload_n 1, 1) := dk_27 (dk_at dksJ15_indexOfSupplementary_0 0 rfl rfl)
theorem dJ15_indexOfSupplementary_1 : decode cJ15_indexOfSupplementary 1 = .ok (.invokestatic 164, 3) := dk_184 0 164 (dk_at dksJ15_indexOfSupplementary_0 1 rfl rfl)
theorem dJ15_indexOfSupplementary_4 : decode cJ15_indexOfSupplementary 4 = .ok (.ifCond .eq 65, 3) := dk_153 0 65 (dk_at dksJ15_indexOfSupplementary_0 4 rfl rfl)
theorem dJ15_indexOfSupplementary_7 : decode cJ15_indexOfSupplementary 7 = .ok (.iload_n 1, 1) := dk_27 (dk_at dksJ15_indexOfSupplementary_0 7 rfl rfl)
theorem dJ15_indexOfSupplementary_8 : decode cJ15_indexOfSupplementary 8 = .ok (.invokestatic 157, 3) := dk_184 0 157 (dk_at dksJ15_indexOfSupplementary_0 8 rfl rfl)
theorem dJ15_indexOfSupplementary_11 : decode cJ15_indexOfSupplementary 11 = .ok (.istore 4, 2) := dk_54 4 (dk_at dksJ15_indexOfSupplementary_0 11 rfl rfl)
theorem dJ15_indexOfSupplementary_13 : decode cJ15_indexOfSupplementary 13 = .ok (.iload_n 1, 1) := dk_27 (dk_at dksJ15_indexOfSupplementary_0 13 rfl rfl)
theorem dJ15_indexOfSupplementary_14 : decode cJ15_indexOfSupplementary 14 = .ok (.invokestatic 161, 3) := dk_184 0 161 (dk_at dksJ15_indexOfSupplementary_0 14 rfl rfl)
theorem dJ15_indexOfSupplementary_17 : decode cJ15_indexOfSupplementary 17 = .ok (.istore 5, 2) := dk_54 5 (dk_at dksJ15_indexOfSupplementary_0 17 rfl rfl)
theorem dJ15_indexOfSupplementary_19 : decode cJ15_indexOfSupplementary 19 = .ok (.iload_n 2, 1) := dk_28 (dk_at dksJ15_indexOfSupplementary_0 19 rfl rfl)
theorem dJ15_indexOfSupplementary_20 : decode cJ15_indexOfSupplementary 20 = .ok (.iload_n 3, 1) := dk_29 (dk_at dksJ15_indexOfSupplementary_0 20 rfl rfl)
theorem dJ15_indexOfSupplementary_21 : decode cJ15_indexOfSupplementary 21 = .ok (.aload_n 0, 1) := dk_42 (dk_at dksJ15_indexOfSupplementary_0 21 rfl rfl)
theorem dJ15_indexOfSupplementary_22 : decode cJ15_indexOfSupplementary 22 = .ok (.invokestatic 96, 3) := dk_184 0 96 (dk_at dksJ15_indexOfSupplementary_1 0 rfl rfl)
theorem dJ15_indexOfSupplementary_25 : decode cJ15_indexOfSupplementary 25 = .ok (.iload_n 2, 1) := dk_28 (dk_at dksJ15_indexOfSupplementary_1 3 rfl rfl)
theorem dJ15_indexOfSupplementary_26 : decode cJ15_indexOfSupplementary 26 = .ok (.istore 6, 2) := dk_54 6 (dk_at dksJ15_indexOfSupplementary_1 4 rfl rfl)
theorem dJ15_indexOfSupplementary_28 : decode cJ15_indexOfSupplementary 28 = .ok (.iload 6, 2) := dk_21 6 (dk_at dksJ15_indexOfSupplementary_1 6 rfl rfl)
theorem dJ15_indexOfSupplementary_30 : decode cJ15_indexOfSupplementary 30 = .ok (.iload_n 3, 1) := dk_29 (dk_at dksJ15_indexOfSupplementary_1 8 rfl rfl)
theorem dJ15_indexOfSupplementary_31 : decode cJ15_indexOfSupplementary 31 = .ok (.iconst 1, 1) := dk_4 (dk_at dksJ15_indexOfSupplementary_1 9 rfl rfl)
theorem dJ15_indexOfSupplementary_32 : decode cJ15_indexOfSupplementary 32 = .ok (.isub, 1) := dk_100 (dk_at dksJ15_indexOfSupplementary_1 10 rfl rfl)
theorem dJ15_indexOfSupplementary_33 : decode cJ15_indexOfSupplementary 33 = .ok (.if_icmp .ge 36, 3) := dk_162 0 36 (dk_at dksJ15_indexOfSupplementary_1 11 rfl rfl)
theorem dJ15_indexOfSupplementary_36 : decode cJ15_indexOfSupplementary 36 = .ok (.aload_n 0, 1) := dk_42 (dk_at dksJ15_indexOfSupplementary_1 14 rfl rfl)
theorem dJ15_indexOfSupplementary_37 : decode cJ15_indexOfSupplementary 37 = .ok (.iload 6, 2) := dk_21 6 (dk_at dksJ15_indexOfSupplementary_1 15 rfl rfl)
theorem dJ15_indexOfSupplementary_39 : decode cJ15_indexOfSupplementary 39 = .ok (.invokestatic 71, 3) := dk_184 0 71 (dk_at dksJ15_indexOfSupplementary_1 17 rfl rfl)
theorem dJ15_indexOfSupplementary_42 : decode cJ15_indexOfSupplementary 42 = .ok (.iload 4, 2) := dk_21 4 (dk_at dksJ15_indexOfSupplementary_1 20 rfl rfl)
theorem dJ15_indexOfSupplementary_44 : decode cJ15_indexOfSupplementary 44 = .ok (.if_icmp .ne 19, 3) := dk_160 0 19 (dk_at dksJ15_indexOfSupplementary_2 0 rfl rfl)
theorem dJ15_indexOfSupplementary_47 : decode cJ15_indexOfSupplementary 47 = .ok (.aload_n 0, 1) := dk_42 (dk_at dksJ15_indexOfSupplementary_2 3 rfl rfl)
theorem dJ15_indexOfSupplementary_48 : decode cJ15_indexOfSupplementary 48 = .ok (.iload 6, 2) := dk_21 6 (dk_at dksJ15_indexOfSupplementary_2 4 rfl rfl)
theorem dJ15_indexOfSupplementary_50 : decode cJ15_indexOfSupplementary 50 = .ok (.iconst 1, 1) := dk_4 (dk_at dksJ15_indexOfSupplementary_2 6 rfl rfl)
theorem dJ15_indexOfSupplementary_51 : decode cJ15_indexOfSupplementary 51 = .ok (.iadd, 1) := dk_96 (dk_at dksJ15_indexOfSupplementary_2 7 rfl rfl)
theorem dJ15_indexOfSupplementary_52 : decode cJ15_indexOfSupplementary 52 = .ok (.invokestatic 71, 3) := dk_184 0 71 (dk_at dksJ15_indexOfSupplementary_2 8 rfl rfl)
theorem dJ15_indexOfSupplementary_55 : decode cJ15_indexOfSupplementary 55 = .ok (.iload 5, 2) := dk_21 5 (dk_at dksJ15_indexOfSupplementary_2 11 rfl rfl)
theorem dJ15_indexOfSupplementary_57 : decode cJ15_indexOfSupplementary 57 = .ok (.if_icmp .ne 6, 3) := dk_160 0 6 (dk_at dksJ15_indexOfSupplementary_2 13 rfl rfl)
theorem dJ15_indexOfSupplementary_60 : decode cJ15_indexOfSupplementary 60 = .ok (.iload 6, 2) := dk_21 6 (dk_at dksJ15_indexOfSupplementary_2 16 rfl rfl)
theorem dJ15_indexOfSupplementary_62 : decode cJ15_indexOfSupplementary 62 = .ok (.ireturn, 1) := dk_172 (dk_at dksJ15_indexOfSupplementary_2 18 rfl rfl)
theorem dJ15_indexOfSupplementary_63 : decode cJ15_indexOfSupplementary 63 = .ok (.iinc 6 1, 3) := dk_132 6 1 (dk_at dksJ15_indexOfSupplementary_2 19 rfl rfl)
theorem dJ15_indexOfSupplementary_66 : decode cJ15_indexOfSupplementary 66 = .ok (.goto (-38), 3) := dk_167 255 218 (dk_at dksJ15_indexOfSupplementary_3 0 rfl rfl)
theorem dJ15_indexOfSupplementary_69 : decode cJ15_indexOfSupplementary 69 = .ok (.iconst (-1), 1) := dk_2 (dk_at dksJ15_indexOfSupplementary_3 3 rfl rfl)
theorem dJ15_indexOfSupplementary_70 : decode cJ15_indexOfSupplementary 70 = .ok (.ireturn, 1) := dk_172 (dk_at dksJ15_indexOfSupplementary_3 4 rfl rfl)
abbrev cJ15_fillNull : ByteArray := prog_45_method_70_code
def yJ15_fillNull : MethodName := ⟨RJ15, "fillNull", "([BII)V"⟩
def dkwJ15_fillNull_0 : List UInt8 := [42, 27, 4, 120, 28, 4, 120, 3, 184, 1, 124, 177]
abbrev dktJ15_fillNull_0 : List UInt8 := dkwJ15_fillNull_0 ++ []
theorem dksJ15_fillNull_0 : cJ15_fillNull.data.toList.drop 0 = dktJ15_fillNull_0 := by decide +kernel
theorem dJ15_fillNull_0 : decode cJ15_fillNull 0 = .ok (.aload_n 0, 1) := dk_42 (dk_at dksJ15_fillNull_0 0 rfl rfl)
theorem dJ15_fillNull_1 : decode cJ15_fillNull 1 = .ok (.iload_n 1, 1) := dk_27 (dk_at dksJ15_fillNull_0 1 rfl rfl)
theorem dJ15_fillNull_2 : decode cJ15_fillNull 2 = .ok (.iconst 1, 1) := dk_4 (dk_at dksJ15_fillNull_0 2 rfl rfl)
theorem dJ15_fillNull_3 : decode cJ15_fillNull 3 = .ok (.ishl, 1) := dk_120 (dk_at dksJ15_fillNull_0 3 rfl rfl)
theorem dJ15_fillNull_4 : decode cJ15_fillNull 4 = .ok (.iload_n 2, 1) := dk_28 (dk_at dksJ15_fillNull_0 4 rfl rfl)
theorem dJ15_fillNull_5 : decode cJ15_fillNull 5 = .ok (.iconst 1, 1) := dk_4 (dk_at dksJ15_fillNull_0 5 rfl rfl)
theorem dJ15_fillNull_6 : decode cJ15_fillNull 6 = .ok (.ishl, 1) := dk_120 (dk_at dksJ15_fillNull_0 6 rfl rfl)
theorem dJ15_fillNull_7 : decode cJ15_fillNull 7 = .ok (.iconst 0, 1) := dk_3 (dk_at dksJ15_fillNull_0 7 rfl rfl)
theorem dJ15_fillNull_8 : decode cJ15_fillNull 8 = .ok (.invokestatic 380, 3) := dk_184 1 124 (dk_at dksJ15_fillNull_0 8 rfl rfl)
theorem dJ15_fillNull_11 : decode cJ15_fillNull 11 = .ok (.return_, 1) := dk_177 (dk_at dksJ15_fillNull_0 11 rfl rfl)
abbrev cJ15_getChars : ByteArray := prog_45_method_77_code
def yJ15_getChars : MethodName := ⟨RJ15, "getChars", "(III[B)I"⟩
def dkwJ15_getChars_1 : List UInt8 := [159, 0, 11, 187, 0, 52, 89, 183, 0, 66, 191, 21, 4, 172]
abbrev dktJ15_getChars_1 : List UInt8 := dkwJ15_getChars_1 ++ []
def dkwJ15_getChars_0 : List UInt8 := [27, 28, 45, 184, 0, 96, 26, 28, 45, 184, 1, 137, 54, 4, 178, 0, 44, 154, 0, 17, 27, 21, 4]
abbrev dktJ15_getChars_0 : List UInt8 := dkwJ15_getChars_0 ++ dktJ15_getChars_1
theorem dksJ15_getChars_0 : cJ15_getChars.data.toList.drop 0 = dktJ15_getChars_0 := by decide +kernel
theorem dksJ15_getChars_1 : cJ15_getChars.data.toList.drop 23 = dktJ15_getChars_1 := dk_seg dksJ15_getChars_0 23 rfl rfl
theorem dJ15_getChars_0 : decode cJ15_getChars 0 = .ok (.iload_n 1, 1) := dk_27 (dk_at dksJ15_getChars_0 0 rfl rfl)
theorem dJ15_getChars_1 : decode cJ15_getChars 1 = .ok (.iload_n 2, 1) := dk_28 (dk_at dksJ15_getChars_0 1 rfl rfl)
theorem dJ15_getChars_2 : decode cJ15_getChars 2 = .ok (.aload_n 3, 1) := dk_45 (dk_at dksJ15_getChars_0 2 rfl rfl)
theorem dJ15_getChars_3 : decode cJ15_getChars 3 = .ok (.invokestatic 96, 3) := dk_184 0 96 (dk_at dksJ15_getChars_0 3 rfl rfl)
theorem dJ15_getChars_6 : decode cJ15_getChars 6 = .ok (.iload_n 0, 1) := dk_26 (dk_at dksJ15_getChars_0 6 rfl rfl)
theorem dJ15_getChars_7 : decode cJ15_getChars 7 = .ok (.iload_n 2, 1) := dk_28 (dk_at dksJ15_getChars_0 7 rfl rfl)
theorem dJ15_getChars_8 : decode cJ15_getChars 8 = .ok (.aload_n 3, 1) := dk_45 (dk_at dksJ15_getChars_0 8 rfl rfl)
theorem dJ15_getChars_9 : decode cJ15_getChars 9 = .ok (.invokestatic 393, 3) := dk_184 1 137 (dk_at dksJ15_getChars_0 9 rfl rfl)
theorem dJ15_getChars_12 : decode cJ15_getChars 12 = .ok (.istore 4, 2) := dk_54 4 (dk_at dksJ15_getChars_0 12 rfl rfl)
theorem dJ15_getChars_14 : decode cJ15_getChars 14 = .ok (.getstatic 44, 3) := dk_178 0 44 (dk_at dksJ15_getChars_0 14 rfl rfl)
theorem dJ15_getChars_17 : decode cJ15_getChars 17 = .ok (.ifCond .ne 17, 3) := dk_154 0 17 (dk_at dksJ15_getChars_0 17 rfl rfl)
theorem dJ15_getChars_20 : decode cJ15_getChars 20 = .ok (.iload_n 1, 1) := dk_27 (dk_at dksJ15_getChars_0 20 rfl rfl)
theorem dJ15_getChars_21 : decode cJ15_getChars 21 = .ok (.iload 4, 2) := dk_21 4 (dk_at dksJ15_getChars_0 21 rfl rfl)
theorem dJ15_getChars_23 : decode cJ15_getChars 23 = .ok (.if_icmp .eq 11, 3) := dk_159 0 11 (dk_at dksJ15_getChars_1 0 rfl rfl)
theorem dJ15_getChars_26 : decode cJ15_getChars 26 = .ok (.new 52, 3) := dk_187 0 52 (dk_at dksJ15_getChars_1 3 rfl rfl)
theorem dJ15_getChars_29 : decode cJ15_getChars 29 = .ok (.dup, 1) := dk_89 (dk_at dksJ15_getChars_1 6 rfl rfl)
theorem dJ15_getChars_30 : decode cJ15_getChars 30 = .ok (.invokespecial 66, 3) := dk_183 0 66 (dk_at dksJ15_getChars_1 7 rfl rfl)
theorem dJ15_getChars_33 : decode cJ15_getChars 33 = .ok (.athrow, 1) := dk_191 (dk_at dksJ15_getChars_1 10 rfl rfl)
theorem dJ15_getChars_34 : decode cJ15_getChars 34 = .ok (.iload 4, 2) := dk_21 4 (dk_at dksJ15_getChars_1 11 rfl rfl)
theorem dJ15_getChars_36 : decode cJ15_getChars 36 = .ok (.ireturn, 1) := dk_172 (dk_at dksJ15_getChars_1 13 rfl rfl)
abbrev cJ15_getChars_2 : ByteArray := prog_45_method_89_code
def yJ15_getChars_2 : MethodName := ⟨RJ15, "getChars", "(II[B)I"⟩
def dkwJ15_getChars_2_5 : List UInt8 := [132, 5, 255, 21, 5, 16, 45, 184, 0, 111, 21, 5, 172]
abbrev dktJ15_getChars_2_5 : List UInt8 := dkwJ15_getChars_2_5 ++ []
def dkwJ15_getChars_2_4 : List UInt8 := [162, 0, 18, 44, 132, 5, 255, 21, 5, 178, 1, 151, 26, 116, 51, 184, 0, 111, 21, 6, 153, 0, 14, 44]
abbrev dktJ15_getChars_2_4 : List UInt8 := dkwJ15_getChars_2_4 ++ dktJ15_getChars_2_5
def dkwJ15_getChars_2_3 : List UInt8 := [184, 0, 111, 167, 255, 205, 44, 132, 5, 255, 21, 5, 178, 1, 147, 26, 116, 51, 184, 0, 111, 26, 16, 247]
abbrev dktJ15_getChars_2_3 : List UInt8 := dkwJ15_getChars_2_3 ++ dktJ15_getChars_2_4
def dkwJ15_getChars_2_2 : List UInt8 := [21, 5, 178, 1, 147, 21, 4, 51, 184, 0, 111, 44, 132, 5, 255, 21, 5, 178, 1, 151, 21, 4, 51]
abbrev dktJ15_getChars_2_2 : List UInt8 := dkwJ15_getChars_2_2 ++ dktJ15_getChars_2_3
def dkwJ15_getChars_2_1 : List UInt8 := [16, 156, 163, 0, 51, 26, 16, 100, 108, 62, 29, 16, 100, 104, 26, 100, 54, 4, 29, 59, 44, 132, 5, 255]
abbrev dktJ15_getChars_2_1 : List UInt8 := dkwJ15_getChars_2_1 ++ dktJ15_getChars_2_2
def dkwJ15_getChars_2_0 : List UInt8 := [27, 54, 5, 26, 156, 0, 7, 4, 167, 0, 4, 3, 54, 6, 21, 6, 154, 0, 6, 26, 116, 59, 26]
abbrev dktJ15_getChars_2_0 : List UInt8 := dkwJ15_getChars_2_0 ++ dktJ15_getChars_2_1
theorem dksJ15_getChars_2_0 : cJ15_getChars_2.data.toList.drop 0 = dktJ15_getChars_2_0 := by decide +kernel
theorem dksJ15_getChars_2_1 : cJ15_getChars_2.data.toList.drop 23 = dktJ15_getChars_2_1 := dk_seg dksJ15_getChars_2_0 23 rfl rfl
theorem dksJ15_getChars_2_2 : cJ15_getChars_2.data.toList.drop 47 = dktJ15_getChars_2_2 := dk_seg dksJ15_getChars_2_1 24 rfl rfl
theorem dksJ15_getChars_2_3 : cJ15_getChars_2.data.toList.drop 70 = dktJ15_getChars_2_3 := dk_seg dksJ15_getChars_2_2 23 rfl rfl
theorem dksJ15_getChars_2_4 : cJ15_getChars_2.data.toList.drop 94 = dktJ15_getChars_2_4 := dk_seg dksJ15_getChars_2_3 24 rfl rfl
theorem dksJ15_getChars_2_5 : cJ15_getChars_2.data.toList.drop 118 = dktJ15_getChars_2_5 := dk_seg dksJ15_getChars_2_4 24 rfl rfl
theorem dJ15_getChars_2_0 : decode cJ15_getChars_2 0 = .ok (.iload_n 1, 1) := dk_27 (dk_at dksJ15_getChars_2_0 0 rfl rfl)
theorem dJ15_getChars_2_1 : decode cJ15_getChars_2 1 = .ok (.istore 5, 2) := dk_54 5 (dk_at dksJ15_getChars_2_0 1 rfl rfl)
theorem dJ15_getChars_2_3 : decode cJ15_getChars_2 3 = .ok (.iload_n 0, 1) := dk_26 (dk_at dksJ15_getChars_2_0 3 rfl rfl)
theorem dJ15_getChars_2_4 : decode cJ15_getChars_2 4 = .ok (.ifCond .ge 7, 3) := dk_156 0 7 (dk_at dksJ15_getChars_2_0 4 rfl rfl)
theorem dJ15_getChars_2_7 : decode cJ15_getChars_2 7 = .ok (.iconst 1, 1) := dk_4 (dk_at dksJ15_getChars_2_0 7 rfl rfl)
theorem dJ15_getChars_2_8 : decode cJ15_getChars_2 8 = .ok (.goto 4, 3) := dk_167 0 4 (dk_at dksJ15_getChars_2_0 8 rfl rfl)
theorem dJ15_getChars_2_11 : decode cJ15_getChars_2 11 = .ok (.iconst 0, 1) := dk_3 (dk_at dksJ15_getChars_2_0 11 rfl rfl)
theorem dJ15_getChars_2_12 : decode cJ15_getChars_2 12 = .ok (.istore 6, 2) := dk_54 6 (dk_at dksJ15_getChars_2_0 12 rfl rfl)
theorem dJ15_getChars_2_14 : decode cJ15_getChars_2 14 = .ok (.iload 6, 2) := dk_21 6 (dk_at dksJ15_getChars_2_0 14 rfl rfl)
theorem dJ15_getChars_2_16 : decode cJ15_getChars_2 16 = .ok (.ifCond .ne 6, 3) := dk_154 0 6 (dk_at dksJ15_getChars_2_0 16 rfl rfl)
theorem dJ15_getChars_2_19 : decode cJ15_getChars_2 19 = .ok (.iload_n 0, 1) := dk_26 (dk_at dksJ15_getChars_2_0 19 rfl rfl)
theorem dJ15_getChars_2_20 : decode cJ15_getChars_2 20 = .ok (.ineg, 1) := dk_116 (dk_at dksJ15_getChars_2_0 20 rfl rfl)
theorem dJ15_getChars_2_21 : decode cJ15_getChars_2 21 = .ok (.istore_n 0, 1) := dk_59 (dk_at dksJ15_getChars_2_0 21 rfl rfl)
theorem dJ15_getChars_2_22 : decode cJ15_getChars_2 22 = .ok (.iload_n 0, 1) := dk_26 (dk_at dksJ15_getChars_2_0 22 rfl rfl)
theorem dJ15_getChars_2_23 : decode cJ15_getChars_2 23 = .ok (.bipush (-100), 2) := dk_16 156 (dk_at dksJ15_getChars_2_1 0 rfl rfl)
theorem dJ15_getChars_2_25 : decode cJ15_getChars_2 25 = .ok (.if_icmp .gt 51, 3) := dk_163 0 51 (dk_at dksJ15_getChars_2_1 2 rfl rfl)
theorem dJ15_getChars_2_28 : decode cJ15_getChars_2 28 = .ok (.iload_n 0, 1) := dk_26 (dk_at dksJ15_getChars_2_1 5 rfl rfl)
theorem dJ15_getChars_2_29 : decode cJ15_getChars_2 29 = .ok (.bipush 100, 2) := dk_16 100 (dk_at dksJ15_getChars_2_1 6 rfl rfl)
theorem dJ15_getChars_2_31 : decode cJ15_getChars_2 31 = .ok (.idiv, 1) := dk_108 (dk_at dksJ15_getChars_2_1 8 rfl rfl)
theorem dJ15_getChars_2_32 : decode cJ15_getChars_2 32 = .ok (.istore_n 3, 1) := dk_62 (dk_at dksJ15_getChars_2_1 9 rfl rfl)
theorem dJ15_getChars_2_33 : decode cJ15_getChars_2 33 = .ok (.iload_n 3, 1) := dk_29 (dk_at dksJ15_getChars_2_1 10 rfl rfl)
theorem dJ15_getChars_2_34 : decode cJ15_getChars_2 34 = .ok (.bipush 100, 2) := dk_16 100 (dk_at dksJ15_getChars_2_1 11 rfl rfl)
theorem dJ15_getChars_2_36 : decode cJ15_getChars_2 36 = .ok (.imul, 1) := dk_104 (dk_at dksJ15_getChars_2_1 13 rfl rfl)
theorem dJ15_getChars_2_37 : decode cJ15_getChars_2 37 = .ok (.iload_n 0, 1) := dk_26 (dk_at dksJ15_getChars_2_1 14 rfl rfl)
theorem dJ15_getChars_2_38 : decode cJ15_getChars_2 38 = .ok (.isub, 1) := dk_100 (dk_at dksJ15_getChars_2_1 15 rfl rfl)
theorem dJ15_getChars_2_39 : decode cJ15_getChars_2 39 = .ok (.istore 4, 2) := dk_54 4 (dk_at dksJ15_getChars_2_1 16 rfl rfl)
theorem dJ15_getChars_2_41 : decode cJ15_getChars_2 41 = .ok (.iload_n 3, 1) := dk_29 (dk_at dksJ15_getChars_2_1 18 rfl rfl)
theorem dJ15_getChars_2_42 : decode cJ15_getChars_2 42 = .ok (.istore_n 0, 1) := dk_59 (dk_at dksJ15_getChars_2_1 19 rfl rfl)
theorem dJ15_getChars_2_43 : decode cJ15_getChars_2 43 = .ok (.aload_n 2, 1) := dk_44 (dk_at dksJ15_getChars_2_1 20 rfl rfl)
theorem dJ15_getChars_2_44 : decode cJ15_getChars_2 44 = .ok (.iinc 5 (-1), 3) := dk_132 5 255 (dk_at dksJ15_getChars_2_1 21 rfl rfl)
theorem dJ15_getChars_2_47 : decode cJ15_getChars_2 47 = .ok (.iload 5, 2) := dk_21 5 (dk_at dksJ15_getChars_2_2 0 rfl rfl)
theorem dJ15_getChars_2_49 : decode cJ15_getChars_2 49 = .ok (.getstatic 403, 3) := dk_178 1 147 (dk_at dksJ15_getChars_2_2 2 rfl rfl)
theorem dJ15_getChars_2_52 : decode cJ15_getChars_2 52 = .ok (.iload 4, 2) := dk_21 4 (dk_at dksJ15_getChars_2_2 5 rfl rfl)
theorem dJ15_getChars_2_54 : decode cJ15_getChars_2 54 = .ok (.baload, 1) := dk_51 (dk_at dksJ15_getChars_2_2 7 rfl rfl)
theorem dJ15_getChars_2_55 : decode cJ15_getChars_2 55 = .ok (.invokestatic 111, 3) := dk_184 0 111 (dk_at dksJ15_getChars_2_2 8 rfl rfl)
theorem dJ15_getChars_2_58 : decode cJ15_getChars_2 58 = .ok (.aload_n 2, 1) := dk_44 (dk_at dksJ15_getChars_2_2 11 rfl rfl)
theorem dJ15_getChars_2_59 : decode cJ15_getChars_2 59 = .ok (.iinc 5 (-1), 3) := dk_132 5 255 (dk_at dksJ15_getChars_2_2 12 rfl rfl)
theorem dJ15_getChars_2_62 : decode cJ15_getChars_2 62 = .ok (.iload 5, 2) := dk_21 5 (dk_at dksJ15_getChars_2_2 15 rfl rfl)
theorem dJ15_getChars_2_64 : decode cJ15_getChars_2 64 = .ok (.getstatic 407, 3) := dk_178 1 151 (dk_at dksJ15_getChars_2_2 17 rfl rfl)
theorem dJ15_getChars_2_67 : decode cJ15_getChars_2 67 = .ok (.iload 4, 2) := dk_21 4 (dk_at dksJ15_getChars_2_2 20 rfl rfl)
theorem dJ15_getChars_2_69 : decode cJ15_getChars_2 69 = .ok (.baload, 1) := dk_51 (dk_at dksJ15_getChars_2_2 22 rfl rfl)
theorem dJ15_getChars_2_70 : decode cJ15_getChars_2 70 = .ok (.invokestatic 111, 3) := dk_184 0 111 (dk_at dksJ15_getChars_2_3 0 rfl rfl)
theorem dJ15_getChars_2_73 : decode cJ15_getChars_2 73 = .ok (.goto (-51), 3) := dk_167 255 205 (dk_at dksJ15_getChars_2_3 3 rfl rfl)
theorem dJ15_getChars_2_76 : decode cJ15_getChars_2 76 = .ok (.aload_n 2, 1) := dk_44 (dk_at dksJ15_getChars_2_3 6 rfl rfl)
theorem dJ15_getChars_2_77 : decode cJ15_getChars_2 77 = .ok (.iinc 5 (-1), 3) := dk_132 5 255 (dk_at dksJ15_getChars_2_3 7 rfl rfl)
theorem dJ15_getChars_2_80 : decode cJ15_getChars_2 80 = .ok (.iload 5, 2) := dk_21 5 (dk_at dksJ15_getChars_2_3 10 rfl rfl)
theorem dJ15_getChars_2_82 : decode cJ15_getChars_2 82 = .ok (.getstatic 403, 3) := dk_178 1 147 (dk_at dksJ15_getChars_2_3 12 rfl rfl)
theorem dJ15_getChars_2_85 : decode cJ15_getChars_2 85 = .ok (.iload_n 0, 1) := dk_26 (dk_at dksJ15_getChars_2_3 15 rfl rfl)
theorem dJ15_getChars_2_86 : decode cJ15_getChars_2 86 = .ok (.ineg, 1) := dk_116 (dk_at dksJ15_getChars_2_3 16 rfl rfl)
theorem dJ15_getChars_2_87 : decode cJ15_getChars_2 87 = .ok (.baload, 1) := dk_51 (dk_at dksJ15_getChars_2_3 17 rfl rfl)
theorem dJ15_getChars_2_88 : decode cJ15_getChars_2 88 = .ok (.invokestatic 111, 3) := dk_184 0 111 (dk_at dksJ15_getChars_2_3 18 rfl rfl)
theorem dJ15_getChars_2_91 : decode cJ15_getChars_2 91 = .ok (.iload_n 0, 1) := dk_26 (dk_at dksJ15_getChars_2_3 21 rfl rfl)
theorem dJ15_getChars_2_92 : decode cJ15_getChars_2 92 = .ok (.bipush (-9), 2) := dk_16 247 (dk_at dksJ15_getChars_2_3 22 rfl rfl)
theorem dJ15_getChars_2_94 : decode cJ15_getChars_2 94 = .ok (.if_icmp .ge 18, 3) := dk_162 0 18 (dk_at dksJ15_getChars_2_4 0 rfl rfl)
theorem dJ15_getChars_2_97 : decode cJ15_getChars_2 97 = .ok (.aload_n 2, 1) := dk_44 (dk_at dksJ15_getChars_2_4 3 rfl rfl)
theorem dJ15_getChars_2_98 : decode cJ15_getChars_2 98 = .ok (.iinc 5 (-1), 3) := dk_132 5 255 (dk_at dksJ15_getChars_2_4 4 rfl rfl)
theorem dJ15_getChars_2_101 : decode cJ15_getChars_2 101 = .ok (.iload 5, 2) := dk_21 5 (dk_at dksJ15_getChars_2_4 7 rfl rfl)
theorem dJ15_getChars_2_103 : decode cJ15_getChars_2 103 = .ok (.getstatic 407, 3) := dk_178 1 151 (dk_at dksJ15_getChars_2_4 9 rfl rfl)
theorem dJ15_getChars_2_106 : decode cJ15_getChars_2 106 = .ok (.iload_n 0, 1) := dk_26 (dk_at dksJ15_getChars_2_4 12 rfl rfl)
theorem dJ15_getChars_2_107 : decode cJ15_getChars_2 107 = .ok (.ineg, 1) := dk_116 (dk_at dksJ15_getChars_2_4 13 rfl rfl)
theorem dJ15_getChars_2_108 : decode cJ15_getChars_2 108 = .ok (.baload, 1) := dk_51 (dk_at dksJ15_getChars_2_4 14 rfl rfl)
theorem dJ15_getChars_2_109 : decode cJ15_getChars_2 109 = .ok (.invokestatic 111, 3) := dk_184 0 111 (dk_at dksJ15_getChars_2_4 15 rfl rfl)
theorem dJ15_getChars_2_112 : decode cJ15_getChars_2 112 = .ok (.iload 6, 2) := dk_21 6 (dk_at dksJ15_getChars_2_4 18 rfl rfl)
theorem dJ15_getChars_2_114 : decode cJ15_getChars_2 114 = .ok (.ifCond .eq 14, 3) := dk_153 0 14 (dk_at dksJ15_getChars_2_4 20 rfl rfl)
theorem dJ15_getChars_2_117 : decode cJ15_getChars_2 117 = .ok (.aload_n 2, 1) := dk_44 (dk_at dksJ15_getChars_2_4 23 rfl rfl)
theorem dJ15_getChars_2_118 : decode cJ15_getChars_2 118 = .ok (.iinc 5 (-1), 3) := dk_132 5 255 (dk_at dksJ15_getChars_2_5 0 rfl rfl)
theorem dJ15_getChars_2_121 : decode cJ15_getChars_2 121 = .ok (.iload 5, 2) := dk_21 5 (dk_at dksJ15_getChars_2_5 3 rfl rfl)
theorem dJ15_getChars_2_123 : decode cJ15_getChars_2 123 = .ok (.bipush 45, 2) := dk_16 45 (dk_at dksJ15_getChars_2_5 5 rfl rfl)
theorem dJ15_getChars_2_125 : decode cJ15_getChars_2 125 = .ok (.invokestatic 111, 3) := dk_184 0 111 (dk_at dksJ15_getChars_2_5 7 rfl rfl)
theorem dJ15_getChars_2_128 : decode cJ15_getChars_2 128 = .ok (.iload 5, 2) := dk_21 5 (dk_at dksJ15_getChars_2_5 10 rfl rfl)
theorem dJ15_getChars_2_130 : decode cJ15_getChars_2 130 = .ok (.ireturn, 1) := dk_172 (dk_at dksJ15_getChars_2_5 12 rfl rfl)
abbrev cJ15_charAt : ByteArray := prog_45_method_83_code
def yJ15_charAt : MethodName := ⟨RJ15, "charAt", "([BI)C"⟩
def dkwJ15_charAt_0 : List UInt8 := [27, 42, 184, 0, 67, 42, 27, 184, 0, 71, 172]
abbrev dktJ15_charAt_0 : List UInt8 := dkwJ15_charAt_0 ++ []
theorem dksJ15_charAt_0 : cJ15_charAt.data.toList.drop 0 = dktJ15_charAt_0 := by decide +kernel
theorem dJ15_charAt_0 : decode cJ15_charAt 0 = .ok (.iload_n 1, 1) := dk_27 (dk_at dksJ15_charAt_0 0 rfl rfl)
theorem dJ15_charAt_1 : decode cJ15_charAt 1 = .ok (.aload_n 0, 1) := dk_42 (dk_at dksJ15_charAt_0 1 rfl rfl)
theorem dJ15_charAt_2 : decode cJ15_charAt 2 = .ok (.invokestatic 67, 3) := dk_184 0 67 (dk_at dksJ15_charAt_0 2 rfl rfl)
theorem dJ15_charAt_5 : decode cJ15_charAt 5 = .ok (.aload_n 0, 1) := dk_42 (dk_at dksJ15_charAt_0 5 rfl rfl)
theorem dJ15_charAt_6 : decode cJ15_charAt 6 = .ok (.iload_n 1, 1) := dk_27 (dk_at dksJ15_charAt_0 6 rfl rfl)
theorem dJ15_charAt_7 : decode cJ15_charAt 7 = .ok (.invokestatic 71, 3) := dk_184 0 71 (dk_at dksJ15_charAt_0 7 rfl rfl)
theorem dJ15_charAt_10 : decode cJ15_charAt 10 = .ok (.ireturn, 1) := dk_172 (dk_at dksJ15_charAt_0 10 rfl rfl)
theorem q126 : (Jvm.Cond.initialized "java/lang/StringUTF16") ∈ lw_all := lw_g (lw_at lw_m1 29 rfl) rfl
theorem q693 : (Jvm.Cond.static ({ cls := "java/lang/StringUTF16", name := "newBytesFor", desc := "(I)[B" } : Jvm.MethodName)) ∈ lw_all := lw_g (lw_at lw_m3 116 rfl) rfl
theorem q694 : (Jvm.Cond.code ({ cls := "java/lang/StringUTF16", name := "newBytesFor", desc := "(I)[B" } : Jvm.MethodName) prog_45_method_2_code (1 : Nat) (Option.some (Jvm.ClassFile.FieldType.array Jvm.ClassFile.FieldType.byte))) ∈ lw_all := lw_g (lw_at lw_m3 117 rfl) rfl
theorem q695 : (Jvm.Cond.methodLink "java/lang/StringUTF16" (11 : Nat) ({ cls := "java/lang/StringUTF16", name := "newBytesLength", desc := "(I)I" } : Jvm.MethodName)) ∈ lw_all := lw_g (lw_at lw_m3 118 rfl) rfl
theorem q696 : (Jvm.Cond.static ({ cls := "java/lang/StringUTF16", name := "newBytesLength", desc := "(I)I" } : Jvm.MethodName)) ∈ lw_all := lw_g (lw_at lw_m3 119 rfl) rfl
theorem q697 : (Jvm.Cond.code ({ cls := "java/lang/StringUTF16", name := "newBytesLength", desc := "(I)I" } : Jvm.MethodName) prog_45_method_3_code (1 : Nat) (Option.some Jvm.ClassFile.FieldType.int)) ∈ lw_all := lw_g (lw_at lw_m3 120 rfl) rfl
theorem q698 : (Jvm.Cond.constant "java/lang/StringUTF16" (20 : Nat) (1073741823 : Int32)) ∈ lw_all := lw_g (lw_at lw_m3 121 rfl) rfl
theorem q1036 : (Jvm.Cond.static ({ cls := "java/lang/StringUTF16", name := "putCharsAt", desc := "([BICCCC)I" } : Jvm.MethodName)) ∈ lw_all := lw_g (lw_at lw_m4 219 rfl) rfl
theorem q1037 : (Jvm.Cond.code ({ cls := "java/lang/StringUTF16", name := "putCharsAt", desc := "([BICCCC)I" } : Jvm.MethodName) prog_45_method_81_code (7 : Nat) (Option.some Jvm.ClassFile.FieldType.int)) ∈ lw_all := lw_g (lw_at lw_m4 220 rfl) rfl
theorem q1038 : (Jvm.Cond.methodLink "java/lang/StringUTF16" (96 : Nat) ({ cls := "java/lang/StringUTF16", name := "checkBoundsBeginEnd", desc := "(II[B)V" } : Jvm.MethodName)) ∈ lw_all := lw_g (lw_at lw_m4 221 rfl) rfl
theorem q1039 : (Jvm.Cond.static ({ cls := "java/lang/StringUTF16", name := "checkBoundsBeginEnd", desc := "(II[B)V" } : Jvm.MethodName)) ∈ lw_all := lw_g (lw_at lw_m4 222 rfl) rfl
theorem q1040 : (Jvm.Cond.code ({ cls := "java/lang/StringUTF16", name := "checkBoundsBeginEnd", desc := "(II[B)V" } : Jvm.MethodName) prog_45_method_93_code (3 : Nat) (Option.none : Option Jvm.ClassFile.FieldType)) ∈ lw_all := lw_g (lw_at lw_m4 223 rfl) rfl
theorem q1041 : (Jvm.Cond.methodLink "java/lang/StringUTF16" (48 : Nat) ({ cls := "java/lang/StringUTF16", name := "length", desc := "([B)I" } : Jvm.MethodName)) ∈ lw_all := lw_g (lw_at lw_m4 224 rfl) rfl
theorem q1042 : (Jvm.Cond.static ({ cls := "java/lang/StringUTF16", name := "length", desc := "([B)I" } : Jvm.MethodName)) ∈ lw_all := lw_g (lw_at lw_m4 225 rfl) rfl
theorem q1043 : (Jvm.Cond.code ({ cls := "java/lang/StringUTF16", name := "length", desc := "([B)I" } : Jvm.MethodName) prog_45_method_6_code (1 : Nat) (Option.some Jvm.ClassFile.FieldType.int)) ∈ lw_all := lw_g (lw_at lw_m4 226 rfl) rfl
theorem q1044 : (Jvm.Cond.methodLink "java/lang/StringUTF16" (241 : Nat) ({ cls := "java/lang/String", name := "checkBoundsBeginEnd", desc := "(III)V" } : Jvm.MethodName)) ∈ lw_all := lw_g (lw_at lw_m4 227 rfl) rfl
theorem q1052 : (Jvm.Cond.methodLink "java/lang/StringUTF16" (111 : Nat) ({ cls := "java/lang/StringUTF16", name := "putChar", desc := "([BII)V" } : Jvm.MethodName)) ∈ lw_all := lw_g (lw_at lw_m4 235 rfl) rfl
theorem q1053 : (Jvm.Cond.static ({ cls := "java/lang/StringUTF16", name := "putChar", desc := "([BII)V" } : Jvm.MethodName)) ∈ lw_all := lw_g (lw_at lw_m4 236 rfl) rfl
theorem q1054 : (Jvm.Cond.code ({ cls := "java/lang/StringUTF16", name := "putChar", desc := "([BII)V" } : Jvm.MethodName) prog_45_method_4_code (3 : Nat) (Option.none : Option Jvm.ClassFile.FieldType)) ∈ lw_all := lw_g (lw_at lw_m4 237 rfl) rfl
theorem q1055 : (Jvm.Cond.fieldLink "java/lang/StringUTF16" (44 : Nat) "java/lang/StringUTF16" "$assertionsDisabled" "Z") ∈ lw_all := lw_g (lw_at lw_m4 238 rfl) rfl
theorem q1056 : (Jvm.Cond.laysStatic "java/lang/StringUTF16" "$assertionsDisabled" "Z") ∈ lw_tbl := lw_at lw_m4 239 rfl
theorem q1057 : (Jvm.Cond.fieldLink "java/lang/StringUTF16" (59 : Nat) "java/lang/StringUTF16" "HI_BYTE_SHIFT" "I") ∈ lw_all := lw_g (lw_at lw_m5 0 rfl) rfl
theorem q1058 : (Jvm.Cond.laysStatic "java/lang/StringUTF16" "HI_BYTE_SHIFT" "I") ∈ lw_tbl := lw_at lw_m5 1 rfl
theorem q1059 : (Jvm.Cond.fieldLink "java/lang/StringUTF16" (63 : Nat) "java/lang/StringUTF16" "LO_BYTE_SHIFT" "I") ∈ lw_all := lw_g (lw_at lw_m5 2 rfl) rfl
theorem q1060 : (Jvm.Cond.laysStatic "java/lang/StringUTF16" "LO_BYTE_SHIFT" "I") ∈ lw_tbl := lw_at lw_m5 3 rfl
theorem q1087 : (Jvm.Cond.static ({ cls := "java/lang/StringUTF16", name := "inflate", desc := "([BI[BII)V" } : Jvm.MethodName)) ∈ lw_all := lw_g (lw_at lw_m5 30 rfl) rfl
theorem q1088 : (Jvm.Cond.code ({ cls := "java/lang/StringUTF16", name := "inflate", desc := "([BI[BII)V" } : Jvm.MethodName) prog_45_method_86_code (6 : Nat) (Option.none : Option Jvm.ClassFile.FieldType)) ∈ lw_all := lw_g (lw_at lw_m5 31 rfl) rfl
theorem q1089 : (Jvm.Cond.methodLink "java/lang/StringUTF16" (173 : Nat) ({ cls := "java/lang/StringUTF16", name := "checkBoundsOffCount", desc := "(II[B)V" } : Jvm.MethodName)) ∈ lw_all := lw_g (lw_at lw_m5 32 rfl) rfl
theorem q1090 : (Jvm.Cond.static ({ cls := "java/lang/StringUTF16", name := "checkBoundsOffCount", desc := "(II[B)V" } : Jvm.MethodName)) ∈ lw_all := lw_g (lw_at lw_m5 33 rfl) rfl
theorem q1091 : (Jvm.Cond.code ({ cls := "java/lang/StringUTF16", name := "checkBoundsOffCount", desc := "(II[B)V" } : Jvm.MethodName) prog_45_method_94_code (3 : Nat) (Option.none : Option Jvm.ClassFile.FieldType)) ∈ lw_all := lw_g (lw_at lw_m5 34 rfl) rfl
theorem q1092 : (Jvm.Cond.methodLink "java/lang/StringUTF16" (419 : Nat) ({ cls := "java/lang/String", name := "checkBoundsOffCount", desc := "(III)I" } : Jvm.MethodName)) ∈ lw_all := lw_g (lw_at lw_m5 35 rfl) rfl
theorem q1142 : (Jvm.Cond.static ({ cls := "java/lang/StringUTF16", name := "compress", desc := "([BII)[B" } : Jvm.MethodName)) ∈ lw_all := lw_g (lw_at lw_m5 85 rfl) rfl
theorem q1143 : (Jvm.Cond.code ({ cls := "java/lang/StringUTF16", name := "compress", desc := "([BII)[B" } : Jvm.MethodName) prog_45_method_17_code (6 : Nat) (Option.some (Jvm.ClassFile.FieldType.array Jvm.ClassFile.FieldType.byte))) ∈ lw_all := lw_g (lw_at lw_m5 86 rfl) rfl
theorem q1144 : (Jvm.Cond.methodLink "java/lang/StringUTF16" (123 : Nat) ({ cls := "java/lang/StringUTF16", name := "compress", desc := "([BI[BII)I" } : Jvm.MethodName)) ∈ lw_all := lw_g (lw_at lw_m5 87 rfl) rfl
theorem q1145 : (Jvm.Cond.static ({ cls := "java/lang/StringUTF16", name := "compress", desc := "([BI[BII)I" } : Jvm.MethodName)) ∈ lw_all := lw_g (lw_at lw_m5 88 rfl) rfl
theorem q1146 : (Jvm.Cond.code ({ cls := "java/lang/StringUTF16", name := "compress", desc := "([BI[BII)I" } : Jvm.MethodName) prog_45_method_22_code (7 : Nat) (Option.some Jvm.ClassFile.FieldType.int)) ∈ lw_all := lw_g (lw_at lw_m5 89 rfl) rfl
theorem q1147 : (Jvm.Cond.methodLink "java/lang/StringUTF16" (71 : Nat) ({ cls := "java/lang/StringUTF16", name := "getChar", desc := "([BI)C" } : Jvm.MethodName)) ∈ lw_all := lw_g (lw_at lw_m5 90 rfl) rfl
theorem q1148 : (Jvm.Cond.static ({ cls := "java/lang/StringUTF16", name := "getChar", desc := "([BI)C" } : Jvm.MethodName)) ∈ lw_all := lw_g (lw_at lw_m5 91 rfl) rfl
theorem q1149 : (Jvm.Cond.code ({ cls := "java/lang/StringUTF16", name := "getChar", desc := "([BI)C" } : Jvm.MethodName) prog_45_method_5_code (2 : Nat) (Option.some Jvm.ClassFile.FieldType.char)) ∈ lw_all := lw_g (lw_at lw_m5 92 rfl) rfl
theorem q1150 : (Jvm.Cond.methodLink "java/lang/StringUTF16" (126 : Nat) ({ cls := "java/util/Arrays", name := "copyOfRange", desc := "([BII)[B" } : Jvm.MethodName)) ∈ lw_all := lw_g (lw_at lw_m5 93 rfl) rfl
theorem q1152 : (Jvm.Cond.static ({ cls := "java/lang/StringUTF16", name := "coderFromArrayLen", desc := "([BI)B" } : Jvm.MethodName)) ∈ lw_all := lw_g (lw_at lw_m5 95 rfl) rfl
theorem q1153 : (Jvm.Cond.code ({ cls := "java/lang/StringUTF16", name := "coderFromArrayLen", desc := "([BI)B" } : Jvm.MethodName) prog_45_method_15_code (2 : Nat) (Option.some Jvm.ClassFile.FieldType.byte)) ∈ lw_all := lw_g (lw_at lw_m5 96 rfl) rfl
theorem q2056 : (Jvm.Cond.static ({ cls := "java/lang/StringUTF16", name := "putCharSB", desc := "([BII)V" } : Jvm.MethodName)) ∈ lw_all := lw_g (lw_at lw_m9 39 rfl) rfl
theorem q2057 : (Jvm.Cond.code ({ cls := "java/lang/StringUTF16", name := "putCharSB", desc := "([BII)V" } : Jvm.MethodName) prog_45_method_71_code (3 : Nat) (Option.none : Option Jvm.ClassFile.FieldType)) ∈ lw_all := lw_g (lw_at lw_m9 40 rfl) rfl
theorem q2058 : (Jvm.Cond.methodLink "java/lang/StringUTF16" (67 : Nat) ({ cls := "java/lang/StringUTF16", name := "checkIndex", desc := "(I[B)V" } : Jvm.MethodName)) ∈ lw_all := lw_g (lw_at lw_m9 41 rfl) rfl
theorem q2059 : (Jvm.Cond.static ({ cls := "java/lang/StringUTF16", name := "checkIndex", desc := "(I[B)V" } : Jvm.MethodName)) ∈ lw_all := lw_g (lw_at lw_m9 42 rfl) rfl
theorem q2060 : (Jvm.Cond.code ({ cls := "java/lang/StringUTF16", name := "checkIndex", desc := "(I[B)V" } : Jvm.MethodName) prog_45_method_91_code (2 : Nat) (Option.none : Option Jvm.ClassFile.FieldType)) ∈ lw_all := lw_g (lw_at lw_m9 43 rfl) rfl
theorem q2061 : (Jvm.Cond.methodLink "java/lang/StringUTF16" (414 : Nat) ({ cls := "java/lang/String", name := "checkIndex", desc := "(II)V" } : Jvm.MethodName)) ∈ lw_all := lw_g (lw_at lw_m9 44 rfl) rfl
theorem q2145 : (Jvm.Cond.static ({ cls := "java/lang/StringUTF16", name := "indexOf", desc := "([BIII)I" } : Jvm.MethodName)) ∈ lw_all := lw_g (lw_at lw_m9 128 rfl) rfl
theorem q2146 : (Jvm.Cond.code ({ cls := "java/lang/StringUTF16", name := "indexOf", desc := "([BIII)I" } : Jvm.MethodName) prog_45_method_40_code (4 : Nat) (Option.some Jvm.ClassFile.FieldType.int)) ∈ lw_all := lw_g (lw_at lw_m9 129 rfl) rfl
theorem q2147 : (Jvm.Cond.methodLink "java/lang/StringUTF16" (224 : Nat) ({ cls := "java/lang/Math", name := "max", desc := "(II)I" } : Jvm.MethodName)) ∈ lw_all := lw_g (lw_at lw_m9 130 rfl) rfl
theorem q2148 : (Jvm.Cond.methodLink "java/lang/StringUTF16" (183 : Nat) ({ cls := "java/lang/Math", name := "min", desc := "(II)I" } : Jvm.MethodName)) ∈ lw_all := lw_g (lw_at lw_m9 131 rfl) rfl
theorem q2149 : (Jvm.Cond.constant "java/lang/StringUTF16" (227 : Nat) (65536 : Int32)) ∈ lw_all := lw_g (lw_at lw_m9 132 rfl) rfl
theorem q2150 : (Jvm.Cond.methodLink "java/lang/StringUTF16" (228 : Nat) ({ cls := "java/lang/StringUTF16", name := "indexOfChar", desc := "([BIII)I" } : Jvm.MethodName)) ∈ lw_all := lw_g (lw_at lw_m9 133 rfl) rfl
theorem q2151 : (Jvm.Cond.static ({ cls := "java/lang/StringUTF16", name := "indexOfChar", desc := "([BIII)I" } : Jvm.MethodName)) ∈ lw_all := lw_g (lw_at lw_m9 134 rfl) rfl
theorem q2152 : (Jvm.Cond.code ({ cls := "java/lang/StringUTF16", name := "indexOfChar", desc := "([BIII)I" } : Jvm.MethodName) prog_45_method_47_code (4 : Nat) (Option.some Jvm.ClassFile.FieldType.int)) ∈ lw_all := lw_g (lw_at lw_m9 135 rfl) rfl
theorem q2153 : (Jvm.Cond.methodLink "java/lang/StringUTF16" (244 : Nat) ({ cls := "java/lang/StringUTF16", name := "indexOfCharUnsafe", desc := "([BIII)I" } : Jvm.MethodName)) ∈ lw_all := lw_g (lw_at lw_m9 136 rfl) rfl
theorem q2154 : (Jvm.Cond.static ({ cls := "java/lang/StringUTF16", name := "indexOfCharUnsafe", desc := "([BIII)I" } : Jvm.MethodName)) ∈ lw_all := lw_g (lw_at lw_m9 137 rfl) rfl
theorem q2155 : (Jvm.Cond.code ({ cls := "java/lang/StringUTF16", name := "indexOfCharUnsafe", desc := "([BIII)I" } : Jvm.MethodName) prog_45_method_48_code (5 : Nat) (Option.some Jvm.ClassFile.FieldType.int)) ∈ lw_all := lw_g (lw_at lw_m9 138 rfl) rfl
theorem q2156 : (Jvm.Cond.methodLink "java/lang/StringUTF16" (232 : Nat) ({ cls := "java/lang/StringUTF16", name := "indexOfSupplementary", desc := "([BIII)I" } : Jvm.MethodName)) ∈ lw_all := lw_g (lw_at lw_m9 139 rfl) rfl
theorem q2157 : (Jvm.Cond.static ({ cls := "java/lang/StringUTF16", name := "indexOfSupplementary", desc := "([BIII)I" } : Jvm.MethodName)) ∈ lw_all := lw_g (lw_at lw_m9 140 rfl) rfl
theorem q2158 : (Jvm.Cond.code ({ cls := "java/lang/StringUTF16", name := "indexOfSupplementary", desc := "([BIII)I" } : Jvm.MethodName) prog_45_method_49_code (7 : Nat) (Option.some Jvm.ClassFile.FieldType.int)) ∈ lw_all := lw_g (lw_at lw_m9 141 rfl) rfl
theorem q2159 : (Jvm.Cond.methodLink "java/lang/StringUTF16" (164 : Nat) ({ cls := "java/lang/Character", name := "isValidCodePoint", desc := "(I)Z" } : Jvm.MethodName)) ∈ lw_all := lw_g (lw_at lw_m9 142 rfl) rfl
theorem q2162 : (Jvm.Cond.methodLink "java/lang/StringUTF16" (157 : Nat) ({ cls := "java/lang/Character", name := "highSurrogate", desc := "(I)C" } : Jvm.MethodName)) ∈ lw_all := lw_g (lw_at lw_m9 145 rfl) rfl
theorem q2166 : (Jvm.Cond.methodLink "java/lang/StringUTF16" (161 : Nat) ({ cls := "java/lang/Character", name := "lowSurrogate", desc := "(I)C" } : Jvm.MethodName)) ∈ lw_all := lw_g (lw_at lw_m9 149 rfl) rfl
theorem q2340 : (Jvm.Cond.static ({ cls := "java/lang/StringUTF16", name := "fillNull", desc := "([BII)V" } : Jvm.MethodName)) ∈ lw_all := lw_g (lw_at lw_m10 83 rfl) rfl
theorem q2341 : (Jvm.Cond.code ({ cls := "java/lang/StringUTF16", name := "fillNull", desc := "([BII)V" } : Jvm.MethodName) prog_45_method_70_code (3 : Nat) (Option.none : Option Jvm.ClassFile.FieldType)) ∈ lw_all := lw_g (lw_at lw_m10 84 rfl) rfl
theorem q2342 : (Jvm.Cond.methodLink "java/lang/StringUTF16" (380 : Nat) ({ cls := "java/util/Arrays", name := "fill", desc := "([BIIB)V" } : Jvm.MethodName)) ∈ lw_all := lw_g (lw_at lw_m10 85 rfl) rfl
theorem q2378 : (Jvm.Cond.static ({ cls := "java/lang/StringUTF16", name := "getChars", desc := "(III[B)I" } : Jvm.MethodName)) ∈ lw_all := lw_g (lw_at lw_m10 121 rfl) rfl
theorem q2379 : (Jvm.Cond.code ({ cls := "java/lang/StringUTF16", name := "getChars", desc := "(III[B)I" } : Jvm.MethodName) prog_45_method_77_code (5 : Nat) (Option.some Jvm.ClassFile.FieldType.int)) ∈ lw_all := lw_g (lw_at lw_m10 122 rfl) rfl
theorem q2380 : (Jvm.Cond.methodLink "java/lang/StringUTF16" (393 : Nat) ({ cls := "java/lang/StringUTF16", name := "getChars", desc := "(II[B)I" } : Jvm.MethodName)) ∈ lw_all := lw_g (lw_at lw_m10 123 rfl) rfl
theorem q2381 : (Jvm.Cond.static ({ cls := "java/lang/StringUTF16", name := "getChars", desc := "(II[B)I" } : Jvm.MethodName)) ∈ lw_all := lw_g (lw_at lw_m10 124 rfl) rfl
theorem q2382 : (Jvm.Cond.code ({ cls := "java/lang/StringUTF16", name := "getChars", desc := "(II[B)I" } : Jvm.MethodName) prog_45_method_89_code (7 : Nat) (Option.some Jvm.ClassFile.FieldType.int)) ∈ lw_all := lw_g (lw_at lw_m10 125 rfl) rfl
theorem q2383 : (Jvm.Cond.fieldLink "java/lang/StringUTF16" (403 : Nat) "java/lang/Integer" "DigitOnes" "[B") ∈ lw_all := lw_g (lw_at lw_m10 126 rfl) rfl
theorem q2384 : (Jvm.Cond.fieldLink "java/lang/StringUTF16" (407 : Nat) "java/lang/Integer" "DigitTens" "[B") ∈ lw_all := lw_g (lw_at lw_m10 127 rfl) rfl
theorem q2398 : (Jvm.Cond.static ({ cls := "java/lang/StringUTF16", name := "charAt", desc := "([BI)C" } : Jvm.MethodName)) ∈ lw_all := lw_g (lw_at lw_m10 141 rfl) rfl
theorem q2399 : (Jvm.Cond.code ({ cls := "java/lang/StringUTF16", name := "charAt", desc := "([BI)C" } : Jvm.MethodName) prog_45_method_83_code (2 : Nat) (Option.some Jvm.ClassFile.FieldType.char)) ∈ lw_all := lw_g (lw_at lw_m10 142 rfl) rfl
/-! java/lang/StringLatin1 -/
set_option maxRecDepth 100000
def RJ16 : String := "java/lang/StringLatin1"
abbrev cJ16_inflate : ByteArray := prog_44_method_50_code
def yJ16_inflate : MethodName := ⟨RJ16, "inflate", "([BI[BII)V"⟩
def dkwJ16_inflate_0 : List UInt8 := [42, 27, 44, 29, 21, 4, 184, 0, 240, 177]
abbrev dktJ16_inflate_0 : List UInt8 := dkwJ16_inflate_0 ++ []
theorem dksJ16_inflate_0 : cJ16_inflate.data.toList.drop 0 = dktJ16_inflate_0 := by decide +kernel
theorem dJ16_inflate_0 : decode cJ16_inflate 0 = .ok (.aload_n 0, 1) := dk_42 (dk_at dksJ16_inflate_0 0 rfl rfl)
theorem dJ16_inflate_1 : decode cJ16_inflate 1 = .ok (.iload_n 1, 1) := dk_27 (dk_at dksJ16_inflate_0 1 rfl rfl)
theorem dJ16_inflate_2 : decode cJ16_inflate 2 = .ok (.aload_n 2, 1) := dk_44 (dk_at dksJ16_inflate_0 2 rfl rfl)
theorem dJ16_inflate_3 : decode cJ16_inflate 3 = .ok (.iload_n 3, 1) := dk_29 (dk_at dksJ16_inflate_0 3 rfl rfl)
theorem dJ16_inflate_4 : decode cJ16_inflate 4 = .ok (.iload 4, 2) := dk_21 4 (dk_at dksJ16_inflate_0 4 rfl rfl)
theorem dJ16_inflate_6 : decode cJ16_inflate 6 = .ok (.invokestatic 240, 3) := dk_184 0 240 (dk_at dksJ16_inflate_0 6 rfl rfl)
theorem dJ16_inflate_9 : decode cJ16_inflate 9 = .ok (.return_, 1) := dk_177 (dk_at dksJ16_inflate_0 9 rfl rfl)
abbrev cJ16_canEncode : ByteArray := prog_44_method_3_code
def yJ16_canEncode : MethodName := ⟨RJ16, "canEncode", "(C)Z"⟩
def dkwJ16_canEncode_0 : List UInt8 := [26, 17, 0, 255, 163, 0, 7, 4, 167, 0, 4, 3, 172]
abbrev dktJ16_canEncode_0 : List UInt8 := dkwJ16_canEncode_0 ++ []
theorem dksJ16_canEncode_0 : cJ16_canEncode.data.toList.drop 0 = dktJ16_canEncode_0 := by decide +kernel
theorem dJ16_canEncode_0 : decode cJ16_canEncode 0 = .ok (.iload_n 0, 1) := dk_26 (dk_at dksJ16_canEncode_0 0 rfl rfl)
theorem dJ16_canEncode_1 : decode cJ16_canEncode 1 = .ok (.sipush 255, 3) := dk_17 0 255 (dk_at dksJ16_canEncode_0 1 rfl rfl)
theorem dJ16_canEncode_4 : decode cJ16_canEncode 4 = .ok (.if_icmp .gt 7, 3) := dk_163 0 7 (dk_at dksJ16_canEncode_0 4 rfl rfl)
theorem dJ16_canEncode_7 : decode cJ16_canEncode 7 = .ok (.iconst 1, 1) := dk_4 (dk_at dksJ16_canEncode_0 7 rfl rfl)
theorem dJ16_canEncode_8 : decode cJ16_canEncode 8 = .ok (.goto 4, 3) := dk_167 0 4 (dk_at dksJ16_canEncode_0 8 rfl rfl)
theorem dJ16_canEncode_11 : decode cJ16_canEncode 11 = .ok (.iconst 0, 1) := dk_3 (dk_at dksJ16_canEncode_0 11 rfl rfl)
theorem dJ16_canEncode_12 : decode cJ16_canEncode 12 = .ok (.ireturn, 1) := dk_172 (dk_at dksJ16_canEncode_0 12 rfl rfl)
abbrev cJ16_indexOf : ByteArray := prog_44_method_22_code
def yJ16_indexOf : MethodName := ⟨RJ16, "indexOf", "([BIII)I"⟩
def dkwJ16_indexOf_1 : List UInt8 := [161, 0, 5, 2, 172, 42, 27, 28, 29, 184, 0, 95, 172]
abbrev dktJ16_indexOf_1 : List UInt8 := dkwJ16_indexOf_1 ++ []
def dkwJ16_indexOf_0 : List UInt8 := [27, 184, 0, 88, 154, 0, 5, 2, 172, 28, 3, 184, 0, 92, 61, 29, 42, 190, 184, 0, 38, 62, 28, 29]
abbrev dktJ16_indexOf_0 : List UInt8 := dkwJ16_indexOf_0 ++ dktJ16_indexOf_1
theorem dksJ16_indexOf_0 : cJ16_indexOf.data.toList.drop 0 = dktJ16_indexOf_0 := by decide +kernel
theorem dksJ16_indexOf_1 : cJ16_indexOf.data.toList.drop 24 = dktJ16_indexOf_1 := dk_seg dksJ16_indexOf_0 24 rfl rfl
theorem dJ16_indexOf_0 : decode cJ16_indexOf 0 = .ok (.iload_n 1, 1) := dk_27 (dk_at dksJ16_indexOf_0 0 rfl rfl)
theorem dJ16_indexOf_1 : decode cJ16_indexOf 1 = .ok (.invokestatic 88, 3) := dk_184 0 88 (dk_at dksJ16_indexOf_0 1 rfl rfl)
theorem dJ16_indexOf_4 : decode cJ16_indexOf 4 = .ok (.ifCond .ne 5, 3) := dk_154 0 5 (dk_at dksJ16_indexOf_0 4 rfl rfl)
theorem dJ16_indexOf_7 : decode cJ16_indexOf 7 = .ok (.iconst (-1), 1) := dk_2 (dk_at dksJ16_indexOf_0 7 rfl rfl)
theorem dJ16_indexOf_8 : decode cJ16_indexOf 8 = .ok (.ireturn, 1) := dk_172 (dk_at dksJ16_indexOf_0 8 rfl rfl)
theorem dJ16_indexOf_9 : decode cJ16_indexOf 9 = .ok (.iload_n 2, 1) := dk_28 (dk_at dksJ16_indexOf_0 9 rfl rfl)
theorem dJ16_indexOf_10 : decode cJ16_indexOf 10 = .ok (.iconst 0, 1) := dk_3 (dk_at dksJ16_indexOf_0 10 rfl rfl)
theorem dJ16_indexOf_11 : decode cJ16_indexOf 11 = .ok (.invokestatic 92, 3) := dk_184 0 92 (dk_at dksJ16_indexOf_0 11 rfl rfl)
theorem dJ16_indexOf_14 : decode cJ16_indexOf 14 = .ok (.istore_n 2, 1) := dk_61 (dk_at dksJ16_indexOf_0 14 rfl rfl)
theorem dJ16_indexOf_15 : decode cJ16_indexOf 15 = .ok (.iload_n 3, 1) := dk_29 (dk_at dksJ16_indexOf_0 15 rfl rfl)
theorem dJ16_indexOf_16 : decode cJ16_indexOf 16 = .ok (.aload_n 0, 1) := dk_42 (dk_at dksJ16_indexOf_0 16 rfl rfl)
theorem dJ16_indexOf_17 : decode cJ16_indexOf 17 = .ok (.arraylength, 1) := dk_190 (dk_at dksJ16_indexOf_0 17 rfl rfl)
theorem dJ16_indexOf_18 : decode cJ16_indexOf 18 = .ok (.invokestatic 38, 3) := dk_184 0 38 (dk_at dksJ16_indexOf_0 18 rfl rfl)
theorem dJ16_indexOf_21 : decode cJ16_indexOf 21 = .ok (.istore_n 3, 1) := dk_62 (dk_at dksJ16_indexOf_0 21 rfl rfl)
theorem dJ16_indexOf_22 : decode cJ16_indexOf 22 = .ok (.iload_n 2, 1) := dk_28 (dk_at dksJ16_indexOf_0 22 rfl rfl)
theorem dJ16_indexOf_23 : decode cJ16_indexOf 23 = .ok (.iload_n 3, 1) := dk_29 (dk_at dksJ16_indexOf_0 23 rfl rfl)
theorem dJ16_indexOf_24 : decode cJ16_indexOf 24 = .ok (.if_icmp .lt 5, 3) := dk_161 0 5 (dk_at dksJ16_indexOf_1 0 rfl rfl)
theorem dJ16_indexOf_27 : decode cJ16_indexOf 27 = .ok (.iconst (-1), 1) := dk_2 (dk_at dksJ16_indexOf_1 3 rfl rfl)
theorem dJ16_indexOf_28 : decode cJ16_indexOf 28 = .ok (.ireturn, 1) := dk_172 (dk_at dksJ16_indexOf_1 4 rfl rfl)
theorem dJ16_indexOf_29 : decode cJ16_indexOf 29 = .ok (.aload_n 0, 1) := dk_42 (dk_at dksJ16_indexOf_1 5 rfl rfl)
theorem dJ16_indexOf_30 : decode cJ16_indexOf 30 = .ok (.iload_n 1, 1) := dk_27 (dk_at dksJ16_indexOf_1 6 rfl rfl)
theorem dJ16_indexOf_31 : decode cJ16_indexOf 31 = .ok (.iload_n 2, 1) := dk_28 (dk_at dksJ16_indexOf_1 7 rfl rfl)
theorem dJ16_indexOf_32 : decode cJ16_indexOf 32 = .ok (.iload_n 3, 1) := dk_29 (dk_at dksJ16_indexOf_1 8 rfl rfl)
theorem dJ16_indexOf_33 : decode cJ16_indexOf 33 = .ok (.invokestatic 95, 3) := dk_184 0 95 (dk_at dksJ16_indexOf_1 9 rfl rfl)
theorem dJ16_indexOf_36 : decode cJ16_indexOf 36 = .ok (.ireturn, 1) := dk_172 (dk_at dksJ16_indexOf_1 12 rfl rfl)
abbrev cJ16_canEncode_2 : ByteArray := prog_44_method_4_code
def yJ16_canEncode_2 : MethodName := ⟨RJ16, "canEncode", "(I)Z"⟩
def dkwJ16_canEncode_2_0 : List UInt8 := [26, 155, 0, 14, 26, 17, 0, 255, 163, 0, 7, 4, 167, 0, 4, 3, 172]
abbrev dktJ16_canEncode_2_0 : List UInt8 := dkwJ16_canEncode_2_0 ++ []
theorem dksJ16_canEncode_2_0 : cJ16_canEncode_2.data.toList.drop 0 = dktJ16_canEncode_2_0 := by decide +kernel
theorem dJ16_canEncode_2_0 : decode cJ16_canEncode_2 0 = .ok (.iload_n 0, 1) := dk_26 (dk_at dksJ16_canEncode_2_0 0 rfl rfl)
theorem dJ16_canEncode_2_1 : decode cJ16_canEncode_2 1 = .ok (.ifCond .lt 14, 3) := dk_155 0 14 (dk_at dksJ16_canEncode_2_0 1 rfl rfl)
theorem dJ16_canEncode_2_4 : decode cJ16_canEncode_2 4 = .ok (.iload_n 0, 1) := dk_26 (dk_at dksJ16_canEncode_2_0 4 rfl rfl)
theorem dJ16_canEncode_2_5 : decode cJ16_canEncode_2 5 = .ok (.sipush 255, 3) := dk_17 0 255 (dk_at dksJ16_canEncode_2_0 5 rfl rfl)
theorem dJ16_canEncode_2_8 : decode cJ16_canEncode_2 8 = .ok (.if_icmp .gt 7, 3) := dk_163 0 7 (dk_at dksJ16_canEncode_2_0 8 rfl rfl)
theorem dJ16_canEncode_2_11 : decode cJ16_canEncode_2 11 = .ok (.iconst 1, 1) := dk_4 (dk_at dksJ16_canEncode_2_0 11 rfl rfl)
theorem dJ16_canEncode_2_12 : decode cJ16_canEncode_2 12 = .ok (.goto 4, 3) := dk_167 0 4 (dk_at dksJ16_canEncode_2_0 12 rfl rfl)
theorem dJ16_canEncode_2_15 : decode cJ16_canEncode_2 15 = .ok (.iconst 0, 1) := dk_3 (dk_at dksJ16_canEncode_2_0 15 rfl rfl)
theorem dJ16_canEncode_2_16 : decode cJ16_canEncode_2 16 = .ok (.ireturn, 1) := dk_172 (dk_at dksJ16_canEncode_2_0 16 rfl rfl)
abbrev cJ16_indexOfChar : ByteArray := prog_44_method_23_code
def yJ16_indexOfChar : MethodName := ⟨RJ16, "indexOfChar", "([BIII)I"⟩
def dkwJ16_indexOfChar_1 : List UInt8 := [172, 132, 5, 1, 167, 255, 235, 2, 172]
abbrev dktJ16_indexOfChar_1 : List UInt8 := dkwJ16_indexOfChar_1 ++ []
def dkwJ16_indexOfChar_0 : List UInt8 := [27, 145, 54, 4, 28, 54, 5, 21, 5, 29, 162, 0, 21, 42, 21, 5, 51, 21, 4, 160, 0, 6, 21, 5]
abbrev dktJ16_indexOfChar_0 : List UInt8 := dkwJ16_indexOfChar_0 ++ dktJ16_indexOfChar_1
theorem dksJ16_indexOfChar_0 : cJ16_indexOfChar.data.toList.drop 0 = dktJ16_indexOfChar_0 := by decide +kernel
theorem dksJ16_indexOfChar_1 : cJ16_indexOfChar.data.toList.drop 24 = dktJ16_indexOfChar_1 := dk_seg dksJ16_indexOfChar_0 24 rfl rfl
theorem dJ16_indexOfChar_0 : decode cJ16_indexOfChar 0 = .ok (.iload_n 1, 1) := dk_27 (dk_at dksJ16_indexOfChar_0 0 rfl rfl)
theorem dJ16_indexOfChar_1 : decode cJ16_indexOfChar 1 = .ok (.i2b, 1) := dk_145 (dk_at dksJ16_indexOfChar_0 1 rfl rfl)
theorem dJ16_indexOfChar_2 : decode cJ16_indexOfChar 2 = .ok (.istore 4, 2) := dk_54 4 (dk_at dksJ16_indexOfChar_0 2 rfl rfl)
theorem dJ16_indexOfChar_4 : decode cJ16_indexOfChar 4 = .ok (.iload_n 2, 1) := dk_28 (dk_at dksJ16_indexOfChar_0 4 rfl rfl)
theorem dJ16_indexOfChar_5 : decode cJ16_indexOfChar 5 = .ok (.istore 5, 2) := dk_54 5 (dk_at dksJ16_indexOfChar_0 5 rfl rfl)
theorem dJ16_indexOfChar_7 : decode cJ16_indexOfChar 7 = .ok (.iload 5, 2) := dk_21 5 (dk_at dksJ16_indexOfChar_0 7 rfl rfl)
theorem dJ16_indexOfChar_9 : decode cJ16_indexOfChar 9 = .ok (.iload_n 3, 1) := dk_29 (dk_at dksJ16_indexOfChar_0 9 rfl rfl)
theorem dJ16_indexOfChar_10 : decode cJ16_indexOfChar 10 = .ok (.if_icmp .ge 21, 3) := dk_162 0 21 (dk_at dksJ16_indexOfChar_0 10 rfl rfl)
theorem dJ16_indexOfChar_13 : decode cJ16_indexOfChar 13 = .ok (.aload_n 0, 1) := dk_42 (dk_at dksJ16_indexOfChar_0 13 rfl rfl)
theorem dJ16_indexOfChar_14 : decode cJ16_indexOfChar 14 = .ok (.iload 5, 2) := dk_21 5 (dk_at dksJ16_indexOfChar_0 14 rfl rfl)
theorem dJ16_indexOfChar_16 : decode cJ16_indexOfChar 16 = .ok (.baload, 1) := dk_51 (dk_at dksJ16_indexOfChar_0 16 rfl rfl)
theorem dJ16_indexOfChar_17 : decode cJ16_indexOfChar 17 = .ok (.iload 4, 2) := dk_21 4 (dk_at dksJ16_indexOfChar_0 17 rfl rfl)
theorem dJ16_indexOfChar_19 : decode cJ16_indexOfChar 19 = .ok (.if_icmp .ne 6, 3) := dk_160 0 6 (dk_at dksJ16_indexOfChar_0 19 rfl rfl)
theorem dJ16_indexOfChar_22 : decode cJ16_indexOfChar 22 = .ok (.iload 5, 2) := dk_21 5 (dk_at dksJ16_indexOfChar_0 22 rfl rfl)
theorem dJ16_indexOfChar_24 : decode cJ16_indexOfChar 24 = .ok (.ireturn, 1) := dk_172 (dk_at dksJ16_indexOfChar_1 0 rfl rfl)
theorem dJ16_indexOfChar_25 : decode cJ16_indexOfChar 25 = .ok (.iinc 5 1, 3) := dk_132 5 1 (dk_at dksJ16_indexOfChar_1 1 rfl rfl)
theorem dJ16_indexOfChar_28 : decode cJ16_indexOfChar 28 = .ok (.goto (-21), 3) := dk_167 255 235 (dk_at dksJ16_indexOfChar_1 4 rfl rfl)
theorem dJ16_indexOfChar_31 : decode cJ16_indexOfChar 31 = .ok (.iconst (-1), 1) := dk_2 (dk_at dksJ16_indexOfChar_1 7 rfl rfl)
theorem dJ16_indexOfChar_32 : decode cJ16_indexOfChar 32 = .ok (.ireturn, 1) := dk_172 (dk_at dksJ16_indexOfChar_1 8 rfl rfl)
abbrev cJ16_fillNull : ByteArray := prog_44_method_48_code
def yJ16_fillNull : MethodName := ⟨RJ16, "fillNull", "([BII)V"⟩
def dkwJ16_fillNull_0 : List UInt8 := [42, 27, 28, 3, 184, 0, 236, 177]
abbrev dktJ16_fillNull_0 : List UInt8 := dkwJ16_fillNull_0 ++ []
theorem dksJ16_fillNull_0 : cJ16_fillNull.data.toList.drop 0 = dktJ16_fillNull_0 := by decide +kernel
theorem dJ16_fillNull_0 : decode cJ16_fillNull 0 = .ok (.aload_n 0, 1) := dk_42 (dk_at dksJ16_fillNull_0 0 rfl rfl)
theorem dJ16_fillNull_1 : decode cJ16_fillNull 1 = .ok (.iload_n 1, 1) := dk_27 (dk_at dksJ16_fillNull_0 1 rfl rfl)
theorem dJ16_fillNull_2 : decode cJ16_fillNull 2 = .ok (.iload_n 2, 1) := dk_28 (dk_at dksJ16_fillNull_0 2 rfl rfl)
theorem dJ16_fillNull_3 : decode cJ16_fillNull 3 = .ok (.iconst 0, 1) := dk_3 (dk_at dksJ16_fillNull_0 3 rfl rfl)
theorem dJ16_fillNull_4 : decode cJ16_fillNull 4 = .ok (.invokestatic 236, 3) := dk_184 0 236 (dk_at dksJ16_fillNull_0 4 rfl rfl)
theorem dJ16_fillNull_7 : decode cJ16_fillNull 7 = .ok (.return_, 1) := dk_177 (dk_at dksJ16_fillNull_0 7 rfl rfl)
abbrev cJ16_charAt : ByteArray := prog_44_method_2_code
def yJ16_charAt : MethodName := ⟨RJ16, "charAt", "([BI)C"⟩
def dkwJ16_charAt_0 : List UInt8 := [27, 42, 190, 184, 0, 9, 42, 27, 51, 17, 0, 255, 126, 146, 172]
abbrev dktJ16_charAt_0 : List UInt8 := dkwJ16_charAt_0 ++ []
theorem dksJ16_charAt_0 : cJ16_charAt.data.toList.drop 0 = dktJ16_charAt_0 := by decide +kernel
theorem dJ16_charAt_0 : decode cJ16_charAt 0 = .ok (.iload_n 1, 1) := dk_27 (dk_at dksJ16_charAt_0 0 rfl rfl)
theorem dJ16_charAt_1 : decode cJ16_charAt 1 = .ok (.aload_n 0, 1) := dk_42 (dk_at dksJ16_charAt_0 1 rfl rfl)
theorem dJ16_charAt_2 : decode cJ16_charAt 2 = .ok (.arraylength, 1) := dk_190 (dk_at dksJ16_charAt_0 2 rfl rfl)
theorem dJ16_charAt_3 : decode cJ16_charAt 3 = .ok (.invokestatic 9, 3) := dk_184 0 9 (dk_at dksJ16_charAt_0 3 rfl rfl)
theorem dJ16_charAt_6 : decode cJ16_charAt 6 = .ok (.aload_n 0, 1) := dk_42 (dk_at dksJ16_charAt_0 6 rfl rfl)
theorem dJ16_charAt_7 : decode cJ16_charAt 7 = .ok (.iload_n 1, 1) := dk_27 (dk_at dksJ16_charAt_0 7 rfl rfl)
theorem dJ16_charAt_8 : decode cJ16_charAt 8 = .ok (.baload, 1) := dk_51 (dk_at dksJ16_charAt_0 8 rfl rfl)
theorem dJ16_charAt_9 : decode cJ16_charAt 9 = .ok (.sipush 255, 3) := dk_17 0 255 (dk_at dksJ16_charAt_0 9 rfl rfl)
theorem dJ16_charAt_12 : decode cJ16_charAt 12 = .ok (.iand, 1) := dk_126 (dk_at dksJ16_charAt_0 12 rfl rfl)
theorem dJ16_charAt_13 : decode cJ16_charAt 13 = .ok (.i2c, 1) := dk_146 (dk_at dksJ16_charAt_0 13 rfl rfl)
theorem dJ16_charAt_14 : decode cJ16_charAt 14 = .ok (.ireturn, 1) := dk_172 (dk_at dksJ16_charAt_0 14 rfl rfl)
theorem q128 : (Jvm.Cond.initialized "java/lang/StringLatin1") ∈ lw_all := lw_g (lw_at lw_m1 31 rfl) rfl
theorem q1084 : (Jvm.Cond.static ({ cls := "java/lang/StringLatin1", name := "inflate", desc := "([BI[BII)V" } : Jvm.MethodName)) ∈ lw_all := lw_g (lw_at lw_m5 27 rfl) rfl
theorem q1085 : (Jvm.Cond.code ({ cls := "java/lang/StringLatin1", name := "inflate", desc := "([BI[BII)V" } : Jvm.MethodName) prog_44_method_50_code (5 : Nat) (Option.none : Option Jvm.ClassFile.FieldType)) ∈ lw_all := lw_g (lw_at lw_m5 28 rfl) rfl
theorem q1086 : (Jvm.Cond.methodLink "java/lang/StringLatin1" (240 : Nat) ({ cls := "java/lang/StringUTF16", name := "inflate", desc := "([BI[BII)V" } : Jvm.MethodName)) ∈ lw_all := lw_g (lw_at lw_m5 29 rfl) rfl
theorem q2053 : (Jvm.Cond.static ({ cls := "java/lang/StringLatin1", name := "canEncode", desc := "(C)Z" } : Jvm.MethodName)) ∈ lw_all := lw_g (lw_at lw_m9 36 rfl) rfl
theorem q2054 : (Jvm.Cond.code ({ cls := "java/lang/StringLatin1", name := "canEncode", desc := "(C)Z" } : Jvm.MethodName) prog_44_method_3_code (1 : Nat) (Option.some Jvm.ClassFile.FieldType.boolean)) ∈ lw_all := lw_g (lw_at lw_m9 37 rfl) rfl
theorem q2134 : (Jvm.Cond.static ({ cls := "java/lang/StringLatin1", name := "indexOf", desc := "([BIII)I" } : Jvm.MethodName)) ∈ lw_all := lw_g (lw_at lw_m9 117 rfl) rfl
theorem q2135 : (Jvm.Cond.code ({ cls := "java/lang/StringLatin1", name := "indexOf", desc := "([BIII)I" } : Jvm.MethodName) prog_44_method_22_code (4 : Nat) (Option.some Jvm.ClassFile.FieldType.int)) ∈ lw_all := lw_g (lw_at lw_m9 118 rfl) rfl
theorem q2136 : (Jvm.Cond.methodLink "java/lang/StringLatin1" (88 : Nat) ({ cls := "java/lang/StringLatin1", name := "canEncode", desc := "(I)Z" } : Jvm.MethodName)) ∈ lw_all := lw_g (lw_at lw_m9 119 rfl) rfl
theorem q2137 : (Jvm.Cond.static ({ cls := "java/lang/StringLatin1", name := "canEncode", desc := "(I)Z" } : Jvm.MethodName)) ∈ lw_all := lw_g (lw_at lw_m9 120 rfl) rfl
theorem q2138 : (Jvm.Cond.code ({ cls := "java/lang/StringLatin1", name := "canEncode", desc := "(I)Z" } : Jvm.MethodName) prog_44_method_4_code (1 : Nat) (Option.some Jvm.ClassFile.FieldType.boolean)) ∈ lw_all := lw_g (lw_at lw_m9 121 rfl) rfl
theorem q2139 : (Jvm.Cond.methodLink "java/lang/StringLatin1" (92 : Nat) ({ cls := "java/lang/Math", name := "max", desc := "(II)I" } : Jvm.MethodName)) ∈ lw_all := lw_g (lw_at lw_m9 122 rfl) rfl
theorem q2140 : (Jvm.Cond.methodLink "java/lang/StringLatin1" (38 : Nat) ({ cls := "java/lang/Math", name := "min", desc := "(II)I" } : Jvm.MethodName)) ∈ lw_all := lw_g (lw_at lw_m9 123 rfl) rfl
theorem q2141 : (Jvm.Cond.methodLink "java/lang/StringLatin1" (95 : Nat) ({ cls := "java/lang/StringLatin1", name := "indexOfChar", desc := "([BIII)I" } : Jvm.MethodName)) ∈ lw_all := lw_g (lw_at lw_m9 124 rfl) rfl
theorem q2142 : (Jvm.Cond.static ({ cls := "java/lang/StringLatin1", name := "indexOfChar", desc := "([BIII)I" } : Jvm.MethodName)) ∈ lw_all := lw_g (lw_at lw_m9 125 rfl) rfl
theorem q2143 : (Jvm.Cond.code ({ cls := "java/lang/StringLatin1", name := "indexOfChar", desc := "([BIII)I" } : Jvm.MethodName) prog_44_method_23_code (6 : Nat) (Option.some Jvm.ClassFile.FieldType.int)) ∈ lw_all := lw_g (lw_at lw_m9 126 rfl) rfl
theorem q2331 : (Jvm.Cond.static ({ cls := "java/lang/StringLatin1", name := "fillNull", desc := "([BII)V" } : Jvm.MethodName)) ∈ lw_all := lw_g (lw_at lw_m10 74 rfl) rfl
theorem q2332 : (Jvm.Cond.code ({ cls := "java/lang/StringLatin1", name := "fillNull", desc := "([BII)V" } : Jvm.MethodName) prog_44_method_48_code (3 : Nat) (Option.none : Option Jvm.ClassFile.FieldType)) ∈ lw_all := lw_g (lw_at lw_m10 75 rfl) rfl
theorem q2333 : (Jvm.Cond.methodLink "java/lang/StringLatin1" (236 : Nat) ({ cls := "java/util/Arrays", name := "fill", desc := "([BIIB)V" } : Jvm.MethodName)) ∈ lw_all := lw_g (lw_at lw_m10 76 rfl) rfl
theorem q2394 : (Jvm.Cond.static ({ cls := "java/lang/StringLatin1", name := "charAt", desc := "([BI)C" } : Jvm.MethodName)) ∈ lw_all := lw_g (lw_at lw_m10 137 rfl) rfl
theorem q2395 : (Jvm.Cond.code ({ cls := "java/lang/StringLatin1", name := "charAt", desc := "([BI)C" } : Jvm.MethodName) prog_44_method_2_code (2 : Nat) (Option.some Jvm.ClassFile.FieldType.char)) ∈ lw_all := lw_g (lw_at lw_m10 138 rfl) rfl
theorem q2396 : (Jvm.Cond.methodLink "java/lang/StringLatin1" (9 : Nat) ({ cls := "java/lang/String", name := "checkIndex", desc := "(II)V" } : Jvm.MethodName)) ∈ lw_all := lw_g (lw_at lw_m10 139 rfl) rfl
/-! java/lang/Character -/
set_option maxRecDepth 100000
def RJ17 : String := "java/lang/Character"
abbrev cJ17_isValidCodePoint : ByteArray := prog_32_method_11_code
def yJ17_isValidCodePoint : MethodName := ⟨RJ17, "isValidCodePoint", "(I)Z"⟩
def dkwJ17_isValidCodePoint_0 : List UInt8 := [26, 16, 16, 124, 60, 27, 16, 17, 162, 0, 7, 4, 167, 0, 4, 3, 172]
abbrev dktJ17_isValidCodePoint_0 : List UInt8 := dkwJ17_isValidCodePoint_0 ++ []
theorem dksJ17_isValidCodePoint_0 : cJ17_isValidCodePoint.data.toList.drop 0 = dktJ17_isValidCodePoint_0 := by decide +kernel
theorem dJ17_isValidCodePoint_0 : decode cJ17_isValidCodePoint 0 = .ok (.iload_n 0, 1) := dk_26 (dk_at dksJ17_isValidCodePoint_0 0 rfl rfl)
theorem dJ17_isValidCodePoint_1 : decode cJ17_isValidCodePoint 1 = .ok (.bipush 16, 2) := dk_16 16 (dk_at dksJ17_isValidCodePoint_0 1 rfl rfl)
theorem dJ17_isValidCodePoint_3 : decode cJ17_isValidCodePoint 3 = .ok (.iushr, 1) := dk_124 (dk_at dksJ17_isValidCodePoint_0 3 rfl rfl)
theorem dJ17_isValidCodePoint_4 : decode cJ17_isValidCodePoint 4 = .ok (.istore_n 1, 1) := dk_60 (dk_at dksJ17_isValidCodePoint_0 4 rfl rfl)
theorem dJ17_isValidCodePoint_5 : decode cJ17_isValidCodePoint 5 = .ok (.iload_n 1, 1) := dk_27 (dk_at dksJ17_isValidCodePoint_0 5 rfl rfl)
theorem dJ17_isValidCodePoint_6 : decode cJ17_isValidCodePoint 6 = .ok (.bipush 17, 2) := dk_16 17 (dk_at dksJ17_isValidCodePoint_0 6 rfl rfl)
theorem dJ17_isValidCodePoint_8 : decode cJ17_isValidCodePoint 8 = .ok (.if_icmp .ge 7, 3) := dk_162 0 7 (dk_at dksJ17_isValidCodePoint_0 8 rfl rfl)
theorem dJ17_isValidCodePoint_11 : decode cJ17_isValidCodePoint 11 = .ok (.iconst 1, 1) := dk_4 (dk_at dksJ17_isValidCodePoint_0 11 rfl rfl)
theorem dJ17_isValidCodePoint_12 : decode cJ17_isValidCodePoint 12 = .ok (.goto 4, 3) := dk_167 0 4 (dk_at dksJ17_isValidCodePoint_0 12 rfl rfl)
theorem dJ17_isValidCodePoint_15 : decode cJ17_isValidCodePoint 15 = .ok (.iconst 0, 1) := dk_3 (dk_at dksJ17_isValidCodePoint_0 15 rfl rfl)
theorem dJ17_isValidCodePoint_16 : decode cJ17_isValidCodePoint 16 = .ok (.ireturn, 1) := dk_172 (dk_at dksJ17_isValidCodePoint_0 16 rfl rfl)
abbrev cJ17_highSurrogate : ByteArray := prog_32_method_28_code
def yJ17_highSurrogate : MethodName := ⟨RJ17, "highSurrogate", "(I)C"⟩
def dkwJ17_highSurrogate_0 : List UInt8 := [26, 16, 10, 124, 18, 110, 96, 146, 172]
abbrev dktJ17_highSurrogate_0 : List UInt8 := dkwJ17_highSurrogate_0 ++ []
theorem dksJ17_highSurrogate_0 : cJ17_highSurrogate.data.toList.drop 0 = dktJ17_highSurrogate_0 := by decide +kernel
theorem dJ17_highSurrogate_0 : decode cJ17_highSurrogate 0 = .ok (.iload_n 0, 1) := dk_26 (dk_at dksJ17_highSurrogate_0 0 rfl rfl)
theorem dJ17_highSurrogate_1 : decode cJ17_highSurrogate 1 = .ok (.bipush 10, 2) := dk_16 10 (dk_at dksJ17_highSurrogate_0 1 rfl rfl)
theorem dJ17_highSurrogate_3 : decode cJ17_highSurrogate 3 = .ok (.iushr, 1) := dk_124 (dk_at dksJ17_highSurrogate_0 3 rfl rfl)
theorem dJ17_highSurrogate_4 : decode cJ17_highSurrogate 4 = .ok (.ldc 110, 2) := dk_18 110 (dk_at dksJ17_highSurrogate_0 4 rfl rfl)
theorem dJ17_highSurrogate_6 : decode cJ17_highSurrogate 6 = .ok (.iadd, 1) := dk_96 (dk_at dksJ17_highSurrogate_0 6 rfl rfl)
theorem dJ17_highSurrogate_7 : decode cJ17_highSurrogate 7 = .ok (.i2c, 1) := dk_146 (dk_at dksJ17_highSurrogate_0 7 rfl rfl)
theorem dJ17_highSurrogate_8 : decode cJ17_highSurrogate 8 = .ok (.ireturn, 1) := dk_172 (dk_at dksJ17_highSurrogate_0 8 rfl rfl)
abbrev cJ17_lowSurrogate : ByteArray := prog_32_method_29_code
def yJ17_lowSurrogate : MethodName := ⟨RJ17, "lowSurrogate", "(I)C"⟩
def dkwJ17_lowSurrogate_0 : List UInt8 := [26, 17, 3, 255, 126, 18, 76, 96, 146, 172]
abbrev dktJ17_lowSurrogate_0 : List UInt8 := dkwJ17_lowSurrogate_0 ++ []
theorem dksJ17_lowSurrogate_0 : cJ17_lowSurrogate.data.toList.drop 0 = dktJ17_lowSurrogate_0 := by decide +kernel
theorem dJ17_lowSurrogate_0 : decode cJ17_lowSurrogate 0 = .ok (.iload_n 0, 1) := dk_26 (dk_at dksJ17_lowSurrogate_0 0 rfl rfl)
theorem dJ17_lowSurrogate_1 : decode cJ17_lowSurrogate 1 = .ok (.sipush 1023, 3) := dk_17 3 255 (dk_at dksJ17_lowSurrogate_0 1 rfl rfl)
theorem dJ17_lowSurrogate_4 : decode cJ17_lowSurrogate 4 = .ok (.iand, 1) := dk_126 (dk_at dksJ17_lowSurrogate_0 4 rfl rfl)
theorem dJ17_lowSurrogate_5 : decode cJ17_lowSurrogate 5 = .ok (.ldc 76, 2) := dk_18 76 (dk_at dksJ17_lowSurrogate_0 5 rfl rfl)
theorem dJ17_lowSurrogate_7 : decode cJ17_lowSurrogate 7 = .ok (.iadd, 1) := dk_96 (dk_at dksJ17_lowSurrogate_0 7 rfl rfl)
theorem dJ17_lowSurrogate_8 : decode cJ17_lowSurrogate 8 = .ok (.i2c, 1) := dk_146 (dk_at dksJ17_lowSurrogate_0 8 rfl rfl)
theorem dJ17_lowSurrogate_9 : decode cJ17_lowSurrogate 9 = .ok (.ireturn, 1) := dk_172 (dk_at dksJ17_lowSurrogate_0 9 rfl rfl)
theorem q130 : (Jvm.Cond.initialized "java/lang/Character") ∈ lw_all := lw_g (lw_at lw_m1 33 rfl) rfl
theorem q2160 : (Jvm.Cond.static ({ cls := "java/lang/Character", name := "isValidCodePoint", desc := "(I)Z" } : Jvm.MethodName)) ∈ lw_all := lw_g (lw_at lw_m9 143 rfl) rfl
theorem q2161 : (Jvm.Cond.code ({ cls := "java/lang/Character", name := "isValidCodePoint", desc := "(I)Z" } : Jvm.MethodName) prog_32_method_11_code (2 : Nat) (Option.some Jvm.ClassFile.FieldType.boolean)) ∈ lw_all := lw_g (lw_at lw_m9 144 rfl) rfl
theorem q2163 : (Jvm.Cond.static ({ cls := "java/lang/Character", name := "highSurrogate", desc := "(I)C" } : Jvm.MethodName)) ∈ lw_all := lw_g (lw_at lw_m9 146 rfl) rfl
theorem q2164 : (Jvm.Cond.code ({ cls := "java/lang/Character", name := "highSurrogate", desc := "(I)C" } : Jvm.MethodName) prog_32_method_28_code (1 : Nat) (Option.some Jvm.ClassFile.FieldType.char)) ∈ lw_all := lw_g (lw_at lw_m9 147 rfl) rfl
theorem q2165 : (Jvm.Cond.constant "java/lang/Character" (110 : Nat) (55232 : Int32)) ∈ lw_all := lw_g (lw_at lw_m9 148 rfl) rfl
theorem q2167 : (Jvm.Cond.static ({ cls := "java/lang/Character", name := "lowSurrogate", desc := "(I)C" } : Jvm.MethodName)) ∈ lw_all := lw_g (lw_at lw_m9 150 rfl) rfl
theorem q2168 : (Jvm.Cond.code ({ cls := "java/lang/Character", name := "lowSurrogate", desc := "(I)C" } : Jvm.MethodName) prog_32_method_29_code (1 : Nat) (Option.some Jvm.ClassFile.FieldType.char)) ∈ lw_all := lw_g (lw_at lw_m9 151 rfl) rfl
theorem q2169 : (Jvm.Cond.constant "java/lang/Character" (76 : Nat) (56320 : Int32)) ∈ lw_all := lw_g (lw_at lw_m9 152 rfl) rfl
/-! java/lang/Throwable -/
set_option maxRecDepth 100000
def RJ18 : String := "java/lang/Throwable"
def TJ18 : u_T := fun k => match k with
  | 0 => ("java/lang/Throwable", "cause", "Ljava/lang/Throwable;", false)
  | 1 => ("java/lang/Throwable", "stackTrace", "[Ljava/lang/StackTraceElement;", false)
  | 2 => ("java/lang/Throwable", "suppressedExceptions", "Ljava/util/List;", false)
  | 3 => ("java/lang/Throwable", "detailMessage", "Ljava/lang/String;", false)
  | _ => ("java/lang/Throwable", "backtrace", "Ljava/lang/Object;", false)
def tyJ18 : Nat → FieldType := fun k => match k with
  | 0 => .object "java/lang/Throwable"
  | 1 => .array (.object "java/lang/StackTraceElement")
  | 2 => .object "java/util/List"
  | 3 => .object "java/lang/String"
  | _ => .object "java/lang/Object"
abbrev wsJ180 : List Cond := u_ws RJ18 TJ18 5
theorem nmJ18 : ∀ a, a < 5 → ∀ b, b < 5 → a ≠ b → (TJ18 a).2.1 ≠ (TJ18 b).2.1 := by decide +kernel
theorem tyJ18_ok : ∀ k, k < 5 → parseFieldDescriptor (TJ18 k).2.2.1 = some (tyJ18 k) := by decide +kernel
abbrev cJ18_init : ByteArray := prog_47_method_1_code
def yJ18_init : MethodName := ⟨RJ18, "<init>", "()V"⟩
def dkwJ18_init_1 : List UInt8 := [182, 0, 27, 87, 177]
abbrev dktJ18_init_1 : List UInt8 := dkwJ18_init_1 ++ []
def dkwJ18_init_0 : List UInt8 := [42, 183, 0, 1, 42, 42, 181, 0, 7, 42, 178, 0, 13, 181, 0, 17, 42, 178, 0, 20, 181, 0, 24, 42]
abbrev dktJ18_init_0 : List UInt8 := dkwJ18_init_0 ++ dktJ18_init_1
theorem dksJ18_init_0 : cJ18_init.data.toList.drop 0 = dktJ18_init_0 := by decide +kernel
theorem dksJ18_init_1 : cJ18_init.data.toList.drop 24 = dktJ18_init_1 := dk_seg dksJ18_init_0 24 rfl rfl
theorem dJ18_init_0 : decode cJ18_init 0 = .ok (.aload_n 0, 1) := dk_42 (dk_at dksJ18_init_0 0 rfl rfl)
theorem dJ18_init_1 : decode cJ18_init 1 = .ok (.invokespecial 1, 3) := dk_183 0 1 (dk_at dksJ18_init_0 1 rfl rfl)
theorem dJ18_init_4 : decode cJ18_init 4 = .ok (.aload_n 0, 1) := dk_42 (dk_at dksJ18_init_0 4 rfl rfl)
theorem dJ18_init_5 : decode cJ18_init 5 = .ok (.aload_n 0, 1) := dk_42 (dk_at dksJ18_init_0 5 rfl rfl)
theorem dJ18_init_6 : decode cJ18_init 6 = .ok (.putfield 7, 3) := dk_181 0 7 (dk_at dksJ18_init_0 6 rfl rfl)
theorem dJ18_init_9 : decode cJ18_init 9 = .ok (.aload_n 0, 1) := dk_42 (dk_at dksJ18_init_0 9 rfl rfl)
theorem dJ18_init_10 : decode cJ18_init 10 = .ok (.getstatic 13, 3) := dk_178 0 13 (dk_at dksJ18_init_0 10 rfl rfl)
theorem dJ18_init_13 : decode cJ18_init 13 = .ok (.putfield 17, 3) := dk_181 0 17 (dk_at dksJ18_init_0 13 rfl rfl)
theorem dJ18_init_16 : decode cJ18_init 16 = .ok (.aload_n 0, 1) := dk_42 (dk_at dksJ18_init_0 16 rfl rfl)
theorem dJ18_init_17 : decode cJ18_init 17 = .ok (.getstatic 20, 3) := dk_178 0 20 (dk_at dksJ18_init_0 17 rfl rfl)
theorem dJ18_init_20 : decode cJ18_init 20 = .ok (.putfield 24, 3) := dk_181 0 24 (dk_at dksJ18_init_0 20 rfl rfl)
theorem dJ18_init_23 : decode cJ18_init 23 = .ok (.aload_n 0, 1) := dk_42 (dk_at dksJ18_init_0 23 rfl rfl)
theorem dJ18_init_24 : decode cJ18_init 24 = .ok (.invokevirtual 27, 3) := dk_182 0 27 (dk_at dksJ18_init_1 0 rfl rfl)
theorem dJ18_init_27 : decode cJ18_init 27 = .ok (.pop, 1) := dk_87 (dk_at dksJ18_init_1 3 rfl rfl)
theorem dJ18_init_28 : decode cJ18_init 28 = .ok (.return_, 1) := dk_177 (dk_at dksJ18_init_1 4 rfl rfl)
abbrev cJ18_init_2 : ByteArray := prog_47_method_4_code
def yJ18_init_2 : MethodName := ⟨RJ18, "<init>", "(Ljava/lang/Throwable;)V"⟩
def dkwJ18_init_2_2 : List UInt8 := [181, 0, 7, 177]
abbrev dktJ18_init_2_2 : List UInt8 := dkwJ18_init_2_2 ++ []
def dkwJ18_init_2_1 : List UInt8 := [182, 0, 27, 87, 42, 43, 199, 0, 7, 1, 167, 0, 7, 43, 182, 0, 35, 181, 0, 31, 42, 43]
abbrev dktJ18_init_2_1 : List UInt8 := dkwJ18_init_2_1 ++ dktJ18_init_2_2
def dkwJ18_init_2_0 : List UInt8 := [42, 183, 0, 1, 42, 42, 181, 0, 7, 42, 178, 0, 13, 181, 0, 17, 42, 178, 0, 20, 181, 0, 24, 42]
abbrev dktJ18_init_2_0 : List UInt8 := dkwJ18_init_2_0 ++ dktJ18_init_2_1
theorem dksJ18_init_2_0 : cJ18_init_2.data.toList.drop 0 = dktJ18_init_2_0 := by decide +kernel
theorem dksJ18_init_2_1 : cJ18_init_2.data.toList.drop 24 = dktJ18_init_2_1 := dk_seg dksJ18_init_2_0 24 rfl rfl
theorem dksJ18_init_2_2 : cJ18_init_2.data.toList.drop 46 = dktJ18_init_2_2 := dk_seg dksJ18_init_2_1 22 rfl rfl
theorem dJ18_init_2_0 : decode cJ18_init_2 0 = .ok (.aload_n 0, 1) := dk_42 (dk_at dksJ18_init_2_0 0 rfl rfl)
theorem dJ18_init_2_1 : decode cJ18_init_2 1 = .ok (.invokespecial 1, 3) := dk_183 0 1 (dk_at dksJ18_init_2_0 1 rfl rfl)
theorem dJ18_init_2_4 : decode cJ18_init_2 4 = .ok (.aload_n 0, 1) := dk_42 (dk_at dksJ18_init_2_0 4 rfl rfl)
theorem dJ18_init_2_5 : decode cJ18_init_2 5 = .ok (.aload_n 0, 1) := dk_42 (dk_at dksJ18_init_2_0 5 rfl rfl)
theorem dJ18_init_2_6 : decode cJ18_init_2 6 = .ok (.putfield 7, 3) := dk_181 0 7 (dk_at dksJ18_init_2_0 6 rfl rfl)
theorem dJ18_init_2_9 : decode cJ18_init_2 9 = .ok (.aload_n 0, 1) := dk_42 (dk_at dksJ18_init_2_0 9 rfl rfl)
theorem dJ18_init_2_10 : decode cJ18_init_2 10 = .ok (.getstatic 13, 3) := dk_178 0 13 (dk_at dksJ18_init_2_0 10 rfl rfl)
theorem dJ18_init_2_13 : decode cJ18_init_2 13 = .ok (.putfield 17, 3) := dk_181 0 17 (dk_at dksJ18_init_2_0 13 rfl rfl)
theorem dJ18_init_2_16 : decode cJ18_init_2 16 = .ok (.aload_n 0, 1) := dk_42 (dk_at dksJ18_init_2_0 16 rfl rfl)
theorem dJ18_init_2_17 : decode cJ18_init_2 17 = .ok (.getstatic 20, 3) := dk_178 0 20 (dk_at dksJ18_init_2_0 17 rfl rfl)
theorem dJ18_init_2_20 : decode cJ18_init_2 20 = .ok (.putfield 24, 3) := dk_181 0 24 (dk_at dksJ18_init_2_0 20 rfl rfl)
theorem dJ18_init_2_23 : decode cJ18_init_2 23 = .ok (.aload_n 0, 1) := dk_42 (dk_at dksJ18_init_2_0 23 rfl rfl)
theorem dJ18_init_2_24 : decode cJ18_init_2 24 = .ok (.invokevirtual 27, 3) := dk_182 0 27 (dk_at dksJ18_init_2_1 0 rfl rfl)
theorem dJ18_init_2_27 : decode cJ18_init_2 27 = .ok (.pop, 1) := dk_87 (dk_at dksJ18_init_2_1 3 rfl rfl)
theorem dJ18_init_2_28 : decode cJ18_init_2 28 = .ok (.aload_n 0, 1) := dk_42 (dk_at dksJ18_init_2_1 4 rfl rfl)
theorem dJ18_init_2_29 : decode cJ18_init_2 29 = .ok (.aload_n 1, 1) := dk_43 (dk_at dksJ18_init_2_1 5 rfl rfl)
theorem dJ18_init_2_30 : decode cJ18_init_2 30 = .ok (.ifnonnull 7, 3) := dk_199 0 7 (dk_at dksJ18_init_2_1 6 rfl rfl)
theorem dJ18_init_2_33 : decode cJ18_init_2 33 = .ok (.aconst_null, 1) := dk_1 (dk_at dksJ18_init_2_1 9 rfl rfl)
theorem dJ18_init_2_34 : decode cJ18_init_2 34 = .ok (.goto 7, 3) := dk_167 0 7 (dk_at dksJ18_init_2_1 10 rfl rfl)
theorem dJ18_init_2_37 : decode cJ18_init_2 37 = .ok (.aload_n 1, 1) := dk_43 (dk_at dksJ18_init_2_1 13 rfl rfl)
theorem dJ18_init_2_38 : decode cJ18_init_2 38 = .ok (.invokevirtual 35, 3) := dk_182 0 35 (dk_at dksJ18_init_2_1 14 rfl rfl)
theorem dJ18_init_2_41 : decode cJ18_init_2 41 = .ok (.putfield 31, 3) := dk_181 0 31 (dk_at dksJ18_init_2_1 17 rfl rfl)
theorem dJ18_init_2_44 : decode cJ18_init_2 44 = .ok (.aload_n 0, 1) := dk_42 (dk_at dksJ18_init_2_1 20 rfl rfl)
theorem dJ18_init_2_45 : decode cJ18_init_2 45 = .ok (.aload_n 1, 1) := dk_43 (dk_at dksJ18_init_2_1 21 rfl rfl)
theorem dJ18_init_2_46 : decode cJ18_init_2 46 = .ok (.putfield 7, 3) := dk_181 0 7 (dk_at dksJ18_init_2_2 0 rfl rfl)
theorem dJ18_init_2_49 : decode cJ18_init_2 49 = .ok (.return_, 1) := dk_177 (dk_at dksJ18_init_2_2 3 rfl rfl)
abbrev cJ18_toString : ByteArray := prog_47_method_11_code
def yJ18_toString : MethodName := ⟨RJ18, "toString", "()Ljava/lang/String;"⟩
def dkwJ18_toString_1 : List UInt8 := [43, 182, 0, 49, 18, 81, 182, 0, 49, 44, 182, 0, 49, 182, 0, 60, 167, 0, 4, 43, 176]
abbrev dktJ18_toString_1 : List UInt8 := dkwJ18_toString_1 ++ []
def dkwJ18_toString_0 : List UInt8 := [42, 182, 0, 69, 182, 0, 73, 76, 42, 182, 0, 78, 77, 44, 198, 0, 29, 187, 0, 44, 89, 183, 0, 46]
abbrev dktJ18_toString_0 : List UInt8 := dkwJ18_toString_0 ++ dktJ18_toString_1
theorem dksJ18_toString_0 : cJ18_toString.data.toList.drop 0 = dktJ18_toString_0 := by decide +kernel
theorem dksJ18_toString_1 : cJ18_toString.data.toList.drop 24 = dktJ18_toString_1 := dk_seg dksJ18_toString_0 24 rfl rfl
theorem dJ18_toString_0 : decode cJ18_toString 0 = .ok (.aload_n 0, 1) := dk_42 (dk_at dksJ18_toString_0 0 rfl rfl)
theorem dJ18_toString_1 : decode cJ18_toString 1 = .ok (.invokevirtual 69, 3) := dk_182 0 69 (dk_at dksJ18_toString_0 1 rfl rfl)
theorem dJ18_toString_4 : decode cJ18_toString 4 = .ok (.invokevirtual 73, 3) := dk_182 0 73 (dk_at dksJ18_toString_0 4 rfl rfl)
theorem dJ18_toString_7 : decode cJ18_toString 7 = .ok (.astore_n 1, 1) := dk_76 (dk_at dksJ18_toString_0 7 rfl rfl)
theorem dJ18_toString_8 : decode cJ18_toString 8 = .ok (.aload_n 0, 1) := dk_42 (dk_at dksJ18_toString_0 8 rfl rfl)
theorem dJ18_toString_9 : decode cJ18_toString 9 = .ok (.invokevirtual 78, 3) := dk_182 0 78 (dk_at dksJ18_toString_0 9 rfl rfl)
theorem dJ18_toString_12 : decode cJ18_toString 12 = .ok (.astore_n 2, 1) := dk_77 (dk_at dksJ18_toString_0 12 rfl rfl)
theorem dJ18_toString_13 : decode cJ18_toString 13 = .ok (.aload_n 2, 1) := dk_44 (dk_at dksJ18_toString_0 13 rfl rfl)
theorem dJ18_toString_14 : decode cJ18_toString 14 = .ok (.ifnull 29, 3) := dk_198 0 29 (dk_at dksJ18_toString_0 14 rfl rfl)
theorem dJ18_toString_17 : decode cJ18_toString 17 = .ok (.new 44, 3) := dk_187 0 44 (dk_at dksJ18_toString_0 17 rfl rfl)
theorem dJ18_toString_20 : decode cJ18_toString 20 = .ok (.dup, 1) := dk_89 (dk_at dksJ18_toString_0 20 rfl rfl)
theorem dJ18_toString_21 : decode cJ18_toString 21 = .ok (.invokespecial 46, 3) := dk_183 0 46 (dk_at dksJ18_toString_0 21 rfl rfl)
theorem dJ18_toString_24 : decode cJ18_toString 24 = .ok (.aload_n 1, 1) := dk_43 (dk_at dksJ18_toString_1 0 rfl rfl)
theorem dJ18_toString_25 : decode cJ18_toString 25 = .ok (.invokevirtual 49, 3) := dk_182 0 49 (dk_at dksJ18_toString_1 1 rfl rfl)
theorem dJ18_toString_28 : decode cJ18_toString 28 = .ok (.ldc 81, 2) := dk_18 81 (dk_at dksJ18_toString_1 4 rfl rfl)
theorem dJ18_toString_30 : decode cJ18_toString 30 = .ok (.invokevirtual 49, 3) := dk_182 0 49 (dk_at dksJ18_toString_1 6 rfl rfl)
theorem dJ18_toString_33 : decode cJ18_toString 33 = .ok (.aload_n 2, 1) := dk_44 (dk_at dksJ18_toString_1 9 rfl rfl)
theorem dJ18_toString_34 : decode cJ18_toString 34 = .ok (.invokevirtual 49, 3) := dk_182 0 49 (dk_at dksJ18_toString_1 10 rfl rfl)
theorem dJ18_toString_37 : decode cJ18_toString 37 = .ok (.invokevirtual 60, 3) := dk_182 0 60 (dk_at dksJ18_toString_1 13 rfl rfl)
theorem dJ18_toString_40 : decode cJ18_toString 40 = .ok (.goto 4, 3) := dk_167 0 4 (dk_at dksJ18_toString_1 16 rfl rfl)
theorem dJ18_toString_43 : decode cJ18_toString 43 = .ok (.aload_n 1, 1) := dk_43 (dk_at dksJ18_toString_1 19 rfl rfl)
theorem dJ18_toString_44 : decode cJ18_toString 44 = .ok (.areturn, 1) := dk_176 (dk_at dksJ18_toString_1 20 rfl rfl)
abbrev cJ18_getLocalizedMessage : ByteArray := prog_47_method_7_code
def yJ18_getLocalizedMessage : MethodName := ⟨RJ18, "getLocalizedMessage", "()Ljava/lang/String;"⟩
theorem dJ18_getLocalizedMessage_0 : decode cJ18_getLocalizedMessage 0 = .ok (.aload_n 0, 1) := by decide +kernel
theorem dJ18_getLocalizedMessage_1 : decode cJ18_getLocalizedMessage 1 = .ok (.invokevirtual 39, 3) := by decide +kernel
theorem dJ18_getLocalizedMessage_4 : decode cJ18_getLocalizedMessage 4 = .ok (.areturn, 1) := by decide +kernel
abbrev cJ18_getMessage : ByteArray := prog_47_method_6_code
def yJ18_getMessage : MethodName := ⟨RJ18, "getMessage", "()Ljava/lang/String;"⟩
theorem dJ18_getMessage_0 : decode cJ18_getMessage 0 = .ok (.aload_n 0, 1) := by decide +kernel
theorem dJ18_getMessage_1 : decode cJ18_getMessage 1 = .ok (.getfield 31, 3) := by decide +kernel
theorem dJ18_getMessage_4 : decode cJ18_getMessage 4 = .ok (.areturn, 1) := by decide +kernel
theorem q131 : (Jvm.Cond.initialized "java/lang/Throwable") ∈ lw_all := lw_g (lw_at lw_m1 34 rfl) rfl
theorem q929 : (Jvm.Cond.declares ({ cls := "java/lang/Throwable", name := "<init>", desc := "()V" } : Jvm.MethodName)) ∈ lw_tbl := lw_at lw_m4 112 rfl
theorem q930 : (Jvm.Cond.declares ({ cls := "java/lang/Throwable", name := "<init>", desc := "(Ljava/lang/String;)V" } : Jvm.MethodName)) ∈ lw_tbl := lw_at lw_m4 113 rfl
theorem q934 : (Jvm.Cond.lays "java/lang/Throwable" "java/lang/Throwable" "cause" "Ljava/lang/Throwable;") ∈ lw_all := lw_g (lw_at lw_m4 117 rfl) rfl
theorem q936 : (Jvm.Cond.lays "java/lang/Throwable" "java/lang/Throwable" "stackTrace" "[Ljava/lang/StackTraceElement;") ∈ lw_all := lw_g (lw_at lw_m4 119 rfl) rfl
theorem q938 : (Jvm.Cond.lays "java/lang/Throwable" "java/lang/Throwable" "suppressedExceptions" "Ljava/util/List;") ∈ lw_all := lw_g (lw_at lw_m4 121 rfl) rfl
theorem q940 : (Jvm.Cond.lays "java/lang/Throwable" "java/lang/Throwable" "detailMessage" "Ljava/lang/String;") ∈ lw_all := lw_g (lw_at lw_m4 123 rfl) rfl
theorem q942 : (Jvm.Cond.lays "java/lang/Throwable" "java/lang/Throwable" "backtrace" "Ljava/lang/Object;") ∈ lw_all := lw_g (lw_at lw_m4 125 rfl) rfl
theorem q943 : (Jvm.Cond.fieldLink "java/lang/Throwable" (198 : Nat) "java/lang/Throwable" "backtrace" "Ljava/lang/Object;") ∈ lw_all := lw_g (lw_at lw_m4 126 rfl) rfl
theorem q944 : (Jvm.Cond.superclass "java/lang/Throwable" "java/lang/Object") ∈ lw_all := lw_g (lw_at lw_m4 127 rfl) rfl
theorem q945 : (Jvm.Cond.instanceMethod ({ cls := "java/lang/Throwable", name := "<init>", desc := "()V" } : Jvm.MethodName)) ∈ lw_all := lw_g (lw_at lw_m4 128 rfl) rfl
theorem q946 : (Jvm.Cond.code ({ cls := "java/lang/Throwable", name := "<init>", desc := "()V" } : Jvm.MethodName) prog_47_method_1_code (1 : Nat) (Option.none : Option Jvm.ClassFile.FieldType)) ∈ lw_all := lw_g (lw_at lw_m4 129 rfl) rfl
theorem q947 : (Jvm.Cond.methodLink "java/lang/Throwable" (1 : Nat) ({ cls := "java/lang/Object", name := "<init>", desc := "()V" } : Jvm.MethodName)) ∈ lw_all := lw_g (lw_at lw_m4 130 rfl) rfl
theorem q948 : (Jvm.Cond.fieldLink "java/lang/Throwable" (13 : Nat) "java/lang/Throwable" "UNASSIGNED_STACK" "[Ljava/lang/StackTraceElement;") ∈ lw_all := lw_g (lw_at lw_m4 131 rfl) rfl
theorem q949 : (Jvm.Cond.laysStatic "java/lang/Throwable" "UNASSIGNED_STACK" "[Ljava/lang/StackTraceElement;") ∈ lw_tbl := lw_at lw_m4 132 rfl
theorem q950 : (Jvm.Cond.fieldLink "java/lang/Throwable" (20 : Nat) "java/lang/Throwable" "SUPPRESSED_SENTINEL" "Ljava/util/List;") ∈ lw_all := lw_g (lw_at lw_m4 133 rfl) rfl
theorem q951 : (Jvm.Cond.laysStatic "java/lang/Throwable" "SUPPRESSED_SENTINEL" "Ljava/util/List;") ∈ lw_tbl := lw_at lw_m4 134 rfl
theorem q952 : (Jvm.Cond.methodLink "java/lang/Throwable" (27 : Nat) ({ cls := "java/lang/Throwable", name := "fillInStackTrace", desc := "()Ljava/lang/Throwable;" } : Jvm.MethodName)) ∈ lw_all := lw_g (lw_at lw_m4 135 rfl) rfl
theorem q953 : (Jvm.Cond.instanceMethod ({ cls := "java/lang/Throwable", name := "fillInStackTrace", desc := "()Ljava/lang/Throwable;" } : Jvm.MethodName)) ∈ lw_all := lw_g (lw_at lw_m4 136 rfl) rfl
theorem q954 : (Jvm.Cond.sameMethod "java/lang/Throwable" "java/lang/Throwable" "fillInStackTrace" "()Ljava/lang/Throwable;") ∈ lw_all := lw_g (lw_at lw_m4 137 rfl) rfl
theorem q957 : (Jvm.Cond.codeSync ({ cls := "java/lang/Throwable", name := "fillInStackTrace", desc := "()Ljava/lang/Throwable;" } : Jvm.MethodName) prog_47_method_18_code (1 : Nat) (Option.some (Jvm.ClassFile.FieldType.object "java/lang/Throwable"))) ∈ lw_all := lw_g (lw_at lw_m4 140 rfl) rfl
theorem q958 : (Jvm.Cond.methodLink "java/lang/Throwable" (202 : Nat) ({ cls := "java/lang/Throwable", name := "fillInStackTrace", desc := "(I)Ljava/lang/Throwable;" } : Jvm.MethodName)) ∈ lw_all := lw_g (lw_at lw_m4 141 rfl) rfl
theorem q959 : (Jvm.Cond.privateMethod ({ cls := "java/lang/Throwable", name := "fillInStackTrace", desc := "(I)Ljava/lang/Throwable;" } : Jvm.MethodName)) ∈ lw_tbl := lw_at lw_m4 142 rfl
theorem q960 : (Jvm.Cond.instanceMethod ({ cls := "java/lang/Throwable", name := "fillInStackTrace", desc := "(I)Ljava/lang/Throwable;" } : Jvm.MethodName)) ∈ lw_all := lw_g (lw_at lw_m4 143 rfl) rfl
theorem q961 : (Jvm.Cond.instantiable "java/lang/Throwable" (6 : Nat)) ∈ lw_all := lw_g (lw_at lw_m4 144 rfl) rfl
theorem q962 : (Jvm.Cond.native ({ cls := "java/lang/Throwable", name := "fillInStackTrace", desc := "(I)Ljava/lang/Throwable;" } : Jvm.MethodName)) ∈ lw_all := lw_g (lw_at lw_m4 145 rfl) rfl
theorem q973 : (Jvm.Cond.instanceMethod ({ cls := "java/lang/Throwable", name := "<init>", desc := "(Ljava/lang/Throwable;)V" } : Jvm.MethodName)) ∈ lw_all := lw_g (lw_at lw_m4 156 rfl) rfl
theorem q974 : (Jvm.Cond.code ({ cls := "java/lang/Throwable", name := "<init>", desc := "(Ljava/lang/Throwable;)V" } : Jvm.MethodName) prog_47_method_4_code (2 : Nat) (Option.none : Option Jvm.ClassFile.FieldType)) ∈ lw_all := lw_g (lw_at lw_m4 157 rfl) rfl
theorem q975 : (Jvm.Cond.methodLink "java/lang/Throwable" (35 : Nat) ({ cls := "java/lang/Throwable", name := "toString", desc := "()Ljava/lang/String;" } : Jvm.MethodName)) ∈ lw_all := lw_g (lw_at lw_m4 158 rfl) rfl
theorem q976 : (Jvm.Cond.instanceMethod ({ cls := "java/lang/Throwable", name := "toString", desc := "()Ljava/lang/String;" } : Jvm.MethodName)) ∈ lw_all := lw_g (lw_at lw_m4 159 rfl) rfl
theorem q977 : (Jvm.Cond.sameMethod "java/lang/Throwable" "java/lang/Throwable" "toString" "()Ljava/lang/String;") ∈ lw_all := lw_g (lw_at lw_m4 160 rfl) rfl
theorem q981 : (Jvm.Cond.code ({ cls := "java/lang/Throwable", name := "toString", desc := "()Ljava/lang/String;" } : Jvm.MethodName) prog_47_method_11_code (3 : Nat) (Option.some (Jvm.ClassFile.FieldType.object "java/lang/String"))) ∈ lw_all := lw_g (lw_at lw_m4 164 rfl) rfl
theorem q982 : (Jvm.Cond.methodLink "java/lang/Throwable" (69 : Nat) ({ cls := "java/lang/Object", name := "getClass", desc := "()Ljava/lang/Class;" } : Jvm.MethodName)) ∈ lw_all := lw_g (lw_at lw_m4 165 rfl) rfl
theorem q983 : (Jvm.Cond.methodLink "java/lang/Throwable" (78 : Nat) ({ cls := "java/lang/Throwable", name := "getLocalizedMessage", desc := "()Ljava/lang/String;" } : Jvm.MethodName)) ∈ lw_all := lw_g (lw_at lw_m4 166 rfl) rfl
theorem q984 : (Jvm.Cond.instanceMethod ({ cls := "java/lang/Throwable", name := "getLocalizedMessage", desc := "()Ljava/lang/String;" } : Jvm.MethodName)) ∈ lw_all := lw_g (lw_at lw_m4 167 rfl) rfl
theorem q985 : (Jvm.Cond.sameMethod "java/lang/Throwable" "java/lang/Throwable" "getLocalizedMessage" "()Ljava/lang/String;") ∈ lw_all := lw_g (lw_at lw_m4 168 rfl) rfl
theorem q989 : (Jvm.Cond.code ({ cls := "java/lang/Throwable", name := "getLocalizedMessage", desc := "()Ljava/lang/String;" } : Jvm.MethodName) prog_47_method_7_code (1 : Nat) (Option.some (Jvm.ClassFile.FieldType.object "java/lang/String"))) ∈ lw_all := lw_g (lw_at lw_m4 172 rfl) rfl
theorem q990 : (Jvm.Cond.methodLink "java/lang/Throwable" (39 : Nat) ({ cls := "java/lang/Throwable", name := "getMessage", desc := "()Ljava/lang/String;" } : Jvm.MethodName)) ∈ lw_all := lw_g (lw_at lw_m4 173 rfl) rfl
theorem q991 : (Jvm.Cond.instanceMethod ({ cls := "java/lang/Throwable", name := "getMessage", desc := "()Ljava/lang/String;" } : Jvm.MethodName)) ∈ lw_all := lw_g (lw_at lw_m4 174 rfl) rfl
theorem q992 : (Jvm.Cond.sameMethod "java/lang/Throwable" "java/lang/Throwable" "getMessage" "()Ljava/lang/String;") ∈ lw_all := lw_g (lw_at lw_m4 175 rfl) rfl
theorem q996 : (Jvm.Cond.code ({ cls := "java/lang/Throwable", name := "getMessage", desc := "()Ljava/lang/String;" } : Jvm.MethodName) prog_47_method_6_code (1 : Nat) (Option.some (Jvm.ClassFile.FieldType.object "java/lang/String"))) ∈ lw_all := lw_g (lw_at lw_m4 179 rfl) rfl
theorem q997 : (Jvm.Cond.classLink "java/lang/Throwable" (44 : Nat) "java/lang/StringBuilder") ∈ lw_all := lw_g (lw_at lw_m4 180 rfl) rfl
theorem q998 : (Jvm.Cond.methodLink "java/lang/Throwable" (46 : Nat) ({ cls := "java/lang/StringBuilder", name := "<init>", desc := "()V" } : Jvm.MethodName)) ∈ lw_all := lw_g (lw_at lw_m4 181 rfl) rfl
theorem q999 : (Jvm.Cond.methodLink "java/lang/Throwable" (49 : Nat) ({ cls := "java/lang/StringBuilder", name := "append", desc := "(Ljava/lang/String;)Ljava/lang/StringBuilder;" } : Jvm.MethodName)) ∈ lw_all := lw_g (lw_at lw_m4 182 rfl) rfl
theorem q1104 : (Jvm.Cond.stringRef "java/lang/Throwable" (81 : Nat) ": ") ∈ lw_tbl := lw_at lw_m5 47 rfl
theorem q1105 : (Jvm.Cond.methodLink "java/lang/Throwable" (60 : Nat) ({ cls := "java/lang/StringBuilder", name := "toString", desc := "()Ljava/lang/String;" } : Jvm.MethodName)) ∈ lw_all := lw_g (lw_at lw_m5 48 rfl) rfl
theorem q1165 : (Jvm.Cond.fieldLink "java/lang/Throwable" (198 : Nat) "java/lang/Throwable" "backtrace" "Ljava/lang/Object;") ∈ lw_all := lw_g (lw_at lw_m5 108 rfl) rfl
theorem q1166 : (Jvm.Cond.fieldLink "java/lang/Throwable" (31 : Nat) "java/lang/Throwable" "detailMessage" "Ljava/lang/String;") ∈ lw_all := lw_g (lw_at lw_m5 109 rfl) rfl
theorem q1167 : (Jvm.Cond.fieldLink "java/lang/Throwable" (7 : Nat) "java/lang/Throwable" "cause" "Ljava/lang/Throwable;") ∈ lw_all := lw_g (lw_at lw_m5 110 rfl) rfl
theorem q1168 : (Jvm.Cond.fieldLink "java/lang/Throwable" (17 : Nat) "java/lang/Throwable" "stackTrace" "[Ljava/lang/StackTraceElement;") ∈ lw_all := lw_g (lw_at lw_m5 111 rfl) rfl
theorem q1169 : (Jvm.Cond.fieldLink "java/lang/Throwable" (24 : Nat) "java/lang/Throwable" "suppressedExceptions" "Ljava/util/List;") ∈ lw_all := lw_g (lw_at lw_m5 112 rfl) rfl
theorem q1170 : (Jvm.Cond.soleField "java/lang/Throwable" "backtrace") ∈ lw_all := lw_g (lw_at lw_m5 113 rfl) rfl
theorem q1171 : (Jvm.Cond.soleField "java/lang/Throwable" "detailMessage") ∈ lw_all := lw_g (lw_at lw_m5 114 rfl) rfl
theorem q1172 : (Jvm.Cond.soleField "java/lang/Throwable" "cause") ∈ lw_all := lw_g (lw_at lw_m5 115 rfl) rfl
theorem q1173 : (Jvm.Cond.soleField "java/lang/Throwable" "stackTrace") ∈ lw_all := lw_g (lw_at lw_m5 116 rfl) rfl
theorem q1175 : (Jvm.Cond.soleField "java/lang/Throwable" "depth") ∈ lw_all := lw_g (lw_at lw_m5 118 rfl) rfl
theorem q1176 : (Jvm.Cond.soleField "java/lang/Throwable" "suppressedExceptions") ∈ lw_all := lw_g (lw_at lw_m5 119 rfl) rfl
theorem q2023 : (Jvm.Cond.declares ({ cls := "java/lang/Throwable", name := "initCause", desc := "(Ljava/lang/Throwable;)Ljava/lang/Throwable;" } : Jvm.MethodName)) ∈ lw_tbl := lw_at lw_m9 6 rfl
theorem q2025 : (Jvm.Cond.instanceMethod ({ cls := "java/lang/Throwable", name := "initCause", desc := "(Ljava/lang/Throwable;)Ljava/lang/Throwable;" } : Jvm.MethodName)) ∈ lw_all := lw_g (lw_at lw_m9 8 rfl) rfl
theorem q2026 : (Jvm.Cond.codeSync ({ cls := "java/lang/Throwable", name := "initCause", desc := "(Ljava/lang/Throwable;)Ljava/lang/Throwable;" } : Jvm.MethodName) prog_47_method_9_code (2 : Nat) (Option.some (Jvm.ClassFile.FieldType.object "java/lang/Throwable"))) ∈ lw_all := lw_g (lw_at lw_m9 9 rfl) rfl
theorem q2028 : (Jvm.Cond.instanceMethod ({ cls := "java/lang/Throwable", name := "getCause", desc := "()Ljava/lang/Throwable;" } : Jvm.MethodName)) ∈ lw_all := lw_g (lw_at lw_m9 11 rfl) rfl
theorem q2029 : (Jvm.Cond.sameMethod "java/lang/Throwable" "java/lang/Throwable" "getCause" "()Ljava/lang/Throwable;") ∈ lw_all := lw_g (lw_at lw_m9 12 rfl) rfl
theorem q2033 : (Jvm.Cond.codeSync ({ cls := "java/lang/Throwable", name := "getCause", desc := "()Ljava/lang/Throwable;" } : Jvm.MethodName) prog_47_method_8_code (1 : Nat) (Option.some (Jvm.ClassFile.FieldType.object "java/lang/Throwable"))) ∈ lw_all := lw_g (lw_at lw_m9 16 rfl) rfl
theorem q2919 : (Jvm.Cond.sameMethod "java/lang/Throwable" "java/lang/Throwable" "fillInStackTrace" "(I)Ljava/lang/Throwable;") ∈ lw_all := lw_g (lw_at lw_m12 182 rfl) rfl
theorem q2979 : (Jvm.Cond.castable "java/lang/Throwable" "java/lang/Object") ∈ lw_tbl := lw_at lw_m13 2 rfl
theorem in_J18 : ∀ w ∈ wsJ180, w ∈ lw_all := lw_in wsJ180 [934, 936, 938, 940, 942] (by decide +kernel) (by decide +kernel)
/-! java/lang/Exception -/
set_option maxRecDepth 100000
def RJ19 : String := "java/lang/Exception"
abbrev cJ19_init : ByteArray := prog_35_method_4_code
def yJ19_init : MethodName := ⟨RJ19, "<init>", "(Ljava/lang/Throwable;)V"⟩
def dkwJ19_init_0 : List UInt8 := [42, 43, 183, 0, 13, 177]
abbrev dktJ19_init_0 : List UInt8 := dkwJ19_init_0 ++ []
theorem dksJ19_init_0 : cJ19_init.data.toList.drop 0 = dktJ19_init_0 := by decide +kernel
theorem dJ19_init_0 : decode cJ19_init 0 = .ok (.aload_n 0, 1) := dk_42 (dk_at dksJ19_init_0 0 rfl rfl)
theorem dJ19_init_1 : decode cJ19_init 1 = .ok (.aload_n 1, 1) := dk_43 (dk_at dksJ19_init_0 1 rfl rfl)
theorem dJ19_init_2 : decode cJ19_init 2 = .ok (.invokespecial 13, 3) := dk_183 0 13 (dk_at dksJ19_init_0 2 rfl rfl)
theorem dJ19_init_5 : decode cJ19_init 5 = .ok (.return_, 1) := dk_177 (dk_at dksJ19_init_0 5 rfl rfl)
abbrev cJ19_init_2 : ByteArray := prog_35_method_1_code
def yJ19_init_2 : MethodName := ⟨RJ19, "<init>", "()V"⟩
theorem dJ19_init_2_0 : decode cJ19_init_2 0 = .ok (.aload_n 0, 1) := by decide +kernel
theorem dJ19_init_2_1 : decode cJ19_init_2 1 = .ok (.invokespecial 1, 3) := by decide +kernel
theorem dJ19_init_2_4 : decode cJ19_init_2 4 = .ok (.return_, 1) := by decide +kernel
theorem q132 : (Jvm.Cond.initialized "java/lang/Exception") ∈ lw_all := lw_g (lw_at lw_m1 35 rfl) rfl
theorem q927 : (Jvm.Cond.declares ({ cls := "java/lang/Exception", name := "<init>", desc := "()V" } : Jvm.MethodName)) ∈ lw_tbl := lw_at lw_m4 110 rfl
theorem q928 : (Jvm.Cond.declares ({ cls := "java/lang/Exception", name := "<init>", desc := "(Ljava/lang/String;)V" } : Jvm.MethodName)) ∈ lw_tbl := lw_at lw_m4 111 rfl
theorem q970 : (Jvm.Cond.instanceMethod ({ cls := "java/lang/Exception", name := "<init>", desc := "(Ljava/lang/Throwable;)V" } : Jvm.MethodName)) ∈ lw_all := lw_g (lw_at lw_m4 153 rfl) rfl
theorem q971 : (Jvm.Cond.code ({ cls := "java/lang/Exception", name := "<init>", desc := "(Ljava/lang/Throwable;)V" } : Jvm.MethodName) prog_35_method_4_code (2 : Nat) (Option.none : Option Jvm.ClassFile.FieldType)) ∈ lw_all := lw_g (lw_at lw_m4 154 rfl) rfl
theorem q972 : (Jvm.Cond.methodLink "java/lang/Exception" (13 : Nat) ({ cls := "java/lang/Throwable", name := "<init>", desc := "(Ljava/lang/Throwable;)V" } : Jvm.MethodName)) ∈ lw_all := lw_g (lw_at lw_m4 155 rfl) rfl
theorem q1992 : (Jvm.Cond.instanceMethod ({ cls := "java/lang/Exception", name := "<init>", desc := "()V" } : Jvm.MethodName)) ∈ lw_all := lw_g (lw_at lw_m8 215 rfl) rfl
theorem q1993 : (Jvm.Cond.code ({ cls := "java/lang/Exception", name := "<init>", desc := "()V" } : Jvm.MethodName) prog_35_method_1_code (1 : Nat) (Option.none : Option Jvm.ClassFile.FieldType)) ∈ lw_all := lw_g (lw_at lw_m8 216 rfl) rfl
theorem q1994 : (Jvm.Cond.methodLink "java/lang/Exception" (1 : Nat) ({ cls := "java/lang/Throwable", name := "<init>", desc := "()V" } : Jvm.MethodName)) ∈ lw_all := lw_g (lw_at lw_m8 217 rfl) rfl
/-! java/util/AbstractSequentialList -/
set_option maxRecDepth 100000
def RJ2 : String := "java/util/AbstractSequentialList"
abbrev cJ2_init : ByteArray := prog_54_method_1_code
def yJ2_init : MethodName := ⟨RJ2, "<init>", "()V"⟩
theorem dJ2_init_0 : decode cJ2_init 0 = .ok (.aload_n 0, 1) := by decide +kernel
theorem dJ2_init_1 : decode cJ2_init 1 = .ok (.invokespecial 1, 3) := by decide +kernel
theorem dJ2_init_4 : decode cJ2_init 4 = .ok (.return_, 1) := by decide +kernel
abbrev cJ2_iterator : ByteArray := prog_54_method_7_code
def yJ2_iterator : MethodName := ⟨RJ2, "iterator", "()Ljava/util/Iterator;"⟩
theorem dJ2_iterator_0 : decode cJ2_iterator 0 = .ok (.aload_n 0, 1) := by decide +kernel
theorem dJ2_iterator_1 : decode cJ2_iterator 1 = .ok (.invokevirtual 65, 3) := by decide +kernel
theorem dJ2_iterator_4 : decode cJ2_iterator 4 = .ok (.areturn, 1) := by decide +kernel
theorem q101 : (Jvm.Cond.initialized "java/util/AbstractSequentialList") ∈ lw_all := lw_g (lw_at lw_m1 4 rfl) rfl
theorem q169 : (Jvm.Cond.instanceMethod ({ cls := "java/util/AbstractSequentialList", name := "<init>", desc := "()V" } : Jvm.MethodName)) ∈ lw_all := lw_g (lw_at lw_m1 72 rfl) rfl
theorem q170 : (Jvm.Cond.code ({ cls := "java/util/AbstractSequentialList", name := "<init>", desc := "()V" } : Jvm.MethodName) prog_54_method_1_code (1 : Nat) (Option.none : Option Jvm.ClassFile.FieldType)) ∈ lw_all := lw_g (lw_at lw_m1 73 rfl) rfl
theorem q171 : (Jvm.Cond.methodLink "java/util/AbstractSequentialList" (1 : Nat) ({ cls := "java/util/AbstractList", name := "<init>", desc := "()V" } : Jvm.MethodName)) ∈ lw_all := lw_g (lw_at lw_m1 74 rfl) rfl
theorem q1695 : (Jvm.Cond.instanceMethod ({ cls := "java/util/AbstractSequentialList", name := "iterator", desc := "()Ljava/util/Iterator;" } : Jvm.MethodName)) ∈ lw_all := lw_g (lw_at lw_m7 158 rfl) rfl
theorem q1696 : (Jvm.Cond.publicMethod ({ cls := "java/util/AbstractSequentialList", name := "iterator", desc := "()Ljava/util/Iterator;" } : Jvm.MethodName)) ∈ lw_tbl := lw_at lw_m7 159 rfl
theorem q1697 : (Jvm.Cond.code ({ cls := "java/util/AbstractSequentialList", name := "iterator", desc := "()Ljava/util/Iterator;" } : Jvm.MethodName) prog_54_method_7_code (1 : Nat) (Option.some (Jvm.ClassFile.FieldType.object "java/util/Iterator"))) ∈ lw_all := lw_g (lw_at lw_m7 160 rfl) rfl
theorem q1698 : (Jvm.Cond.methodLink "java/util/AbstractSequentialList" (65 : Nat) ({ cls := "java/util/AbstractSequentialList", name := "listIterator", desc := "()Ljava/util/ListIterator;" } : Jvm.MethodName)) ∈ lw_all := lw_g (lw_at lw_m7 161 rfl) rfl
theorem q1699 : (Jvm.Cond.sameMethod "java/util/AbstractSequentialList" "java/util/AbstractList" "listIterator" "()Ljava/util/ListIterator;") ∈ lw_all := lw_g (lw_at lw_m7 162 rfl) rfl
/-! java/util/ArrayList$Itr -/
set_option maxRecDepth 100000
def RJ20 : String := "java/util/ArrayList$Itr"
def TJ20 : u_T := fun k => match k with
  | 0 => ("java/util/ArrayList$Itr", "cursor", "I", false)
  | 1 => ("java/util/ArrayList$Itr", "lastRet", "I", false)
  | 2 => ("java/util/ArrayList$Itr", "expectedModCount", "I", false)
  | _ => ("java/util/ArrayList$Itr", "this$0", "Ljava/util/ArrayList;", true)
def tyJ20 : Nat → FieldType := fun k => match k with
  | 0 => .int
  | 1 => .int
  | 2 => .int
  | _ => .object "java/util/ArrayList"
abbrev wsJ200 : List Cond := u_ws RJ20 TJ20 4
theorem nmJ20 : ∀ a, a < 4 → ∀ b, b < 4 → a ≠ b → (TJ20 a).2.1 ≠ (TJ20 b).2.1 := by decide +kernel
theorem tyJ20_ok : ∀ k, k < 4 → parseFieldDescriptor (TJ20 k).2.2.1 = some (tyJ20 k) := by decide +kernel
abbrev cJ20_init : ByteArray := prog_58_method_1_code
def yJ20_init : MethodName := ⟨RJ20, "<init>", "(Ljava/util/ArrayList;)V"⟩
def dkwJ20_init_1 : List UInt8 := [181, 0, 22, 177]
abbrev dktJ20_init_1 : List UInt8 := dkwJ20_init_1 ++ []
def dkwJ20_init_0 : List UInt8 := [42, 43, 181, 0, 1, 42, 183, 0, 7, 42, 2, 181, 0, 13, 42, 42, 180, 0, 1, 180, 0, 17]
abbrev dktJ20_init_0 : List UInt8 := dkwJ20_init_0 ++ dktJ20_init_1
theorem dksJ20_init_0 : cJ20_init.data.toList.drop 0 = dktJ20_init_0 := by decide +kernel
theorem dksJ20_init_1 : cJ20_init.data.toList.drop 22 = dktJ20_init_1 := dk_seg dksJ20_init_0 22 rfl rfl
theorem dJ20_init_0 : decode cJ20_init 0 = .ok (.aload_n 0, 1) := dk_42 (dk_at dksJ20_init_0 0 rfl rfl)
theorem dJ20_init_1 : decode cJ20_init 1 = .ok (.aload_n 1, 1) := dk_43 (dk_at dksJ20_init_0 1 rfl rfl)
theorem dJ20_init_2 : decode cJ20_init 2 = .ok (.putfield 1, 3) := dk_181 0 1 (dk_at dksJ20_init_0 2 rfl rfl)
theorem dJ20_init_5 : decode cJ20_init 5 = .ok (.aload_n 0, 1) := dk_42 (dk_at dksJ20_init_0 5 rfl rfl)
theorem dJ20_init_6 : decode cJ20_init 6 = .ok (.invokespecial 7, 3) := dk_183 0 7 (dk_at dksJ20_init_0 6 rfl rfl)
theorem dJ20_init_9 : decode cJ20_init 9 = .ok (.aload_n 0, 1) := dk_42 (dk_at dksJ20_init_0 9 rfl rfl)
theorem dJ20_init_10 : decode cJ20_init 10 = .ok (.iconst (-1), 1) := dk_2 (dk_at dksJ20_init_0 10 rfl rfl)
theorem dJ20_init_11 : decode cJ20_init 11 = .ok (.putfield 13, 3) := dk_181 0 13 (dk_at dksJ20_init_0 11 rfl rfl)
theorem dJ20_init_14 : decode cJ20_init 14 = .ok (.aload_n 0, 1) := dk_42 (dk_at dksJ20_init_0 14 rfl rfl)
theorem dJ20_init_15 : decode cJ20_init 15 = .ok (.aload_n 0, 1) := dk_42 (dk_at dksJ20_init_0 15 rfl rfl)
theorem dJ20_init_16 : decode cJ20_init 16 = .ok (.getfield 1, 3) := dk_180 0 1 (dk_at dksJ20_init_0 16 rfl rfl)
theorem dJ20_init_19 : decode cJ20_init 19 = .ok (.getfield 17, 3) := dk_180 0 17 (dk_at dksJ20_init_0 19 rfl rfl)
theorem dJ20_init_22 : decode cJ20_init 22 = .ok (.putfield 22, 3) := dk_181 0 22 (dk_at dksJ20_init_1 0 rfl rfl)
theorem dJ20_init_25 : decode cJ20_init 25 = .ok (.return_, 1) := dk_177 (dk_at dksJ20_init_1 3 rfl rfl)
abbrev cJ20_hasNext : ByteArray := prog_58_method_2_code
def yJ20_hasNext : MethodName := ⟨RJ20, "hasNext", "()Z"⟩
def dkwJ20_hasNext_0 : List UInt8 := [42, 180, 0, 25, 42, 180, 0, 1, 180, 0, 28, 159, 0, 7, 4, 167, 0, 4, 3, 172]
abbrev dktJ20_hasNext_0 : List UInt8 := dkwJ20_hasNext_0 ++ []
theorem dksJ20_hasNext_0 : cJ20_hasNext.data.toList.drop 0 = dktJ20_hasNext_0 := by decide +kernel
theorem dJ20_hasNext_0 : decode cJ20_hasNext 0 = .ok (.aload_n 0, 1) := dk_42 (dk_at dksJ20_hasNext_0 0 rfl rfl)
theorem dJ20_hasNext_1 : decode cJ20_hasNext 1 = .ok (.getfield 25, 3) := dk_180 0 25 (dk_at dksJ20_hasNext_0 1 rfl rfl)
theorem dJ20_hasNext_4 : decode cJ20_hasNext 4 = .ok (.aload_n 0, 1) := dk_42 (dk_at dksJ20_hasNext_0 4 rfl rfl)
theorem dJ20_hasNext_5 : decode cJ20_hasNext 5 = .ok (.getfield 1, 3) := dk_180 0 1 (dk_at dksJ20_hasNext_0 5 rfl rfl)
theorem dJ20_hasNext_8 : decode cJ20_hasNext 8 = .ok (.getfield 28, 3) := dk_180 0 28 (dk_at dksJ20_hasNext_0 8 rfl rfl)
theorem dJ20_hasNext_11 : decode cJ20_hasNext 11 = .ok (.if_icmp .eq 7, 3) := dk_159 0 7 (dk_at dksJ20_hasNext_0 11 rfl rfl)
theorem dJ20_hasNext_14 : decode cJ20_hasNext 14 = .ok (.iconst 1, 1) := dk_4 (dk_at dksJ20_hasNext_0 14 rfl rfl)
theorem dJ20_hasNext_15 : decode cJ20_hasNext 15 = .ok (.goto 4, 3) := dk_167 0 4 (dk_at dksJ20_hasNext_0 15 rfl rfl)
theorem dJ20_hasNext_18 : decode cJ20_hasNext 18 = .ok (.iconst 0, 1) := dk_3 (dk_at dksJ20_hasNext_0 18 rfl rfl)
theorem dJ20_hasNext_19 : decode cJ20_hasNext 19 = .ok (.ireturn, 1) := dk_172 (dk_at dksJ20_hasNext_0 19 rfl rfl)
abbrev cJ20_next : ByteArray := prog_58_method_3_code
def yJ20_next : MethodName := ⟨RJ20, "next", "()Ljava/lang/Object;"⟩
def dkwJ20_next_2 : List UInt8 := [183, 0, 43, 191, 42, 27, 4, 96, 181, 0, 25, 44, 42, 27, 90, 181, 0, 13, 50, 176]
abbrev dktJ20_next_2 : List UInt8 := dkwJ20_next_2 ++ []
def dkwJ20_next_1 : List UInt8 := [183, 0, 36, 191, 42, 180, 0, 1, 180, 0, 37, 77, 27, 44, 190, 161, 0, 11, 187, 0, 41, 89]
abbrev dktJ20_next_1 : List UInt8 := dkwJ20_next_1 ++ dktJ20_next_2
def dkwJ20_next_0 : List UInt8 := [42, 182, 0, 31, 42, 180, 0, 25, 60, 27, 42, 180, 0, 1, 180, 0, 28, 161, 0, 11, 187, 0, 34, 89]
abbrev dktJ20_next_0 : List UInt8 := dkwJ20_next_0 ++ dktJ20_next_1
theorem dksJ20_next_0 : cJ20_next.data.toList.drop 0 = dktJ20_next_0 := by decide +kernel
theorem dksJ20_next_1 : cJ20_next.data.toList.drop 24 = dktJ20_next_1 := dk_seg dksJ20_next_0 24 rfl rfl
theorem dksJ20_next_2 : cJ20_next.data.toList.drop 46 = dktJ20_next_2 := dk_seg dksJ20_next_1 22 rfl rfl
theorem dJ20_next_0 : decode cJ20_next 0 = .ok (.aload_n 0, 1) := dk_42 (dk_at dksJ20_next_0 0 rfl rfl)
theorem dJ20_next_1 : decode cJ20_next 1 = .ok (.invokevirtual 31, 3) := dk_182 0 31 (dk_at dksJ20_next_0 1 rfl rfl)
theorem dJ20_next_4 : decode cJ20_next 4 = .ok (.aload_n 0, 1) := dk_42 (dk_at dksJ20_next_0 4 rfl rfl)
theorem dJ20_next_5 : decode cJ20_next 5 = .ok (.getfield 25, 3) := dk_180 0 25 (dk_at dksJ20_next_0 5 rfl rfl)
theorem dJ20_next_8 : decode cJ20_next 8 = .ok (.istore_n 1, 1) := dk_60 (dk_at dksJ20_next_0 8 rfl rfl)
theorem dJ20_next_9 : decode cJ20_next 9 = .ok (.iload_n 1, 1) := dk_27 (dk_at dksJ20_next_0 9 rfl rfl)
theorem dJ20_next_10 : decode cJ20_next 10 = .ok (.aload_n 0, 1) := dk_42 (dk_at dksJ20_next_0 10 rfl rfl)
theorem dJ20_next_11 : decode cJ20_next 11 = .ok (.getfield 1, 3) := dk_180 0 1 (dk_at dksJ20_next_0 11 rfl rfl)
theorem dJ20_next_14 : decode cJ20_next 14 = .ok (.getfield 28, 3) := dk_180 0 28 (dk_at dksJ20_next_0 14 rfl rfl)
theorem dJ20_next_17 : decode cJ20_next 17 = .ok (.if_icmp .lt 11, 3) := dk_161 0 11 (dk_at dksJ20_next_0 17 rfl rfl)
theorem dJ20_next_20 : decode cJ20_next 20 = .ok (.new 34, 3) := dk_187 0 34 (dk_at dksJ20_next_0 20 rfl rfl)
theorem dJ20_next_23 : decode cJ20_next 23 = .ok (.dup, 1) := dk_89 (dk_at dksJ20_next_0 23 rfl rfl)
theorem dJ20_next_24 : decode cJ20_next 24 = .ok (.invokespecial 36, 3) := dk_183 0 36 (dk_at dksJ20_next_1 0 rfl rfl)
theorem dJ20_next_27 : decode cJ20_next 27 = .ok (.athrow, 1) := dk_191 (dk_at dksJ20_next_1 3 rfl rfl)
theorem dJ20_next_28 : decode cJ20_next 28 = .ok (.aload_n 0, 1) := dk_42 (dk_at dksJ20_next_1 4 rfl rfl)
theorem dJ20_next_29 : decode cJ20_next 29 = .ok (.getfield 1, 3) := dk_180 0 1 (dk_at dksJ20_next_1 5 rfl rfl)
theorem dJ20_next_32 : decode cJ20_next 32 = .ok (.getfield 37, 3) := dk_180 0 37 (dk_at dksJ20_next_1 8 rfl rfl)
theorem dJ20_next_35 : decode cJ20_next 35 = .ok (.astore_n 2, 1) := dk_77 (dk_at dksJ20_next_1 11 rfl rfl)
theorem dJ20_next_36 : decode cJ20_next 36 = .ok (.iload_n 1, 1) := dk_27 (dk_at dksJ20_next_1 12 rfl rfl)
theorem dJ20_next_37 : decode cJ20_next 37 = .ok (.aload_n 2, 1) := dk_44 (dk_at dksJ20_next_1 13 rfl rfl)
theorem dJ20_next_38 : decode cJ20_next 38 = .ok (.arraylength, 1) := dk_190 (dk_at dksJ20_next_1 14 rfl rfl)
theorem dJ20_next_39 : decode cJ20_next 39 = .ok (.if_icmp .lt 11, 3) := dk_161 0 11 (dk_at dksJ20_next_1 15 rfl rfl)
theorem dJ20_next_42 : decode cJ20_next 42 = .ok (.new 41, 3) := dk_187 0 41 (dk_at dksJ20_next_1 18 rfl rfl)
theorem dJ20_next_45 : decode cJ20_next 45 = .ok (.dup, 1) := dk_89 (dk_at dksJ20_next_1 21 rfl rfl)
theorem dJ20_next_46 : decode cJ20_next 46 = .ok (.invokespecial 43, 3) := dk_183 0 43 (dk_at dksJ20_next_2 0 rfl rfl)
theorem dJ20_next_49 : decode cJ20_next 49 = .ok (.athrow, 1) := dk_191 (dk_at dksJ20_next_2 3 rfl rfl)
theorem dJ20_next_50 : decode cJ20_next 50 = .ok (.aload_n 0, 1) := dk_42 (dk_at dksJ20_next_2 4 rfl rfl)
theorem dJ20_next_51 : decode cJ20_next 51 = .ok (.iload_n 1, 1) := dk_27 (dk_at dksJ20_next_2 5 rfl rfl)
theorem dJ20_next_52 : decode cJ20_next 52 = .ok (.iconst 1, 1) := dk_4 (dk_at dksJ20_next_2 6 rfl rfl)
theorem dJ20_next_53 : decode cJ20_next 53 = .ok (.iadd, 1) := dk_96 (dk_at dksJ20_next_2 7 rfl rfl)
theorem dJ20_next_54 : decode cJ20_next 54 = .ok (.putfield 25, 3) := dk_181 0 25 (dk_at dksJ20_next_2 8 rfl rfl)
theorem dJ20_next_57 : decode cJ20_next 57 = .ok (.aload_n 2, 1) := dk_44 (dk_at dksJ20_next_2 11 rfl rfl)
theorem dJ20_next_58 : decode cJ20_next 58 = .ok (.aload_n 0, 1) := dk_42 (dk_at dksJ20_next_2 12 rfl rfl)
theorem dJ20_next_59 : decode cJ20_next 59 = .ok (.iload_n 1, 1) := dk_27 (dk_at dksJ20_next_2 13 rfl rfl)
theorem dJ20_next_60 : decode cJ20_next 60 = .ok (.dup_x1, 1) := dk_90 (dk_at dksJ20_next_2 14 rfl rfl)
theorem dJ20_next_61 : decode cJ20_next 61 = .ok (.putfield 13, 3) := dk_181 0 13 (dk_at dksJ20_next_2 15 rfl rfl)
theorem dJ20_next_64 : decode cJ20_next 64 = .ok (.aaload, 1) := dk_50 (dk_at dksJ20_next_2 18 rfl rfl)
theorem dJ20_next_65 : decode cJ20_next 65 = .ok (.areturn, 1) := dk_176 (dk_at dksJ20_next_2 19 rfl rfl)
abbrev cJ20_checkForComodification : ByteArray := prog_58_method_6_code
def yJ20_checkForComodification : MethodName := ⟨RJ20, "checkForComodification", "()V"⟩
def dkwJ20_checkForComodification_0 : List UInt8 := [42, 180, 0, 1, 180, 0, 17, 42, 180, 0, 22, 159, 0, 11, 187, 0, 41, 89, 183, 0, 43, 191, 177]
abbrev dktJ20_checkForComodification_0 : List UInt8 := dkwJ20_checkForComodification_0 ++ []
theorem dksJ20_checkForComodification_0 : cJ20_checkForComodification.data.toList.drop 0 = dktJ20_checkForComodification_0 := by decide +kernel
theorem dJ20_checkForComodification_0 : decode cJ20_checkForComodification 0 = .ok (.aload_n 0, 1) := dk_42 (dk_at dksJ20_checkForComodification_0 0 rfl rfl)
theorem dJ20_checkForComodification_1 : decode cJ20_checkForComodification 1 = .ok (.getfield 1, 3) := dk_180 0 1 (dk_at dksJ20_checkForComodification_0 1 rfl rfl)
theorem dJ20_checkForComodification_4 : decode cJ20_checkForComodification 4 = .ok (.getfield 17, 3) := dk_180 0 17 (dk_at dksJ20_checkForComodification_0 4 rfl rfl)
theorem dJ20_checkForComodification_7 : decode cJ20_checkForComodification 7 = .ok (.aload_n 0, 1) := dk_42 (dk_at dksJ20_checkForComodification_0 7 rfl rfl)
theorem dJ20_checkForComodification_8 : decode cJ20_checkForComodification 8 = .ok (.getfield 22, 3) := dk_180 0 22 (dk_at dksJ20_checkForComodification_0 8 rfl rfl)
theorem dJ20_checkForComodification_11 : decode cJ20_checkForComodification 11 = .ok (.if_icmp .eq 11, 3) := dk_159 0 11 (dk_at dksJ20_checkForComodification_0 11 rfl rfl)
theorem dJ20_checkForComodification_14 : decode cJ20_checkForComodification 14 = .ok (.new 41, 3) := dk_187 0 41 (dk_at dksJ20_checkForComodification_0 14 rfl rfl)
theorem dJ20_checkForComodification_17 : decode cJ20_checkForComodification 17 = .ok (.dup, 1) := dk_89 (dk_at dksJ20_checkForComodification_0 17 rfl rfl)
theorem dJ20_checkForComodification_18 : decode cJ20_checkForComodification 18 = .ok (.invokespecial 43, 3) := dk_183 0 43 (dk_at dksJ20_checkForComodification_0 18 rfl rfl)
theorem dJ20_checkForComodification_21 : decode cJ20_checkForComodification 21 = .ok (.athrow, 1) := dk_191 (dk_at dksJ20_checkForComodification_0 21 rfl rfl)
theorem dJ20_checkForComodification_22 : decode cJ20_checkForComodification 22 = .ok (.return_, 1) := dk_177 (dk_at dksJ20_checkForComodification_0 22 rfl rfl)
theorem q141 : (Jvm.Cond.initialized "java/util/ArrayList$Itr") ∈ lw_all := lw_g (lw_at lw_m1 44 rfl) rfl
theorem q185 : (Jvm.Cond.fieldLink "java/util/ArrayList$Itr" (17 : Nat) "java/util/ArrayList" "modCount" "I") ∈ lw_all := lw_g (lw_at lw_m1 88 rfl) rfl
theorem q208 : (Jvm.Cond.fieldLink "java/util/ArrayList$Itr" (37 : Nat) "java/util/ArrayList" "elementData" "[Ljava/lang/Object;") ∈ lw_all := lw_g (lw_at lw_m1 111 rfl) rfl
theorem q209 : (Jvm.Cond.fieldLinkNest "java/util/ArrayList$Itr" (28 : Nat) "java/util/ArrayList" "size" "I" "java/util/ArrayList") ∈ lw_tbl := lw_at lw_m1 112 rfl
theorem q453 : (Jvm.Cond.selects "java/util/ArrayList$Itr" ({ cls := "java/lang/Object", name := "getClass", desc := "()Ljava/lang/Class;" } : Jvm.MethodName) ({ cls := "java/lang/Object", name := "getClass", desc := "()Ljava/lang/Class;" } : Jvm.MethodName)) ∈ lw_all := lw_g (lw_at lw_m2 116 rfl) rfl
theorem q834 : (Jvm.Cond.instantiable "java/util/ArrayList$Itr" (4 : Nat)) ∈ lw_all := lw_g (lw_at lw_m4 17 rfl) rfl
theorem q836 : (Jvm.Cond.instanceMethod ({ cls := "java/util/ArrayList$Itr", name := "<init>", desc := "(Ljava/util/ArrayList;)V" } : Jvm.MethodName)) ∈ lw_all := lw_g (lw_at lw_m4 19 rfl) rfl
theorem q837 : (Jvm.Cond.code ({ cls := "java/util/ArrayList$Itr", name := "<init>", desc := "(Ljava/util/ArrayList;)V" } : Jvm.MethodName) prog_58_method_1_code (2 : Nat) (Option.none : Option Jvm.ClassFile.FieldType)) ∈ lw_all := lw_g (lw_at lw_m4 20 rfl) rfl
theorem q838 : (Jvm.Cond.methodLink "java/util/ArrayList$Itr" (7 : Nat) ({ cls := "java/lang/Object", name := "<init>", desc := "()V" } : Jvm.MethodName)) ∈ lw_all := lw_g (lw_at lw_m4 21 rfl) rfl
theorem q841 : (Jvm.Cond.fieldLink "java/util/ArrayList$Itr" (25 : Nat) "java/util/ArrayList$Itr" "cursor" "I") ∈ lw_all := lw_g (lw_at lw_m4 24 rfl) rfl
theorem q842 : (Jvm.Cond.fieldLink "java/util/ArrayList$Itr" (13 : Nat) "java/util/ArrayList$Itr" "lastRet" "I") ∈ lw_all := lw_g (lw_at lw_m4 25 rfl) rfl
theorem q843 : (Jvm.Cond.fieldLink "java/util/ArrayList$Itr" (22 : Nat) "java/util/ArrayList$Itr" "expectedModCount" "I") ∈ lw_all := lw_g (lw_at lw_m4 26 rfl) rfl
theorem q844 : (Jvm.Cond.fieldLink "java/util/ArrayList$Itr" (1 : Nat) "java/util/ArrayList$Itr" "this$0" "Ljava/util/ArrayList;") ∈ lw_all := lw_g (lw_at lw_m4 27 rfl) rfl
theorem q845 : (Jvm.Cond.lays "java/util/ArrayList$Itr" "java/util/ArrayList$Itr" "cursor" "I") ∈ lw_all := lw_g (lw_at lw_m4 28 rfl) rfl
theorem q846 : (Jvm.Cond.soleField "java/util/ArrayList$Itr" "cursor") ∈ lw_all := lw_g (lw_at lw_m4 29 rfl) rfl
theorem q847 : (Jvm.Cond.lays "java/util/ArrayList$Itr" "java/util/ArrayList$Itr" "lastRet" "I") ∈ lw_all := lw_g (lw_at lw_m4 30 rfl) rfl
theorem q848 : (Jvm.Cond.soleField "java/util/ArrayList$Itr" "lastRet") ∈ lw_all := lw_g (lw_at lw_m4 31 rfl) rfl
theorem q849 : (Jvm.Cond.lays "java/util/ArrayList$Itr" "java/util/ArrayList$Itr" "expectedModCount" "I") ∈ lw_all := lw_g (lw_at lw_m4 32 rfl) rfl
theorem q850 : (Jvm.Cond.soleField "java/util/ArrayList$Itr" "expectedModCount") ∈ lw_all := lw_g (lw_at lw_m4 33 rfl) rfl
theorem q851 : (Jvm.Cond.laysFinal "java/util/ArrayList$Itr" "java/util/ArrayList$Itr" "this$0" "Ljava/util/ArrayList;") ∈ lw_all := lw_g (lw_at lw_m4 34 rfl) rfl
theorem q852 : (Jvm.Cond.soleField "java/util/ArrayList$Itr" "this$0") ∈ lw_all := lw_g (lw_at lw_m4 35 rfl) rfl
theorem q853 : (Jvm.Cond.superclass "java/util/ArrayList$Itr" "java/lang/Object") ∈ lw_all := lw_g (lw_at lw_m4 36 rfl) rfl
theorem q874 : (Jvm.Cond.castable "java/util/ArrayList$Itr" "java/util/Iterator") ∈ lw_tbl := lw_at lw_m4 57 rfl
theorem q875 : (Jvm.Cond.selects "java/util/ArrayList$Itr" ({ cls := "java/util/Iterator", name := "hasNext", desc := "()Z" } : Jvm.MethodName) ({ cls := "java/util/ArrayList$Itr", name := "hasNext", desc := "()Z" } : Jvm.MethodName)) ∈ lw_all := lw_g (lw_at lw_m4 58 rfl) rfl
theorem q876 : (Jvm.Cond.unhidden "java/util/ArrayList$Itr" "hasNext" "()Z") ∈ lw_tbl := lw_at lw_m4 59 rfl
theorem q877 : (Jvm.Cond.instanceMethod ({ cls := "java/util/ArrayList$Itr", name := "hasNext", desc := "()Z" } : Jvm.MethodName)) ∈ lw_all := lw_g (lw_at lw_m4 60 rfl) rfl
theorem q878 : (Jvm.Cond.publicMethod ({ cls := "java/util/ArrayList$Itr", name := "hasNext", desc := "()Z" } : Jvm.MethodName)) ∈ lw_tbl := lw_at lw_m4 61 rfl
theorem q879 : (Jvm.Cond.code ({ cls := "java/util/ArrayList$Itr", name := "hasNext", desc := "()Z" } : Jvm.MethodName) prog_58_method_2_code (1 : Nat) (Option.some Jvm.ClassFile.FieldType.boolean)) ∈ lw_all := lw_g (lw_at lw_m4 62 rfl) rfl
theorem q1189 : (Jvm.Cond.selects "java/util/ArrayList$Itr" ({ cls := "java/util/Iterator", name := "next", desc := "()Ljava/lang/Object;" } : Jvm.MethodName) ({ cls := "java/util/ArrayList$Itr", name := "next", desc := "()Ljava/lang/Object;" } : Jvm.MethodName)) ∈ lw_all := lw_g (lw_at lw_m5 132 rfl) rfl
theorem q1190 : (Jvm.Cond.unhidden "java/util/ArrayList$Itr" "next" "()Ljava/lang/Object;") ∈ lw_tbl := lw_at lw_m5 133 rfl
theorem q1191 : (Jvm.Cond.instanceMethod ({ cls := "java/util/ArrayList$Itr", name := "next", desc := "()Ljava/lang/Object;" } : Jvm.MethodName)) ∈ lw_all := lw_g (lw_at lw_m5 134 rfl) rfl
theorem q1192 : (Jvm.Cond.publicMethod ({ cls := "java/util/ArrayList$Itr", name := "next", desc := "()Ljava/lang/Object;" } : Jvm.MethodName)) ∈ lw_tbl := lw_at lw_m5 135 rfl
theorem q1193 : (Jvm.Cond.code ({ cls := "java/util/ArrayList$Itr", name := "next", desc := "()Ljava/lang/Object;" } : Jvm.MethodName) prog_58_method_3_code (3 : Nat) (Option.some (Jvm.ClassFile.FieldType.object "java/lang/Object"))) ∈ lw_all := lw_g (lw_at lw_m5 136 rfl) rfl
theorem q1194 : (Jvm.Cond.methodLink "java/util/ArrayList$Itr" (31 : Nat) ({ cls := "java/util/ArrayList$Itr", name := "checkForComodification", desc := "()V" } : Jvm.MethodName)) ∈ lw_all := lw_g (lw_at lw_m5 137 rfl) rfl
theorem q1195 : (Jvm.Cond.instanceMethod ({ cls := "java/util/ArrayList$Itr", name := "checkForComodification", desc := "()V" } : Jvm.MethodName)) ∈ lw_all := lw_g (lw_at lw_m5 138 rfl) rfl
theorem q1196 : (Jvm.Cond.selects "java/util/ArrayList$Itr" ({ cls := "java/util/ArrayList$Itr", name := "checkForComodification", desc := "()V" } : Jvm.MethodName) ({ cls := "java/util/ArrayList$Itr", name := "checkForComodification", desc := "()V" } : Jvm.MethodName)) ∈ lw_all := lw_g (lw_at lw_m5 139 rfl) rfl
theorem q1197 : (Jvm.Cond.sameMethod "java/util/ArrayList$Itr" "java/util/ArrayList$Itr" "checkForComodification" "()V") ∈ lw_all := lw_g (lw_at lw_m5 140 rfl) rfl
theorem q1199 : (Jvm.Cond.code ({ cls := "java/util/ArrayList$Itr", name := "checkForComodification", desc := "()V" } : Jvm.MethodName) prog_58_method_6_code (1 : Nat) (Option.none : Option Jvm.ClassFile.FieldType)) ∈ lw_all := lw_g (lw_at lw_m5 142 rfl) rfl
theorem q2969 : (Jvm.Cond.castable "java/util/ArrayList$Itr" "java/lang/Object") ∈ lw_tbl := lw_at lw_m12 232 rfl
theorem in_J20 : ∀ w ∈ wsJ200, w ∈ lw_all := lw_in wsJ200 [845, 847, 849, 851] (by decide +kernel) (by decide +kernel)
/-! java/lang/RuntimeException -/
set_option maxRecDepth 100000
def RJ21 : String := "java/lang/RuntimeException"
abbrev cJ21_init : ByteArray := prog_41_method_4_code
def yJ21_init : MethodName := ⟨RJ21, "<init>", "(Ljava/lang/Throwable;)V"⟩
def dkwJ21_init_0 : List UInt8 := [42, 43, 183, 0, 13, 177]
abbrev dktJ21_init_0 : List UInt8 := dkwJ21_init_0 ++ []
theorem dksJ21_init_0 : cJ21_init.data.toList.drop 0 = dktJ21_init_0 := by decide +kernel
theorem dJ21_init_0 : decode cJ21_init 0 = .ok (.aload_n 0, 1) := dk_42 (dk_at dksJ21_init_0 0 rfl rfl)
theorem dJ21_init_1 : decode cJ21_init 1 = .ok (.aload_n 1, 1) := dk_43 (dk_at dksJ21_init_0 1 rfl rfl)
theorem dJ21_init_2 : decode cJ21_init 2 = .ok (.invokespecial 13, 3) := dk_183 0 13 (dk_at dksJ21_init_0 2 rfl rfl)
theorem dJ21_init_5 : decode cJ21_init 5 = .ok (.return_, 1) := dk_177 (dk_at dksJ21_init_0 5 rfl rfl)
theorem q142 : (Jvm.Cond.initialized "java/lang/RuntimeException") ∈ lw_all := lw_g (lw_at lw_m1 45 rfl) rfl
theorem q925 : (Jvm.Cond.declares ({ cls := "java/lang/RuntimeException", name := "<init>", desc := "()V" } : Jvm.MethodName)) ∈ lw_tbl := lw_at lw_m4 108 rfl
theorem q926 : (Jvm.Cond.declares ({ cls := "java/lang/RuntimeException", name := "<init>", desc := "(Ljava/lang/String;)V" } : Jvm.MethodName)) ∈ lw_tbl := lw_at lw_m4 109 rfl
theorem q967 : (Jvm.Cond.instanceMethod ({ cls := "java/lang/RuntimeException", name := "<init>", desc := "(Ljava/lang/Throwable;)V" } : Jvm.MethodName)) ∈ lw_all := lw_g (lw_at lw_m4 150 rfl) rfl
theorem q968 : (Jvm.Cond.code ({ cls := "java/lang/RuntimeException", name := "<init>", desc := "(Ljava/lang/Throwable;)V" } : Jvm.MethodName) prog_41_method_4_code (2 : Nat) (Option.none : Option Jvm.ClassFile.FieldType)) ∈ lw_all := lw_g (lw_at lw_m4 151 rfl) rfl
theorem q969 : (Jvm.Cond.methodLink "java/lang/RuntimeException" (13 : Nat) ({ cls := "java/lang/Exception", name := "<init>", desc := "(Ljava/lang/Throwable;)V" } : Jvm.MethodName)) ∈ lw_all := lw_g (lw_at lw_m4 152 rfl) rfl
/-! java/util/NoSuchElementException -/
set_option maxRecDepth 100000
def RJ22 : String := "java/util/NoSuchElementException"
def TJ22 : u_T := fun k => match k with
  | 0 => ("java/lang/Throwable", "cause", "Ljava/lang/Throwable;", false)
  | 1 => ("java/lang/Throwable", "stackTrace", "[Ljava/lang/StackTraceElement;", false)
  | 2 => ("java/lang/Throwable", "suppressedExceptions", "Ljava/util/List;", false)
  | 3 => ("java/lang/Throwable", "detailMessage", "Ljava/lang/String;", false)
  | 4 => ("java/lang/Throwable", "backtrace", "Ljava/lang/Object;", false)
  | _ => ("java/lang/Throwable", "depth", "I", false)
def tyJ22 : Nat → FieldType := fun k => match k with
  | 0 => .object "java/lang/Throwable"
  | 1 => .array (.object "java/lang/StackTraceElement")
  | 2 => .object "java/util/List"
  | 3 => .object "java/lang/String"
  | 4 => .object "java/lang/Object"
  | _ => .int
abbrev wsJ220 : List Cond := u_ws RJ22 TJ22 6
theorem nmJ22 : ∀ a, a < 6 → ∀ b, b < 6 → a ≠ b → (TJ22 a).2.1 ≠ (TJ22 b).2.1 := by decide +kernel
theorem tyJ22_ok : ∀ k, k < 6 → parseFieldDescriptor (TJ22 k).2.2.1 = some (tyJ22 k) := by decide +kernel
abbrev cJ22_init : ByteArray := prog_70_method_3_code
def yJ22_init : MethodName := ⟨RJ22, "<init>", "(Ljava/lang/Throwable;)V"⟩
def dkwJ22_init_0 : List UInt8 := [42, 43, 183, 0, 10, 177]
abbrev dktJ22_init_0 : List UInt8 := dkwJ22_init_0 ++ []
theorem dksJ22_init_0 : cJ22_init.data.toList.drop 0 = dktJ22_init_0 := by decide +kernel
theorem dJ22_init_0 : decode cJ22_init 0 = .ok (.aload_n 0, 1) := dk_42 (dk_at dksJ22_init_0 0 rfl rfl)
theorem dJ22_init_1 : decode cJ22_init 1 = .ok (.aload_n 1, 1) := dk_43 (dk_at dksJ22_init_0 1 rfl rfl)
theorem dJ22_init_2 : decode cJ22_init 2 = .ok (.invokespecial 10, 3) := dk_183 0 10 (dk_at dksJ22_init_0 2 rfl rfl)
theorem dJ22_init_5 : decode cJ22_init 5 = .ok (.return_, 1) := dk_177 (dk_at dksJ22_init_0 5 rfl rfl)
theorem q143 : (Jvm.Cond.initialized "java/util/NoSuchElementException") ∈ lw_all := lw_g (lw_at lw_m1 46 rfl) rfl
theorem q459 : (Jvm.Cond.selects "java/util/NoSuchElementException" ({ cls := "java/lang/Object", name := "getClass", desc := "()Ljava/lang/Class;" } : Jvm.MethodName) ({ cls := "java/lang/Object", name := "getClass", desc := "()Ljava/lang/Class;" } : Jvm.MethodName)) ∈ lw_all := lw_g (lw_at lw_m2 122 rfl) rfl
theorem q923 : (Jvm.Cond.instantiable "java/util/NoSuchElementException" (6 : Nat)) ∈ lw_all := lw_g (lw_at lw_m4 106 rfl) rfl
theorem q924 : (Jvm.Cond.castable "java/util/NoSuchElementException" "java/util/NoSuchElementException") ∈ lw_tbl := lw_at lw_m4 107 rfl
theorem q931 : (Jvm.Cond.selects "java/util/NoSuchElementException" ({ cls := "java/lang/Throwable", name := "fillInStackTrace", desc := "(I)Ljava/lang/Throwable;" } : Jvm.MethodName) ({ cls := "java/lang/Throwable", name := "fillInStackTrace", desc := "(I)Ljava/lang/Throwable;" } : Jvm.MethodName)) ∈ lw_all := lw_g (lw_at lw_m4 114 rfl) rfl
theorem q932 : (Jvm.Cond.selects "java/util/NoSuchElementException" ({ cls := "java/lang/Throwable", name := "fillInStackTrace", desc := "()Ljava/lang/Throwable;" } : Jvm.MethodName) ({ cls := "java/lang/Throwable", name := "fillInStackTrace", desc := "()Ljava/lang/Throwable;" } : Jvm.MethodName)) ∈ lw_all := lw_g (lw_at lw_m4 115 rfl) rfl
theorem q933 : (Jvm.Cond.lays "java/util/NoSuchElementException" "java/lang/Throwable" "cause" "Ljava/lang/Throwable;") ∈ lw_all := lw_g (lw_at lw_m4 116 rfl) rfl
theorem q935 : (Jvm.Cond.lays "java/util/NoSuchElementException" "java/lang/Throwable" "stackTrace" "[Ljava/lang/StackTraceElement;") ∈ lw_all := lw_g (lw_at lw_m4 118 rfl) rfl
theorem q937 : (Jvm.Cond.lays "java/util/NoSuchElementException" "java/lang/Throwable" "suppressedExceptions" "Ljava/util/List;") ∈ lw_all := lw_g (lw_at lw_m4 120 rfl) rfl
theorem q939 : (Jvm.Cond.lays "java/util/NoSuchElementException" "java/lang/Throwable" "detailMessage" "Ljava/lang/String;") ∈ lw_all := lw_g (lw_at lw_m4 122 rfl) rfl
theorem q941 : (Jvm.Cond.lays "java/util/NoSuchElementException" "java/lang/Throwable" "backtrace" "Ljava/lang/Object;") ∈ lw_all := lw_g (lw_at lw_m4 124 rfl) rfl
theorem q964 : (Jvm.Cond.instanceMethod ({ cls := "java/util/NoSuchElementException", name := "<init>", desc := "(Ljava/lang/Throwable;)V" } : Jvm.MethodName)) ∈ lw_all := lw_g (lw_at lw_m4 147 rfl) rfl
theorem q965 : (Jvm.Cond.code ({ cls := "java/util/NoSuchElementException", name := "<init>", desc := "(Ljava/lang/Throwable;)V" } : Jvm.MethodName) prog_70_method_3_code (2 : Nat) (Option.none : Option Jvm.ClassFile.FieldType)) ∈ lw_all := lw_g (lw_at lw_m4 148 rfl) rfl
theorem q966 : (Jvm.Cond.methodLink "java/util/NoSuchElementException" (10 : Nat) ({ cls := "java/lang/RuntimeException", name := "<init>", desc := "(Ljava/lang/Throwable;)V" } : Jvm.MethodName)) ∈ lw_all := lw_g (lw_at lw_m4 149 rfl) rfl
theorem q980 : (Jvm.Cond.selects "java/util/NoSuchElementException" ({ cls := "java/lang/Throwable", name := "toString", desc := "()Ljava/lang/String;" } : Jvm.MethodName) ({ cls := "java/lang/Throwable", name := "toString", desc := "()Ljava/lang/String;" } : Jvm.MethodName)) ∈ lw_all := lw_g (lw_at lw_m4 163 rfl) rfl
theorem q988 : (Jvm.Cond.selects "java/util/NoSuchElementException" ({ cls := "java/lang/Throwable", name := "getLocalizedMessage", desc := "()Ljava/lang/String;" } : Jvm.MethodName) ({ cls := "java/lang/Throwable", name := "getLocalizedMessage", desc := "()Ljava/lang/String;" } : Jvm.MethodName)) ∈ lw_all := lw_g (lw_at lw_m4 171 rfl) rfl
theorem q995 : (Jvm.Cond.selects "java/util/NoSuchElementException" ({ cls := "java/lang/Throwable", name := "getMessage", desc := "()Ljava/lang/String;" } : Jvm.MethodName) ({ cls := "java/lang/Throwable", name := "getMessage", desc := "()Ljava/lang/String;" } : Jvm.MethodName)) ∈ lw_all := lw_g (lw_at lw_m4 178 rfl) rfl
theorem q1174 : (Jvm.Cond.lays "java/util/NoSuchElementException" "java/lang/Throwable" "depth" "I") ∈ lw_all := lw_g (lw_at lw_m5 117 rfl) rfl
theorem q1177 : (Jvm.Cond.superclass "java/util/NoSuchElementException" "java/lang/RuntimeException") ∈ lw_all := lw_g (lw_at lw_m5 120 rfl) rfl
theorem q2032 : (Jvm.Cond.selects "java/util/NoSuchElementException" ({ cls := "java/lang/Throwable", name := "getCause", desc := "()Ljava/lang/Throwable;" } : Jvm.MethodName) ({ cls := "java/lang/Throwable", name := "getCause", desc := "()Ljava/lang/Throwable;" } : Jvm.MethodName)) ∈ lw_all := lw_g (lw_at lw_m9 15 rfl) rfl
theorem q2975 : (Jvm.Cond.castable "java/util/NoSuchElementException" "java/lang/Object") ∈ lw_tbl := lw_at lw_m12 238 rfl
theorem in_J22 : ∀ w ∈ wsJ220, w ∈ lw_all := lw_in wsJ220 [933, 935, 937, 939, 941, 1174] (by decide +kernel) (by decide +kernel)
/-! java/util/LinkedList$Node -/
set_option maxRecDepth 100000
def RJ23 : String := "java/util/LinkedList$Node"
def TJ23 : u_T := fun k => match k with
  | 0 => ("java/util/LinkedList$Node", "item", "Ljava/lang/Object;", false)
  | 1 => ("java/util/LinkedList$Node", "next", "Ljava/util/LinkedList$Node;", false)
  | _ => ("java/util/LinkedList$Node", "prev", "Ljava/util/LinkedList$Node;", false)
def tyJ23 : Nat → FieldType := fun k => match k with
  | 0 => .object "java/lang/Object"
  | 1 => .object "java/util/LinkedList$Node"
  | _ => .object "java/util/LinkedList$Node"
abbrev wsJ230 : List Cond := u_ws RJ23 TJ23 3
theorem nmJ23 : ∀ a, a < 3 → ∀ b, b < 3 → a ≠ b → (TJ23 a).2.1 ≠ (TJ23 b).2.1 := by decide +kernel
theorem tyJ23_ok : ∀ k, k < 3 → parseFieldDescriptor (TJ23 k).2.2.1 = some (tyJ23 k) := by decide +kernel
abbrev cJ23_init : ByteArray := prog_67_method_1_code
def yJ23_init : MethodName := ⟨RJ23, "<init>", "(Ljava/util/LinkedList$Node;Ljava/lang/Object;Ljava/util/LinkedList$Node;)V"⟩
def dkwJ23_init_0 : List UInt8 := [42, 183, 0, 1, 42, 44, 181, 0, 7, 42, 45, 181, 0, 13, 42, 43, 181, 0, 17, 177]
abbrev dktJ23_init_0 : List UInt8 := dkwJ23_init_0 ++ []
theorem dksJ23_init_0 : cJ23_init.data.toList.drop 0 = dktJ23_init_0 := by decide +kernel
theorem dJ23_init_0 : decode cJ23_init 0 = .ok (.aload_n 0, 1) := dk_42 (dk_at dksJ23_init_0 0 rfl rfl)
theorem dJ23_init_1 : decode cJ23_init 1 = .ok (.invokespecial 1, 3) := dk_183 0 1 (dk_at dksJ23_init_0 1 rfl rfl)
theorem dJ23_init_4 : decode cJ23_init 4 = .ok (.aload_n 0, 1) := dk_42 (dk_at dksJ23_init_0 4 rfl rfl)
theorem dJ23_init_5 : decode cJ23_init 5 = .ok (.aload_n 2, 1) := dk_44 (dk_at dksJ23_init_0 5 rfl rfl)
theorem dJ23_init_6 : decode cJ23_init 6 = .ok (.putfield 7, 3) := dk_181 0 7 (dk_at dksJ23_init_0 6 rfl rfl)
theorem dJ23_init_9 : decode cJ23_init 9 = .ok (.aload_n 0, 1) := dk_42 (dk_at dksJ23_init_0 9 rfl rfl)
theorem dJ23_init_10 : decode cJ23_init 10 = .ok (.aload_n 3, 1) := dk_45 (dk_at dksJ23_init_0 10 rfl rfl)
theorem dJ23_init_11 : decode cJ23_init 11 = .ok (.putfield 13, 3) := dk_181 0 13 (dk_at dksJ23_init_0 11 rfl rfl)
theorem dJ23_init_14 : decode cJ23_init 14 = .ok (.aload_n 0, 1) := dk_42 (dk_at dksJ23_init_0 14 rfl rfl)
theorem dJ23_init_15 : decode cJ23_init 15 = .ok (.aload_n 1, 1) := dk_43 (dk_at dksJ23_init_0 15 rfl rfl)
theorem dJ23_init_16 : decode cJ23_init 16 = .ok (.putfield 17, 3) := dk_181 0 17 (dk_at dksJ23_init_0 16 rfl rfl)
theorem dJ23_init_19 : decode cJ23_init 19 = .ok (.return_, 1) := dk_177 (dk_at dksJ23_init_0 19 rfl rfl)
theorem q144 : (Jvm.Cond.initialized "java/util/LinkedList$Node") ∈ lw_all := lw_g (lw_at lw_m1 47 rfl) rfl
theorem q458 : (Jvm.Cond.selects "java/util/LinkedList$Node" ({ cls := "java/lang/Object", name := "getClass", desc := "()Ljava/lang/Class;" } : Jvm.MethodName) ({ cls := "java/lang/Object", name := "getClass", desc := "()Ljava/lang/Class;" } : Jvm.MethodName)) ∈ lw_all := lw_g (lw_at lw_m2 121 rfl) rfl
theorem q1604 : (Jvm.Cond.instantiable "java/util/LinkedList$Node" (3 : Nat)) ∈ lw_all := lw_g (lw_at lw_m7 67 rfl) rfl
theorem q1606 : (Jvm.Cond.instanceMethod ({ cls := "java/util/LinkedList$Node", name := "<init>", desc := "(Ljava/util/LinkedList$Node;Ljava/lang/Object;Ljava/util/LinkedList$Node;)V" } : Jvm.MethodName)) ∈ lw_all := lw_g (lw_at lw_m7 69 rfl) rfl
theorem q1607 : (Jvm.Cond.code ({ cls := "java/util/LinkedList$Node", name := "<init>", desc := "(Ljava/util/LinkedList$Node;Ljava/lang/Object;Ljava/util/LinkedList$Node;)V" } : Jvm.MethodName) prog_67_method_1_code (4 : Nat) (Option.none : Option Jvm.ClassFile.FieldType)) ∈ lw_all := lw_g (lw_at lw_m7 70 rfl) rfl
theorem q1608 : (Jvm.Cond.methodLink "java/util/LinkedList$Node" (1 : Nat) ({ cls := "java/lang/Object", name := "<init>", desc := "()V" } : Jvm.MethodName)) ∈ lw_all := lw_g (lw_at lw_m7 71 rfl) rfl
theorem q1609 : (Jvm.Cond.fieldLink "java/util/LinkedList$Node" (7 : Nat) "java/util/LinkedList$Node" "item" "Ljava/lang/Object;") ∈ lw_all := lw_g (lw_at lw_m7 72 rfl) rfl
theorem q1612 : (Jvm.Cond.fieldLink "java/util/LinkedList$Node" (13 : Nat) "java/util/LinkedList$Node" "next" "Ljava/util/LinkedList$Node;") ∈ lw_all := lw_g (lw_at lw_m7 75 rfl) rfl
theorem q1615 : (Jvm.Cond.fieldLink "java/util/LinkedList$Node" (17 : Nat) "java/util/LinkedList$Node" "prev" "Ljava/util/LinkedList$Node;") ∈ lw_all := lw_g (lw_at lw_m7 78 rfl) rfl
theorem q1617 : (Jvm.Cond.lays "java/util/LinkedList$Node" "java/util/LinkedList$Node" "item" "Ljava/lang/Object;") ∈ lw_all := lw_g (lw_at lw_m7 80 rfl) rfl
theorem q1618 : (Jvm.Cond.soleField "java/util/LinkedList$Node" "item") ∈ lw_all := lw_g (lw_at lw_m7 81 rfl) rfl
theorem q1619 : (Jvm.Cond.lays "java/util/LinkedList$Node" "java/util/LinkedList$Node" "next" "Ljava/util/LinkedList$Node;") ∈ lw_all := lw_g (lw_at lw_m7 82 rfl) rfl
theorem q1620 : (Jvm.Cond.soleField "java/util/LinkedList$Node" "next") ∈ lw_all := lw_g (lw_at lw_m7 83 rfl) rfl
theorem q1621 : (Jvm.Cond.lays "java/util/LinkedList$Node" "java/util/LinkedList$Node" "prev" "Ljava/util/LinkedList$Node;") ∈ lw_all := lw_g (lw_at lw_m7 84 rfl) rfl
theorem q1622 : (Jvm.Cond.soleField "java/util/LinkedList$Node" "prev") ∈ lw_all := lw_g (lw_at lw_m7 85 rfl) rfl
theorem q1623 : (Jvm.Cond.superclass "java/util/LinkedList$Node" "java/lang/Object") ∈ lw_all := lw_g (lw_at lw_m7 86 rfl) rfl
theorem q2970 : (Jvm.Cond.castable "java/util/LinkedList$Node" "java/lang/Object") ∈ lw_tbl := lw_at lw_m12 233 rfl
theorem in_J23 : ∀ w ∈ wsJ230, w ∈ lw_all := lw_in wsJ230 [1617, 1619, 1621] (by decide +kernel) (by decide +kernel)
/-! java/lang/Long -/
set_option maxRecDepth 100000
def RJ24 : String := "java/lang/Long"
abbrev cJ24_bitCount : ByteArray := prog_38_method_50_code
def yJ24_bitCount : MethodName := ⟨RJ24, "bitCount", "(J)I"⟩
def dkwJ24_bitCount_2 : List UInt8 := [30, 30, 16, 32, 125, 97, 63, 30, 136, 16, 127, 126, 172]
abbrev dktJ24_bitCount_2 : List UInt8 := dkwJ24_bitCount_2 ++ []
def dkwJ24_bitCount_1 : List UInt8 := [30, 30, 7, 125, 97, 20, 1, 62, 127, 63, 30, 30, 16, 8, 125, 97, 63, 30, 30, 16, 16, 125, 97, 63]
abbrev dktJ24_bitCount_1 : List UInt8 := dkwJ24_bitCount_1 ++ dktJ24_bitCount_2
def dkwJ24_bitCount_0 : List UInt8 := [30, 30, 4, 125, 20, 1, 58, 127, 101, 63, 30, 20, 1, 60, 127, 30, 5, 125, 20, 1, 60, 127, 97, 63]
abbrev dktJ24_bitCount_0 : List UInt8 := dkwJ24_bitCount_0 ++ dktJ24_bitCount_1
theorem dksJ24_bitCount_0 : cJ24_bitCount.data.toList.drop 0 = dktJ24_bitCount_0 := by decide +kernel
theorem dksJ24_bitCount_1 : cJ24_bitCount.data.toList.drop 24 = dktJ24_bitCount_1 := dk_seg dksJ24_bitCount_0 24 rfl rfl
theorem dksJ24_bitCount_2 : cJ24_bitCount.data.toList.drop 48 = dktJ24_bitCount_2 := dk_seg dksJ24_bitCount_1 24 rfl rfl
theorem dJ24_bitCount_0 : decode cJ24_bitCount 0 = .ok (.lload_n 0, 1) := dk_30 (dk_at dksJ24_bitCount_0 0 rfl rfl)
theorem dJ24_bitCount_1 : decode cJ24_bitCount 1 = .ok (.lload_n 0, 1) := dk_30 (dk_at dksJ24_bitCount_0 1 rfl rfl)
theorem dJ24_bitCount_2 : decode cJ24_bitCount 2 = .ok (.iconst 1, 1) := dk_4 (dk_at dksJ24_bitCount_0 2 rfl rfl)
theorem dJ24_bitCount_3 : decode cJ24_bitCount 3 = .ok (.lushr, 1) := dk_125 (dk_at dksJ24_bitCount_0 3 rfl rfl)
theorem dJ24_bitCount_4 : decode cJ24_bitCount 4 = .ok (.ldc2_w 314, 3) := dk_20 1 58 (dk_at dksJ24_bitCount_0 4 rfl rfl)
theorem dJ24_bitCount_7 : decode cJ24_bitCount 7 = .ok (.land, 1) := dk_127 (dk_at dksJ24_bitCount_0 7 rfl rfl)
theorem dJ24_bitCount_8 : decode cJ24_bitCount 8 = .ok (.lsub, 1) := dk_101 (dk_at dksJ24_bitCount_0 8 rfl rfl)
theorem dJ24_bitCount_9 : decode cJ24_bitCount 9 = .ok (.lstore_n 0, 1) := dk_63 (dk_at dksJ24_bitCount_0 9 rfl rfl)
theorem dJ24_bitCount_10 : decode cJ24_bitCount 10 = .ok (.lload_n 0, 1) := dk_30 (dk_at dksJ24_bitCount_0 10 rfl rfl)
theorem dJ24_bitCount_11 : decode cJ24_bitCount 11 = .ok (.ldc2_w 316, 3) := dk_20 1 60 (dk_at dksJ24_bitCount_0 11 rfl rfl)
theorem dJ24_bitCount_14 : decode cJ24_bitCount 14 = .ok (.land, 1) := dk_127 (dk_at dksJ24_bitCount_0 14 rfl rfl)
theorem dJ24_bitCount_15 : decode cJ24_bitCount 15 = .ok (.lload_n 0, 1) := dk_30 (dk_at dksJ24_bitCount_0 15 rfl rfl)
theorem dJ24_bitCount_16 : decode cJ24_bitCount 16 = .ok (.iconst 2, 1) := dk_5 (dk_at dksJ24_bitCount_0 16 rfl rfl)
theorem dJ24_bitCount_17 : decode cJ24_bitCount 17 = .ok (.lushr, 1) := dk_125 (dk_at dksJ24_bitCount_0 17 rfl rfl)
theorem dJ24_bitCount_18 : decode cJ24_bitCount 18 = .ok (.ldc2_w 316, 3) := dk_20 1 60 (dk_at dksJ24_bitCount_0 18 rfl rfl)
theorem dJ24_bitCount_21 : decode cJ24_bitCount 21 = .ok (.land, 1) := dk_127 (dk_at dksJ24_bitCount_0 21 rfl rfl)
theorem dJ24_bitCount_22 : decode cJ24_bitCount 22 = .ok (.ladd, 1) := dk_97 (dk_at dksJ24_bitCount_0 22 rfl rfl)
theorem dJ24_bitCount_23 : decode cJ24_bitCount 23 = .ok (.lstore_n 0, 1) := dk_63 (dk_at dksJ24_bitCount_0 23 rfl rfl)
theorem dJ24_bitCount_24 : decode cJ24_bitCount 24 = .ok (.lload_n 0, 1) := dk_30 (dk_at dksJ24_bitCount_1 0 rfl rfl)
theorem dJ24_bitCount_25 : decode cJ24_bitCount 25 = .ok (.lload_n 0, 1) := dk_30 (dk_at dksJ24_bitCount_1 1 rfl rfl)
theorem dJ24_bitCount_26 : decode cJ24_bitCount 26 = .ok (.iconst 4, 1) := dk_7 (dk_at dksJ24_bitCount_1 2 rfl rfl)
theorem dJ24_bitCount_27 : decode cJ24_bitCount 27 = .ok (.lushr, 1) := dk_125 (dk_at dksJ24_bitCount_1 3 rfl rfl)
theorem dJ24_bitCount_28 : decode cJ24_bitCount 28 = .ok (.ladd, 1) := dk_97 (dk_at dksJ24_bitCount_1 4 rfl rfl)
theorem dJ24_bitCount_29 : decode cJ24_bitCount 29 = .ok (.ldc2_w 318, 3) := dk_20 1 62 (dk_at dksJ24_bitCount_1 5 rfl rfl)
theorem dJ24_bitCount_32 : decode cJ24_bitCount 32 = .ok (.land, 1) := dk_127 (dk_at dksJ24_bitCount_1 8 rfl rfl)
theorem dJ24_bitCount_33 : decode cJ24_bitCount 33 = .ok (.lstore_n 0, 1) := dk_63 (dk_at dksJ24_bitCount_1 9 rfl rfl)
theorem dJ24_bitCount_34 : decode cJ24_bitCount 34 = .ok (.lload_n 0, 1) := dk_30 (dk_at dksJ24_bitCount_1 10 rfl rfl)
theorem dJ24_bitCount_35 : decode cJ24_bitCount 35 = .ok (.lload_n 0, 1) := dk_30 (dk_at dksJ24_bitCount_1 11 rfl rfl)
theorem dJ24_bitCount_36 : decode cJ24_bitCount 36 = .ok (.bipush 8, 2) := dk_16 8 (dk_at dksJ24_bitCount_1 12 rfl rfl)
theorem dJ24_bitCount_38 : decode cJ24_bitCount 38 = .ok (.lushr, 1) := dk_125 (dk_at dksJ24_bitCount_1 14 rfl rfl)
theorem dJ24_bitCount_39 : decode cJ24_bitCount 39 = .ok (.ladd, 1) := dk_97 (dk_at dksJ24_bitCount_1 15 rfl rfl)
theorem dJ24_bitCount_40 : decode cJ24_bitCount 40 = .ok (.lstore_n 0, 1) := dk_63 (dk_at dksJ24_bitCount_1 16 rfl rfl)
theorem dJ24_bitCount_41 : decode cJ24_bitCount 41 = .ok (.lload_n 0, 1) := dk_30 (dk_at dksJ24_bitCount_1 17 rfl rfl)
theorem dJ24_bitCount_42 : decode cJ24_bitCount 42 = .ok (.lload_n 0, 1) := dk_30 (dk_at dksJ24_bitCount_1 18 rfl rfl)
theorem dJ24_bitCount_43 : decode cJ24_bitCount 43 = .ok (.bipush 16, 2) := dk_16 16 (dk_at dksJ24_bitCount_1 19 rfl rfl)
theorem dJ24_bitCount_45 : decode cJ24_bitCount 45 = .ok (.lushr, 1) := dk_125 (dk_at dksJ24_bitCount_1 21 rfl rfl)
theorem dJ24_bitCount_46 : decode cJ24_bitCount 46 = .ok (.ladd, 1) := dk_97 (dk_at dksJ24_bitCount_1 22 rfl rfl)
theorem dJ24_bitCount_47 : decode cJ24_bitCount 47 = .ok (.lstore_n 0, 1) := dk_63 (dk_at dksJ24_bitCount_1 23 rfl rfl)
theorem dJ24_bitCount_48 : decode cJ24_bitCount 48 = .ok (.lload_n 0, 1) := dk_30 (dk_at dksJ24_bitCount_2 0 rfl rfl)
theorem dJ24_bitCount_49 : decode cJ24_bitCount 49 = .ok (.lload_n 0, 1) := dk_30 (dk_at dksJ24_bitCount_2 1 rfl rfl)
theorem dJ24_bitCount_50 : decode cJ24_bitCount 50 = .ok (.bipush 32, 2) := dk_16 32 (dk_at dksJ24_bitCount_2 2 rfl rfl)
theorem dJ24_bitCount_52 : decode cJ24_bitCount 52 = .ok (.lushr, 1) := dk_125 (dk_at dksJ24_bitCount_2 4 rfl rfl)
theorem dJ24_bitCount_53 : decode cJ24_bitCount 53 = .ok (.ladd, 1) := dk_97 (dk_at dksJ24_bitCount_2 5 rfl rfl)
theorem dJ24_bitCount_54 : decode cJ24_bitCount 54 = .ok (.lstore_n 0, 1) := dk_63 (dk_at dksJ24_bitCount_2 6 rfl rfl)
theorem dJ24_bitCount_55 : decode cJ24_bitCount 55 = .ok (.lload_n 0, 1) := dk_30 (dk_at dksJ24_bitCount_2 7 rfl rfl)
theorem dJ24_bitCount_56 : decode cJ24_bitCount 56 = .ok (.l2i, 1) := dk_136 (dk_at dksJ24_bitCount_2 8 rfl rfl)
theorem dJ24_bitCount_57 : decode cJ24_bitCount 57 = .ok (.bipush 127, 2) := dk_16 127 (dk_at dksJ24_bitCount_2 9 rfl rfl)
theorem dJ24_bitCount_59 : decode cJ24_bitCount 59 = .ok (.iand, 1) := dk_126 (dk_at dksJ24_bitCount_2 11 rfl rfl)
theorem dJ24_bitCount_60 : decode cJ24_bitCount 60 = .ok (.ireturn, 1) := dk_172 (dk_at dksJ24_bitCount_2 12 rfl rfl)
abbrev cJ24_numberOfTrailingZeros : ByteArray := prog_38_method_49_code
def yJ24_numberOfTrailingZeros : MethodName := ⟨RJ24, "numberOfTrailingZeros", "(J)I"⟩
def dkwJ24_numberOfTrailingZeros_1 : List UInt8 := [184, 1, 55, 172]
abbrev dktJ24_numberOfTrailingZeros_1 : List UInt8 := dkwJ24_numberOfTrailingZeros_1 ++ []
def dkwJ24_numberOfTrailingZeros_0 : List UInt8 := [30, 136, 61, 28, 154, 0, 17, 16, 32, 30, 16, 32, 125, 136, 184, 1, 55, 96, 167, 0, 7, 28]
abbrev dktJ24_numberOfTrailingZeros_0 : List UInt8 := dkwJ24_numberOfTrailingZeros_0 ++ dktJ24_numberOfTrailingZeros_1
theorem dksJ24_numberOfTrailingZeros_0 : cJ24_numberOfTrailingZeros.data.toList.drop 0 = dktJ24_numberOfTrailingZeros_0 := by decide +kernel
theorem dksJ24_numberOfTrailingZeros_1 : cJ24_numberOfTrailingZeros.data.toList.drop 22 = dktJ24_numberOfTrailingZeros_1 := dk_seg dksJ24_numberOfTrailingZeros_0 22 rfl rfl
theorem dJ24_numberOfTrailingZeros_0 : decode cJ24_numberOfTrailingZeros 0 = .ok (.lload_n 0, 1) := dk_30 (dk_at dksJ24_numberOfTrailingZeros_0 0 rfl rfl)
theorem dJ24_numberOfTrailingZeros_1 : decode cJ24_numberOfTrailingZeros 1 = .ok (.l2i, 1) := dk_136 (dk_at dksJ24_numberOfTrailingZeros_0 1 rfl rfl)
theorem dJ24_numberOfTrailingZeros_2 : decode cJ24_numberOfTrailingZeros 2 = .ok (.istore_n 2, 1) := dk_61 (dk_at dksJ24_numberOfTrailingZeros_0 2 rfl rfl)
theorem dJ24_numberOfTrailingZeros_3 : decode cJ24_numberOfTrailingZeros 3 = .ok (.iload_n 2, 1) := dk_28 (dk_at dksJ24_numberOfTrailingZeros_0 3 rfl rfl)
theorem dJ24_numberOfTrailingZeros_4 : decode cJ24_numberOfTrailingZeros 4 = .ok (.ifCond .ne 17, 3) := dk_154 0 17 (dk_at dksJ24_numberOfTrailingZeros_0 4 rfl rfl)
theorem dJ24_numberOfTrailingZeros_7 : decode cJ24_numberOfTrailingZeros 7 = .ok (.bipush 32, 2) := dk_16 32 (dk_at dksJ24_numberOfTrailingZeros_0 7 rfl rfl)
theorem dJ24_numberOfTrailingZeros_9 : decode cJ24_numberOfTrailingZeros 9 = .ok (.lload_n 0, 1) := dk_30 (dk_at dksJ24_numberOfTrailingZeros_0 9 rfl rfl)
theorem dJ24_numberOfTrailingZeros_10 : decode cJ24_numberOfTrailingZeros 10 = .ok (.bipush 32, 2) := dk_16 32 (dk_at dksJ24_numberOfTrailingZeros_0 10 rfl rfl)
theorem dJ24_numberOfTrailingZeros_12 : decode cJ24_numberOfTrailingZeros 12 = .ok (.lushr, 1) := dk_125 (dk_at dksJ24_numberOfTrailingZeros_0 12 rfl rfl)
theorem dJ24_numberOfTrailingZeros_13 : decode cJ24_numberOfTrailingZeros 13 = .ok (.l2i, 1) := dk_136 (dk_at dksJ24_numberOfTrailingZeros_0 13 rfl rfl)
theorem dJ24_numberOfTrailingZeros_14 : decode cJ24_numberOfTrailingZeros 14 = .ok (.invokestatic 311, 3) := dk_184 1 55 (dk_at dksJ24_numberOfTrailingZeros_0 14 rfl rfl)
theorem dJ24_numberOfTrailingZeros_17 : decode cJ24_numberOfTrailingZeros 17 = .ok (.iadd, 1) := dk_96 (dk_at dksJ24_numberOfTrailingZeros_0 17 rfl rfl)
theorem dJ24_numberOfTrailingZeros_18 : decode cJ24_numberOfTrailingZeros 18 = .ok (.goto 7, 3) := dk_167 0 7 (dk_at dksJ24_numberOfTrailingZeros_0 18 rfl rfl)
theorem dJ24_numberOfTrailingZeros_21 : decode cJ24_numberOfTrailingZeros 21 = .ok (.iload_n 2, 1) := dk_28 (dk_at dksJ24_numberOfTrailingZeros_0 21 rfl rfl)
theorem dJ24_numberOfTrailingZeros_22 : decode cJ24_numberOfTrailingZeros 22 = .ok (.invokestatic 311, 3) := dk_184 1 55 (dk_at dksJ24_numberOfTrailingZeros_1 0 rfl rfl)
theorem dJ24_numberOfTrailingZeros_25 : decode cJ24_numberOfTrailingZeros 25 = .ok (.ireturn, 1) := dk_172 (dk_at dksJ24_numberOfTrailingZeros_1 3 rfl rfl)
theorem q146 : (Jvm.Cond.initialized "java/lang/Long") ∈ lw_all := lw_g (lw_at lw_m1 49 rfl) rfl
theorem q1630 : (Jvm.Cond.static ({ cls := "java/lang/Long", name := "bitCount", desc := "(J)I" } : Jvm.MethodName)) ∈ lw_all := lw_g (lw_at lw_m7 93 rfl) rfl
theorem q1631 : (Jvm.Cond.code ({ cls := "java/lang/Long", name := "bitCount", desc := "(J)I" } : Jvm.MethodName) prog_38_method_50_code (2 : Nat) (Option.some Jvm.ClassFile.FieldType.int)) ∈ lw_all := lw_g (lw_at lw_m7 94 rfl) rfl
theorem q1632 : (Jvm.Cond.constantLong "java/lang/Long" (314 : Nat) (6148914691236517205 : Int64)) ∈ lw_all := lw_g (lw_at lw_m7 95 rfl) rfl
theorem q1633 : (Jvm.Cond.constantLong "java/lang/Long" (316 : Nat) (3689348814741910323 : Int64)) ∈ lw_all := lw_g (lw_at lw_m7 96 rfl) rfl
theorem q1634 : (Jvm.Cond.constantLong "java/lang/Long" (318 : Nat) (1085102592571150095 : Int64)) ∈ lw_all := lw_g (lw_at lw_m7 97 rfl) rfl
theorem q2014 : (Jvm.Cond.static ({ cls := "java/lang/Long", name := "numberOfTrailingZeros", desc := "(J)I" } : Jvm.MethodName)) ∈ lw_all := lw_g (lw_at lw_m8 237 rfl) rfl
theorem q2015 : (Jvm.Cond.code ({ cls := "java/lang/Long", name := "numberOfTrailingZeros", desc := "(J)I" } : Jvm.MethodName) prog_38_method_49_code (3 : Nat) (Option.some Jvm.ClassFile.FieldType.int)) ∈ lw_all := lw_g (lw_at lw_m8 238 rfl) rfl
theorem q2016 : (Jvm.Cond.methodLink "java/lang/Long" (311 : Nat) ({ cls := "java/lang/Integer", name := "numberOfTrailingZeros", desc := "(I)I" } : Jvm.MethodName)) ∈ lw_all := lw_g (lw_at lw_m8 239 rfl) rfl
/-! java/util/ArrayDeque$DeqIterator -/
set_option maxRecDepth 100000
def RJ25 : String := "java/util/ArrayDeque$DeqIterator"
def TJ25 : u_T := fun k => match k with
  | 0 => ("java/util/ArrayDeque$DeqIterator", "cursor", "I", false)
  | 1 => ("java/util/ArrayDeque$DeqIterator", "remaining", "I", false)
  | 2 => ("java/util/ArrayDeque$DeqIterator", "lastRet", "I", false)
  | _ => ("java/util/ArrayDeque$DeqIterator", "this$0", "Ljava/util/ArrayDeque;", true)
def tyJ25 : Nat → FieldType := fun k => match k with
  | 0 => .int
  | 1 => .int
  | 2 => .int
  | _ => .object "java/util/ArrayDeque"
abbrev wsJ250 : List Cond := u_ws RJ25 TJ25 4
theorem nmJ25 : ∀ a, a < 4 → ∀ b, b < 4 → a ≠ b → (TJ25 a).2.1 ≠ (TJ25 b).2.1 := by decide +kernel
theorem tyJ25_ok : ∀ k, k < 4 → parseFieldDescriptor (TJ25 k).2.2.1 = some (tyJ25 k) := by decide +kernel
abbrev cJ25_hasNext : ByteArray := prog_56_method_2_code
def yJ25_hasNext : MethodName := ⟨RJ25, "hasNext", "()Z"⟩
def dkwJ25_hasNext_0 : List UInt8 := [42, 180, 0, 19, 158, 0, 7, 4, 167, 0, 4, 3, 172]
abbrev dktJ25_hasNext_0 : List UInt8 := dkwJ25_hasNext_0 ++ []
theorem dksJ25_hasNext_0 : cJ25_hasNext.data.toList.drop 0 = dktJ25_hasNext_0 := by decide +kernel
theorem dJ25_hasNext_0 : decode cJ25_hasNext 0 = .ok (.aload_n 0, 1) := dk_42 (dk_at dksJ25_hasNext_0 0 rfl rfl)
theorem dJ25_hasNext_1 : decode cJ25_hasNext 1 = .ok (.getfield 19, 3) := dk_180 0 19 (dk_at dksJ25_hasNext_0 1 rfl rfl)
theorem dJ25_hasNext_4 : decode cJ25_hasNext 4 = .ok (.ifCond .le 7, 3) := dk_158 0 7 (dk_at dksJ25_hasNext_0 4 rfl rfl)
theorem dJ25_hasNext_7 : decode cJ25_hasNext 7 = .ok (.iconst 1, 1) := dk_4 (dk_at dksJ25_hasNext_0 7 rfl rfl)
theorem dJ25_hasNext_8 : decode cJ25_hasNext 8 = .ok (.goto 4, 3) := dk_167 0 4 (dk_at dksJ25_hasNext_0 8 rfl rfl)
theorem dJ25_hasNext_11 : decode cJ25_hasNext 11 = .ok (.iconst 0, 1) := dk_3 (dk_at dksJ25_hasNext_0 11 rfl rfl)
theorem dJ25_hasNext_12 : decode cJ25_hasNext 12 = .ok (.ireturn, 1) := dk_172 (dk_at dksJ25_hasNext_0 12 rfl rfl)
abbrev cJ25_next : ByteArray := prog_56_method_3_code
def yJ25_next : MethodName := ⟨RJ25, "next", "()Ljava/lang/Object;"⟩
def dkwJ25_next_2 : List UInt8 := [181, 0, 29, 42, 89, 180, 0, 19, 4, 100, 181, 0, 19, 44, 176]
abbrev dktJ25_next_2 : List UInt8 := dkwJ25_next_2 ++ []
def dkwJ25_next_1 : List UInt8 := [42, 180, 0, 29, 184, 0, 39, 77, 42, 42, 42, 180, 0, 29, 90, 181, 0, 23, 43, 190, 184, 0, 43]
abbrev dktJ25_next_1 : List UInt8 := dkwJ25_next_1 ++ dktJ25_next_2
def dkwJ25_next_0 : List UInt8 := [42, 180, 0, 19, 157, 0, 11, 187, 0, 32, 89, 183, 0, 34, 191, 42, 180, 0, 1, 180, 0, 35, 76, 43]
abbrev dktJ25_next_0 : List UInt8 := dkwJ25_next_0 ++ dktJ25_next_1
theorem dksJ25_next_0 : cJ25_next.data.toList.drop 0 = dktJ25_next_0 := by decide +kernel
theorem dksJ25_next_1 : cJ25_next.data.toList.drop 24 = dktJ25_next_1 := dk_seg dksJ25_next_0 24 rfl rfl
theorem dksJ25_next_2 : cJ25_next.data.toList.drop 47 = dktJ25_next_2 := dk_seg dksJ25_next_1 23 rfl rfl
theorem dJ25_next_0 : decode cJ25_next 0 = .ok (.aload_n 0, 1) := dk_42 (dk_at dksJ25_next_0 0 rfl rfl)
theorem dJ25_next_1 : decode cJ25_next 1 = .ok (.getfield 19, 3) := dk_180 0 19 (dk_at dksJ25_next_0 1 rfl rfl)
theorem dJ25_next_4 : decode cJ25_next 4 = .ok (.ifCond .gt 11, 3) := dk_157 0 11 (dk_at dksJ25_next_0 4 rfl rfl)
theorem dJ25_next_7 : decode cJ25_next 7 = .ok (.new 32, 3) := dk_187 0 32 (dk_at dksJ25_next_0 7 rfl rfl)
theorem dJ25_next_10 : decode cJ25_next 10 = .ok (.dup, 1) := dk_89 (dk_at dksJ25_next_0 10 rfl rfl)
theorem dJ25_next_11 : decode cJ25_next 11 = .ok (.invokespecial 34, 3) := dk_183 0 34 (dk_at dksJ25_next_0 11 rfl rfl)
theorem dJ25_next_14 : decode cJ25_next 14 = .ok (.athrow, 1) := dk_191 (dk_at dksJ25_next_0 14 rfl rfl)
theorem dJ25_next_15 : decode cJ25_next 15 = .ok (.aload_n 0, 1) := dk_42 (dk_at dksJ25_next_0 15 rfl rfl)
theorem dJ25_next_16 : decode cJ25_next 16 = .ok (.getfield 1, 3) := dk_180 0 1 (dk_at dksJ25_next_0 16 rfl rfl)
theorem dJ25_next_19 : decode cJ25_next 19 = .ok (.getfield 35, 3) := dk_180 0 35 (dk_at dksJ25_next_0 19 rfl rfl)
theorem dJ25_next_22 : decode cJ25_next 22 = .ok (.astore_n 1, 1) := dk_76 (dk_at dksJ25_next_0 22 rfl rfl)
theorem dJ25_next_23 : decode cJ25_next 23 = .ok (.aload_n 1, 1) := dk_43 (dk_at dksJ25_next_0 23 rfl rfl)
theorem dJ25_next_24 : decode cJ25_next 24 = .ok (.aload_n 0, 1) := dk_42 (dk_at dksJ25_next_1 0 rfl rfl)
theorem dJ25_next_25 : decode cJ25_next 25 = .ok (.getfield 29, 3) := dk_180 0 29 (dk_at dksJ25_next_1 1 rfl rfl)
theorem dJ25_next_28 : decode cJ25_next 28 = .ok (.invokestatic 39, 3) := dk_184 0 39 (dk_at dksJ25_next_1 4 rfl rfl)
theorem dJ25_next_31 : decode cJ25_next 31 = .ok (.astore_n 2, 1) := dk_77 (dk_at dksJ25_next_1 7 rfl rfl)
theorem dJ25_next_32 : decode cJ25_next 32 = .ok (.aload_n 0, 1) := dk_42 (dk_at dksJ25_next_1 8 rfl rfl)
theorem dJ25_next_33 : decode cJ25_next 33 = .ok (.aload_n 0, 1) := dk_42 (dk_at dksJ25_next_1 9 rfl rfl)
theorem dJ25_next_34 : decode cJ25_next 34 = .ok (.aload_n 0, 1) := dk_42 (dk_at dksJ25_next_1 10 rfl rfl)
theorem dJ25_next_35 : decode cJ25_next 35 = .ok (.getfield 29, 3) := dk_180 0 29 (dk_at dksJ25_next_1 11 rfl rfl)
theorem dJ25_next_38 : decode cJ25_next 38 = .ok (.dup_x1, 1) := dk_90 (dk_at dksJ25_next_1 14 rfl rfl)
theorem dJ25_next_39 : decode cJ25_next 39 = .ok (.putfield 23, 3) := dk_181 0 23 (dk_at dksJ25_next_1 15 rfl rfl)
theorem dJ25_next_42 : decode cJ25_next 42 = .ok (.aload_n 1, 1) := dk_43 (dk_at dksJ25_next_1 18 rfl rfl)
theorem dJ25_next_43 : decode cJ25_next 43 = .ok (.arraylength, 1) := dk_190 (dk_at dksJ25_next_1 19 rfl rfl)
theorem dJ25_next_44 : decode cJ25_next 44 = .ok (.invokestatic 43, 3) := dk_184 0 43 (dk_at dksJ25_next_1 20 rfl rfl)
theorem dJ25_next_47 : decode cJ25_next 47 = .ok (.putfield 29, 3) := dk_181 0 29 (dk_at dksJ25_next_2 0 rfl rfl)
theorem dJ25_next_50 : decode cJ25_next 50 = .ok (.aload_n 0, 1) := dk_42 (dk_at dksJ25_next_2 3 rfl rfl)
theorem dJ25_next_51 : decode cJ25_next 51 = .ok (.dup, 1) := dk_89 (dk_at dksJ25_next_2 4 rfl rfl)
theorem dJ25_next_52 : decode cJ25_next 52 = .ok (.getfield 19, 3) := dk_180 0 19 (dk_at dksJ25_next_2 5 rfl rfl)
theorem dJ25_next_55 : decode cJ25_next 55 = .ok (.iconst 1, 1) := dk_4 (dk_at dksJ25_next_2 8 rfl rfl)
theorem dJ25_next_56 : decode cJ25_next 56 = .ok (.isub, 1) := dk_100 (dk_at dksJ25_next_2 9 rfl rfl)
theorem dJ25_next_57 : decode cJ25_next 57 = .ok (.putfield 19, 3) := dk_181 0 19 (dk_at dksJ25_next_2 10 rfl rfl)
theorem dJ25_next_60 : decode cJ25_next 60 = .ok (.aload_n 2, 1) := dk_44 (dk_at dksJ25_next_2 13 rfl rfl)
theorem dJ25_next_61 : decode cJ25_next 61 = .ok (.areturn, 1) := dk_176 (dk_at dksJ25_next_2 14 rfl rfl)
abbrev cJ25_init : ByteArray := prog_56_method_1_code
def yJ25_init : MethodName := ⟨RJ25, "<init>", "(Ljava/util/ArrayDeque;)V"⟩
def dkwJ25_init_1 : List UInt8 := [181, 0, 23, 42, 43, 180, 0, 26, 181, 0, 29, 177]
abbrev dktJ25_init_1 : List UInt8 := dkwJ25_init_1 ++ []
def dkwJ25_init_0 : List UInt8 := [42, 43, 181, 0, 1, 42, 183, 0, 7, 42, 42, 180, 0, 1, 182, 0, 13, 181, 0, 19, 42, 2]
abbrev dktJ25_init_0 : List UInt8 := dkwJ25_init_0 ++ dktJ25_init_1
theorem dksJ25_init_0 : cJ25_init.data.toList.drop 0 = dktJ25_init_0 := by decide +kernel
theorem dksJ25_init_1 : cJ25_init.data.toList.drop 22 = dktJ25_init_1 := dk_seg dksJ25_init_0 22 rfl rfl
theorem dJ25_init_0 : decode cJ25_init 0 = .ok (.aload_n 0, 1) := dk_42 (dk_at dksJ25_init_0 0 rfl rfl)
theorem dJ25_init_1 : decode cJ25_init 1 = .ok (.aload_n 1, 1) := dk_43 (dk_at dksJ25_init_0 1 rfl rfl)
theorem dJ25_init_2 : decode cJ25_init 2 = .ok (.putfield 1, 3) := dk_181 0 1 (dk_at dksJ25_init_0 2 rfl rfl)
theorem dJ25_init_5 : decode cJ25_init 5 = .ok (.aload_n 0, 1) := dk_42 (dk_at dksJ25_init_0 5 rfl rfl)
theorem dJ25_init_6 : decode cJ25_init 6 = .ok (.invokespecial 7, 3) := dk_183 0 7 (dk_at dksJ25_init_0 6 rfl rfl)
theorem dJ25_init_9 : decode cJ25_init 9 = .ok (.aload_n 0, 1) := dk_42 (dk_at dksJ25_init_0 9 rfl rfl)
theorem dJ25_init_10 : decode cJ25_init 10 = .ok (.aload_n 0, 1) := dk_42 (dk_at dksJ25_init_0 10 rfl rfl)
theorem dJ25_init_11 : decode cJ25_init 11 = .ok (.getfield 1, 3) := dk_180 0 1 (dk_at dksJ25_init_0 11 rfl rfl)
theorem dJ25_init_14 : decode cJ25_init 14 = .ok (.invokevirtual 13, 3) := dk_182 0 13 (dk_at dksJ25_init_0 14 rfl rfl)
theorem dJ25_init_17 : decode cJ25_init 17 = .ok (.putfield 19, 3) := dk_181 0 19 (dk_at dksJ25_init_0 17 rfl rfl)
theorem dJ25_init_20 : decode cJ25_init 20 = .ok (.aload_n 0, 1) := dk_42 (dk_at dksJ25_init_0 20 rfl rfl)
theorem dJ25_init_21 : decode cJ25_init 21 = .ok (.iconst (-1), 1) := dk_2 (dk_at dksJ25_init_0 21 rfl rfl)
theorem dJ25_init_22 : decode cJ25_init 22 = .ok (.putfield 23, 3) := dk_181 0 23 (dk_at dksJ25_init_1 0 rfl rfl)
theorem dJ25_init_25 : decode cJ25_init 25 = .ok (.aload_n 0, 1) := dk_42 (dk_at dksJ25_init_1 3 rfl rfl)
theorem dJ25_init_26 : decode cJ25_init 26 = .ok (.aload_n 1, 1) := dk_43 (dk_at dksJ25_init_1 4 rfl rfl)
theorem dJ25_init_27 : decode cJ25_init 27 = .ok (.getfield 26, 3) := dk_180 0 26 (dk_at dksJ25_init_1 5 rfl rfl)
theorem dJ25_init_30 : decode cJ25_init 30 = .ok (.putfield 29, 3) := dk_181 0 29 (dk_at dksJ25_init_1 8 rfl rfl)
theorem dJ25_init_33 : decode cJ25_init 33 = .ok (.return_, 1) := dk_177 (dk_at dksJ25_init_1 11 rfl rfl)
theorem q147 : (Jvm.Cond.initialized "java/util/ArrayDeque$DeqIterator") ∈ lw_all := lw_g (lw_at lw_m1 50 rfl) rfl
theorem q451 : (Jvm.Cond.selects "java/util/ArrayDeque$DeqIterator" ({ cls := "java/lang/Object", name := "getClass", desc := "()Ljava/lang/Class;" } : Jvm.MethodName) ({ cls := "java/lang/Object", name := "getClass", desc := "()Ljava/lang/Class;" } : Jvm.MethodName)) ∈ lw_all := lw_g (lw_at lw_m2 114 rfl) rfl
theorem q588 : (Jvm.Cond.fieldLink "java/util/ArrayDeque$DeqIterator" (35 : Nat) "java/util/ArrayDeque" "elements" "[Ljava/lang/Object;") ∈ lw_all := lw_g (lw_at lw_m3 11 rfl) rfl
theorem q589 : (Jvm.Cond.fieldLink "java/util/ArrayDeque$DeqIterator" (26 : Nat) "java/util/ArrayDeque" "head" "I") ∈ lw_all := lw_g (lw_at lw_m3 12 rfl) rfl
theorem q868 : (Jvm.Cond.castable "java/util/ArrayDeque$DeqIterator" "java/util/Iterator") ∈ lw_tbl := lw_at lw_m4 51 rfl
theorem q869 : (Jvm.Cond.selects "java/util/ArrayDeque$DeqIterator" ({ cls := "java/util/Iterator", name := "hasNext", desc := "()Z" } : Jvm.MethodName) ({ cls := "java/util/ArrayDeque$DeqIterator", name := "hasNext", desc := "()Z" } : Jvm.MethodName)) ∈ lw_all := lw_g (lw_at lw_m4 52 rfl) rfl
theorem q870 : (Jvm.Cond.unhidden "java/util/ArrayDeque$DeqIterator" "hasNext" "()Z") ∈ lw_tbl := lw_at lw_m4 53 rfl
theorem q871 : (Jvm.Cond.instanceMethod ({ cls := "java/util/ArrayDeque$DeqIterator", name := "hasNext", desc := "()Z" } : Jvm.MethodName)) ∈ lw_all := lw_g (lw_at lw_m4 54 rfl) rfl
theorem q872 : (Jvm.Cond.publicMethod ({ cls := "java/util/ArrayDeque$DeqIterator", name := "hasNext", desc := "()Z" } : Jvm.MethodName)) ∈ lw_tbl := lw_at lw_m4 55 rfl
theorem q873 : (Jvm.Cond.code ({ cls := "java/util/ArrayDeque$DeqIterator", name := "hasNext", desc := "()Z" } : Jvm.MethodName) prog_56_method_2_code (1 : Nat) (Option.some Jvm.ClassFile.FieldType.boolean)) ∈ lw_all := lw_g (lw_at lw_m4 56 rfl) rfl
theorem q1178 : (Jvm.Cond.selects "java/util/ArrayDeque$DeqIterator" ({ cls := "java/util/Iterator", name := "next", desc := "()Ljava/lang/Object;" } : Jvm.MethodName) ({ cls := "java/util/ArrayDeque$DeqIterator", name := "next", desc := "()Ljava/lang/Object;" } : Jvm.MethodName)) ∈ lw_all := lw_g (lw_at lw_m5 121 rfl) rfl
theorem q1179 : (Jvm.Cond.unhidden "java/util/ArrayDeque$DeqIterator" "next" "()Ljava/lang/Object;") ∈ lw_tbl := lw_at lw_m5 122 rfl
theorem q1180 : (Jvm.Cond.instanceMethod ({ cls := "java/util/ArrayDeque$DeqIterator", name := "next", desc := "()Ljava/lang/Object;" } : Jvm.MethodName)) ∈ lw_all := lw_g (lw_at lw_m5 123 rfl) rfl
theorem q1181 : (Jvm.Cond.publicMethod ({ cls := "java/util/ArrayDeque$DeqIterator", name := "next", desc := "()Ljava/lang/Object;" } : Jvm.MethodName)) ∈ lw_tbl := lw_at lw_m5 124 rfl
theorem q1182 : (Jvm.Cond.code ({ cls := "java/util/ArrayDeque$DeqIterator", name := "next", desc := "()Ljava/lang/Object;" } : Jvm.MethodName) prog_56_method_3_code (3 : Nat) (Option.some (Jvm.ClassFile.FieldType.object "java/lang/Object"))) ∈ lw_all := lw_g (lw_at lw_m5 125 rfl) rfl
theorem q1183 : (Jvm.Cond.methodLink "java/util/ArrayDeque$DeqIterator" (39 : Nat) ({ cls := "java/util/ArrayDeque", name := "nonNullElementAt", desc := "([Ljava/lang/Object;I)Ljava/lang/Object;" } : Jvm.MethodName)) ∈ lw_all := lw_g (lw_at lw_m5 126 rfl) rfl
theorem q1186 : (Jvm.Cond.methodLink "java/util/ArrayDeque$DeqIterator" (43 : Nat) ({ cls := "java/util/ArrayDeque", name := "inc", desc := "(II)I" } : Jvm.MethodName)) ∈ lw_all := lw_g (lw_at lw_m5 129 rfl) rfl
theorem q1669 : (Jvm.Cond.instantiable "java/util/ArrayDeque$DeqIterator" (4 : Nat)) ∈ lw_all := lw_g (lw_at lw_m7 132 rfl) rfl
theorem q1671 : (Jvm.Cond.instanceMethod ({ cls := "java/util/ArrayDeque$DeqIterator", name := "<init>", desc := "(Ljava/util/ArrayDeque;)V" } : Jvm.MethodName)) ∈ lw_all := lw_g (lw_at lw_m7 134 rfl) rfl
theorem q1672 : (Jvm.Cond.code ({ cls := "java/util/ArrayDeque$DeqIterator", name := "<init>", desc := "(Ljava/util/ArrayDeque;)V" } : Jvm.MethodName) prog_56_method_1_code (2 : Nat) (Option.none : Option Jvm.ClassFile.FieldType)) ∈ lw_all := lw_g (lw_at lw_m7 135 rfl) rfl
theorem q1673 : (Jvm.Cond.methodLink "java/util/ArrayDeque$DeqIterator" (7 : Nat) ({ cls := "java/lang/Object", name := "<init>", desc := "()V" } : Jvm.MethodName)) ∈ lw_all := lw_g (lw_at lw_m7 136 rfl) rfl
theorem q1674 : (Jvm.Cond.methodLink "java/util/ArrayDeque$DeqIterator" (13 : Nat) ({ cls := "java/util/ArrayDeque", name := "size", desc := "()I" } : Jvm.MethodName)) ∈ lw_all := lw_g (lw_at lw_m7 137 rfl) rfl
theorem q1675 : (Jvm.Cond.fieldLink "java/util/ArrayDeque$DeqIterator" (29 : Nat) "java/util/ArrayDeque$DeqIterator" "cursor" "I") ∈ lw_all := lw_g (lw_at lw_m7 138 rfl) rfl
theorem q1676 : (Jvm.Cond.fieldLink "java/util/ArrayDeque$DeqIterator" (19 : Nat) "java/util/ArrayDeque$DeqIterator" "remaining" "I") ∈ lw_all := lw_g (lw_at lw_m7 139 rfl) rfl
theorem q1677 : (Jvm.Cond.fieldLink "java/util/ArrayDeque$DeqIterator" (23 : Nat) "java/util/ArrayDeque$DeqIterator" "lastRet" "I") ∈ lw_all := lw_g (lw_at lw_m7 140 rfl) rfl
theorem q1678 : (Jvm.Cond.fieldLink "java/util/ArrayDeque$DeqIterator" (1 : Nat) "java/util/ArrayDeque$DeqIterator" "this$0" "Ljava/util/ArrayDeque;") ∈ lw_all := lw_g (lw_at lw_m7 141 rfl) rfl
theorem q1679 : (Jvm.Cond.lays "java/util/ArrayDeque$DeqIterator" "java/util/ArrayDeque$DeqIterator" "cursor" "I") ∈ lw_all := lw_g (lw_at lw_m7 142 rfl) rfl
theorem q1680 : (Jvm.Cond.soleField "java/util/ArrayDeque$DeqIterator" "cursor") ∈ lw_all := lw_g (lw_at lw_m7 143 rfl) rfl
theorem q1681 : (Jvm.Cond.lays "java/util/ArrayDeque$DeqIterator" "java/util/ArrayDeque$DeqIterator" "remaining" "I") ∈ lw_all := lw_g (lw_at lw_m7 144 rfl) rfl
theorem q1682 : (Jvm.Cond.soleField "java/util/ArrayDeque$DeqIterator" "remaining") ∈ lw_all := lw_g (lw_at lw_m7 145 rfl) rfl
theorem q1683 : (Jvm.Cond.lays "java/util/ArrayDeque$DeqIterator" "java/util/ArrayDeque$DeqIterator" "lastRet" "I") ∈ lw_all := lw_g (lw_at lw_m7 146 rfl) rfl
theorem q1684 : (Jvm.Cond.soleField "java/util/ArrayDeque$DeqIterator" "lastRet") ∈ lw_all := lw_g (lw_at lw_m7 147 rfl) rfl
theorem q1685 : (Jvm.Cond.laysFinal "java/util/ArrayDeque$DeqIterator" "java/util/ArrayDeque$DeqIterator" "this$0" "Ljava/util/ArrayDeque;") ∈ lw_all := lw_g (lw_at lw_m7 148 rfl) rfl
theorem q1686 : (Jvm.Cond.soleField "java/util/ArrayDeque$DeqIterator" "this$0") ∈ lw_all := lw_g (lw_at lw_m7 149 rfl) rfl
theorem q1687 : (Jvm.Cond.superclass "java/util/ArrayDeque$DeqIterator" "java/lang/Object") ∈ lw_all := lw_g (lw_at lw_m7 150 rfl) rfl
theorem q2971 : (Jvm.Cond.castable "java/util/ArrayDeque$DeqIterator" "java/lang/Object") ∈ lw_tbl := lw_at lw_m12 234 rfl
theorem in_J25 : ∀ w ∈ wsJ250, w ∈ lw_all := lw_in wsJ250 [1679, 1681, 1683, 1685] (by decide +kernel) (by decide +kernel)
/-! java/util/AbstractList$Itr -/
set_option maxRecDepth 100000
def RJ26 : String := "java/util/AbstractList$Itr"
abbrev cJ26_hasNext : ByteArray := prog_52_method_2_code
def yJ26_hasNext : MethodName := ⟨RJ26, "hasNext", "()Z"⟩
def dkwJ26_hasNext_0 : List UInt8 := [42, 180, 0, 13, 42, 180, 0, 1, 182, 0, 28, 159, 0, 7, 4, 167, 0, 4, 3, 172]
abbrev dktJ26_hasNext_0 : List UInt8 := dkwJ26_hasNext_0 ++ []
theorem dksJ26_hasNext_0 : cJ26_hasNext.data.toList.drop 0 = dktJ26_hasNext_0 := by decide +kernel
theorem dJ26_hasNext_0 : decode cJ26_hasNext 0 = .ok (.aload_n 0, 1) := dk_42 (dk_at dksJ26_hasNext_0 0 rfl rfl)
theorem dJ26_hasNext_1 : decode cJ26_hasNext 1 = .ok (.getfield 13, 3) := dk_180 0 13 (dk_at dksJ26_hasNext_0 1 rfl rfl)
theorem dJ26_hasNext_4 : decode cJ26_hasNext 4 = .ok (.aload_n 0, 1) := dk_42 (dk_at dksJ26_hasNext_0 4 rfl rfl)
theorem dJ26_hasNext_5 : decode cJ26_hasNext 5 = .ok (.getfield 1, 3) := dk_180 0 1 (dk_at dksJ26_hasNext_0 5 rfl rfl)
theorem dJ26_hasNext_8 : decode cJ26_hasNext 8 = .ok (.invokevirtual 28, 3) := dk_182 0 28 (dk_at dksJ26_hasNext_0 8 rfl rfl)
theorem dJ26_hasNext_11 : decode cJ26_hasNext 11 = .ok (.if_icmp .eq 7, 3) := dk_159 0 7 (dk_at dksJ26_hasNext_0 11 rfl rfl)
theorem dJ26_hasNext_14 : decode cJ26_hasNext 14 = .ok (.iconst 1, 1) := dk_4 (dk_at dksJ26_hasNext_0 14 rfl rfl)
theorem dJ26_hasNext_15 : decode cJ26_hasNext 15 = .ok (.goto 4, 3) := dk_167 0 4 (dk_at dksJ26_hasNext_0 15 rfl rfl)
theorem dJ26_hasNext_18 : decode cJ26_hasNext 18 = .ok (.iconst 0, 1) := dk_3 (dk_at dksJ26_hasNext_0 18 rfl rfl)
theorem dJ26_hasNext_19 : decode cJ26_hasNext 19 = .ok (.ireturn, 1) := dk_172 (dk_at dksJ26_hasNext_0 19 rfl rfl)
abbrev cJ26_next : ByteArray := prog_52_method_3_code
def yJ26_next : MethodName := ⟨RJ26, "next", "()Ljava/lang/Object;"⟩
def dkwJ26_next_1 : List UInt8 := [27, 4, 96, 181, 0, 13, 44, 176, 76, 42, 182, 0, 32, 187, 0, 41, 89, 43, 183, 0, 43, 191]
abbrev dktJ26_next_1 : List UInt8 := dkwJ26_next_1 ++ []
def dkwJ26_next_0 : List UInt8 := [42, 182, 0, 32, 42, 180, 0, 13, 60, 42, 180, 0, 1, 27, 182, 0, 35, 77, 42, 27, 181, 0, 17, 42]
abbrev dktJ26_next_0 : List UInt8 := dkwJ26_next_0 ++ dktJ26_next_1
theorem dksJ26_next_0 : cJ26_next.data.toList.drop 0 = dktJ26_next_0 := by decide +kernel
theorem dksJ26_next_1 : cJ26_next.data.toList.drop 24 = dktJ26_next_1 := dk_seg dksJ26_next_0 24 rfl rfl
theorem dJ26_next_0 : decode cJ26_next 0 = .ok (.aload_n 0, 1) := dk_42 (dk_at dksJ26_next_0 0 rfl rfl)
theorem dJ26_next_1 : decode cJ26_next 1 = .ok (.invokevirtual 32, 3) := dk_182 0 32 (dk_at dksJ26_next_0 1 rfl rfl)
theorem dJ26_next_4 : decode cJ26_next 4 = .ok (.aload_n 0, 1) := dk_42 (dk_at dksJ26_next_0 4 rfl rfl)
theorem dJ26_next_5 : decode cJ26_next 5 = .ok (.getfield 13, 3) := dk_180 0 13 (dk_at dksJ26_next_0 5 rfl rfl)
theorem dJ26_next_8 : decode cJ26_next 8 = .ok (.istore_n 1, 1) := dk_60 (dk_at dksJ26_next_0 8 rfl rfl)
theorem dJ26_next_9 : decode cJ26_next 9 = .ok (.aload_n 0, 1) := dk_42 (dk_at dksJ26_next_0 9 rfl rfl)
theorem dJ26_next_10 : decode cJ26_next 10 = .ok (.getfield 1, 3) := dk_180 0 1 (dk_at dksJ26_next_0 10 rfl rfl)
theorem dJ26_next_13 : decode cJ26_next 13 = .ok (.iload_n 1, 1) := dk_27 (dk_at dksJ26_next_0 13 rfl rfl)
theorem dJ26_next_14 : decode cJ26_next 14 = .ok (.invokevirtual 35, 3) := dk_182 0 35 (dk_at dksJ26_next_0 14 rfl rfl)
theorem dJ26_next_17 : decode cJ26_next 17 = .ok (.astore_n 2, 1) := dk_77 (dk_at dksJ26_next_0 17 rfl rfl)
theorem dJ26_next_18 : decode cJ26_next 18 = .ok (.aload_n 0, 1) := dk_42 (dk_at dksJ26_next_0 18 rfl rfl)
theorem dJ26_next_19 : decode cJ26_next 19 = .ok (.iload_n 1, 1) := dk_27 (dk_at dksJ26_next_0 19 rfl rfl)
theorem dJ26_next_20 : decode cJ26_next 20 = .ok (.putfield 17, 3) := dk_181 0 17 (dk_at dksJ26_next_0 20 rfl rfl)
theorem dJ26_next_23 : decode cJ26_next 23 = .ok (.aload_n 0, 1) := dk_42 (dk_at dksJ26_next_0 23 rfl rfl)
theorem dJ26_next_24 : decode cJ26_next 24 = .ok (.iload_n 1, 1) := dk_27 (dk_at dksJ26_next_1 0 rfl rfl)
theorem dJ26_next_25 : decode cJ26_next 25 = .ok (.iconst 1, 1) := dk_4 (dk_at dksJ26_next_1 1 rfl rfl)
theorem dJ26_next_26 : decode cJ26_next 26 = .ok (.iadd, 1) := dk_96 (dk_at dksJ26_next_1 2 rfl rfl)
theorem dJ26_next_27 : decode cJ26_next 27 = .ok (.putfield 13, 3) := dk_181 0 13 (dk_at dksJ26_next_1 3 rfl rfl)
theorem dJ26_next_30 : decode cJ26_next 30 = .ok (.aload_n 2, 1) := dk_44 (dk_at dksJ26_next_1 6 rfl rfl)
theorem dJ26_next_31 : decode cJ26_next 31 = .ok (.areturn, 1) := dk_176 (dk_at dksJ26_next_1 7 rfl rfl)
theorem dJ26_next_32 : decode cJ26_next 32 = .ok (.astore_n 1, 1) := dk_76 (dk_at dksJ26_next_1 8 rfl rfl)
theorem dJ26_next_33 : decode cJ26_next 33 = .ok (.aload_n 0, 1) := dk_42 (dk_at dksJ26_next_1 9 rfl rfl)
theorem dJ26_next_34 : decode cJ26_next 34 = .ok (.invokevirtual 32, 3) := dk_182 0 32 (dk_at dksJ26_next_1 10 rfl rfl)
theorem dJ26_next_37 : decode cJ26_next 37 = .ok (.new 41, 3) := dk_187 0 41 (dk_at dksJ26_next_1 13 rfl rfl)
theorem dJ26_next_40 : decode cJ26_next 40 = .ok (.dup, 1) := dk_89 (dk_at dksJ26_next_1 16 rfl rfl)
theorem dJ26_next_41 : decode cJ26_next 41 = .ok (.aload_n 1, 1) := dk_43 (dk_at dksJ26_next_1 17 rfl rfl)
theorem dJ26_next_42 : decode cJ26_next 42 = .ok (.invokespecial 43, 3) := dk_183 0 43 (dk_at dksJ26_next_1 18 rfl rfl)
theorem dJ26_next_45 : decode cJ26_next 45 = .ok (.athrow, 1) := dk_191 (dk_at dksJ26_next_1 21 rfl rfl)
abbrev cJ26_checkForComodification : ByteArray := prog_52_method_5_code
def yJ26_checkForComodification : MethodName := ⟨RJ26, "checkForComodification", "()V"⟩
def dkwJ26_checkForComodification_0 : List UInt8 := [42, 180, 0, 1, 180, 0, 20, 42, 180, 0, 25, 159, 0, 11, 187, 0, 52, 89, 183, 0, 54, 191, 177]
abbrev dktJ26_checkForComodification_0 : List UInt8 := dkwJ26_checkForComodification_0 ++ []
theorem dksJ26_checkForComodification_0 : cJ26_checkForComodification.data.toList.drop 0 = dktJ26_checkForComodification_0 := by decide +kernel
theorem dJ26_checkForComodification_0 : decode cJ26_checkForComodification 0 = .ok (.aload_n 0, 1) := dk_42 (dk_at dksJ26_checkForComodification_0 0 rfl rfl)
theorem dJ26_checkForComodification_1 : decode cJ26_checkForComodification 1 = .ok (.getfield 1, 3) := dk_180 0 1 (dk_at dksJ26_checkForComodification_0 1 rfl rfl)
theorem dJ26_checkForComodification_4 : decode cJ26_checkForComodification 4 = .ok (.getfield 20, 3) := dk_180 0 20 (dk_at dksJ26_checkForComodification_0 4 rfl rfl)
theorem dJ26_checkForComodification_7 : decode cJ26_checkForComodification 7 = .ok (.aload_n 0, 1) := dk_42 (dk_at dksJ26_checkForComodification_0 7 rfl rfl)
theorem dJ26_checkForComodification_8 : decode cJ26_checkForComodification 8 = .ok (.getfield 25, 3) := dk_180 0 25 (dk_at dksJ26_checkForComodification_0 8 rfl rfl)
theorem dJ26_checkForComodification_11 : decode cJ26_checkForComodification 11 = .ok (.if_icmp .eq 11, 3) := dk_159 0 11 (dk_at dksJ26_checkForComodification_0 11 rfl rfl)
theorem dJ26_checkForComodification_14 : decode cJ26_checkForComodification 14 = .ok (.new 52, 3) := dk_187 0 52 (dk_at dksJ26_checkForComodification_0 14 rfl rfl)
theorem dJ26_checkForComodification_17 : decode cJ26_checkForComodification 17 = .ok (.dup, 1) := dk_89 (dk_at dksJ26_checkForComodification_0 17 rfl rfl)
theorem dJ26_checkForComodification_18 : decode cJ26_checkForComodification 18 = .ok (.invokespecial 54, 3) := dk_183 0 54 (dk_at dksJ26_checkForComodification_0 18 rfl rfl)
theorem dJ26_checkForComodification_21 : decode cJ26_checkForComodification 21 = .ok (.athrow, 1) := dk_191 (dk_at dksJ26_checkForComodification_0 21 rfl rfl)
theorem dJ26_checkForComodification_22 : decode cJ26_checkForComodification 22 = .ok (.return_, 1) := dk_177 (dk_at dksJ26_checkForComodification_0 22 rfl rfl)
theorem q148 : (Jvm.Cond.initialized "java/util/AbstractList$Itr") ∈ lw_all := lw_g (lw_at lw_m1 51 rfl) rfl
theorem q187 : (Jvm.Cond.fieldLink "java/util/AbstractList$Itr" (20 : Nat) "java/util/AbstractList" "modCount" "I") ∈ lw_all := lw_g (lw_at lw_m1 90 rfl) rfl
theorem q861 : (Jvm.Cond.instanceMethod ({ cls := "java/util/AbstractList$Itr", name := "hasNext", desc := "()Z" } : Jvm.MethodName)) ∈ lw_all := lw_g (lw_at lw_m4 44 rfl) rfl
theorem q862 : (Jvm.Cond.publicMethod ({ cls := "java/util/AbstractList$Itr", name := "hasNext", desc := "()Z" } : Jvm.MethodName)) ∈ lw_tbl := lw_at lw_m4 45 rfl
theorem q863 : (Jvm.Cond.code ({ cls := "java/util/AbstractList$Itr", name := "hasNext", desc := "()Z" } : Jvm.MethodName) prog_52_method_2_code (1 : Nat) (Option.some Jvm.ClassFile.FieldType.boolean)) ∈ lw_all := lw_g (lw_at lw_m4 46 rfl) rfl
theorem q864 : (Jvm.Cond.methodLink "java/util/AbstractList$Itr" (28 : Nat) ({ cls := "java/util/AbstractList", name := "size", desc := "()I" } : Jvm.MethodName)) ∈ lw_all := lw_g (lw_at lw_m4 47 rfl) rfl
theorem q895 : (Jvm.Cond.instanceMethod ({ cls := "java/util/AbstractList$Itr", name := "next", desc := "()Ljava/lang/Object;" } : Jvm.MethodName)) ∈ lw_all := lw_g (lw_at lw_m4 78 rfl) rfl
theorem q896 : (Jvm.Cond.publicMethod ({ cls := "java/util/AbstractList$Itr", name := "next", desc := "()Ljava/lang/Object;" } : Jvm.MethodName)) ∈ lw_tbl := lw_at lw_m4 79 rfl
theorem q897 : (Jvm.Cond.codeWith ({ cls := "java/util/AbstractList$Itr", name := "next", desc := "()Ljava/lang/Object;" } : Jvm.MethodName) prog_52_method_3_code (3 : Nat) (Option.some (Jvm.ClassFile.FieldType.object "java/lang/Object")) [((4 : Nat), (31 : Nat), (32 : Nat), (39 : Nat))]) ∈ lw_all := lw_g (lw_at lw_m4 80 rfl) rfl
theorem q898 : (Jvm.Cond.methodLink "java/util/AbstractList$Itr" (32 : Nat) ({ cls := "java/util/AbstractList$Itr", name := "checkForComodification", desc := "()V" } : Jvm.MethodName)) ∈ lw_all := lw_g (lw_at lw_m4 81 rfl) rfl
theorem q899 : (Jvm.Cond.instanceMethod ({ cls := "java/util/AbstractList$Itr", name := "checkForComodification", desc := "()V" } : Jvm.MethodName)) ∈ lw_all := lw_g (lw_at lw_m4 82 rfl) rfl
theorem q900 : (Jvm.Cond.sameMethod "java/util/AbstractList$Itr" "java/util/AbstractList$Itr" "checkForComodification" "()V") ∈ lw_all := lw_g (lw_at lw_m4 83 rfl) rfl
theorem q902 : (Jvm.Cond.code ({ cls := "java/util/AbstractList$Itr", name := "checkForComodification", desc := "()V" } : Jvm.MethodName) prog_52_method_5_code (1 : Nat) (Option.none : Option Jvm.ClassFile.FieldType)) ∈ lw_all := lw_g (lw_at lw_m4 85 rfl) rfl
theorem q903 : (Jvm.Cond.methodLink "java/util/AbstractList$Itr" (35 : Nat) ({ cls := "java/util/AbstractList", name := "get", desc := "(I)Ljava/lang/Object;" } : Jvm.MethodName)) ∈ lw_all := lw_g (lw_at lw_m4 86 rfl) rfl
theorem q922 : (Jvm.Cond.classLink "java/util/AbstractList$Itr" (41 : Nat) "java/util/NoSuchElementException") ∈ lw_all := lw_g (lw_at lw_m4 105 rfl) rfl
theorem q963 : (Jvm.Cond.methodLink "java/util/AbstractList$Itr" (43 : Nat) ({ cls := "java/util/NoSuchElementException", name := "<init>", desc := "(Ljava/lang/Throwable;)V" } : Jvm.MethodName)) ∈ lw_all := lw_g (lw_at lw_m4 146 rfl) rfl
theorem q2993 : (Jvm.Cond.fieldLink "java/util/AbstractList$Itr" (13 : Nat) "java/util/AbstractList$Itr" "cursor" "I") ∈ lw_all := lw_g (lw_at lw_m13 16 rfl) rfl
theorem q2994 : (Jvm.Cond.fieldLink "java/util/AbstractList$Itr" (1 : Nat) "java/util/AbstractList$Itr" "this$0" "Ljava/util/AbstractList;") ∈ lw_all := lw_g (lw_at lw_m13 17 rfl) rfl
theorem q2995 : (Jvm.Cond.fieldLink "java/util/AbstractList$Itr" (25 : Nat) "java/util/AbstractList$Itr" "expectedModCount" "I") ∈ lw_all := lw_g (lw_at lw_m13 18 rfl) rfl
theorem q2996 : (Jvm.Cond.fieldLink "java/util/AbstractList$Itr" (17 : Nat) "java/util/AbstractList$Itr" "lastRet" "I") ∈ lw_all := lw_g (lw_at lw_m13 19 rfl) rfl
/-! java/util/ArrayList$ListItr -/
set_option maxRecDepth 100000
def RJ27 : String := "java/util/ArrayList$ListItr"
def TJ27 : u_T := fun k => match k with
  | 0 => ("java/util/ArrayList$Itr", "cursor", "I", false)
  | 1 => ("java/util/ArrayList$Itr", "lastRet", "I", false)
  | 2 => ("java/util/ArrayList$Itr", "expectedModCount", "I", false)
  | 3 => ("java/util/ArrayList$Itr", "this$0", "Ljava/util/ArrayList;", true)
  | _ => ("java/util/ArrayList$ListItr", "this$0", "Ljava/util/ArrayList;", true)
def tyJ27 : Nat → FieldType := fun k => match k with
  | 0 => .int
  | 1 => .int
  | 2 => .int
  | 3 => .object "java/util/ArrayList"
  | _ => .object "java/util/ArrayList"
abbrev wsJ270 : List Cond := u_ws RJ27 TJ27 5
-- two fields of one name: no nmJ27
theorem tyJ27_ok : ∀ k, k < 5 → parseFieldDescriptor (TJ27 k).2.2.1 = some (tyJ27 k) := by decide +kernel
abbrev cJ27_init : ByteArray := prog_59_method_1_code
def yJ27_init : MethodName := ⟨RJ27, "<init>", "(Ljava/util/ArrayList;I)V"⟩
def dkwJ27_init_0 : List UInt8 := [42, 43, 181, 0, 1, 42, 43, 183, 0, 7, 42, 28, 181, 0, 13, 177]
abbrev dktJ27_init_0 : List UInt8 := dkwJ27_init_0 ++ []
theorem dksJ27_init_0 : cJ27_init.data.toList.drop 0 = dktJ27_init_0 := by decide +kernel
theorem dJ27_init_0 : decode cJ27_init 0 = .ok (.aload_n 0, 1) := dk_42 (dk_at dksJ27_init_0 0 rfl rfl)
theorem dJ27_init_1 : decode cJ27_init 1 = .ok (.aload_n 1, 1) := dk_43 (dk_at dksJ27_init_0 1 rfl rfl)
theorem dJ27_init_2 : decode cJ27_init 2 = .ok (.putfield 1, 3) := dk_181 0 1 (dk_at dksJ27_init_0 2 rfl rfl)
theorem dJ27_init_5 : decode cJ27_init 5 = .ok (.aload_n 0, 1) := dk_42 (dk_at dksJ27_init_0 5 rfl rfl)
theorem dJ27_init_6 : decode cJ27_init 6 = .ok (.aload_n 1, 1) := dk_43 (dk_at dksJ27_init_0 6 rfl rfl)
theorem dJ27_init_7 : decode cJ27_init 7 = .ok (.invokespecial 7, 3) := dk_183 0 7 (dk_at dksJ27_init_0 7 rfl rfl)
theorem dJ27_init_10 : decode cJ27_init 10 = .ok (.aload_n 0, 1) := dk_42 (dk_at dksJ27_init_0 10 rfl rfl)
theorem dJ27_init_11 : decode cJ27_init 11 = .ok (.iload_n 2, 1) := dk_28 (dk_at dksJ27_init_0 11 rfl rfl)
theorem dJ27_init_12 : decode cJ27_init 12 = .ok (.putfield 13, 3) := dk_181 0 13 (dk_at dksJ27_init_0 12 rfl rfl)
theorem dJ27_init_15 : decode cJ27_init 15 = .ok (.return_, 1) := dk_177 (dk_at dksJ27_init_0 15 rfl rfl)
theorem q150 : (Jvm.Cond.initialized "java/util/ArrayList$ListItr") ∈ lw_all := lw_g (lw_at lw_m1 53 rfl) rfl
theorem q454 : (Jvm.Cond.selects "java/util/ArrayList$ListItr" ({ cls := "java/lang/Object", name := "getClass", desc := "()Ljava/lang/Class;" } : Jvm.MethodName) ({ cls := "java/lang/Object", name := "getClass", desc := "()Ljava/lang/Class;" } : Jvm.MethodName)) ∈ lw_all := lw_g (lw_at lw_m2 117 rfl) rfl
theorem q839 : (Jvm.Cond.fieldLink "java/util/ArrayList$ListItr" (13 : Nat) "java/util/ArrayList$ListItr" "cursor" "I") ∈ lw_all := lw_g (lw_at lw_m4 22 rfl) rfl
theorem q840 : (Jvm.Cond.sameField "java/util/ArrayList$ListItr" "java/util/ArrayList$Itr" "cursor" "I") ∈ lw_all := lw_g (lw_at lw_m4 23 rfl) rfl
theorem q880 : (Jvm.Cond.castable "java/util/ArrayList$ListItr" "java/util/Iterator") ∈ lw_tbl := lw_at lw_m4 63 rfl
theorem q881 : (Jvm.Cond.selects "java/util/ArrayList$ListItr" ({ cls := "java/util/Iterator", name := "hasNext", desc := "()Z" } : Jvm.MethodName) ({ cls := "java/util/ArrayList$Itr", name := "hasNext", desc := "()Z" } : Jvm.MethodName)) ∈ lw_all := lw_g (lw_at lw_m4 64 rfl) rfl
theorem q882 : (Jvm.Cond.unhidden "java/util/ArrayList$ListItr" "hasNext" "()Z") ∈ lw_tbl := lw_at lw_m4 65 rfl
theorem q1198 : (Jvm.Cond.selects "java/util/ArrayList$ListItr" ({ cls := "java/util/ArrayList$Itr", name := "checkForComodification", desc := "()V" } : Jvm.MethodName) ({ cls := "java/util/ArrayList$Itr", name := "checkForComodification", desc := "()V" } : Jvm.MethodName)) ∈ lw_all := lw_g (lw_at lw_m5 141 rfl) rfl
theorem q1200 : (Jvm.Cond.selects "java/util/ArrayList$ListItr" ({ cls := "java/util/Iterator", name := "next", desc := "()Ljava/lang/Object;" } : Jvm.MethodName) ({ cls := "java/util/ArrayList$Itr", name := "next", desc := "()Ljava/lang/Object;" } : Jvm.MethodName)) ∈ lw_all := lw_g (lw_at lw_m5 143 rfl) rfl
theorem q1201 : (Jvm.Cond.unhidden "java/util/ArrayList$ListItr" "next" "()Ljava/lang/Object;") ∈ lw_tbl := lw_at lw_m5 144 rfl
theorem q1715 : (Jvm.Cond.instantiable "java/util/ArrayList$ListItr" (5 : Nat)) ∈ lw_all := lw_g (lw_at lw_m7 178 rfl) rfl
theorem q1717 : (Jvm.Cond.instanceMethod ({ cls := "java/util/ArrayList$ListItr", name := "<init>", desc := "(Ljava/util/ArrayList;I)V" } : Jvm.MethodName)) ∈ lw_all := lw_g (lw_at lw_m7 180 rfl) rfl
theorem q1718 : (Jvm.Cond.code ({ cls := "java/util/ArrayList$ListItr", name := "<init>", desc := "(Ljava/util/ArrayList;I)V" } : Jvm.MethodName) prog_59_method_1_code (3 : Nat) (Option.none : Option Jvm.ClassFile.FieldType)) ∈ lw_all := lw_g (lw_at lw_m7 181 rfl) rfl
theorem q1719 : (Jvm.Cond.methodLink "java/util/ArrayList$ListItr" (7 : Nat) ({ cls := "java/util/ArrayList$Itr", name := "<init>", desc := "(Ljava/util/ArrayList;)V" } : Jvm.MethodName)) ∈ lw_all := lw_g (lw_at lw_m7 182 rfl) rfl
theorem q1720 : (Jvm.Cond.fieldLink "java/util/ArrayList$ListItr" (1 : Nat) "java/util/ArrayList$ListItr" "this$0" "Ljava/util/ArrayList;") ∈ lw_all := lw_g (lw_at lw_m7 183 rfl) rfl
theorem q1721 : (Jvm.Cond.laysFinal "java/util/ArrayList$ListItr" "java/util/ArrayList$ListItr" "this$0" "Ljava/util/ArrayList;") ∈ lw_all := lw_g (lw_at lw_m7 184 rfl) rfl
theorem q1722 : (Jvm.Cond.soleField "java/util/ArrayList$ListItr" "this$0") ∈ lw_all := lw_g (lw_at lw_m7 185 rfl) rfl
theorem q1723 : (Jvm.Cond.lays "java/util/ArrayList$ListItr" "java/util/ArrayList$Itr" "cursor" "I") ∈ lw_all := lw_g (lw_at lw_m7 186 rfl) rfl
theorem q1724 : (Jvm.Cond.lays "java/util/ArrayList$ListItr" "java/util/ArrayList$Itr" "lastRet" "I") ∈ lw_all := lw_g (lw_at lw_m7 187 rfl) rfl
theorem q1725 : (Jvm.Cond.lays "java/util/ArrayList$ListItr" "java/util/ArrayList$Itr" "expectedModCount" "I") ∈ lw_all := lw_g (lw_at lw_m7 188 rfl) rfl
theorem q1726 : (Jvm.Cond.laysFinal "java/util/ArrayList$ListItr" "java/util/ArrayList$Itr" "this$0" "Ljava/util/ArrayList;") ∈ lw_all := lw_g (lw_at lw_m7 189 rfl) rfl
theorem q1727 : (Jvm.Cond.superclass "java/util/ArrayList$ListItr" "java/util/ArrayList$Itr") ∈ lw_all := lw_g (lw_at lw_m7 190 rfl) rfl
theorem q2973 : (Jvm.Cond.castable "java/util/ArrayList$ListItr" "java/lang/Object") ∈ lw_tbl := lw_at lw_m12 236 rfl
theorem in_J27 : ∀ w ∈ wsJ270, w ∈ lw_all := lw_in wsJ270 [1723, 1724, 1725, 1726, 1721] (by decide +kernel) (by decide +kernel)
/-! java/util/LinkedList$ListItr -/
set_option maxRecDepth 100000
def RJ28 : String := "java/util/LinkedList$ListItr"
def TJ28 : u_T := fun k => match k with
  | 0 => ("java/util/LinkedList$ListItr", "lastReturned", "Ljava/util/LinkedList$Node;", false)
  | 1 => ("java/util/LinkedList$ListItr", "next", "Ljava/util/LinkedList$Node;", false)
  | 2 => ("java/util/LinkedList$ListItr", "nextIndex", "I", false)
  | 3 => ("java/util/LinkedList$ListItr", "expectedModCount", "I", false)
  | _ => ("java/util/LinkedList$ListItr", "this$0", "Ljava/util/LinkedList;", true)
def tyJ28 : Nat → FieldType := fun k => match k with
  | 0 => .object "java/util/LinkedList$Node"
  | 1 => .object "java/util/LinkedList$Node"
  | 2 => .int
  | 3 => .int
  | _ => .object "java/util/LinkedList"
abbrev wsJ280 : List Cond := u_ws RJ28 TJ28 5
theorem nmJ28 : ∀ a, a < 5 → ∀ b, b < 5 → a ≠ b → (TJ28 a).2.1 ≠ (TJ28 b).2.1 := by decide +kernel
theorem tyJ28_ok : ∀ k, k < 5 → parseFieldDescriptor (TJ28 k).2.2.1 = some (tyJ28 k) := by decide +kernel
abbrev cJ28_hasNext : ByteArray := prog_66_method_2_code
def yJ28_hasNext : MethodName := ⟨RJ28, "hasNext", "()Z"⟩
def dkwJ28_hasNext_0 : List UInt8 := [42, 180, 0, 33, 42, 180, 0, 1, 180, 0, 22, 162, 0, 7, 4, 167, 0, 4, 3, 172]
abbrev dktJ28_hasNext_0 : List UInt8 := dkwJ28_hasNext_0 ++ []
theorem dksJ28_hasNext_0 : cJ28_hasNext.data.toList.drop 0 = dktJ28_hasNext_0 := by decide +kernel
theorem dJ28_hasNext_0 : decode cJ28_hasNext 0 = .ok (.aload_n 0, 1) := dk_42 (dk_at dksJ28_hasNext_0 0 rfl rfl)
theorem dJ28_hasNext_1 : decode cJ28_hasNext 1 = .ok (.getfield 33, 3) := dk_180 0 33 (dk_at dksJ28_hasNext_0 1 rfl rfl)
theorem dJ28_hasNext_4 : decode cJ28_hasNext 4 = .ok (.aload_n 0, 1) := dk_42 (dk_at dksJ28_hasNext_0 4 rfl rfl)
theorem dJ28_hasNext_5 : decode cJ28_hasNext 5 = .ok (.getfield 1, 3) := dk_180 0 1 (dk_at dksJ28_hasNext_0 5 rfl rfl)
theorem dJ28_hasNext_8 : decode cJ28_hasNext 8 = .ok (.getfield 22, 3) := dk_180 0 22 (dk_at dksJ28_hasNext_0 8 rfl rfl)
theorem dJ28_hasNext_11 : decode cJ28_hasNext 11 = .ok (.if_icmp .ge 7, 3) := dk_162 0 7 (dk_at dksJ28_hasNext_0 11 rfl rfl)
theorem dJ28_hasNext_14 : decode cJ28_hasNext 14 = .ok (.iconst 1, 1) := dk_4 (dk_at dksJ28_hasNext_0 14 rfl rfl)
theorem dJ28_hasNext_15 : decode cJ28_hasNext 15 = .ok (.goto 4, 3) := dk_167 0 4 (dk_at dksJ28_hasNext_0 15 rfl rfl)
theorem dJ28_hasNext_18 : decode cJ28_hasNext 18 = .ok (.iconst 0, 1) := dk_3 (dk_at dksJ28_hasNext_0 18 rfl rfl)
theorem dJ28_hasNext_19 : decode cJ28_hasNext 19 = .ok (.ireturn, 1) := dk_172 (dk_at dksJ28_hasNext_0 19 rfl rfl)
abbrev cJ28_next : ByteArray := prog_66_method_3_code
def yJ28_next : MethodName := ⟨RJ28, "next", "()Ljava/lang/Object;"⟩
def dkwJ28_next_2 : List UInt8 := [42, 180, 0, 46, 180, 0, 52, 176]
abbrev dktJ28_next_2 : List UInt8 := dkwJ28_next_2 ++ []
def dkwJ28_next_1 : List UInt8 := [181, 0, 46, 42, 42, 180, 0, 29, 180, 0, 49, 181, 0, 29, 42, 89, 180, 0, 33, 4, 96, 181, 0, 33]
abbrev dktJ28_next_1 : List UInt8 := dkwJ28_next_1 ++ dktJ28_next_2
def dkwJ28_next_0 : List UInt8 := [42, 182, 0, 36, 42, 182, 0, 39, 154, 0, 11, 187, 0, 43, 89, 183, 0, 45, 191, 42, 42, 180, 0, 29]
abbrev dktJ28_next_0 : List UInt8 := dkwJ28_next_0 ++ dktJ28_next_1
theorem dksJ28_next_0 : cJ28_next.data.toList.drop 0 = dktJ28_next_0 := by decide +kernel
theorem dksJ28_next_1 : cJ28_next.data.toList.drop 24 = dktJ28_next_1 := dk_seg dksJ28_next_0 24 rfl rfl
theorem dksJ28_next_2 : cJ28_next.data.toList.drop 48 = dktJ28_next_2 := dk_seg dksJ28_next_1 24 rfl rfl
theorem dJ28_next_0 : decode cJ28_next 0 = .ok (.aload_n 0, 1) := dk_42 (dk_at dksJ28_next_0 0 rfl rfl)
theorem dJ28_next_1 : decode cJ28_next 1 = .ok (.invokevirtual 36, 3) := dk_182 0 36 (dk_at dksJ28_next_0 1 rfl rfl)
theorem dJ28_next_4 : decode cJ28_next 4 = .ok (.aload_n 0, 1) := dk_42 (dk_at dksJ28_next_0 4 rfl rfl)
theorem dJ28_next_5 : decode cJ28_next 5 = .ok (.invokevirtual 39, 3) := dk_182 0 39 (dk_at dksJ28_next_0 5 rfl rfl)
theorem dJ28_next_8 : decode cJ28_next 8 = .ok (.ifCond .ne 11, 3) := dk_154 0 11 (dk_at dksJ28_next_0 8 rfl rfl)
theorem dJ28_next_11 : decode cJ28_next 11 = .ok (.new 43, 3) := dk_187 0 43 (dk_at dksJ28_next_0 11 rfl rfl)
theorem dJ28_next_14 : decode cJ28_next 14 = .ok (.dup, 1) := dk_89 (dk_at dksJ28_next_0 14 rfl rfl)
theorem dJ28_next_15 : decode cJ28_next 15 = .ok (.invokespecial 45, 3) := dk_183 0 45 (dk_at dksJ28_next_0 15 rfl rfl)
theorem dJ28_next_18 : decode cJ28_next 18 = .ok (.athrow, 1) := dk_191 (dk_at dksJ28_next_0 18 rfl rfl)
theorem dJ28_next_19 : decode cJ28_next 19 = .ok (.aload_n 0, 1) := dk_42 (dk_at dksJ28_next_0 19 rfl rfl)
theorem dJ28_next_20 : decode cJ28_next 20 = .ok (.aload_n 0, 1) := dk_42 (dk_at dksJ28_next_0 20 rfl rfl)
theorem dJ28_next_21 : decode cJ28_next 21 = .ok (.getfield 29, 3) := dk_180 0 29 (dk_at dksJ28_next_0 21 rfl rfl)
theorem dJ28_next_24 : decode cJ28_next 24 = .ok (.putfield 46, 3) := dk_181 0 46 (dk_at dksJ28_next_1 0 rfl rfl)
theorem dJ28_next_27 : decode cJ28_next 27 = .ok (.aload_n 0, 1) := dk_42 (dk_at dksJ28_next_1 3 rfl rfl)
theorem dJ28_next_28 : decode cJ28_next 28 = .ok (.aload_n 0, 1) := dk_42 (dk_at dksJ28_next_1 4 rfl rfl)
theorem dJ28_next_29 : decode cJ28_next 29 = .ok (.getfield 29, 3) := dk_180 0 29 (dk_at dksJ28_next_1 5 rfl rfl)
theorem dJ28_next_32 : decode cJ28_next 32 = .ok (.getfield 49, 3) := dk_180 0 49 (dk_at dksJ28_next_1 8 rfl rfl)
theorem dJ28_next_35 : decode cJ28_next 35 = .ok (.putfield 29, 3) := dk_181 0 29 (dk_at dksJ28_next_1 11 rfl rfl)
theorem dJ28_next_38 : decode cJ28_next 38 = .ok (.aload_n 0, 1) := dk_42 (dk_at dksJ28_next_1 14 rfl rfl)
theorem dJ28_next_39 : decode cJ28_next 39 = .ok (.dup, 1) := dk_89 (dk_at dksJ28_next_1 15 rfl rfl)
theorem dJ28_next_40 : decode cJ28_next 40 = .ok (.getfield 33, 3) := dk_180 0 33 (dk_at dksJ28_next_1 16 rfl rfl)
theorem dJ28_next_43 : decode cJ28_next 43 = .ok (.iconst 1, 1) := dk_4 (dk_at dksJ28_next_1 19 rfl rfl)
theorem dJ28_next_44 : decode cJ28_next 44 = .ok (.iadd, 1) := dk_96 (dk_at dksJ28_next_1 20 rfl rfl)
theorem dJ28_next_45 : decode cJ28_next 45 = .ok (.putfield 33, 3) := dk_181 0 33 (dk_at dksJ28_next_1 21 rfl rfl)
theorem dJ28_next_48 : decode cJ28_next 48 = .ok (.aload_n 0, 1) := dk_42 (dk_at dksJ28_next_2 0 rfl rfl)
theorem dJ28_next_49 : decode cJ28_next 49 = .ok (.getfield 46, 3) := dk_180 0 46 (dk_at dksJ28_next_2 1 rfl rfl)
theorem dJ28_next_52 : decode cJ28_next 52 = .ok (.getfield 52, 3) := dk_180 0 52 (dk_at dksJ28_next_2 4 rfl rfl)
theorem dJ28_next_55 : decode cJ28_next 55 = .ok (.areturn, 1) := dk_176 (dk_at dksJ28_next_2 7 rfl rfl)
abbrev cJ28_checkForComodification : ByteArray := prog_66_method_12_code
def yJ28_checkForComodification : MethodName := ⟨RJ28, "checkForComodification", "()V"⟩
def dkwJ28_checkForComodification_0 : List UInt8 := [42, 180, 0, 1, 180, 0, 13, 42, 180, 0, 19, 159, 0, 11, 187, 0, 91, 89, 183, 0, 93, 191, 177]
abbrev dktJ28_checkForComodification_0 : List UInt8 := dkwJ28_checkForComodification_0 ++ []
theorem dksJ28_checkForComodification_0 : cJ28_checkForComodification.data.toList.drop 0 = dktJ28_checkForComodification_0 := by decide +kernel
theorem dJ28_checkForComodification_0 : decode cJ28_checkForComodification 0 = .ok (.aload_n 0, 1) := dk_42 (dk_at dksJ28_checkForComodification_0 0 rfl rfl)
theorem dJ28_checkForComodification_1 : decode cJ28_checkForComodification 1 = .ok (.getfield 1, 3) := dk_180 0 1 (dk_at dksJ28_checkForComodification_0 1 rfl rfl)
theorem dJ28_checkForComodification_4 : decode cJ28_checkForComodification 4 = .ok (.getfield 13, 3) := dk_180 0 13 (dk_at dksJ28_checkForComodification_0 4 rfl rfl)
theorem dJ28_checkForComodification_7 : decode cJ28_checkForComodification 7 = .ok (.aload_n 0, 1) := dk_42 (dk_at dksJ28_checkForComodification_0 7 rfl rfl)
theorem dJ28_checkForComodification_8 : decode cJ28_checkForComodification 8 = .ok (.getfield 19, 3) := dk_180 0 19 (dk_at dksJ28_checkForComodification_0 8 rfl rfl)
theorem dJ28_checkForComodification_11 : decode cJ28_checkForComodification 11 = .ok (.if_icmp .eq 11, 3) := dk_159 0 11 (dk_at dksJ28_checkForComodification_0 11 rfl rfl)
theorem dJ28_checkForComodification_14 : decode cJ28_checkForComodification 14 = .ok (.new 91, 3) := dk_187 0 91 (dk_at dksJ28_checkForComodification_0 14 rfl rfl)
theorem dJ28_checkForComodification_17 : decode cJ28_checkForComodification 17 = .ok (.dup, 1) := dk_89 (dk_at dksJ28_checkForComodification_0 17 rfl rfl)
theorem dJ28_checkForComodification_18 : decode cJ28_checkForComodification 18 = .ok (.invokespecial 93, 3) := dk_183 0 93 (dk_at dksJ28_checkForComodification_0 18 rfl rfl)
theorem dJ28_checkForComodification_21 : decode cJ28_checkForComodification 21 = .ok (.athrow, 1) := dk_191 (dk_at dksJ28_checkForComodification_0 21 rfl rfl)
theorem dJ28_checkForComodification_22 : decode cJ28_checkForComodification 22 = .ok (.return_, 1) := dk_177 (dk_at dksJ28_checkForComodification_0 22 rfl rfl)
abbrev cJ28_init : ByteArray := prog_66_method_1_code
def yJ28_init : MethodName := ⟨RJ28, "<init>", "(Ljava/util/LinkedList;I)V"⟩
def dkwJ28_init_1 : List UInt8 := [180, 0, 22, 160, 0, 7, 1, 167, 0, 8, 43, 28, 182, 0, 25, 181, 0, 29, 42, 28, 181, 0, 33, 177]
abbrev dktJ28_init_1 : List UInt8 := dkwJ28_init_1 ++ []
def dkwJ28_init_0 : List UInt8 := [42, 43, 181, 0, 1, 42, 183, 0, 7, 42, 42, 180, 0, 1, 180, 0, 13, 181, 0, 19, 42, 28, 43]
abbrev dktJ28_init_0 : List UInt8 := dkwJ28_init_0 ++ dktJ28_init_1
theorem dksJ28_init_0 : cJ28_init.data.toList.drop 0 = dktJ28_init_0 := by decide +kernel
theorem dksJ28_init_1 : cJ28_init.data.toList.drop 23 = dktJ28_init_1 := dk_seg dksJ28_init_0 23 rfl rfl
theorem dJ28_init_0 : decode cJ28_init 0 = .ok (.aload_n 0, 1) := dk_42 (dk_at dksJ28_init_0 0 rfl rfl)
theorem dJ28_init_1 : decode cJ28_init 1 = .ok (.aload_n 1, 1) := dk_43 (dk_at dksJ28_init_0 1 rfl rfl)
theorem dJ28_init_2 : decode cJ28_init 2 = .ok (.putfield 1, 3) := dk_181 0 1 (dk_at dksJ28_init_0 2 rfl rfl)
theorem dJ28_init_5 : decode cJ28_init 5 = .ok (.aload_n 0, 1) := dk_42 (dk_at dksJ28_init_0 5 rfl rfl)
theorem dJ28_init_6 : decode cJ28_init 6 = .ok (.invokespecial 7, 3) := dk_183 0 7 (dk_at dksJ28_init_0 6 rfl rfl)
theorem dJ28_init_9 : decode cJ28_init 9 = .ok (.aload_n 0, 1) := dk_42 (dk_at dksJ28_init_0 9 rfl rfl)
theorem dJ28_init_10 : decode cJ28_init 10 = .ok (.aload_n 0, 1) := dk_42 (dk_at dksJ28_init_0 10 rfl rfl)
theorem dJ28_init_11 : decode cJ28_init 11 = .ok (.getfield 1, 3) := dk_180 0 1 (dk_at dksJ28_init_0 11 rfl rfl)
theorem dJ28_init_14 : decode cJ28_init 14 = .ok (.getfield 13, 3) := dk_180 0 13 (dk_at dksJ28_init_0 14 rfl rfl)
theorem dJ28_init_17 : decode cJ28_init 17 = .ok (.putfield 19, 3) := dk_181 0 19 (dk_at dksJ28_init_0 17 rfl rfl)
theorem dJ28_init_20 : decode cJ28_init 20 = .ok (.aload_n 0, 1) := dk_42 (dk_at dksJ28_init_0 20 rfl rfl)
theorem dJ28_init_21 : decode cJ28_init 21 = .ok (.iload_n 2, 1) := dk_28 (dk_at dksJ28_init_0 21 rfl rfl)
theorem dJ28_init_22 : decode cJ28_init 22 = .ok (.aload_n 1, 1) := dk_43 (dk_at dksJ28_init_0 22 rfl rfl)
theorem dJ28_init_23 : decode cJ28_init 23 = .ok (.getfield 22, 3) := dk_180 0 22 (dk_at dksJ28_init_1 0 rfl rfl)
theorem dJ28_init_26 : decode cJ28_init 26 = .ok (.if_icmp .ne 7, 3) := dk_160 0 7 (dk_at dksJ28_init_1 3 rfl rfl)
theorem dJ28_init_29 : decode cJ28_init 29 = .ok (.aconst_null, 1) := dk_1 (dk_at dksJ28_init_1 6 rfl rfl)
theorem dJ28_init_30 : decode cJ28_init 30 = .ok (.goto 8, 3) := dk_167 0 8 (dk_at dksJ28_init_1 7 rfl rfl)
theorem dJ28_init_33 : decode cJ28_init 33 = .ok (.aload_n 1, 1) := dk_43 (dk_at dksJ28_init_1 10 rfl rfl)
theorem dJ28_init_34 : decode cJ28_init 34 = .ok (.iload_n 2, 1) := dk_28 (dk_at dksJ28_init_1 11 rfl rfl)
theorem dJ28_init_35 : decode cJ28_init 35 = .ok (.invokevirtual 25, 3) := dk_182 0 25 (dk_at dksJ28_init_1 12 rfl rfl)
theorem dJ28_init_38 : decode cJ28_init 38 = .ok (.putfield 29, 3) := dk_181 0 29 (dk_at dksJ28_init_1 15 rfl rfl)
theorem dJ28_init_41 : decode cJ28_init 41 = .ok (.aload_n 0, 1) := dk_42 (dk_at dksJ28_init_1 18 rfl rfl)
theorem dJ28_init_42 : decode cJ28_init 42 = .ok (.iload_n 2, 1) := dk_28 (dk_at dksJ28_init_1 19 rfl rfl)
theorem dJ28_init_43 : decode cJ28_init 43 = .ok (.putfield 33, 3) := dk_181 0 33 (dk_at dksJ28_init_1 20 rfl rfl)
theorem dJ28_init_46 : decode cJ28_init 46 = .ok (.return_, 1) := dk_177 (dk_at dksJ28_init_1 23 rfl rfl)
theorem q151 : (Jvm.Cond.initialized "java/util/LinkedList$ListItr") ∈ lw_all := lw_g (lw_at lw_m1 54 rfl) rfl
theorem q179 : (Jvm.Cond.fieldLink "java/util/LinkedList$ListItr" (22 : Nat) "java/util/LinkedList" "size" "I") ∈ lw_all := lw_g (lw_at lw_m1 82 rfl) rfl
theorem q183 : (Jvm.Cond.fieldLink "java/util/LinkedList$ListItr" (13 : Nat) "java/util/LinkedList" "modCount" "I") ∈ lw_all := lw_g (lw_at lw_m1 86 rfl) rfl
theorem q457 : (Jvm.Cond.selects "java/util/LinkedList$ListItr" ({ cls := "java/lang/Object", name := "getClass", desc := "()Ljava/lang/Class;" } : Jvm.MethodName) ({ cls := "java/lang/Object", name := "getClass", desc := "()Ljava/lang/Class;" } : Jvm.MethodName)) ∈ lw_all := lw_g (lw_at lw_m2 120 rfl) rfl
theorem q883 : (Jvm.Cond.castable "java/util/LinkedList$ListItr" "java/util/Iterator") ∈ lw_tbl := lw_at lw_m4 66 rfl
theorem q884 : (Jvm.Cond.selects "java/util/LinkedList$ListItr" ({ cls := "java/util/Iterator", name := "hasNext", desc := "()Z" } : Jvm.MethodName) ({ cls := "java/util/LinkedList$ListItr", name := "hasNext", desc := "()Z" } : Jvm.MethodName)) ∈ lw_all := lw_g (lw_at lw_m4 67 rfl) rfl
theorem q885 : (Jvm.Cond.unhidden "java/util/LinkedList$ListItr" "hasNext" "()Z") ∈ lw_tbl := lw_at lw_m4 68 rfl
theorem q886 : (Jvm.Cond.instanceMethod ({ cls := "java/util/LinkedList$ListItr", name := "hasNext", desc := "()Z" } : Jvm.MethodName)) ∈ lw_all := lw_g (lw_at lw_m4 69 rfl) rfl
theorem q887 : (Jvm.Cond.publicMethod ({ cls := "java/util/LinkedList$ListItr", name := "hasNext", desc := "()Z" } : Jvm.MethodName)) ∈ lw_tbl := lw_at lw_m4 70 rfl
theorem q888 : (Jvm.Cond.code ({ cls := "java/util/LinkedList$ListItr", name := "hasNext", desc := "()Z" } : Jvm.MethodName) prog_66_method_2_code (1 : Nat) (Option.some Jvm.ClassFile.FieldType.boolean)) ∈ lw_all := lw_g (lw_at lw_m4 71 rfl) rfl
theorem q1202 : (Jvm.Cond.selects "java/util/LinkedList$ListItr" ({ cls := "java/util/Iterator", name := "next", desc := "()Ljava/lang/Object;" } : Jvm.MethodName) ({ cls := "java/util/LinkedList$ListItr", name := "next", desc := "()Ljava/lang/Object;" } : Jvm.MethodName)) ∈ lw_all := lw_g (lw_at lw_m5 145 rfl) rfl
theorem q1203 : (Jvm.Cond.unhidden "java/util/LinkedList$ListItr" "next" "()Ljava/lang/Object;") ∈ lw_tbl := lw_at lw_m5 146 rfl
theorem q1204 : (Jvm.Cond.instanceMethod ({ cls := "java/util/LinkedList$ListItr", name := "next", desc := "()Ljava/lang/Object;" } : Jvm.MethodName)) ∈ lw_all := lw_g (lw_at lw_m5 147 rfl) rfl
theorem q1205 : (Jvm.Cond.publicMethod ({ cls := "java/util/LinkedList$ListItr", name := "next", desc := "()Ljava/lang/Object;" } : Jvm.MethodName)) ∈ lw_tbl := lw_at lw_m5 148 rfl
theorem q1206 : (Jvm.Cond.code ({ cls := "java/util/LinkedList$ListItr", name := "next", desc := "()Ljava/lang/Object;" } : Jvm.MethodName) prog_66_method_3_code (1 : Nat) (Option.some (Jvm.ClassFile.FieldType.object "java/lang/Object"))) ∈ lw_all := lw_g (lw_at lw_m5 149 rfl) rfl
theorem q1207 : (Jvm.Cond.methodLink "java/util/LinkedList$ListItr" (36 : Nat) ({ cls := "java/util/LinkedList$ListItr", name := "checkForComodification", desc := "()V" } : Jvm.MethodName)) ∈ lw_all := lw_g (lw_at lw_m5 150 rfl) rfl
theorem q1208 : (Jvm.Cond.instanceMethod ({ cls := "java/util/LinkedList$ListItr", name := "checkForComodification", desc := "()V" } : Jvm.MethodName)) ∈ lw_all := lw_g (lw_at lw_m5 151 rfl) rfl
theorem q1209 : (Jvm.Cond.selects "java/util/LinkedList$ListItr" ({ cls := "java/util/LinkedList$ListItr", name := "checkForComodification", desc := "()V" } : Jvm.MethodName) ({ cls := "java/util/LinkedList$ListItr", name := "checkForComodification", desc := "()V" } : Jvm.MethodName)) ∈ lw_all := lw_g (lw_at lw_m5 152 rfl) rfl
theorem q1210 : (Jvm.Cond.code ({ cls := "java/util/LinkedList$ListItr", name := "checkForComodification", desc := "()V" } : Jvm.MethodName) prog_66_method_12_code (1 : Nat) (Option.none : Option Jvm.ClassFile.FieldType)) ∈ lw_all := lw_g (lw_at lw_m5 153 rfl) rfl
theorem q1211 : (Jvm.Cond.methodLink "java/util/LinkedList$ListItr" (39 : Nat) ({ cls := "java/util/LinkedList$ListItr", name := "hasNext", desc := "()Z" } : Jvm.MethodName)) ∈ lw_all := lw_g (lw_at lw_m5 154 rfl) rfl
theorem q1610 : (Jvm.Cond.fieldLink "java/util/LinkedList$ListItr" (52 : Nat) "java/util/LinkedList$Node" "item" "Ljava/lang/Object;") ∈ lw_all := lw_g (lw_at lw_m7 73 rfl) rfl
theorem q1613 : (Jvm.Cond.fieldLink "java/util/LinkedList$ListItr" (49 : Nat) "java/util/LinkedList$Node" "next" "Ljava/util/LinkedList$Node;") ∈ lw_all := lw_g (lw_at lw_m7 76 rfl) rfl
theorem q1740 : (Jvm.Cond.instantiable "java/util/LinkedList$ListItr" (5 : Nat)) ∈ lw_all := lw_g (lw_at lw_m7 203 rfl) rfl
theorem q1742 : (Jvm.Cond.instanceMethod ({ cls := "java/util/LinkedList$ListItr", name := "<init>", desc := "(Ljava/util/LinkedList;I)V" } : Jvm.MethodName)) ∈ lw_all := lw_g (lw_at lw_m7 205 rfl) rfl
theorem q1743 : (Jvm.Cond.code ({ cls := "java/util/LinkedList$ListItr", name := "<init>", desc := "(Ljava/util/LinkedList;I)V" } : Jvm.MethodName) prog_66_method_1_code (3 : Nat) (Option.none : Option Jvm.ClassFile.FieldType)) ∈ lw_all := lw_g (lw_at lw_m7 206 rfl) rfl
theorem q1744 : (Jvm.Cond.methodLink "java/util/LinkedList$ListItr" (7 : Nat) ({ cls := "java/lang/Object", name := "<init>", desc := "()V" } : Jvm.MethodName)) ∈ lw_all := lw_g (lw_at lw_m7 207 rfl) rfl
theorem q1745 : (Jvm.Cond.methodLink "java/util/LinkedList$ListItr" (25 : Nat) ({ cls := "java/util/LinkedList", name := "node", desc := "(I)Ljava/util/LinkedList$Node;" } : Jvm.MethodName)) ∈ lw_all := lw_g (lw_at lw_m7 208 rfl) rfl
theorem q1746 : (Jvm.Cond.fieldLink "java/util/LinkedList$ListItr" (46 : Nat) "java/util/LinkedList$ListItr" "lastReturned" "Ljava/util/LinkedList$Node;") ∈ lw_all := lw_g (lw_at lw_m7 209 rfl) rfl
theorem q1747 : (Jvm.Cond.fieldLink "java/util/LinkedList$ListItr" (29 : Nat) "java/util/LinkedList$ListItr" "next" "Ljava/util/LinkedList$Node;") ∈ lw_all := lw_g (lw_at lw_m7 210 rfl) rfl
theorem q1748 : (Jvm.Cond.fieldLink "java/util/LinkedList$ListItr" (33 : Nat) "java/util/LinkedList$ListItr" "nextIndex" "I") ∈ lw_all := lw_g (lw_at lw_m7 211 rfl) rfl
theorem q1749 : (Jvm.Cond.fieldLink "java/util/LinkedList$ListItr" (19 : Nat) "java/util/LinkedList$ListItr" "expectedModCount" "I") ∈ lw_all := lw_g (lw_at lw_m7 212 rfl) rfl
theorem q1750 : (Jvm.Cond.fieldLink "java/util/LinkedList$ListItr" (1 : Nat) "java/util/LinkedList$ListItr" "this$0" "Ljava/util/LinkedList;") ∈ lw_all := lw_g (lw_at lw_m7 213 rfl) rfl
theorem q1751 : (Jvm.Cond.lays "java/util/LinkedList$ListItr" "java/util/LinkedList$ListItr" "lastReturned" "Ljava/util/LinkedList$Node;") ∈ lw_all := lw_g (lw_at lw_m7 214 rfl) rfl
theorem q1752 : (Jvm.Cond.soleField "java/util/LinkedList$ListItr" "lastReturned") ∈ lw_all := lw_g (lw_at lw_m7 215 rfl) rfl
theorem q1753 : (Jvm.Cond.lays "java/util/LinkedList$ListItr" "java/util/LinkedList$ListItr" "next" "Ljava/util/LinkedList$Node;") ∈ lw_all := lw_g (lw_at lw_m7 216 rfl) rfl
theorem q1754 : (Jvm.Cond.soleField "java/util/LinkedList$ListItr" "next") ∈ lw_all := lw_g (lw_at lw_m7 217 rfl) rfl
theorem q1755 : (Jvm.Cond.lays "java/util/LinkedList$ListItr" "java/util/LinkedList$ListItr" "nextIndex" "I") ∈ lw_all := lw_g (lw_at lw_m7 218 rfl) rfl
theorem q1756 : (Jvm.Cond.soleField "java/util/LinkedList$ListItr" "nextIndex") ∈ lw_all := lw_g (lw_at lw_m7 219 rfl) rfl
theorem q1757 : (Jvm.Cond.lays "java/util/LinkedList$ListItr" "java/util/LinkedList$ListItr" "expectedModCount" "I") ∈ lw_all := lw_g (lw_at lw_m7 220 rfl) rfl
theorem q1758 : (Jvm.Cond.soleField "java/util/LinkedList$ListItr" "expectedModCount") ∈ lw_all := lw_g (lw_at lw_m7 221 rfl) rfl
theorem q1759 : (Jvm.Cond.laysFinal "java/util/LinkedList$ListItr" "java/util/LinkedList$ListItr" "this$0" "Ljava/util/LinkedList;") ∈ lw_all := lw_g (lw_at lw_m7 222 rfl) rfl
theorem q1760 : (Jvm.Cond.soleField "java/util/LinkedList$ListItr" "this$0") ∈ lw_all := lw_g (lw_at lw_m7 223 rfl) rfl
theorem q1761 : (Jvm.Cond.superclass "java/util/LinkedList$ListItr" "java/lang/Object") ∈ lw_all := lw_g (lw_at lw_m7 224 rfl) rfl
theorem q2927 : (Jvm.Cond.selects "java/util/LinkedList$ListItr" ({ cls := "java/util/LinkedList$ListItr", name := "hasNext", desc := "()Z" } : Jvm.MethodName) ({ cls := "java/util/LinkedList$ListItr", name := "hasNext", desc := "()Z" } : Jvm.MethodName)) ∈ lw_all := lw_g (lw_at lw_m12 190 rfl) rfl
theorem q2974 : (Jvm.Cond.castable "java/util/LinkedList$ListItr" "java/lang/Object") ∈ lw_tbl := lw_at lw_m12 237 rfl
theorem in_J28 : ∀ w ∈ wsJ280, w ∈ lw_all := lw_in wsJ280 [1751, 1753, 1755, 1757, 1759] (by decide +kernel) (by decide +kernel)
/-! java/lang/Integer -/
set_option maxRecDepth 100000
def RJ29 : String := "java/lang/Integer"
abbrev cJ29_numberOfTrailingZeros : ByteArray := prog_36_method_48_code
def yJ29_numberOfTrailingZeros : MethodName := ⟨RJ29, "numberOfTrailingZeros", "(I)I"⟩
def dkwJ29_numberOfTrailingZeros_3 : List UInt8 := [5, 124, 59, 27, 26, 4, 124, 96, 172]
abbrev dktJ29_numberOfTrailingZeros_3 : List UInt8 := dkwJ29_numberOfTrailingZeros_3 ++ []
def dkwJ29_numberOfTrailingZeros_2 : List UInt8 := [124, 59, 26, 16, 16, 164, 0, 10, 132, 1, 4, 26, 7, 124, 59, 26, 7, 164, 0, 10, 132, 1, 2, 26]
abbrev dktJ29_numberOfTrailingZeros_2 : List UInt8 := dkwJ29_numberOfTrailingZeros_2 ++ dktJ29_numberOfTrailingZeros_3
def dkwJ29_numberOfTrailingZeros_1 : List UInt8 := [164, 0, 11, 132, 1, 16, 26, 16, 16, 124, 59, 26, 17, 1, 0, 164, 0, 11, 132, 1, 8, 26, 16, 8]
abbrev dktJ29_numberOfTrailingZeros_1 : List UInt8 := dkwJ29_numberOfTrailingZeros_1 ++ dktJ29_numberOfTrailingZeros_2
def dkwJ29_numberOfTrailingZeros_0 : List UInt8 := [26, 2, 130, 26, 4, 100, 126, 59, 26, 157, 0, 8, 26, 16, 32, 126, 172, 4, 60, 26, 19, 1, 8]
abbrev dktJ29_numberOfTrailingZeros_0 : List UInt8 := dkwJ29_numberOfTrailingZeros_0 ++ dktJ29_numberOfTrailingZeros_1
theorem dksJ29_numberOfTrailingZeros_0 : cJ29_numberOfTrailingZeros.data.toList.drop 0 = dktJ29_numberOfTrailingZeros_0 := by decide +kernel
theorem dksJ29_numberOfTrailingZeros_1 : cJ29_numberOfTrailingZeros.data.toList.drop 23 = dktJ29_numberOfTrailingZeros_1 := dk_seg dksJ29_numberOfTrailingZeros_0 23 rfl rfl
theorem dksJ29_numberOfTrailingZeros_2 : cJ29_numberOfTrailingZeros.data.toList.drop 47 = dktJ29_numberOfTrailingZeros_2 := dk_seg dksJ29_numberOfTrailingZeros_1 24 rfl rfl
theorem dksJ29_numberOfTrailingZeros_3 : cJ29_numberOfTrailingZeros.data.toList.drop 71 = dktJ29_numberOfTrailingZeros_3 := dk_seg dksJ29_numberOfTrailingZeros_2 24 rfl rfl
theorem dJ29_numberOfTrailingZeros_0 : decode cJ29_numberOfTrailingZeros 0 = .ok (.iload_n 0, 1) := dk_26 (dk_at dksJ29_numberOfTrailingZeros_0 0 rfl rfl)
theorem dJ29_numberOfTrailingZeros_1 : decode cJ29_numberOfTrailingZeros 1 = .ok (.iconst (-1), 1) := dk_2 (dk_at dksJ29_numberOfTrailingZeros_0 1 rfl rfl)
theorem dJ29_numberOfTrailingZeros_2 : decode cJ29_numberOfTrailingZeros 2 = .ok (.ixor, 1) := dk_130 (dk_at dksJ29_numberOfTrailingZeros_0 2 rfl rfl)
theorem dJ29_numberOfTrailingZeros_3 : decode cJ29_numberOfTrailingZeros 3 = .ok (.iload_n 0, 1) := dk_26 (dk_at dksJ29_numberOfTrailingZeros_0 3 rfl rfl)
theorem dJ29_numberOfTrailingZeros_4 : decode cJ29_numberOfTrailingZeros 4 = .ok (.iconst 1, 1) := dk_4 (dk_at dksJ29_numberOfTrailingZeros_0 4 rfl rfl)
theorem dJ29_numberOfTrailingZeros_5 : decode cJ29_numberOfTrailingZeros 5 = .ok (.isub, 1) := dk_100 (dk_at dksJ29_numberOfTrailingZeros_0 5 rfl rfl)
theorem dJ29_numberOfTrailingZeros_6 : decode cJ29_numberOfTrailingZeros 6 = .ok (.iand, 1) := dk_126 (dk_at dksJ29_numberOfTrailingZeros_0 6 rfl rfl)
theorem dJ29_numberOfTrailingZeros_7 : decode cJ29_numberOfTrailingZeros 7 = .ok (.istore_n 0, 1) := dk_59 (dk_at dksJ29_numberOfTrailingZeros_0 7 rfl rfl)
theorem dJ29_numberOfTrailingZeros_8 : decode cJ29_numberOfTrailingZeros 8 = .ok (.iload_n 0, 1) := dk_26 (dk_at dksJ29_numberOfTrailingZeros_0 8 rfl rfl)
theorem dJ29_numberOfTrailingZeros_9 : decode cJ29_numberOfTrailingZeros 9 = .ok (.ifCond .gt 8, 3) := dk_157 0 8 (dk_at dksJ29_numberOfTrailingZeros_0 9 rfl rfl)
theorem dJ29_numberOfTrailingZeros_12 : decode cJ29_numberOfTrailingZeros 12 = .ok (.iload_n 0, 1) := dk_26 (dk_at dksJ29_numberOfTrailingZeros_0 12 rfl rfl)
theorem dJ29_numberOfTrailingZeros_13 : decode cJ29_numberOfTrailingZeros 13 = .ok (.bipush 32, 2) := dk_16 32 (dk_at dksJ29_numberOfTrailingZeros_0 13 rfl rfl)
theorem dJ29_numberOfTrailingZeros_15 : decode cJ29_numberOfTrailingZeros 15 = .ok (.iand, 1) := dk_126 (dk_at dksJ29_numberOfTrailingZeros_0 15 rfl rfl)
theorem dJ29_numberOfTrailingZeros_16 : decode cJ29_numberOfTrailingZeros 16 = .ok (.ireturn, 1) := dk_172 (dk_at dksJ29_numberOfTrailingZeros_0 16 rfl rfl)
theorem dJ29_numberOfTrailingZeros_17 : decode cJ29_numberOfTrailingZeros 17 = .ok (.iconst 1, 1) := dk_4 (dk_at dksJ29_numberOfTrailingZeros_0 17 rfl rfl)
theorem dJ29_numberOfTrailingZeros_18 : decode cJ29_numberOfTrailingZeros 18 = .ok (.istore_n 1, 1) := dk_60 (dk_at dksJ29_numberOfTrailingZeros_0 18 rfl rfl)
theorem dJ29_numberOfTrailingZeros_19 : decode cJ29_numberOfTrailingZeros 19 = .ok (.iload_n 0, 1) := dk_26 (dk_at dksJ29_numberOfTrailingZeros_0 19 rfl rfl)
theorem dJ29_numberOfTrailingZeros_20 : decode cJ29_numberOfTrailingZeros 20 = .ok (.ldc_w 264, 3) := dk_19 1 8 (dk_at dksJ29_numberOfTrailingZeros_0 20 rfl rfl)
theorem dJ29_numberOfTrailingZeros_23 : decode cJ29_numberOfTrailingZeros 23 = .ok (.if_icmp .le 11, 3) := dk_164 0 11 (dk_at dksJ29_numberOfTrailingZeros_1 0 rfl rfl)
theorem dJ29_numberOfTrailingZeros_26 : decode cJ29_numberOfTrailingZeros 26 = .ok (.iinc 1 16, 3) := dk_132 1 16 (dk_at dksJ29_numberOfTrailingZeros_1 3 rfl rfl)
theorem dJ29_numberOfTrailingZeros_29 : decode cJ29_numberOfTrailingZeros 29 = .ok (.iload_n 0, 1) := dk_26 (dk_at dksJ29_numberOfTrailingZeros_1 6 rfl rfl)
theorem dJ29_numberOfTrailingZeros_30 : decode cJ29_numberOfTrailingZeros 30 = .ok (.bipush 16, 2) := dk_16 16 (dk_at dksJ29_numberOfTrailingZeros_1 7 rfl rfl)
theorem dJ29_numberOfTrailingZeros_32 : decode cJ29_numberOfTrailingZeros 32 = .ok (.iushr, 1) := dk_124 (dk_at dksJ29_numberOfTrailingZeros_1 9 rfl rfl)
theorem dJ29_numberOfTrailingZeros_33 : decode cJ29_numberOfTrailingZeros 33 = .ok (.istore_n 0, 1) := dk_59 (dk_at dksJ29_numberOfTrailingZeros_1 10 rfl rfl)
theorem dJ29_numberOfTrailingZeros_34 : decode cJ29_numberOfTrailingZeros 34 = .ok (.iload_n 0, 1) := dk_26 (dk_at dksJ29_numberOfTrailingZeros_1 11 rfl rfl)
theorem dJ29_numberOfTrailingZeros_35 : decode cJ29_numberOfTrailingZeros 35 = .ok (.sipush 256, 3) := dk_17 1 0 (dk_at dksJ29_numberOfTrailingZeros_1 12 rfl rfl)
theorem dJ29_numberOfTrailingZeros_38 : decode cJ29_numberOfTrailingZeros 38 = .ok (.if_icmp .le 11, 3) := dk_164 0 11 (dk_at dksJ29_numberOfTrailingZeros_1 15 rfl rfl)
theorem dJ29_numberOfTrailingZeros_41 : decode cJ29_numberOfTrailingZeros 41 = .ok (.iinc 1 8, 3) := dk_132 1 8 (dk_at dksJ29_numberOfTrailingZeros_1 18 rfl rfl)
theorem dJ29_numberOfTrailingZeros_44 : decode cJ29_numberOfTrailingZeros 44 = .ok (.iload_n 0, 1) := dk_26 (dk_at dksJ29_numberOfTrailingZeros_1 21 rfl rfl)
theorem dJ29_numberOfTrailingZeros_45 : decode cJ29_numberOfTrailingZeros 45 = .ok (.bipush 8, 2) := dk_16 8 (dk_at dksJ29_numberOfTrailingZeros_1 22 rfl rfl)
theorem dJ29_numberOfTrailingZeros_47 : decode cJ29_numberOfTrailingZeros 47 = .ok (.iushr, 1) := dk_124 (dk_at dksJ29_numberOfTrailingZeros_2 0 rfl rfl)
theorem dJ29_numberOfTrailingZeros_48 : decode cJ29_numberOfTrailingZeros 48 = .ok (.istore_n 0, 1) := dk_59 (dk_at dksJ29_numberOfTrailingZeros_2 1 rfl rfl)
theorem dJ29_numberOfTrailingZeros_49 : decode cJ29_numberOfTrailingZeros 49 = .ok (.iload_n 0, 1) := dk_26 (dk_at dksJ29_numberOfTrailingZeros_2 2 rfl rfl)
theorem dJ29_numberOfTrailingZeros_50 : decode cJ29_numberOfTrailingZeros 50 = .ok (.bipush 16, 2) := dk_16 16 (dk_at dksJ29_numberOfTrailingZeros_2 3 rfl rfl)
theorem dJ29_numberOfTrailingZeros_52 : decode cJ29_numberOfTrailingZeros 52 = .ok (.if_icmp .le 10, 3) := dk_164 0 10 (dk_at dksJ29_numberOfTrailingZeros_2 5 rfl rfl)
theorem dJ29_numberOfTrailingZeros_55 : decode cJ29_numberOfTrailingZeros 55 = .ok (.iinc 1 4, 3) := dk_132 1 4 (dk_at dksJ29_numberOfTrailingZeros_2 8 rfl rfl)
theorem dJ29_numberOfTrailingZeros_58 : decode cJ29_numberOfTrailingZeros 58 = .ok (.iload_n 0, 1) := dk_26 (dk_at dksJ29_numberOfTrailingZeros_2 11 rfl rfl)
theorem dJ29_numberOfTrailingZeros_59 : decode cJ29_numberOfTrailingZeros 59 = .ok (.iconst 4, 1) := dk_7 (dk_at dksJ29_numberOfTrailingZeros_2 12 rfl rfl)
theorem dJ29_numberOfTrailingZeros_60 : decode cJ29_numberOfTrailingZeros 60 = .ok (.iushr, 1) := dk_124 (dk_at dksJ29_numberOfTrailingZeros_2 13 rfl rfl)
theorem dJ29_numberOfTrailingZeros_61 : decode cJ29_numberOfTrailingZeros 61 = .ok (.istore_n 0, 1) := dk_59 (dk_at dksJ29_numberOfTrailingZeros_2 14 rfl rfl)
theorem dJ29_numberOfTrailingZeros_62 : decode cJ29_numberOfTrailingZeros 62 = .ok (.iload_n 0, 1) := dk_26 (dk_at dksJ29_numberOfTrailingZeros_2 15 rfl rfl)
theorem dJ29_numberOfTrailingZeros_63 : decode cJ29_numberOfTrailingZeros 63 = .ok (.iconst 4, 1) := dk_7 (dk_at dksJ29_numberOfTrailingZeros_2 16 rfl rfl)
theorem dJ29_numberOfTrailingZeros_64 : decode cJ29_numberOfTrailingZeros 64 = .ok (.if_icmp .le 10, 3) := dk_164 0 10 (dk_at dksJ29_numberOfTrailingZeros_2 17 rfl rfl)
theorem dJ29_numberOfTrailingZeros_67 : decode cJ29_numberOfTrailingZeros 67 = .ok (.iinc 1 2, 3) := dk_132 1 2 (dk_at dksJ29_numberOfTrailingZeros_2 20 rfl rfl)
theorem dJ29_numberOfTrailingZeros_70 : decode cJ29_numberOfTrailingZeros 70 = .ok (.iload_n 0, 1) := dk_26 (dk_at dksJ29_numberOfTrailingZeros_2 23 rfl rfl)
theorem dJ29_numberOfTrailingZeros_71 : decode cJ29_numberOfTrailingZeros 71 = .ok (.iconst 2, 1) := dk_5 (dk_at dksJ29_numberOfTrailingZeros_3 0 rfl rfl)
theorem dJ29_numberOfTrailingZeros_72 : decode cJ29_numberOfTrailingZeros 72 = .ok (.iushr, 1) := dk_124 (dk_at dksJ29_numberOfTrailingZeros_3 1 rfl rfl)
theorem dJ29_numberOfTrailingZeros_73 : decode cJ29_numberOfTrailingZeros 73 = .ok (.istore_n 0, 1) := dk_59 (dk_at dksJ29_numberOfTrailingZeros_3 2 rfl rfl)
theorem dJ29_numberOfTrailingZeros_74 : decode cJ29_numberOfTrailingZeros 74 = .ok (.iload_n 1, 1) := dk_27 (dk_at dksJ29_numberOfTrailingZeros_3 3 rfl rfl)
theorem dJ29_numberOfTrailingZeros_75 : decode cJ29_numberOfTrailingZeros 75 = .ok (.iload_n 0, 1) := dk_26 (dk_at dksJ29_numberOfTrailingZeros_3 4 rfl rfl)
theorem dJ29_numberOfTrailingZeros_76 : decode cJ29_numberOfTrailingZeros 76 = .ok (.iconst 1, 1) := dk_4 (dk_at dksJ29_numberOfTrailingZeros_3 5 rfl rfl)
theorem dJ29_numberOfTrailingZeros_77 : decode cJ29_numberOfTrailingZeros 77 = .ok (.iushr, 1) := dk_124 (dk_at dksJ29_numberOfTrailingZeros_3 6 rfl rfl)
theorem dJ29_numberOfTrailingZeros_78 : decode cJ29_numberOfTrailingZeros 78 = .ok (.iadd, 1) := dk_96 (dk_at dksJ29_numberOfTrailingZeros_3 7 rfl rfl)
theorem dJ29_numberOfTrailingZeros_79 : decode cJ29_numberOfTrailingZeros 79 = .ok (.ireturn, 1) := dk_172 (dk_at dksJ29_numberOfTrailingZeros_3 8 rfl rfl)
abbrev cJ29_stringSize : ByteArray := prog_36_method_13_code
def yJ29_stringSize : MethodName := ⟨RJ29, "stringSize", "(I)I"⟩
def dkwJ29_stringSize_1 : List UInt8 := [164, 0, 7, 29, 27, 96, 172, 16, 10, 28, 104, 61, 132, 3, 1, 167, 255, 233, 16, 10, 27, 96, 172]
abbrev dktJ29_stringSize_1 : List UInt8 := dkwJ29_stringSize_1 ++ []
def dkwJ29_stringSize_0 : List UInt8 := [4, 60, 26, 155, 0, 8, 3, 60, 26, 116, 59, 16, 246, 61, 4, 62, 29, 16, 10, 162, 0, 23, 26, 28]
abbrev dktJ29_stringSize_0 : List UInt8 := dkwJ29_stringSize_0 ++ dktJ29_stringSize_1
theorem dksJ29_stringSize_0 : cJ29_stringSize.data.toList.drop 0 = dktJ29_stringSize_0 := by decide +kernel
theorem dksJ29_stringSize_1 : cJ29_stringSize.data.toList.drop 24 = dktJ29_stringSize_1 := dk_seg dksJ29_stringSize_0 24 rfl rfl
theorem dJ29_stringSize_0 : decode cJ29_stringSize 0 = .ok (.iconst 1, 1) := dk_4 (dk_at dksJ29_stringSize_0 0 rfl rfl)
theorem dJ29_stringSize_1 : decode cJ29_stringSize 1 = .ok (.istore_n 1, 1) := dk_60 (dk_at dksJ29_stringSize_0 1 rfl rfl)
theorem dJ29_stringSize_2 : decode cJ29_stringSize 2 = .ok (.iload_n 0, 1) := dk_26 (dk_at dksJ29_stringSize_0 2 rfl rfl)
theorem dJ29_stringSize_3 : decode cJ29_stringSize 3 = .ok (.ifCond .lt 8, 3) := dk_155 0 8 (dk_at dksJ29_stringSize_0 3 rfl rfl)
theorem dJ29_stringSize_6 : decode cJ29_stringSize 6 = .ok (.iconst 0, 1) := dk_3 (dk_at dksJ29_stringSize_0 6 rfl rfl)
theorem dJ29_stringSize_7 : decode cJ29_stringSize 7 = .ok (.istore_n 1, 1) := dk_60 (dk_at dksJ29_stringSize_0 7 rfl rfl)
theorem dJ29_stringSize_8 : decode cJ29_stringSize 8 = .ok (.iload_n 0, 1) := dk_26 (dk_at dksJ29_stringSize_0 8 rfl rfl)
theorem dJ29_stringSize_9 : decode cJ29_stringSize 9 = .ok (.ineg, 1) := dk_116 (dk_at dksJ29_stringSize_0 9 rfl rfl)
theorem dJ29_stringSize_10 : decode cJ29_stringSize 10 = .ok (.istore_n 0, 1) := dk_59 (dk_at dksJ29_stringSize_0 10 rfl rfl)
theorem dJ29_stringSize_11 : decode cJ29_stringSize 11 = .ok (.bipush (-10), 2) := dk_16 246 (dk_at dksJ29_stringSize_0 11 rfl rfl)
theorem dJ29_stringSize_13 : decode cJ29_stringSize 13 = .ok (.istore_n 2, 1) := dk_61 (dk_at dksJ29_stringSize_0 13 rfl rfl)
theorem dJ29_stringSize_14 : decode cJ29_stringSize 14 = .ok (.iconst 1, 1) := dk_4 (dk_at dksJ29_stringSize_0 14 rfl rfl)
theorem dJ29_stringSize_15 : decode cJ29_stringSize 15 = .ok (.istore_n 3, 1) := dk_62 (dk_at dksJ29_stringSize_0 15 rfl rfl)
theorem dJ29_stringSize_16 : decode cJ29_stringSize 16 = .ok (.iload_n 3, 1) := dk_29 (dk_at dksJ29_stringSize_0 16 rfl rfl)
theorem dJ29_stringSize_17 : decode cJ29_stringSize 17 = .ok (.bipush 10, 2) := dk_16 10 (dk_at dksJ29_stringSize_0 17 rfl rfl)
theorem dJ29_stringSize_19 : decode cJ29_stringSize 19 = .ok (.if_icmp .ge 23, 3) := dk_162 0 23 (dk_at dksJ29_stringSize_0 19 rfl rfl)
theorem dJ29_stringSize_22 : decode cJ29_stringSize 22 = .ok (.iload_n 0, 1) := dk_26 (dk_at dksJ29_stringSize_0 22 rfl rfl)
theorem dJ29_stringSize_23 : decode cJ29_stringSize 23 = .ok (.iload_n 2, 1) := dk_28 (dk_at dksJ29_stringSize_0 23 rfl rfl)
theorem dJ29_stringSize_24 : decode cJ29_stringSize 24 = .ok (.if_icmp .le 7, 3) := dk_164 0 7 (dk_at dksJ29_stringSize_1 0 rfl rfl)
theorem dJ29_stringSize_27 : decode cJ29_stringSize 27 = .ok (.iload_n 3, 1) := dk_29 (dk_at dksJ29_stringSize_1 3 rfl rfl)
theorem dJ29_stringSize_28 : decode cJ29_stringSize 28 = .ok (.iload_n 1, 1) := dk_27 (dk_at dksJ29_stringSize_1 4 rfl rfl)
theorem dJ29_stringSize_29 : decode cJ29_stringSize 29 = .ok (.iadd, 1) := dk_96 (dk_at dksJ29_stringSize_1 5 rfl rfl)
theorem dJ29_stringSize_30 : decode cJ29_stringSize 30 = .ok (.ireturn, 1) := dk_172 (dk_at dksJ29_stringSize_1 6 rfl rfl)
theorem dJ29_stringSize_31 : decode cJ29_stringSize 31 = .ok (.bipush 10, 2) := dk_16 10 (dk_at dksJ29_stringSize_1 7 rfl rfl)
theorem dJ29_stringSize_33 : decode cJ29_stringSize 33 = .ok (.iload_n 2, 1) := dk_28 (dk_at dksJ29_stringSize_1 9 rfl rfl)
theorem dJ29_stringSize_34 : decode cJ29_stringSize 34 = .ok (.imul, 1) := dk_104 (dk_at dksJ29_stringSize_1 10 rfl rfl)
theorem dJ29_stringSize_35 : decode cJ29_stringSize 35 = .ok (.istore_n 2, 1) := dk_61 (dk_at dksJ29_stringSize_1 11 rfl rfl)
theorem dJ29_stringSize_36 : decode cJ29_stringSize 36 = .ok (.iinc 3 1, 3) := dk_132 3 1 (dk_at dksJ29_stringSize_1 12 rfl rfl)
theorem dJ29_stringSize_39 : decode cJ29_stringSize 39 = .ok (.goto (-23), 3) := dk_167 255 233 (dk_at dksJ29_stringSize_1 15 rfl rfl)
theorem dJ29_stringSize_42 : decode cJ29_stringSize 42 = .ok (.bipush 10, 2) := dk_16 10 (dk_at dksJ29_stringSize_1 18 rfl rfl)
theorem dJ29_stringSize_44 : decode cJ29_stringSize 44 = .ok (.iload_n 1, 1) := dk_27 (dk_at dksJ29_stringSize_1 20 rfl rfl)
theorem dJ29_stringSize_45 : decode cJ29_stringSize 45 = .ok (.iadd, 1) := dk_96 (dk_at dksJ29_stringSize_1 21 rfl rfl)
theorem dJ29_stringSize_46 : decode cJ29_stringSize 46 = .ok (.ireturn, 1) := dk_172 (dk_at dksJ29_stringSize_1 22 rfl rfl)
abbrev cJ29_getChars : ByteArray := prog_36_method_12_code
def yJ29_getChars : MethodName := ⟨RJ29, "getChars", "(II[B)I"⟩
def dkwJ29_getChars_5 : List UInt8 := [16, 45, 84, 21, 5, 172]
abbrev dktJ29_getChars_5 : List UInt8 := dkwJ29_getChars_5 ++ []
def dkwJ29_getChars_4 : List UInt8 := [132, 5, 255, 21, 5, 178, 0, 87, 26, 116, 51, 84, 21, 6, 153, 0, 12, 44, 132, 5, 255, 21, 5]
abbrev dktJ29_getChars_4 : List UInt8 := dkwJ29_getChars_4 ++ dktJ29_getChars_5
def dkwJ29_getChars_3 : List UInt8 := [167, 255, 209, 44, 132, 5, 255, 21, 5, 178, 0, 83, 26, 116, 51, 84, 26, 16, 247, 162, 0, 16, 44]
abbrev dktJ29_getChars_3 : List UInt8 := dkwJ29_getChars_3 ++ dktJ29_getChars_4
def dkwJ29_getChars_2 : List UInt8 := [21, 5, 178, 0, 83, 21, 4, 51, 84, 44, 132, 5, 255, 21, 5, 178, 0, 87, 21, 4, 51, 84]
abbrev dktJ29_getChars_2 : List UInt8 := dkwJ29_getChars_2 ++ dktJ29_getChars_3
def dkwJ29_getChars_1 : List UInt8 := [16, 156, 163, 0, 47, 26, 16, 100, 108, 62, 29, 16, 100, 104, 26, 100, 54, 4, 29, 59, 44, 132, 5, 255]
abbrev dktJ29_getChars_1 : List UInt8 := dkwJ29_getChars_1 ++ dktJ29_getChars_2
def dkwJ29_getChars_0 : List UInt8 := [27, 54, 5, 26, 156, 0, 7, 4, 167, 0, 4, 3, 54, 6, 21, 6, 154, 0, 6, 26, 116, 59, 26]
abbrev dktJ29_getChars_0 : List UInt8 := dkwJ29_getChars_0 ++ dktJ29_getChars_1
theorem dksJ29_getChars_0 : cJ29_getChars.data.toList.drop 0 = dktJ29_getChars_0 := by decide +kernel
theorem dksJ29_getChars_1 : cJ29_getChars.data.toList.drop 23 = dktJ29_getChars_1 := dk_seg dksJ29_getChars_0 23 rfl rfl
theorem dksJ29_getChars_2 : cJ29_getChars.data.toList.drop 47 = dktJ29_getChars_2 := dk_seg dksJ29_getChars_1 24 rfl rfl
theorem dksJ29_getChars_3 : cJ29_getChars.data.toList.drop 69 = dktJ29_getChars_3 := dk_seg dksJ29_getChars_2 22 rfl rfl
theorem dksJ29_getChars_4 : cJ29_getChars.data.toList.drop 92 = dktJ29_getChars_4 := dk_seg dksJ29_getChars_3 23 rfl rfl
theorem dksJ29_getChars_5 : cJ29_getChars.data.toList.drop 115 = dktJ29_getChars_5 := dk_seg dksJ29_getChars_4 23 rfl rfl
theorem dJ29_getChars_0 : decode cJ29_getChars 0 = .ok (.iload_n 1, 1) := dk_27 (dk_at dksJ29_getChars_0 0 rfl rfl)
theorem dJ29_getChars_1 : decode cJ29_getChars 1 = .ok (.istore 5, 2) := dk_54 5 (dk_at dksJ29_getChars_0 1 rfl rfl)
theorem dJ29_getChars_3 : decode cJ29_getChars 3 = .ok (.iload_n 0, 1) := dk_26 (dk_at dksJ29_getChars_0 3 rfl rfl)
theorem dJ29_getChars_4 : decode cJ29_getChars 4 = .ok (.ifCond .ge 7, 3) := dk_156 0 7 (dk_at dksJ29_getChars_0 4 rfl rfl)
theorem dJ29_getChars_7 : decode cJ29_getChars 7 = .ok (.iconst 1, 1) := dk_4 (dk_at dksJ29_getChars_0 7 rfl rfl)
theorem dJ29_getChars_8 : decode cJ29_getChars 8 = .ok (.goto 4, 3) := dk_167 0 4 (dk_at dksJ29_getChars_0 8 rfl rfl)
theorem dJ29_getChars_11 : decode cJ29_getChars 11 = .ok (.iconst 0, 1) := dk_3 (dk_at dksJ29_getChars_0 11 rfl rfl)
theorem dJ29_getChars_12 : decode cJ29_getChars 12 = .ok (.istore 6, 2) := dk_54 6 (dk_at dksJ29_getChars_0 12 rfl rfl)
theorem dJ29_getChars_14 : decode cJ29_getChars 14 = .ok (.iload 6, 2) := dk_21 6 (dk_at dksJ29_getChars_0 14 rfl rfl)
theorem dJ29_getChars_16 : decode cJ29_getChars 16 = .ok (.ifCond .ne 6, 3) := dk_154 0 6 (dk_at dksJ29_getChars_0 16 rfl rfl)
theorem dJ29_getChars_19 : decode cJ29_getChars 19 = .ok (.iload_n 0, 1) := dk_26 (dk_at dksJ29_getChars_0 19 rfl rfl)
theorem dJ29_getChars_20 : decode cJ29_getChars 20 = .ok (.ineg, 1) := dk_116 (dk_at dksJ29_getChars_0 20 rfl rfl)
theorem dJ29_getChars_21 : decode cJ29_getChars 21 = .ok (.istore_n 0, 1) := dk_59 (dk_at dksJ29_getChars_0 21 rfl rfl)
theorem dJ29_getChars_22 : decode cJ29_getChars 22 = .ok (.iload_n 0, 1) := dk_26 (dk_at dksJ29_getChars_0 22 rfl rfl)
theorem dJ29_getChars_23 : decode cJ29_getChars 23 = .ok (.bipush (-100), 2) := dk_16 156 (dk_at dksJ29_getChars_1 0 rfl rfl)
theorem dJ29_getChars_25 : decode cJ29_getChars 25 = .ok (.if_icmp .gt 47, 3) := dk_163 0 47 (dk_at dksJ29_getChars_1 2 rfl rfl)
theorem dJ29_getChars_28 : decode cJ29_getChars 28 = .ok (.iload_n 0, 1) := dk_26 (dk_at dksJ29_getChars_1 5 rfl rfl)
theorem dJ29_getChars_29 : decode cJ29_getChars 29 = .ok (.bipush 100, 2) := dk_16 100 (dk_at dksJ29_getChars_1 6 rfl rfl)
theorem dJ29_getChars_31 : decode cJ29_getChars 31 = .ok (.idiv, 1) := dk_108 (dk_at dksJ29_getChars_1 8 rfl rfl)
theorem dJ29_getChars_32 : decode cJ29_getChars 32 = .ok (.istore_n 3, 1) := dk_62 (dk_at dksJ29_getChars_1 9 rfl rfl)
theorem dJ29_getChars_33 : decode cJ29_getChars 33 = .ok (.iload_n 3, 1) := dk_29 (dk_at dksJ29_getChars_1 10 rfl rfl)
theorem dJ29_getChars_34 : decode cJ29_getChars 34 = .ok (.bipush 100, 2) := dk_16 100 (dk_at dksJ29_getChars_1 11 rfl rfl)
theorem dJ29_getChars_36 : decode cJ29_getChars 36 = .ok (.imul, 1) := dk_104 (dk_at dksJ29_getChars_1 13 rfl rfl)
theorem dJ29_getChars_37 : decode cJ29_getChars 37 = .ok (.iload_n 0, 1) := dk_26 (dk_at dksJ29_getChars_1 14 rfl rfl)
theorem dJ29_getChars_38 : decode cJ29_getChars 38 = .ok (.isub, 1) := dk_100 (dk_at dksJ29_getChars_1 15 rfl rfl)
theorem dJ29_getChars_39 : decode cJ29_getChars 39 = .ok (.istore 4, 2) := dk_54 4 (dk_at dksJ29_getChars_1 16 rfl rfl)
theorem dJ29_getChars_41 : decode cJ29_getChars 41 = .ok (.iload_n 3, 1) := dk_29 (dk_at dksJ29_getChars_1 18 rfl rfl)
theorem dJ29_getChars_42 : decode cJ29_getChars 42 = .ok (.istore_n 0, 1) := dk_59 (dk_at dksJ29_getChars_1 19 rfl rfl)
theorem dJ29_getChars_43 : decode cJ29_getChars 43 = .ok (.aload_n 2, 1) := dk_44 (dk_at dksJ29_getChars_1 20 rfl rfl)
theorem dJ29_getChars_44 : decode cJ29_getChars 44 = .ok (.iinc 5 (-1), 3) := dk_132 5 255 (dk_at dksJ29_getChars_1 21 rfl rfl)
theorem dJ29_getChars_47 : decode cJ29_getChars 47 = .ok (.iload 5, 2) := dk_21 5 (dk_at dksJ29_getChars_2 0 rfl rfl)
theorem dJ29_getChars_49 : decode cJ29_getChars 49 = .ok (.getstatic 83, 3) := dk_178 0 83 (dk_at dksJ29_getChars_2 2 rfl rfl)
theorem dJ29_getChars_52 : decode cJ29_getChars 52 = .ok (.iload 4, 2) := dk_21 4 (dk_at dksJ29_getChars_2 5 rfl rfl)
theorem dJ29_getChars_54 : decode cJ29_getChars 54 = .ok (.baload, 1) := dk_51 (dk_at dksJ29_getChars_2 7 rfl rfl)
theorem dJ29_getChars_55 : decode cJ29_getChars 55 = .ok (.bastore, 1) := dk_84 (dk_at dksJ29_getChars_2 8 rfl rfl)
theorem dJ29_getChars_56 : decode cJ29_getChars 56 = .ok (.aload_n 2, 1) := dk_44 (dk_at dksJ29_getChars_2 9 rfl rfl)
theorem dJ29_getChars_57 : decode cJ29_getChars 57 = .ok (.iinc 5 (-1), 3) := dk_132 5 255 (dk_at dksJ29_getChars_2 10 rfl rfl)
theorem dJ29_getChars_60 : decode cJ29_getChars 60 = .ok (.iload 5, 2) := dk_21 5 (dk_at dksJ29_getChars_2 13 rfl rfl)
theorem dJ29_getChars_62 : decode cJ29_getChars 62 = .ok (.getstatic 87, 3) := dk_178 0 87 (dk_at dksJ29_getChars_2 15 rfl rfl)
theorem dJ29_getChars_65 : decode cJ29_getChars 65 = .ok (.iload 4, 2) := dk_21 4 (dk_at dksJ29_getChars_2 18 rfl rfl)
theorem dJ29_getChars_67 : decode cJ29_getChars 67 = .ok (.baload, 1) := dk_51 (dk_at dksJ29_getChars_2 20 rfl rfl)
theorem dJ29_getChars_68 : decode cJ29_getChars 68 = .ok (.bastore, 1) := dk_84 (dk_at dksJ29_getChars_2 21 rfl rfl)
theorem dJ29_getChars_69 : decode cJ29_getChars 69 = .ok (.goto (-47), 3) := dk_167 255 209 (dk_at dksJ29_getChars_3 0 rfl rfl)
theorem dJ29_getChars_72 : decode cJ29_getChars 72 = .ok (.aload_n 2, 1) := dk_44 (dk_at dksJ29_getChars_3 3 rfl rfl)
theorem dJ29_getChars_73 : decode cJ29_getChars 73 = .ok (.iinc 5 (-1), 3) := dk_132 5 255 (dk_at dksJ29_getChars_3 4 rfl rfl)
theorem dJ29_getChars_76 : decode cJ29_getChars 76 = .ok (.iload 5, 2) := dk_21 5 (dk_at dksJ29_getChars_3 7 rfl rfl)
theorem dJ29_getChars_78 : decode cJ29_getChars 78 = .ok (.getstatic 83, 3) := dk_178 0 83 (dk_at dksJ29_getChars_3 9 rfl rfl)
theorem dJ29_getChars_81 : decode cJ29_getChars 81 = .ok (.iload_n 0, 1) := dk_26 (dk_at dksJ29_getChars_3 12 rfl rfl)
theorem dJ29_getChars_82 : decode cJ29_getChars 82 = .ok (.ineg, 1) := dk_116 (dk_at dksJ29_getChars_3 13 rfl rfl)
theorem dJ29_getChars_83 : decode cJ29_getChars 83 = .ok (.baload, 1) := dk_51 (dk_at dksJ29_getChars_3 14 rfl rfl)
theorem dJ29_getChars_84 : decode cJ29_getChars 84 = .ok (.bastore, 1) := dk_84 (dk_at dksJ29_getChars_3 15 rfl rfl)
theorem dJ29_getChars_85 : decode cJ29_getChars 85 = .ok (.iload_n 0, 1) := dk_26 (dk_at dksJ29_getChars_3 16 rfl rfl)
theorem dJ29_getChars_86 : decode cJ29_getChars 86 = .ok (.bipush (-9), 2) := dk_16 247 (dk_at dksJ29_getChars_3 17 rfl rfl)
theorem dJ29_getChars_88 : decode cJ29_getChars 88 = .ok (.if_icmp .ge 16, 3) := dk_162 0 16 (dk_at dksJ29_getChars_3 19 rfl rfl)
theorem dJ29_getChars_91 : decode cJ29_getChars 91 = .ok (.aload_n 2, 1) := dk_44 (dk_at dksJ29_getChars_3 22 rfl rfl)
theorem dJ29_getChars_92 : decode cJ29_getChars 92 = .ok (.iinc 5 (-1), 3) := dk_132 5 255 (dk_at dksJ29_getChars_4 0 rfl rfl)
theorem dJ29_getChars_95 : decode cJ29_getChars 95 = .ok (.iload 5, 2) := dk_21 5 (dk_at dksJ29_getChars_4 3 rfl rfl)
theorem dJ29_getChars_97 : decode cJ29_getChars 97 = .ok (.getstatic 87, 3) := dk_178 0 87 (dk_at dksJ29_getChars_4 5 rfl rfl)
theorem dJ29_getChars_100 : decode cJ29_getChars 100 = .ok (.iload_n 0, 1) := dk_26 (dk_at dksJ29_getChars_4 8 rfl rfl)
theorem dJ29_getChars_101 : decode cJ29_getChars 101 = .ok (.ineg, 1) := dk_116 (dk_at dksJ29_getChars_4 9 rfl rfl)
theorem dJ29_getChars_102 : decode cJ29_getChars 102 = .ok (.baload, 1) := dk_51 (dk_at dksJ29_getChars_4 10 rfl rfl)
theorem dJ29_getChars_103 : decode cJ29_getChars 103 = .ok (.bastore, 1) := dk_84 (dk_at dksJ29_getChars_4 11 rfl rfl)
theorem dJ29_getChars_104 : decode cJ29_getChars 104 = .ok (.iload 6, 2) := dk_21 6 (dk_at dksJ29_getChars_4 12 rfl rfl)
theorem dJ29_getChars_106 : decode cJ29_getChars 106 = .ok (.ifCond .eq 12, 3) := dk_153 0 12 (dk_at dksJ29_getChars_4 14 rfl rfl)
theorem dJ29_getChars_109 : decode cJ29_getChars 109 = .ok (.aload_n 2, 1) := dk_44 (dk_at dksJ29_getChars_4 17 rfl rfl)
theorem dJ29_getChars_110 : decode cJ29_getChars 110 = .ok (.iinc 5 (-1), 3) := dk_132 5 255 (dk_at dksJ29_getChars_4 18 rfl rfl)
theorem dJ29_getChars_113 : decode cJ29_getChars 113 = .ok (.iload 5, 2) := dk_21 5 (dk_at dksJ29_getChars_4 21 rfl rfl)
theorem dJ29_getChars_115 : decode cJ29_getChars 115 = .ok (.bipush 45, 2) := dk_16 45 (dk_at dksJ29_getChars_5 0 rfl rfl)
theorem dJ29_getChars_117 : decode cJ29_getChars 117 = .ok (.bastore, 1) := dk_84 (dk_at dksJ29_getChars_5 2 rfl rfl)
theorem dJ29_getChars_118 : decode cJ29_getChars 118 = .ok (.iload 5, 2) := dk_21 5 (dk_at dksJ29_getChars_5 3 rfl rfl)
theorem dJ29_getChars_120 : decode cJ29_getChars 120 = .ok (.ireturn, 1) := dk_172 (dk_at dksJ29_getChars_5 5 rfl rfl)
theorem q154 : (Jvm.Cond.initialized "java/lang/Integer") ∈ lw_all := lw_g (lw_at lw_m1 57 rfl) rfl
theorem q2017 : (Jvm.Cond.static ({ cls := "java/lang/Integer", name := "numberOfTrailingZeros", desc := "(I)I" } : Jvm.MethodName)) ∈ lw_all := lw_g (lw_at lw_m9 0 rfl) rfl
theorem q2018 : (Jvm.Cond.code ({ cls := "java/lang/Integer", name := "numberOfTrailingZeros", desc := "(I)I" } : Jvm.MethodName) prog_36_method_48_code (2 : Nat) (Option.some Jvm.ClassFile.FieldType.int)) ∈ lw_all := lw_g (lw_at lw_m9 1 rfl) rfl
theorem q2019 : (Jvm.Cond.constant "java/lang/Integer" (264 : Nat) (65536 : Int32)) ∈ lw_all := lw_g (lw_at lw_m9 2 rfl) rfl
theorem q2368 : (Jvm.Cond.static ({ cls := "java/lang/Integer", name := "stringSize", desc := "(I)I" } : Jvm.MethodName)) ∈ lw_all := lw_g (lw_at lw_m10 111 rfl) rfl
theorem q2369 : (Jvm.Cond.code ({ cls := "java/lang/Integer", name := "stringSize", desc := "(I)I" } : Jvm.MethodName) prog_36_method_13_code (4 : Nat) (Option.some Jvm.ClassFile.FieldType.int)) ∈ lw_all := lw_g (lw_at lw_m10 112 rfl) rfl
theorem q2371 : (Jvm.Cond.static ({ cls := "java/lang/Integer", name := "getChars", desc := "(II[B)I" } : Jvm.MethodName)) ∈ lw_all := lw_g (lw_at lw_m10 114 rfl) rfl
theorem q2372 : (Jvm.Cond.code ({ cls := "java/lang/Integer", name := "getChars", desc := "(II[B)I" } : Jvm.MethodName) prog_36_method_12_code (7 : Nat) (Option.some Jvm.ClassFile.FieldType.int)) ∈ lw_all := lw_g (lw_at lw_m10 115 rfl) rfl
theorem q2373 : (Jvm.Cond.fieldLink "java/lang/Integer" (83 : Nat) "java/lang/Integer" "DigitOnes" "[B") ∈ lw_all := lw_g (lw_at lw_m10 116 rfl) rfl
theorem q2374 : (Jvm.Cond.laysStatic "java/lang/Integer" "DigitOnes" "[B") ∈ lw_tbl := lw_at lw_m10 117 rfl
theorem q2375 : (Jvm.Cond.fieldLink "java/lang/Integer" (87 : Nat) "java/lang/Integer" "DigitTens" "[B") ∈ lw_all := lw_g (lw_at lw_m10 118 rfl) rfl
theorem q2376 : (Jvm.Cond.laysStatic "java/lang/Integer" "DigitTens" "[B") ∈ lw_tbl := lw_at lw_m10 119 rfl
/-! java/util/LinkedList -/
set_option maxRecDepth 100000
def RJ3 : String := "java/util/LinkedList"
def TJ3 : u_T := fun k => match k with
  | 0 => ("java/util/AbstractList", "modCount", "I", false)
  | 1 => ("java/util/LinkedList", "size", "I", false)
  | 2 => ("java/util/LinkedList", "first", "Ljava/util/LinkedList$Node;", false)
  | _ => ("java/util/LinkedList", "last", "Ljava/util/LinkedList$Node;", false)
def tyJ3 : Nat → FieldType := fun k => match k with
  | 0 => .int
  | 1 => .int
  | 2 => .object "java/util/LinkedList$Node"
  | _ => .object "java/util/LinkedList$Node"
abbrev wsJ30 : List Cond := u_ws RJ3 TJ3 4
theorem nmJ3 : ∀ a, a < 4 → ∀ b, b < 4 → a ≠ b → (TJ3 a).2.1 ≠ (TJ3 b).2.1 := by decide +kernel
theorem tyJ3_ok : ∀ k, k < 4 → parseFieldDescriptor (TJ3 k).2.2.1 = some (tyJ3 k) := by decide +kernel
abbrev cJ3_init : ByteArray := prog_65_method_1_code
def yJ3_init : MethodName := ⟨RJ3, "<init>", "()V"⟩
def dkwJ3_init_0 : List UInt8 := [42, 183, 0, 1, 42, 3, 181, 0, 7, 177]
abbrev dktJ3_init_0 : List UInt8 := dkwJ3_init_0 ++ []
theorem dksJ3_init_0 : cJ3_init.data.toList.drop 0 = dktJ3_init_0 := by decide +kernel
theorem dJ3_init_0 : decode cJ3_init 0 = .ok (.aload_n 0, 1) := dk_42 (dk_at dksJ3_init_0 0 rfl rfl)
theorem dJ3_init_1 : decode cJ3_init 1 = .ok (.invokespecial 1, 3) := dk_183 0 1 (dk_at dksJ3_init_0 1 rfl rfl)
theorem dJ3_init_4 : decode cJ3_init 4 = .ok (.aload_n 0, 1) := dk_42 (dk_at dksJ3_init_0 4 rfl rfl)
theorem dJ3_init_5 : decode cJ3_init 5 = .ok (.iconst 0, 1) := dk_3 (dk_at dksJ3_init_0 5 rfl rfl)
theorem dJ3_init_6 : decode cJ3_init 6 = .ok (.putfield 7, 3) := dk_181 0 7 (dk_at dksJ3_init_0 6 rfl rfl)
theorem dJ3_init_9 : decode cJ3_init 9 = .ok (.return_, 1) := dk_177 (dk_at dksJ3_init_0 9 rfl rfl)
abbrev cJ3_size : ByteArray := prog_65_method_16_code
def yJ3_size : MethodName := ⟨RJ3, "size", "()I"⟩
theorem dJ3_size_0 : decode cJ3_size 0 = .ok (.aload_n 0, 1) := by decide +kernel
theorem dJ3_size_1 : decode cJ3_size 1 = .ok (.getfield 7, 3) := by decide +kernel
theorem dJ3_size_4 : decode cJ3_size 4 = .ok (.ireturn, 1) := by decide +kernel
abbrev cJ3_removeLast : ByteArray := prog_65_method_12_code
def yJ3_removeLast : MethodName := ⟨RJ3, "removeLast", "()Ljava/lang/Object;"⟩
def dkwJ3_removeLast_0 : List UInt8 := [42, 180, 0, 27, 76, 43, 199, 0, 11, 187, 0, 43, 89, 183, 0, 45, 191, 42, 43, 182, 0, 50, 176]
abbrev dktJ3_removeLast_0 : List UInt8 := dkwJ3_removeLast_0 ++ []
theorem dksJ3_removeLast_0 : cJ3_removeLast.data.toList.drop 0 = dktJ3_removeLast_0 := by decide +kernel
theorem dJ3_removeLast_0 : decode cJ3_removeLast 0 = .ok (.aload_n 0, 1) := dk_42 (dk_at dksJ3_removeLast_0 0 rfl rfl)
theorem dJ3_removeLast_1 : decode cJ3_removeLast 1 = .ok (.getfield 27, 3) := dk_180 0 27 (dk_at dksJ3_removeLast_0 1 rfl rfl)
theorem dJ3_removeLast_4 : decode cJ3_removeLast 4 = .ok (.astore_n 1, 1) := dk_76 (dk_at dksJ3_removeLast_0 4 rfl rfl)
theorem dJ3_removeLast_5 : decode cJ3_removeLast 5 = .ok (.aload_n 1, 1) := dk_43 (dk_at dksJ3_removeLast_0 5 rfl rfl)
theorem dJ3_removeLast_6 : decode cJ3_removeLast 6 = .ok (.ifnonnull 11, 3) := dk_199 0 11 (dk_at dksJ3_removeLast_0 6 rfl rfl)
theorem dJ3_removeLast_9 : decode cJ3_removeLast 9 = .ok (.new 43, 3) := dk_187 0 43 (dk_at dksJ3_removeLast_0 9 rfl rfl)
theorem dJ3_removeLast_12 : decode cJ3_removeLast 12 = .ok (.dup, 1) := dk_89 (dk_at dksJ3_removeLast_0 12 rfl rfl)
theorem dJ3_removeLast_13 : decode cJ3_removeLast 13 = .ok (.invokespecial 45, 3) := dk_183 0 45 (dk_at dksJ3_removeLast_0 13 rfl rfl)
theorem dJ3_removeLast_16 : decode cJ3_removeLast 16 = .ok (.athrow, 1) := dk_191 (dk_at dksJ3_removeLast_0 16 rfl rfl)
theorem dJ3_removeLast_17 : decode cJ3_removeLast 17 = .ok (.aload_n 0, 1) := dk_42 (dk_at dksJ3_removeLast_0 17 rfl rfl)
theorem dJ3_removeLast_18 : decode cJ3_removeLast 18 = .ok (.aload_n 1, 1) := dk_43 (dk_at dksJ3_removeLast_0 18 rfl rfl)
theorem dJ3_removeLast_19 : decode cJ3_removeLast 19 = .ok (.invokevirtual 50, 3) := dk_182 0 50 (dk_at dksJ3_removeLast_0 19 rfl rfl)
theorem dJ3_removeLast_22 : decode cJ3_removeLast 22 = .ok (.areturn, 1) := dk_176 (dk_at dksJ3_removeLast_0 22 rfl rfl)
abbrev cJ3_unlinkLast : ByteArray := prog_65_method_7_code
def yJ3_unlinkLast : MethodName := ⟨RJ3, "unlinkLast", "(Ljava/util/LinkedList$Node;)Ljava/lang/Object;"⟩
def dkwJ3_unlinkLast_2 : List UInt8 := [180, 0, 7, 4, 100, 181, 0, 7, 42, 89, 180, 0, 33, 4, 96, 181, 0, 33, 44, 176]
abbrev dktJ3_unlinkLast_2 : List UInt8 := dkwJ3_unlinkLast_2 ++ []
def dkwJ3_unlinkLast_1 : List UInt8 := [181, 0, 27, 45, 199, 0, 11, 42, 1, 181, 0, 18, 167, 0, 8, 45, 1, 181, 0, 36, 42, 89]
abbrev dktJ3_unlinkLast_1 : List UInt8 := dkwJ3_unlinkLast_1 ++ dktJ3_unlinkLast_2
def dkwJ3_unlinkLast_0 : List UInt8 := [43, 180, 0, 39, 77, 43, 180, 0, 30, 78, 43, 1, 181, 0, 39, 43, 1, 181, 0, 30, 42, 45]
abbrev dktJ3_unlinkLast_0 : List UInt8 := dkwJ3_unlinkLast_0 ++ dktJ3_unlinkLast_1
theorem dksJ3_unlinkLast_0 : cJ3_unlinkLast.data.toList.drop 0 = dktJ3_unlinkLast_0 := by decide +kernel
theorem dksJ3_unlinkLast_1 : cJ3_unlinkLast.data.toList.drop 22 = dktJ3_unlinkLast_1 := dk_seg dksJ3_unlinkLast_0 22 rfl rfl
theorem dksJ3_unlinkLast_2 : cJ3_unlinkLast.data.toList.drop 44 = dktJ3_unlinkLast_2 := dk_seg dksJ3_unlinkLast_1 22 rfl rfl
theorem dJ3_unlinkLast_0 : decode cJ3_unlinkLast 0 = .ok (.aload_n 1, 1) := dk_43 (dk_at dksJ3_unlinkLast_0 0 rfl rfl)
theorem dJ3_unlinkLast_1 : decode cJ3_unlinkLast 1 = .ok (.getfield 39, 3) := dk_180 0 39 (dk_at dksJ3_unlinkLast_0 1 rfl rfl)
theorem dJ3_unlinkLast_4 : decode cJ3_unlinkLast 4 = .ok (.astore_n 2, 1) := dk_77 (dk_at dksJ3_unlinkLast_0 4 rfl rfl)
theorem dJ3_unlinkLast_5 : decode cJ3_unlinkLast 5 = .ok (.aload_n 1, 1) := dk_43 (dk_at dksJ3_unlinkLast_0 5 rfl rfl)
theorem dJ3_unlinkLast_6 : decode cJ3_unlinkLast 6 = .ok (.getfield 30, 3) := dk_180 0 30 (dk_at dksJ3_unlinkLast_0 6 rfl rfl)
theorem dJ3_unlinkLast_9 : decode cJ3_unlinkLast 9 = .ok (.astore_n 3, 1) := dk_78 (dk_at dksJ3_unlinkLast_0 9 rfl rfl)
theorem dJ3_unlinkLast_10 : decode cJ3_unlinkLast 10 = .ok (.aload_n 1, 1) := dk_43 (dk_at dksJ3_unlinkLast_0 10 rfl rfl)
theorem dJ3_unlinkLast_11 : decode cJ3_unlinkLast 11 = .ok (.aconst_null, 1) := dk_1 (dk_at dksJ3_unlinkLast_0 11 rfl rfl)
theorem dJ3_unlinkLast_12 : decode cJ3_unlinkLast 12 = .ok (.putfield 39, 3) := dk_181 0 39 (dk_at dksJ3_unlinkLast_0 12 rfl rfl)
theorem dJ3_unlinkLast_15 : decode cJ3_unlinkLast 15 = .ok (.aload_n 1, 1) := dk_43 (dk_at dksJ3_unlinkLast_0 15 rfl rfl)
theorem dJ3_unlinkLast_16 : decode cJ3_unlinkLast 16 = .ok (.aconst_null, 1) := dk_1 (dk_at dksJ3_unlinkLast_0 16 rfl rfl)
theorem dJ3_unlinkLast_17 : decode cJ3_unlinkLast 17 = .ok (.putfield 30, 3) := dk_181 0 30 (dk_at dksJ3_unlinkLast_0 17 rfl rfl)
theorem dJ3_unlinkLast_20 : decode cJ3_unlinkLast 20 = .ok (.aload_n 0, 1) := dk_42 (dk_at dksJ3_unlinkLast_0 20 rfl rfl)
theorem dJ3_unlinkLast_21 : decode cJ3_unlinkLast 21 = .ok (.aload_n 3, 1) := dk_45 (dk_at dksJ3_unlinkLast_0 21 rfl rfl)
theorem dJ3_unlinkLast_22 : decode cJ3_unlinkLast 22 = .ok (.putfield 27, 3) := dk_181 0 27 (dk_at dksJ3_unlinkLast_1 0 rfl rfl)
theorem dJ3_unlinkLast_25 : decode cJ3_unlinkLast 25 = .ok (.aload_n 3, 1) := dk_45 (dk_at dksJ3_unlinkLast_1 3 rfl rfl)
theorem dJ3_unlinkLast_26 : decode cJ3_unlinkLast 26 = .ok (.ifnonnull 11, 3) := dk_199 0 11 (dk_at dksJ3_unlinkLast_1 4 rfl rfl)
theorem dJ3_unlinkLast_29 : decode cJ3_unlinkLast 29 = .ok (.aload_n 0, 1) := dk_42 (dk_at dksJ3_unlinkLast_1 7 rfl rfl)
theorem dJ3_unlinkLast_30 : decode cJ3_unlinkLast 30 = .ok (.aconst_null, 1) := dk_1 (dk_at dksJ3_unlinkLast_1 8 rfl rfl)
theorem dJ3_unlinkLast_31 : decode cJ3_unlinkLast 31 = .ok (.putfield 18, 3) := dk_181 0 18 (dk_at dksJ3_unlinkLast_1 9 rfl rfl)
theorem dJ3_unlinkLast_34 : decode cJ3_unlinkLast 34 = .ok (.goto 8, 3) := dk_167 0 8 (dk_at dksJ3_unlinkLast_1 12 rfl rfl)
theorem dJ3_unlinkLast_37 : decode cJ3_unlinkLast 37 = .ok (.aload_n 3, 1) := dk_45 (dk_at dksJ3_unlinkLast_1 15 rfl rfl)
theorem dJ3_unlinkLast_38 : decode cJ3_unlinkLast 38 = .ok (.aconst_null, 1) := dk_1 (dk_at dksJ3_unlinkLast_1 16 rfl rfl)
theorem dJ3_unlinkLast_39 : decode cJ3_unlinkLast 39 = .ok (.putfield 36, 3) := dk_181 0 36 (dk_at dksJ3_unlinkLast_1 17 rfl rfl)
theorem dJ3_unlinkLast_42 : decode cJ3_unlinkLast 42 = .ok (.aload_n 0, 1) := dk_42 (dk_at dksJ3_unlinkLast_1 20 rfl rfl)
theorem dJ3_unlinkLast_43 : decode cJ3_unlinkLast 43 = .ok (.dup, 1) := dk_89 (dk_at dksJ3_unlinkLast_1 21 rfl rfl)
theorem dJ3_unlinkLast_44 : decode cJ3_unlinkLast 44 = .ok (.getfield 7, 3) := dk_180 0 7 (dk_at dksJ3_unlinkLast_2 0 rfl rfl)
theorem dJ3_unlinkLast_47 : decode cJ3_unlinkLast 47 = .ok (.iconst 1, 1) := dk_4 (dk_at dksJ3_unlinkLast_2 3 rfl rfl)
theorem dJ3_unlinkLast_48 : decode cJ3_unlinkLast 48 = .ok (.isub, 1) := dk_100 (dk_at dksJ3_unlinkLast_2 4 rfl rfl)
theorem dJ3_unlinkLast_49 : decode cJ3_unlinkLast 49 = .ok (.putfield 7, 3) := dk_181 0 7 (dk_at dksJ3_unlinkLast_2 5 rfl rfl)
theorem dJ3_unlinkLast_52 : decode cJ3_unlinkLast 52 = .ok (.aload_n 0, 1) := dk_42 (dk_at dksJ3_unlinkLast_2 8 rfl rfl)
theorem dJ3_unlinkLast_53 : decode cJ3_unlinkLast 53 = .ok (.dup, 1) := dk_89 (dk_at dksJ3_unlinkLast_2 9 rfl rfl)
theorem dJ3_unlinkLast_54 : decode cJ3_unlinkLast 54 = .ok (.getfield 33, 3) := dk_180 0 33 (dk_at dksJ3_unlinkLast_2 10 rfl rfl)
theorem dJ3_unlinkLast_57 : decode cJ3_unlinkLast 57 = .ok (.iconst 1, 1) := dk_4 (dk_at dksJ3_unlinkLast_2 13 rfl rfl)
theorem dJ3_unlinkLast_58 : decode cJ3_unlinkLast 58 = .ok (.iadd, 1) := dk_96 (dk_at dksJ3_unlinkLast_2 14 rfl rfl)
theorem dJ3_unlinkLast_59 : decode cJ3_unlinkLast 59 = .ok (.putfield 33, 3) := dk_181 0 33 (dk_at dksJ3_unlinkLast_2 15 rfl rfl)
theorem dJ3_unlinkLast_62 : decode cJ3_unlinkLast 62 = .ok (.aload_n 2, 1) := dk_44 (dk_at dksJ3_unlinkLast_2 18 rfl rfl)
theorem dJ3_unlinkLast_63 : decode cJ3_unlinkLast 63 = .ok (.areturn, 1) := dk_176 (dk_at dksJ3_unlinkLast_2 19 rfl rfl)
abbrev cJ3_get : ByteArray := prog_65_method_22_code
def yJ3_get : MethodName := ⟨RJ3, "get", "(I)Ljava/lang/Object;"⟩
def dkwJ3_get_0 : List UInt8 := [42, 27, 182, 0, 90, 42, 27, 182, 0, 86, 180, 0, 39, 176]
abbrev dktJ3_get_0 : List UInt8 := dkwJ3_get_0 ++ []
theorem dksJ3_get_0 : cJ3_get.data.toList.drop 0 = dktJ3_get_0 := by decide +kernel
theorem dJ3_get_0 : decode cJ3_get 0 = .ok (.aload_n 0, 1) := dk_42 (dk_at dksJ3_get_0 0 rfl rfl)
theorem dJ3_get_1 : decode cJ3_get 1 = .ok (.iload_n 1, 1) := dk_27 (dk_at dksJ3_get_0 1 rfl rfl)
theorem dJ3_get_2 : decode cJ3_get 2 = .ok (.invokevirtual 90, 3) := dk_182 0 90 (dk_at dksJ3_get_0 2 rfl rfl)
theorem dJ3_get_5 : decode cJ3_get 5 = .ok (.aload_n 0, 1) := dk_42 (dk_at dksJ3_get_0 5 rfl rfl)
theorem dJ3_get_6 : decode cJ3_get 6 = .ok (.iload_n 1, 1) := dk_27 (dk_at dksJ3_get_0 6 rfl rfl)
theorem dJ3_get_7 : decode cJ3_get 7 = .ok (.invokevirtual 86, 3) := dk_182 0 86 (dk_at dksJ3_get_0 7 rfl rfl)
theorem dJ3_get_10 : decode cJ3_get 10 = .ok (.getfield 39, 3) := dk_180 0 39 (dk_at dksJ3_get_0 10 rfl rfl)
theorem dJ3_get_13 : decode cJ3_get 13 = .ok (.areturn, 1) := dk_176 (dk_at dksJ3_get_0 13 rfl rfl)
abbrev cJ3_checkElementIndex : ByteArray := prog_65_method_29_code
def yJ3_checkElementIndex : MethodName := ⟨RJ3, "checkElementIndex", "(I)V"⟩
def dkwJ3_checkElementIndex_0 : List UInt8 := [42, 27, 182, 0, 115, 154, 0, 16, 187, 0, 119, 89, 42, 27, 182, 0, 121, 183, 0, 125, 191, 177]
abbrev dktJ3_checkElementIndex_0 : List UInt8 := dkwJ3_checkElementIndex_0 ++ []
theorem dksJ3_checkElementIndex_0 : cJ3_checkElementIndex.data.toList.drop 0 = dktJ3_checkElementIndex_0 := by decide +kernel
theorem dJ3_checkElementIndex_0 : decode cJ3_checkElementIndex 0 = .ok (.aload_n 0, 1) := dk_42 (dk_at dksJ3_checkElementIndex_0 0 rfl rfl)
theorem dJ3_checkElementIndex_1 : decode cJ3_checkElementIndex 1 = .ok (.iload_n 1, 1) := dk_27 (dk_at dksJ3_checkElementIndex_0 1 rfl rfl)
theorem dJ3_checkElementIndex_2 : decode cJ3_checkElementIndex 2 = .ok (.invokevirtual 115, 3) := dk_182 0 115 (dk_at dksJ3_checkElementIndex_0 2 rfl rfl)
theorem dJ3_checkElementIndex_5 : decode cJ3_checkElementIndex 5 = .ok (.ifCond .ne 16, 3) := dk_154 0 16 (dk_at dksJ3_checkElementIndex_0 5 rfl rfl)
theorem dJ3_checkElementIndex_8 : decode cJ3_checkElementIndex 8 = .ok (.new 119, 3) := dk_187 0 119 (dk_at dksJ3_checkElementIndex_0 8 rfl rfl)
theorem dJ3_checkElementIndex_11 : decode cJ3_checkElementIndex 11 = .ok (.dup, 1) := dk_89 (dk_at dksJ3_checkElementIndex_0 11 rfl rfl)
theorem dJ3_checkElementIndex_12 : decode cJ3_checkElementIndex 12 = .ok (.aload_n 0, 1) := dk_42 (dk_at dksJ3_checkElementIndex_0 12 rfl rfl)
theorem dJ3_checkElementIndex_13 : decode cJ3_checkElementIndex 13 = .ok (.iload_n 1, 1) := dk_27 (dk_at dksJ3_checkElementIndex_0 13 rfl rfl)
theorem dJ3_checkElementIndex_14 : decode cJ3_checkElementIndex 14 = .ok (.invokevirtual 121, 3) := dk_182 0 121 (dk_at dksJ3_checkElementIndex_0 14 rfl rfl)
theorem dJ3_checkElementIndex_17 : decode cJ3_checkElementIndex 17 = .ok (.invokespecial 125, 3) := dk_183 0 125 (dk_at dksJ3_checkElementIndex_0 17 rfl rfl)
theorem dJ3_checkElementIndex_20 : decode cJ3_checkElementIndex 20 = .ok (.athrow, 1) := dk_191 (dk_at dksJ3_checkElementIndex_0 20 rfl rfl)
theorem dJ3_checkElementIndex_21 : decode cJ3_checkElementIndex 21 = .ok (.return_, 1) := dk_177 (dk_at dksJ3_checkElementIndex_0 21 rfl rfl)
abbrev cJ3_isElementIndex : ByteArray := prog_65_method_26_code
def yJ3_isElementIndex : MethodName := ⟨RJ3, "isElementIndex", "(I)Z"⟩
def dkwJ3_isElementIndex_0 : List UInt8 := [27, 155, 0, 15, 27, 42, 180, 0, 7, 162, 0, 7, 4, 167, 0, 4, 3, 172]
abbrev dktJ3_isElementIndex_0 : List UInt8 := dkwJ3_isElementIndex_0 ++ []
theorem dksJ3_isElementIndex_0 : cJ3_isElementIndex.data.toList.drop 0 = dktJ3_isElementIndex_0 := by decide +kernel
theorem dJ3_isElementIndex_0 : decode cJ3_isElementIndex 0 = .ok (.iload_n 1, 1) := dk_27 (dk_at dksJ3_isElementIndex_0 0 rfl rfl)
theorem dJ3_isElementIndex_1 : decode cJ3_isElementIndex 1 = .ok (.ifCond .lt 15, 3) := dk_155 0 15 (dk_at dksJ3_isElementIndex_0 1 rfl rfl)
theorem dJ3_isElementIndex_4 : decode cJ3_isElementIndex 4 = .ok (.iload_n 1, 1) := dk_27 (dk_at dksJ3_isElementIndex_0 4 rfl rfl)
theorem dJ3_isElementIndex_5 : decode cJ3_isElementIndex 5 = .ok (.aload_n 0, 1) := dk_42 (dk_at dksJ3_isElementIndex_0 5 rfl rfl)
theorem dJ3_isElementIndex_6 : decode cJ3_isElementIndex 6 = .ok (.getfield 7, 3) := dk_180 0 7 (dk_at dksJ3_isElementIndex_0 6 rfl rfl)
theorem dJ3_isElementIndex_9 : decode cJ3_isElementIndex 9 = .ok (.if_icmp .ge 7, 3) := dk_162 0 7 (dk_at dksJ3_isElementIndex_0 9 rfl rfl)
theorem dJ3_isElementIndex_12 : decode cJ3_isElementIndex 12 = .ok (.iconst 1, 1) := dk_4 (dk_at dksJ3_isElementIndex_0 12 rfl rfl)
theorem dJ3_isElementIndex_13 : decode cJ3_isElementIndex 13 = .ok (.goto 4, 3) := dk_167 0 4 (dk_at dksJ3_isElementIndex_0 13 rfl rfl)
theorem dJ3_isElementIndex_16 : decode cJ3_isElementIndex 16 = .ok (.iconst 0, 1) := dk_3 (dk_at dksJ3_isElementIndex_0 16 rfl rfl)
theorem dJ3_isElementIndex_17 : decode cJ3_isElementIndex 17 = .ok (.ireturn, 1) := dk_172 (dk_at dksJ3_isElementIndex_0 17 rfl rfl)
abbrev cJ3_node : ByteArray := prog_65_method_31_code
def yJ3_node : MethodName := ⟨RJ3, "node", "(I)Ljava/util/LinkedList$Node;"⟩
def dkwJ3_node_2 : List UInt8 := [29, 27, 164, 0, 14, 44, 180, 0, 30, 77, 132, 3, 255, 167, 255, 243, 44, 176]
abbrev dktJ3_node_2 : List UInt8 := dkwJ3_node_2 ++ []
def dkwJ3_node_1 : List UInt8 := [180, 0, 36, 77, 132, 3, 1, 167, 255, 243, 44, 176, 42, 180, 0, 27, 77, 42, 180, 0, 7, 4, 100, 62]
abbrev dktJ3_node_1 : List UInt8 := dkwJ3_node_1 ++ dktJ3_node_2
def dkwJ3_node_0 : List UInt8 := [27, 42, 180, 0, 7, 4, 122, 162, 0, 28, 42, 180, 0, 18, 77, 3, 62, 29, 27, 162, 0, 14, 44]
abbrev dktJ3_node_0 : List UInt8 := dkwJ3_node_0 ++ dktJ3_node_1
theorem dksJ3_node_0 : cJ3_node.data.toList.drop 0 = dktJ3_node_0 := by decide +kernel
theorem dksJ3_node_1 : cJ3_node.data.toList.drop 23 = dktJ3_node_1 := dk_seg dksJ3_node_0 23 rfl rfl
theorem dksJ3_node_2 : cJ3_node.data.toList.drop 47 = dktJ3_node_2 := dk_seg dksJ3_node_1 24 rfl rfl
theorem dJ3_node_0 : decode cJ3_node 0 = .ok (.iload_n 1, 1) := dk_27 (dk_at dksJ3_node_0 0 rfl rfl)
theorem dJ3_node_1 : decode cJ3_node 1 = .ok (.aload_n 0, 1) := dk_42 (dk_at dksJ3_node_0 1 rfl rfl)
theorem dJ3_node_2 : decode cJ3_node 2 = .ok (.getfield 7, 3) := dk_180 0 7 (dk_at dksJ3_node_0 2 rfl rfl)
theorem dJ3_node_5 : decode cJ3_node 5 = .ok (.iconst 1, 1) := dk_4 (dk_at dksJ3_node_0 5 rfl rfl)
theorem dJ3_node_6 : decode cJ3_node 6 = .ok (.ishr, 1) := dk_122 (dk_at dksJ3_node_0 6 rfl rfl)
theorem dJ3_node_7 : decode cJ3_node 7 = .ok (.if_icmp .ge 28, 3) := dk_162 0 28 (dk_at dksJ3_node_0 7 rfl rfl)
theorem dJ3_node_10 : decode cJ3_node 10 = .ok (.aload_n 0, 1) := dk_42 (dk_at dksJ3_node_0 10 rfl rfl)
theorem dJ3_node_11 : decode cJ3_node 11 = .ok (.getfield 18, 3) := dk_180 0 18 (dk_at dksJ3_node_0 11 rfl rfl)
theorem dJ3_node_14 : decode cJ3_node 14 = .ok (.astore_n 2, 1) := dk_77 (dk_at dksJ3_node_0 14 rfl rfl)
theorem dJ3_node_15 : decode cJ3_node 15 = .ok (.iconst 0, 1) := dk_3 (dk_at dksJ3_node_0 15 rfl rfl)
theorem dJ3_node_16 : decode cJ3_node 16 = .ok (.istore_n 3, 1) := dk_62 (dk_at dksJ3_node_0 16 rfl rfl)
theorem dJ3_node_17 : decode cJ3_node 17 = .ok (.iload_n 3, 1) := dk_29 (dk_at dksJ3_node_0 17 rfl rfl)
theorem dJ3_node_18 : decode cJ3_node 18 = .ok (.iload_n 1, 1) := dk_27 (dk_at dksJ3_node_0 18 rfl rfl)
theorem dJ3_node_19 : decode cJ3_node 19 = .ok (.if_icmp .ge 14, 3) := dk_162 0 14 (dk_at dksJ3_node_0 19 rfl rfl)
theorem dJ3_node_22 : decode cJ3_node 22 = .ok (.aload_n 2, 1) := dk_44 (dk_at dksJ3_node_0 22 rfl rfl)
theorem dJ3_node_23 : decode cJ3_node 23 = .ok (.getfield 36, 3) := dk_180 0 36 (dk_at dksJ3_node_1 0 rfl rfl)
theorem dJ3_node_26 : decode cJ3_node 26 = .ok (.astore_n 2, 1) := dk_77 (dk_at dksJ3_node_1 3 rfl rfl)
theorem dJ3_node_27 : decode cJ3_node 27 = .ok (.iinc 3 1, 3) := dk_132 3 1 (dk_at dksJ3_node_1 4 rfl rfl)
theorem dJ3_node_30 : decode cJ3_node 30 = .ok (.goto (-13), 3) := dk_167 255 243 (dk_at dksJ3_node_1 7 rfl rfl)
theorem dJ3_node_33 : decode cJ3_node 33 = .ok (.aload_n 2, 1) := dk_44 (dk_at dksJ3_node_1 10 rfl rfl)
theorem dJ3_node_34 : decode cJ3_node 34 = .ok (.areturn, 1) := dk_176 (dk_at dksJ3_node_1 11 rfl rfl)
theorem dJ3_node_35 : decode cJ3_node 35 = .ok (.aload_n 0, 1) := dk_42 (dk_at dksJ3_node_1 12 rfl rfl)
theorem dJ3_node_36 : decode cJ3_node 36 = .ok (.getfield 27, 3) := dk_180 0 27 (dk_at dksJ3_node_1 13 rfl rfl)
theorem dJ3_node_39 : decode cJ3_node 39 = .ok (.astore_n 2, 1) := dk_77 (dk_at dksJ3_node_1 16 rfl rfl)
theorem dJ3_node_40 : decode cJ3_node 40 = .ok (.aload_n 0, 1) := dk_42 (dk_at dksJ3_node_1 17 rfl rfl)
theorem dJ3_node_41 : decode cJ3_node 41 = .ok (.getfield 7, 3) := dk_180 0 7 (dk_at dksJ3_node_1 18 rfl rfl)
theorem dJ3_node_44 : decode cJ3_node 44 = .ok (.iconst 1, 1) := dk_4 (dk_at dksJ3_node_1 21 rfl rfl)
theorem dJ3_node_45 : decode cJ3_node 45 = .ok (.isub, 1) := dk_100 (dk_at dksJ3_node_1 22 rfl rfl)
theorem dJ3_node_46 : decode cJ3_node 46 = .ok (.istore_n 3, 1) := dk_62 (dk_at dksJ3_node_1 23 rfl rfl)
theorem dJ3_node_47 : decode cJ3_node 47 = .ok (.iload_n 3, 1) := dk_29 (dk_at dksJ3_node_2 0 rfl rfl)
theorem dJ3_node_48 : decode cJ3_node 48 = .ok (.iload_n 1, 1) := dk_27 (dk_at dksJ3_node_2 1 rfl rfl)
theorem dJ3_node_49 : decode cJ3_node 49 = .ok (.if_icmp .le 14, 3) := dk_164 0 14 (dk_at dksJ3_node_2 2 rfl rfl)
theorem dJ3_node_52 : decode cJ3_node 52 = .ok (.aload_n 2, 1) := dk_44 (dk_at dksJ3_node_2 5 rfl rfl)
theorem dJ3_node_53 : decode cJ3_node 53 = .ok (.getfield 30, 3) := dk_180 0 30 (dk_at dksJ3_node_2 6 rfl rfl)
theorem dJ3_node_56 : decode cJ3_node 56 = .ok (.astore_n 2, 1) := dk_77 (dk_at dksJ3_node_2 9 rfl rfl)
theorem dJ3_node_57 : decode cJ3_node 57 = .ok (.iinc 3 (-1), 3) := dk_132 3 255 (dk_at dksJ3_node_2 10 rfl rfl)
theorem dJ3_node_60 : decode cJ3_node 60 = .ok (.goto (-13), 3) := dk_167 255 243 (dk_at dksJ3_node_2 13 rfl rfl)
theorem dJ3_node_63 : decode cJ3_node 63 = .ok (.aload_n 2, 1) := dk_44 (dk_at dksJ3_node_2 16 rfl rfl)
theorem dJ3_node_64 : decode cJ3_node 64 = .ok (.areturn, 1) := dk_176 (dk_at dksJ3_node_2 17 rfl rfl)
abbrev cJ3_addLast : ByteArray := prog_65_method_14_code
def yJ3_addLast : MethodName := ⟨RJ3, "addLast", "(Ljava/lang/Object;)V"⟩
def dkwJ3_addLast_0 : List UInt8 := [42, 43, 182, 0, 57, 177]
abbrev dktJ3_addLast_0 : List UInt8 := dkwJ3_addLast_0 ++ []
theorem dksJ3_addLast_0 : cJ3_addLast.data.toList.drop 0 = dktJ3_addLast_0 := by decide +kernel
theorem dJ3_addLast_0 : decode cJ3_addLast 0 = .ok (.aload_n 0, 1) := dk_42 (dk_at dksJ3_addLast_0 0 rfl rfl)
theorem dJ3_addLast_1 : decode cJ3_addLast 1 = .ok (.aload_n 1, 1) := dk_43 (dk_at dksJ3_addLast_0 1 rfl rfl)
theorem dJ3_addLast_2 : decode cJ3_addLast 2 = .ok (.invokevirtual 57, 3) := dk_182 0 57 (dk_at dksJ3_addLast_0 2 rfl rfl)
theorem dJ3_addLast_5 : decode cJ3_addLast 5 = .ok (.return_, 1) := dk_177 (dk_at dksJ3_addLast_0 5 rfl rfl)
abbrev cJ3_linkLast : ByteArray := prog_65_method_4_code
def yJ3_linkLast : MethodName := ⟨RJ3, "linkLast", "(Ljava/lang/Object;)V"⟩
def dkwJ3_linkLast_2 : List UInt8 := [181, 0, 7, 42, 89, 180, 0, 33, 4, 96, 181, 0, 33, 177]
abbrev dktJ3_linkLast_2 : List UInt8 := dkwJ3_linkLast_2 ++ []
def dkwJ3_linkLast_1 : List UInt8 := [199, 0, 11, 42, 45, 181, 0, 18, 167, 0, 8, 44, 45, 181, 0, 36, 42, 89, 180, 0, 7, 4, 96]
abbrev dktJ3_linkLast_1 : List UInt8 := dkwJ3_linkLast_1 ++ dktJ3_linkLast_2
def dkwJ3_linkLast_0 : List UInt8 := [42, 180, 0, 27, 77, 187, 0, 22, 89, 44, 43, 1, 183, 0, 24, 78, 42, 45, 181, 0, 27, 44]
abbrev dktJ3_linkLast_0 : List UInt8 := dkwJ3_linkLast_0 ++ dktJ3_linkLast_1
theorem dksJ3_linkLast_0 : cJ3_linkLast.data.toList.drop 0 = dktJ3_linkLast_0 := by decide +kernel
theorem dksJ3_linkLast_1 : cJ3_linkLast.data.toList.drop 22 = dktJ3_linkLast_1 := dk_seg dksJ3_linkLast_0 22 rfl rfl
theorem dksJ3_linkLast_2 : cJ3_linkLast.data.toList.drop 45 = dktJ3_linkLast_2 := dk_seg dksJ3_linkLast_1 23 rfl rfl
theorem dJ3_linkLast_0 : decode cJ3_linkLast 0 = .ok (.aload_n 0, 1) := dk_42 (dk_at dksJ3_linkLast_0 0 rfl rfl)
theorem dJ3_linkLast_1 : decode cJ3_linkLast 1 = .ok (.getfield 27, 3) := dk_180 0 27 (dk_at dksJ3_linkLast_0 1 rfl rfl)
theorem dJ3_linkLast_4 : decode cJ3_linkLast 4 = .ok (.astore_n 2, 1) := dk_77 (dk_at dksJ3_linkLast_0 4 rfl rfl)
theorem dJ3_linkLast_5 : decode cJ3_linkLast 5 = .ok (.new 22, 3) := dk_187 0 22 (dk_at dksJ3_linkLast_0 5 rfl rfl)
theorem dJ3_linkLast_8 : decode cJ3_linkLast 8 = .ok (.dup, 1) := dk_89 (dk_at dksJ3_linkLast_0 8 rfl rfl)
theorem dJ3_linkLast_9 : decode cJ3_linkLast 9 = .ok (.aload_n 2, 1) := dk_44 (dk_at dksJ3_linkLast_0 9 rfl rfl)
theorem dJ3_linkLast_10 : decode cJ3_linkLast 10 = .ok (.aload_n 1, 1) := dk_43 (dk_at dksJ3_linkLast_0 10 rfl rfl)
theorem dJ3_linkLast_11 : decode cJ3_linkLast 11 = .ok (.aconst_null, 1) := dk_1 (dk_at dksJ3_linkLast_0 11 rfl rfl)
theorem dJ3_linkLast_12 : decode cJ3_linkLast 12 = .ok (.invokespecial 24, 3) := dk_183 0 24 (dk_at dksJ3_linkLast_0 12 rfl rfl)
theorem dJ3_linkLast_15 : decode cJ3_linkLast 15 = .ok (.astore_n 3, 1) := dk_78 (dk_at dksJ3_linkLast_0 15 rfl rfl)
theorem dJ3_linkLast_16 : decode cJ3_linkLast 16 = .ok (.aload_n 0, 1) := dk_42 (dk_at dksJ3_linkLast_0 16 rfl rfl)
theorem dJ3_linkLast_17 : decode cJ3_linkLast 17 = .ok (.aload_n 3, 1) := dk_45 (dk_at dksJ3_linkLast_0 17 rfl rfl)
theorem dJ3_linkLast_18 : decode cJ3_linkLast 18 = .ok (.putfield 27, 3) := dk_181 0 27 (dk_at dksJ3_linkLast_0 18 rfl rfl)
theorem dJ3_linkLast_21 : decode cJ3_linkLast 21 = .ok (.aload_n 2, 1) := dk_44 (dk_at dksJ3_linkLast_0 21 rfl rfl)
theorem dJ3_linkLast_22 : decode cJ3_linkLast 22 = .ok (.ifnonnull 11, 3) := dk_199 0 11 (dk_at dksJ3_linkLast_1 0 rfl rfl)
theorem dJ3_linkLast_25 : decode cJ3_linkLast 25 = .ok (.aload_n 0, 1) := dk_42 (dk_at dksJ3_linkLast_1 3 rfl rfl)
theorem dJ3_linkLast_26 : decode cJ3_linkLast 26 = .ok (.aload_n 3, 1) := dk_45 (dk_at dksJ3_linkLast_1 4 rfl rfl)
theorem dJ3_linkLast_27 : decode cJ3_linkLast 27 = .ok (.putfield 18, 3) := dk_181 0 18 (dk_at dksJ3_linkLast_1 5 rfl rfl)
theorem dJ3_linkLast_30 : decode cJ3_linkLast 30 = .ok (.goto 8, 3) := dk_167 0 8 (dk_at dksJ3_linkLast_1 8 rfl rfl)
theorem dJ3_linkLast_33 : decode cJ3_linkLast 33 = .ok (.aload_n 2, 1) := dk_44 (dk_at dksJ3_linkLast_1 11 rfl rfl)
theorem dJ3_linkLast_34 : decode cJ3_linkLast 34 = .ok (.aload_n 3, 1) := dk_45 (dk_at dksJ3_linkLast_1 12 rfl rfl)
theorem dJ3_linkLast_35 : decode cJ3_linkLast 35 = .ok (.putfield 36, 3) := dk_181 0 36 (dk_at dksJ3_linkLast_1 13 rfl rfl)
theorem dJ3_linkLast_38 : decode cJ3_linkLast 38 = .ok (.aload_n 0, 1) := dk_42 (dk_at dksJ3_linkLast_1 16 rfl rfl)
theorem dJ3_linkLast_39 : decode cJ3_linkLast 39 = .ok (.dup, 1) := dk_89 (dk_at dksJ3_linkLast_1 17 rfl rfl)
theorem dJ3_linkLast_40 : decode cJ3_linkLast 40 = .ok (.getfield 7, 3) := dk_180 0 7 (dk_at dksJ3_linkLast_1 18 rfl rfl)
theorem dJ3_linkLast_43 : decode cJ3_linkLast 43 = .ok (.iconst 1, 1) := dk_4 (dk_at dksJ3_linkLast_1 21 rfl rfl)
theorem dJ3_linkLast_44 : decode cJ3_linkLast 44 = .ok (.iadd, 1) := dk_96 (dk_at dksJ3_linkLast_1 22 rfl rfl)
theorem dJ3_linkLast_45 : decode cJ3_linkLast 45 = .ok (.putfield 7, 3) := dk_181 0 7 (dk_at dksJ3_linkLast_2 0 rfl rfl)
theorem dJ3_linkLast_48 : decode cJ3_linkLast 48 = .ok (.aload_n 0, 1) := dk_42 (dk_at dksJ3_linkLast_2 3 rfl rfl)
theorem dJ3_linkLast_49 : decode cJ3_linkLast 49 = .ok (.dup, 1) := dk_89 (dk_at dksJ3_linkLast_2 4 rfl rfl)
theorem dJ3_linkLast_50 : decode cJ3_linkLast 50 = .ok (.getfield 33, 3) := dk_180 0 33 (dk_at dksJ3_linkLast_2 5 rfl rfl)
theorem dJ3_linkLast_53 : decode cJ3_linkLast 53 = .ok (.iconst 1, 1) := dk_4 (dk_at dksJ3_linkLast_2 8 rfl rfl)
theorem dJ3_linkLast_54 : decode cJ3_linkLast 54 = .ok (.iadd, 1) := dk_96 (dk_at dksJ3_linkLast_2 9 rfl rfl)
theorem dJ3_linkLast_55 : decode cJ3_linkLast 55 = .ok (.putfield 33, 3) := dk_181 0 33 (dk_at dksJ3_linkLast_2 10 rfl rfl)
theorem dJ3_linkLast_58 : decode cJ3_linkLast 58 = .ok (.return_, 1) := dk_177 (dk_at dksJ3_linkLast_2 13 rfl rfl)
abbrev cJ3_listIterator : ByteArray := prog_65_method_49_code
def yJ3_listIterator : MethodName := ⟨RJ3, "listIterator", "(I)Ljava/util/ListIterator;"⟩
def dkwJ3_listIterator_0 : List UInt8 := [42, 27, 182, 0, 76, 187, 0, 150, 89, 42, 27, 183, 0, 152, 176]
abbrev dktJ3_listIterator_0 : List UInt8 := dkwJ3_listIterator_0 ++ []
theorem dksJ3_listIterator_0 : cJ3_listIterator.data.toList.drop 0 = dktJ3_listIterator_0 := by decide +kernel
theorem dJ3_listIterator_0 : decode cJ3_listIterator 0 = .ok (.aload_n 0, 1) := dk_42 (dk_at dksJ3_listIterator_0 0 rfl rfl)
theorem dJ3_listIterator_1 : decode cJ3_listIterator 1 = .ok (.iload_n 1, 1) := dk_27 (dk_at dksJ3_listIterator_0 1 rfl rfl)
theorem dJ3_listIterator_2 : decode cJ3_listIterator 2 = .ok (.invokevirtual 76, 3) := dk_182 0 76 (dk_at dksJ3_listIterator_0 2 rfl rfl)
theorem dJ3_listIterator_5 : decode cJ3_listIterator 5 = .ok (.new 150, 3) := dk_187 0 150 (dk_at dksJ3_listIterator_0 5 rfl rfl)
theorem dJ3_listIterator_8 : decode cJ3_listIterator 8 = .ok (.dup, 1) := dk_89 (dk_at dksJ3_listIterator_0 8 rfl rfl)
theorem dJ3_listIterator_9 : decode cJ3_listIterator 9 = .ok (.aload_n 0, 1) := dk_42 (dk_at dksJ3_listIterator_0 9 rfl rfl)
theorem dJ3_listIterator_10 : decode cJ3_listIterator 10 = .ok (.iload_n 1, 1) := dk_27 (dk_at dksJ3_listIterator_0 10 rfl rfl)
theorem dJ3_listIterator_11 : decode cJ3_listIterator 11 = .ok (.invokespecial 152, 3) := dk_183 0 152 (dk_at dksJ3_listIterator_0 11 rfl rfl)
theorem dJ3_listIterator_14 : decode cJ3_listIterator 14 = .ok (.areturn, 1) := dk_176 (dk_at dksJ3_listIterator_0 14 rfl rfl)
abbrev cJ3_checkPositionIndex : ByteArray := prog_65_method_30_code
def yJ3_checkPositionIndex : MethodName := ⟨RJ3, "checkPositionIndex", "(I)V"⟩
def dkwJ3_checkPositionIndex_0 : List UInt8 := [42, 27, 182, 0, 128, 154, 0, 16, 187, 0, 119, 89, 42, 27, 182, 0, 121, 183, 0, 125, 191, 177]
abbrev dktJ3_checkPositionIndex_0 : List UInt8 := dkwJ3_checkPositionIndex_0 ++ []
theorem dksJ3_checkPositionIndex_0 : cJ3_checkPositionIndex.data.toList.drop 0 = dktJ3_checkPositionIndex_0 := by decide +kernel
theorem dJ3_checkPositionIndex_0 : decode cJ3_checkPositionIndex 0 = .ok (.aload_n 0, 1) := dk_42 (dk_at dksJ3_checkPositionIndex_0 0 rfl rfl)
theorem dJ3_checkPositionIndex_1 : decode cJ3_checkPositionIndex 1 = .ok (.iload_n 1, 1) := dk_27 (dk_at dksJ3_checkPositionIndex_0 1 rfl rfl)
theorem dJ3_checkPositionIndex_2 : decode cJ3_checkPositionIndex 2 = .ok (.invokevirtual 128, 3) := dk_182 0 128 (dk_at dksJ3_checkPositionIndex_0 2 rfl rfl)
theorem dJ3_checkPositionIndex_5 : decode cJ3_checkPositionIndex 5 = .ok (.ifCond .ne 16, 3) := dk_154 0 16 (dk_at dksJ3_checkPositionIndex_0 5 rfl rfl)
theorem dJ3_checkPositionIndex_8 : decode cJ3_checkPositionIndex 8 = .ok (.new 119, 3) := dk_187 0 119 (dk_at dksJ3_checkPositionIndex_0 8 rfl rfl)
theorem dJ3_checkPositionIndex_11 : decode cJ3_checkPositionIndex 11 = .ok (.dup, 1) := dk_89 (dk_at dksJ3_checkPositionIndex_0 11 rfl rfl)
theorem dJ3_checkPositionIndex_12 : decode cJ3_checkPositionIndex 12 = .ok (.aload_n 0, 1) := dk_42 (dk_at dksJ3_checkPositionIndex_0 12 rfl rfl)
theorem dJ3_checkPositionIndex_13 : decode cJ3_checkPositionIndex 13 = .ok (.iload_n 1, 1) := dk_27 (dk_at dksJ3_checkPositionIndex_0 13 rfl rfl)
theorem dJ3_checkPositionIndex_14 : decode cJ3_checkPositionIndex 14 = .ok (.invokevirtual 121, 3) := dk_182 0 121 (dk_at dksJ3_checkPositionIndex_0 14 rfl rfl)
theorem dJ3_checkPositionIndex_17 : decode cJ3_checkPositionIndex 17 = .ok (.invokespecial 125, 3) := dk_183 0 125 (dk_at dksJ3_checkPositionIndex_0 17 rfl rfl)
theorem dJ3_checkPositionIndex_20 : decode cJ3_checkPositionIndex 20 = .ok (.athrow, 1) := dk_191 (dk_at dksJ3_checkPositionIndex_0 20 rfl rfl)
theorem dJ3_checkPositionIndex_21 : decode cJ3_checkPositionIndex 21 = .ok (.return_, 1) := dk_177 (dk_at dksJ3_checkPositionIndex_0 21 rfl rfl)
abbrev cJ3_isPositionIndex : ByteArray := prog_65_method_27_code
def yJ3_isPositionIndex : MethodName := ⟨RJ3, "isPositionIndex", "(I)Z"⟩
def dkwJ3_isPositionIndex_0 : List UInt8 := [27, 155, 0, 15, 27, 42, 180, 0, 7, 163, 0, 7, 4, 167, 0, 4, 3, 172]
abbrev dktJ3_isPositionIndex_0 : List UInt8 := dkwJ3_isPositionIndex_0 ++ []
theorem dksJ3_isPositionIndex_0 : cJ3_isPositionIndex.data.toList.drop 0 = dktJ3_isPositionIndex_0 := by decide +kernel
theorem dJ3_isPositionIndex_0 : decode cJ3_isPositionIndex 0 = .ok (.iload_n 1, 1) := dk_27 (dk_at dksJ3_isPositionIndex_0 0 rfl rfl)
theorem dJ3_isPositionIndex_1 : decode cJ3_isPositionIndex 1 = .ok (.ifCond .lt 15, 3) := dk_155 0 15 (dk_at dksJ3_isPositionIndex_0 1 rfl rfl)
theorem dJ3_isPositionIndex_4 : decode cJ3_isPositionIndex 4 = .ok (.iload_n 1, 1) := dk_27 (dk_at dksJ3_isPositionIndex_0 4 rfl rfl)
theorem dJ3_isPositionIndex_5 : decode cJ3_isPositionIndex 5 = .ok (.aload_n 0, 1) := dk_42 (dk_at dksJ3_isPositionIndex_0 5 rfl rfl)
theorem dJ3_isPositionIndex_6 : decode cJ3_isPositionIndex 6 = .ok (.getfield 7, 3) := dk_180 0 7 (dk_at dksJ3_isPositionIndex_0 6 rfl rfl)
theorem dJ3_isPositionIndex_9 : decode cJ3_isPositionIndex 9 = .ok (.if_icmp .gt 7, 3) := dk_163 0 7 (dk_at dksJ3_isPositionIndex_0 9 rfl rfl)
theorem dJ3_isPositionIndex_12 : decode cJ3_isPositionIndex 12 = .ok (.iconst 1, 1) := dk_4 (dk_at dksJ3_isPositionIndex_0 12 rfl rfl)
theorem dJ3_isPositionIndex_13 : decode cJ3_isPositionIndex 13 = .ok (.goto 4, 3) := dk_167 0 4 (dk_at dksJ3_isPositionIndex_0 13 rfl rfl)
theorem dJ3_isPositionIndex_16 : decode cJ3_isPositionIndex 16 = .ok (.iconst 0, 1) := dk_3 (dk_at dksJ3_isPositionIndex_0 16 rfl rfl)
theorem dJ3_isPositionIndex_17 : decode cJ3_isPositionIndex 17 = .ok (.ireturn, 1) := dk_172 (dk_at dksJ3_isPositionIndex_0 17 rfl rfl)
theorem q102 : (Jvm.Cond.initialized "java/util/LinkedList") ∈ lw_all := lw_g (lw_at lw_m1 5 rfl) rfl
theorem q164 : (Jvm.Cond.instantiable "java/util/LinkedList" (4 : Nat)) ∈ lw_all := lw_g (lw_at lw_m1 67 rfl) rfl
theorem q166 : (Jvm.Cond.instanceMethod ({ cls := "java/util/LinkedList", name := "<init>", desc := "()V" } : Jvm.MethodName)) ∈ lw_all := lw_g (lw_at lw_m1 69 rfl) rfl
theorem q167 : (Jvm.Cond.code ({ cls := "java/util/LinkedList", name := "<init>", desc := "()V" } : Jvm.MethodName) prog_65_method_1_code (1 : Nat) (Option.none : Option Jvm.ClassFile.FieldType)) ∈ lw_all := lw_g (lw_at lw_m1 70 rfl) rfl
theorem q168 : (Jvm.Cond.methodLink "java/util/LinkedList" (1 : Nat) ({ cls := "java/util/AbstractSequentialList", name := "<init>", desc := "()V" } : Jvm.MethodName)) ∈ lw_all := lw_g (lw_at lw_m1 71 rfl) rfl
theorem q178 : (Jvm.Cond.fieldLink "java/util/LinkedList" (7 : Nat) "java/util/LinkedList" "size" "I") ∈ lw_all := lw_g (lw_at lw_m1 81 rfl) rfl
theorem q180 : (Jvm.Cond.fieldLink "java/util/LinkedList" (18 : Nat) "java/util/LinkedList" "first" "Ljava/util/LinkedList$Node;") ∈ lw_all := lw_g (lw_at lw_m1 83 rfl) rfl
theorem q181 : (Jvm.Cond.fieldLink "java/util/LinkedList" (27 : Nat) "java/util/LinkedList" "last" "Ljava/util/LinkedList$Node;") ∈ lw_all := lw_g (lw_at lw_m1 84 rfl) rfl
theorem q184 : (Jvm.Cond.sameField "java/util/LinkedList" "java/util/AbstractList" "modCount" "I") ∈ lw_all := lw_g (lw_at lw_m1 87 rfl) rfl
theorem q188 : (Jvm.Cond.fieldLink "java/util/LinkedList" (33 : Nat) "java/util/LinkedList" "modCount" "I") ∈ lw_all := lw_g (lw_at lw_m1 91 rfl) rfl
theorem q190 : (Jvm.Cond.lays "java/util/LinkedList" "java/util/LinkedList" "size" "I") ∈ lw_all := lw_g (lw_at lw_m1 93 rfl) rfl
theorem q191 : (Jvm.Cond.soleField "java/util/LinkedList" "size") ∈ lw_all := lw_g (lw_at lw_m1 94 rfl) rfl
theorem q192 : (Jvm.Cond.lays "java/util/LinkedList" "java/util/LinkedList" "first" "Ljava/util/LinkedList$Node;") ∈ lw_all := lw_g (lw_at lw_m1 95 rfl) rfl
theorem q193 : (Jvm.Cond.soleField "java/util/LinkedList" "first") ∈ lw_all := lw_g (lw_at lw_m1 96 rfl) rfl
theorem q194 : (Jvm.Cond.lays "java/util/LinkedList" "java/util/LinkedList" "last" "Ljava/util/LinkedList$Node;") ∈ lw_all := lw_g (lw_at lw_m1 97 rfl) rfl
theorem q195 : (Jvm.Cond.soleField "java/util/LinkedList" "last") ∈ lw_all := lw_g (lw_at lw_m1 98 rfl) rfl
theorem q196 : (Jvm.Cond.lays "java/util/LinkedList" "java/util/AbstractList" "modCount" "I") ∈ lw_all := lw_g (lw_at lw_m1 99 rfl) rfl
theorem q198 : (Jvm.Cond.superclass "java/util/LinkedList" "java/util/AbstractSequentialList") ∈ lw_all := lw_g (lw_at lw_m1 101 rfl) rfl
theorem q456 : (Jvm.Cond.selects "java/util/LinkedList" ({ cls := "java/lang/Object", name := "getClass", desc := "()Ljava/lang/Class;" } : Jvm.MethodName) ({ cls := "java/lang/Object", name := "getClass", desc := "()Ljava/lang/Class;" } : Jvm.MethodName)) ∈ lw_all := lw_g (lw_at lw_m2 119 rfl) rfl
theorem q604 : (Jvm.Cond.sameMethod "java/util/LinkedList" "java/util/AbstractCollection" "isEmpty" "()Z") ∈ lw_all := lw_g (lw_at lw_m3 27 rfl) rfl
theorem q606 : (Jvm.Cond.selects "java/util/LinkedList" ({ cls := "java/util/LinkedList", name := "isEmpty", desc := "()Z" } : Jvm.MethodName) ({ cls := "java/util/AbstractCollection", name := "isEmpty", desc := "()Z" } : Jvm.MethodName)) ∈ lw_all := lw_g (lw_at lw_m3 29 rfl) rfl
theorem q619 : (Jvm.Cond.selects "java/util/LinkedList" ({ cls := "java/util/AbstractCollection", name := "size", desc := "()I" } : Jvm.MethodName) ({ cls := "java/util/LinkedList", name := "size", desc := "()I" } : Jvm.MethodName)) ∈ lw_all := lw_g (lw_at lw_m3 42 rfl) rfl
theorem q620 : (Jvm.Cond.instanceMethod ({ cls := "java/util/LinkedList", name := "size", desc := "()I" } : Jvm.MethodName)) ∈ lw_all := lw_g (lw_at lw_m3 43 rfl) rfl
theorem q621 : (Jvm.Cond.code ({ cls := "java/util/LinkedList", name := "size", desc := "()I" } : Jvm.MethodName) prog_65_method_16_code (1 : Nat) (Option.some Jvm.ClassFile.FieldType.int)) ∈ lw_all := lw_g (lw_at lw_m3 44 rfl) rfl
theorem q650 : (Jvm.Cond.instanceMethod ({ cls := "java/util/LinkedList", name := "removeLast", desc := "()Ljava/lang/Object;" } : Jvm.MethodName)) ∈ lw_all := lw_g (lw_at lw_m3 73 rfl) rfl
theorem q651 : (Jvm.Cond.selects "java/util/LinkedList" ({ cls := "java/util/LinkedList", name := "removeLast", desc := "()Ljava/lang/Object;" } : Jvm.MethodName) ({ cls := "java/util/LinkedList", name := "removeLast", desc := "()Ljava/lang/Object;" } : Jvm.MethodName)) ∈ lw_all := lw_g (lw_at lw_m3 74 rfl) rfl
theorem q652 : (Jvm.Cond.code ({ cls := "java/util/LinkedList", name := "removeLast", desc := "()Ljava/lang/Object;" } : Jvm.MethodName) prog_65_method_12_code (2 : Nat) (Option.some (Jvm.ClassFile.FieldType.object "java/lang/Object"))) ∈ lw_all := lw_g (lw_at lw_m3 75 rfl) rfl
theorem q653 : (Jvm.Cond.methodLink "java/util/LinkedList" (50 : Nat) ({ cls := "java/util/LinkedList", name := "unlinkLast", desc := "(Ljava/util/LinkedList$Node;)Ljava/lang/Object;" } : Jvm.MethodName)) ∈ lw_all := lw_g (lw_at lw_m3 76 rfl) rfl
theorem q654 : (Jvm.Cond.privateMethod ({ cls := "java/util/LinkedList", name := "unlinkLast", desc := "(Ljava/util/LinkedList$Node;)Ljava/lang/Object;" } : Jvm.MethodName)) ∈ lw_tbl := lw_at lw_m3 77 rfl
theorem q655 : (Jvm.Cond.instanceMethod ({ cls := "java/util/LinkedList", name := "unlinkLast", desc := "(Ljava/util/LinkedList$Node;)Ljava/lang/Object;" } : Jvm.MethodName)) ∈ lw_all := lw_g (lw_at lw_m3 78 rfl) rfl
theorem q656 : (Jvm.Cond.code ({ cls := "java/util/LinkedList", name := "unlinkLast", desc := "(Ljava/util/LinkedList$Node;)Ljava/lang/Object;" } : Jvm.MethodName) prog_65_method_7_code (4 : Nat) (Option.some (Jvm.ClassFile.FieldType.object "java/lang/Object"))) ∈ lw_all := lw_g (lw_at lw_m3 79 rfl) rfl
theorem q867 : (Jvm.Cond.selects "java/util/LinkedList" ({ cls := "java/util/AbstractList", name := "size", desc := "()I" } : Jvm.MethodName) ({ cls := "java/util/LinkedList", name := "size", desc := "()I" } : Jvm.MethodName)) ∈ lw_all := lw_g (lw_at lw_m4 50 rfl) rfl
theorem q907 : (Jvm.Cond.selects "java/util/LinkedList" ({ cls := "java/util/AbstractList", name := "get", desc := "(I)Ljava/lang/Object;" } : Jvm.MethodName) ({ cls := "java/util/LinkedList", name := "get", desc := "(I)Ljava/lang/Object;" } : Jvm.MethodName)) ∈ lw_all := lw_g (lw_at lw_m4 90 rfl) rfl
theorem q908 : (Jvm.Cond.instanceMethod ({ cls := "java/util/LinkedList", name := "get", desc := "(I)Ljava/lang/Object;" } : Jvm.MethodName)) ∈ lw_all := lw_g (lw_at lw_m4 91 rfl) rfl
theorem q909 : (Jvm.Cond.code ({ cls := "java/util/LinkedList", name := "get", desc := "(I)Ljava/lang/Object;" } : Jvm.MethodName) prog_65_method_22_code (2 : Nat) (Option.some (Jvm.ClassFile.FieldType.object "java/lang/Object"))) ∈ lw_all := lw_g (lw_at lw_m4 92 rfl) rfl
theorem q910 : (Jvm.Cond.methodLink "java/util/LinkedList" (90 : Nat) ({ cls := "java/util/LinkedList", name := "checkElementIndex", desc := "(I)V" } : Jvm.MethodName)) ∈ lw_all := lw_g (lw_at lw_m4 93 rfl) rfl
theorem q911 : (Jvm.Cond.privateMethod ({ cls := "java/util/LinkedList", name := "checkElementIndex", desc := "(I)V" } : Jvm.MethodName)) ∈ lw_tbl := lw_at lw_m4 94 rfl
theorem q912 : (Jvm.Cond.instanceMethod ({ cls := "java/util/LinkedList", name := "checkElementIndex", desc := "(I)V" } : Jvm.MethodName)) ∈ lw_all := lw_g (lw_at lw_m4 95 rfl) rfl
theorem q913 : (Jvm.Cond.code ({ cls := "java/util/LinkedList", name := "checkElementIndex", desc := "(I)V" } : Jvm.MethodName) prog_65_method_29_code (2 : Nat) (Option.none : Option Jvm.ClassFile.FieldType)) ∈ lw_all := lw_g (lw_at lw_m4 96 rfl) rfl
theorem q914 : (Jvm.Cond.methodLink "java/util/LinkedList" (115 : Nat) ({ cls := "java/util/LinkedList", name := "isElementIndex", desc := "(I)Z" } : Jvm.MethodName)) ∈ lw_all := lw_g (lw_at lw_m4 97 rfl) rfl
theorem q915 : (Jvm.Cond.privateMethod ({ cls := "java/util/LinkedList", name := "isElementIndex", desc := "(I)Z" } : Jvm.MethodName)) ∈ lw_tbl := lw_at lw_m4 98 rfl
theorem q916 : (Jvm.Cond.instanceMethod ({ cls := "java/util/LinkedList", name := "isElementIndex", desc := "(I)Z" } : Jvm.MethodName)) ∈ lw_all := lw_g (lw_at lw_m4 99 rfl) rfl
theorem q917 : (Jvm.Cond.code ({ cls := "java/util/LinkedList", name := "isElementIndex", desc := "(I)Z" } : Jvm.MethodName) prog_65_method_26_code (2 : Nat) (Option.some Jvm.ClassFile.FieldType.boolean)) ∈ lw_all := lw_g (lw_at lw_m4 100 rfl) rfl
theorem q918 : (Jvm.Cond.methodLink "java/util/LinkedList" (86 : Nat) ({ cls := "java/util/LinkedList", name := "node", desc := "(I)Ljava/util/LinkedList$Node;" } : Jvm.MethodName)) ∈ lw_all := lw_g (lw_at lw_m4 101 rfl) rfl
theorem q919 : (Jvm.Cond.instanceMethod ({ cls := "java/util/LinkedList", name := "node", desc := "(I)Ljava/util/LinkedList$Node;" } : Jvm.MethodName)) ∈ lw_all := lw_g (lw_at lw_m4 102 rfl) rfl
theorem q920 : (Jvm.Cond.selects "java/util/LinkedList" ({ cls := "java/util/LinkedList", name := "node", desc := "(I)Ljava/util/LinkedList$Node;" } : Jvm.MethodName) ({ cls := "java/util/LinkedList", name := "node", desc := "(I)Ljava/util/LinkedList$Node;" } : Jvm.MethodName)) ∈ lw_all := lw_g (lw_at lw_m4 103 rfl) rfl
theorem q921 : (Jvm.Cond.code ({ cls := "java/util/LinkedList", name := "node", desc := "(I)Ljava/util/LinkedList$Node;" } : Jvm.MethodName) prog_65_method_31_code (4 : Nat) (Option.some (Jvm.ClassFile.FieldType.object "java/util/LinkedList$Node"))) ∈ lw_all := lw_g (lw_at lw_m4 104 rfl) rfl
theorem q1596 : (Jvm.Cond.instanceMethod ({ cls := "java/util/LinkedList", name := "addLast", desc := "(Ljava/lang/Object;)V" } : Jvm.MethodName)) ∈ lw_all := lw_g (lw_at lw_m7 59 rfl) rfl
theorem q1597 : (Jvm.Cond.selects "java/util/LinkedList" ({ cls := "java/util/LinkedList", name := "addLast", desc := "(Ljava/lang/Object;)V" } : Jvm.MethodName) ({ cls := "java/util/LinkedList", name := "addLast", desc := "(Ljava/lang/Object;)V" } : Jvm.MethodName)) ∈ lw_all := lw_g (lw_at lw_m7 60 rfl) rfl
theorem q1598 : (Jvm.Cond.code ({ cls := "java/util/LinkedList", name := "addLast", desc := "(Ljava/lang/Object;)V" } : Jvm.MethodName) prog_65_method_14_code (2 : Nat) (Option.none : Option Jvm.ClassFile.FieldType)) ∈ lw_all := lw_g (lw_at lw_m7 61 rfl) rfl
theorem q1599 : (Jvm.Cond.methodLink "java/util/LinkedList" (57 : Nat) ({ cls := "java/util/LinkedList", name := "linkLast", desc := "(Ljava/lang/Object;)V" } : Jvm.MethodName)) ∈ lw_all := lw_g (lw_at lw_m7 62 rfl) rfl
theorem q1600 : (Jvm.Cond.instanceMethod ({ cls := "java/util/LinkedList", name := "linkLast", desc := "(Ljava/lang/Object;)V" } : Jvm.MethodName)) ∈ lw_all := lw_g (lw_at lw_m7 63 rfl) rfl
theorem q1601 : (Jvm.Cond.selects "java/util/LinkedList" ({ cls := "java/util/LinkedList", name := "linkLast", desc := "(Ljava/lang/Object;)V" } : Jvm.MethodName) ({ cls := "java/util/LinkedList", name := "linkLast", desc := "(Ljava/lang/Object;)V" } : Jvm.MethodName)) ∈ lw_all := lw_g (lw_at lw_m7 64 rfl) rfl
theorem q1602 : (Jvm.Cond.code ({ cls := "java/util/LinkedList", name := "linkLast", desc := "(Ljava/lang/Object;)V" } : Jvm.MethodName) prog_65_method_4_code (4 : Nat) (Option.none : Option Jvm.ClassFile.FieldType)) ∈ lw_all := lw_g (lw_at lw_m7 65 rfl) rfl
theorem q1603 : (Jvm.Cond.classLink "java/util/LinkedList" (22 : Nat) "java/util/LinkedList$Node") ∈ lw_all := lw_g (lw_at lw_m7 66 rfl) rfl
theorem q1605 : (Jvm.Cond.methodLink "java/util/LinkedList" (24 : Nat) ({ cls := "java/util/LinkedList$Node", name := "<init>", desc := "(Ljava/util/LinkedList$Node;Ljava/lang/Object;Ljava/util/LinkedList$Node;)V" } : Jvm.MethodName)) ∈ lw_all := lw_g (lw_at lw_m7 68 rfl) rfl
theorem q1611 : (Jvm.Cond.fieldLink "java/util/LinkedList" (39 : Nat) "java/util/LinkedList$Node" "item" "Ljava/lang/Object;") ∈ lw_all := lw_g (lw_at lw_m7 74 rfl) rfl
theorem q1614 : (Jvm.Cond.fieldLink "java/util/LinkedList" (36 : Nat) "java/util/LinkedList$Node" "next" "Ljava/util/LinkedList$Node;") ∈ lw_all := lw_g (lw_at lw_m7 77 rfl) rfl
theorem q1616 : (Jvm.Cond.fieldLink "java/util/LinkedList" (30 : Nat) "java/util/LinkedList$Node" "prev" "Ljava/util/LinkedList$Node;") ∈ lw_all := lw_g (lw_at lw_m7 79 rfl) rfl
theorem q1692 : (Jvm.Cond.castable "java/util/LinkedList" "java/lang/Iterable") ∈ lw_tbl := lw_at lw_m7 155 rfl
theorem q1693 : (Jvm.Cond.selects "java/util/LinkedList" ({ cls := "java/lang/Iterable", name := "iterator", desc := "()Ljava/util/Iterator;" } : Jvm.MethodName) ({ cls := "java/util/AbstractSequentialList", name := "iterator", desc := "()Ljava/util/Iterator;" } : Jvm.MethodName)) ∈ lw_all := lw_g (lw_at lw_m7 156 rfl) rfl
theorem q1694 : (Jvm.Cond.unhidden "java/util/LinkedList" "iterator" "()Ljava/util/Iterator;") ∈ lw_tbl := lw_at lw_m7 157 rfl
theorem q1701 : (Jvm.Cond.selects "java/util/LinkedList" ({ cls := "java/util/AbstractSequentialList", name := "listIterator", desc := "()Ljava/util/ListIterator;" } : Jvm.MethodName) ({ cls := "java/util/AbstractList", name := "listIterator", desc := "()Ljava/util/ListIterator;" } : Jvm.MethodName)) ∈ lw_all := lw_g (lw_at lw_m7 164 rfl) rfl
theorem q1728 : (Jvm.Cond.selects "java/util/LinkedList" ({ cls := "java/util/AbstractList", name := "listIterator", desc := "(I)Ljava/util/ListIterator;" } : Jvm.MethodName) ({ cls := "java/util/LinkedList", name := "listIterator", desc := "(I)Ljava/util/ListIterator;" } : Jvm.MethodName)) ∈ lw_all := lw_g (lw_at lw_m7 191 rfl) rfl
theorem q1729 : (Jvm.Cond.instanceMethod ({ cls := "java/util/LinkedList", name := "listIterator", desc := "(I)Ljava/util/ListIterator;" } : Jvm.MethodName)) ∈ lw_all := lw_g (lw_at lw_m7 192 rfl) rfl
theorem q1730 : (Jvm.Cond.code ({ cls := "java/util/LinkedList", name := "listIterator", desc := "(I)Ljava/util/ListIterator;" } : Jvm.MethodName) prog_65_method_49_code (2 : Nat) (Option.some (Jvm.ClassFile.FieldType.object "java/util/ListIterator"))) ∈ lw_all := lw_g (lw_at lw_m7 193 rfl) rfl
theorem q1731 : (Jvm.Cond.methodLink "java/util/LinkedList" (76 : Nat) ({ cls := "java/util/LinkedList", name := "checkPositionIndex", desc := "(I)V" } : Jvm.MethodName)) ∈ lw_all := lw_g (lw_at lw_m7 194 rfl) rfl
theorem q1732 : (Jvm.Cond.privateMethod ({ cls := "java/util/LinkedList", name := "checkPositionIndex", desc := "(I)V" } : Jvm.MethodName)) ∈ lw_tbl := lw_at lw_m7 195 rfl
theorem q1733 : (Jvm.Cond.instanceMethod ({ cls := "java/util/LinkedList", name := "checkPositionIndex", desc := "(I)V" } : Jvm.MethodName)) ∈ lw_all := lw_g (lw_at lw_m7 196 rfl) rfl
theorem q1734 : (Jvm.Cond.code ({ cls := "java/util/LinkedList", name := "checkPositionIndex", desc := "(I)V" } : Jvm.MethodName) prog_65_method_30_code (2 : Nat) (Option.none : Option Jvm.ClassFile.FieldType)) ∈ lw_all := lw_g (lw_at lw_m7 197 rfl) rfl
theorem q1735 : (Jvm.Cond.methodLink "java/util/LinkedList" (128 : Nat) ({ cls := "java/util/LinkedList", name := "isPositionIndex", desc := "(I)Z" } : Jvm.MethodName)) ∈ lw_all := lw_g (lw_at lw_m7 198 rfl) rfl
theorem q1736 : (Jvm.Cond.privateMethod ({ cls := "java/util/LinkedList", name := "isPositionIndex", desc := "(I)Z" } : Jvm.MethodName)) ∈ lw_tbl := lw_at lw_m7 199 rfl
theorem q1737 : (Jvm.Cond.instanceMethod ({ cls := "java/util/LinkedList", name := "isPositionIndex", desc := "(I)Z" } : Jvm.MethodName)) ∈ lw_all := lw_g (lw_at lw_m7 200 rfl) rfl
theorem q1738 : (Jvm.Cond.code ({ cls := "java/util/LinkedList", name := "isPositionIndex", desc := "(I)Z" } : Jvm.MethodName) prog_65_method_27_code (2 : Nat) (Option.some Jvm.ClassFile.FieldType.boolean)) ∈ lw_all := lw_g (lw_at lw_m7 201 rfl) rfl
theorem q1739 : (Jvm.Cond.classLink "java/util/LinkedList" (150 : Nat) "java/util/LinkedList$ListItr") ∈ lw_all := lw_g (lw_at lw_m7 202 rfl) rfl
theorem q1741 : (Jvm.Cond.methodLink "java/util/LinkedList" (152 : Nat) ({ cls := "java/util/LinkedList$ListItr", name := "<init>", desc := "(Ljava/util/LinkedList;I)V" } : Jvm.MethodName)) ∈ lw_all := lw_g (lw_at lw_m7 204 rfl) rfl
theorem q2947 : (Jvm.Cond.castable "java/util/LinkedList" "java/lang/Object") ∈ lw_tbl := lw_at lw_m12 210 rfl
theorem in_J3 : ∀ w ∈ wsJ30, w ∈ lw_all := lw_in wsJ30 [196, 190, 192, 194] (by decide +kernel) (by decide +kernel)
/-! java/lang/Object -/
set_option maxRecDepth 100000
def RJ30 : String := "java/lang/Object"
abbrev cJ30_init : ByteArray := object_method_1_code
def yJ30_init : MethodName := ⟨RJ30, "<init>", "()V"⟩
theorem dJ30_init_0 : decode cJ30_init 0 = .ok (.return_, 1) := by decide +kernel
theorem q161 : (Jvm.Cond.instanceMethod ({ cls := "java/lang/Object", name := "<init>", desc := "()V" } : Jvm.MethodName)) ∈ lw_all := lw_g (lw_at lw_m1 64 rfl) rfl
theorem q162 : (Jvm.Cond.code ({ cls := "java/lang/Object", name := "<init>", desc := "()V" } : Jvm.MethodName) object_method_1_code (1 : Nat) (Option.none : Option Jvm.ClassFile.FieldType)) ∈ lw_all := lw_g (lw_at lw_m1 65 rfl) rfl
theorem q423 : (Jvm.Cond.instanceMethod ({ cls := "java/lang/Object", name := "getClass", desc := "()Ljava/lang/Class;" } : Jvm.MethodName)) ∈ lw_all := lw_g (lw_at lw_m2 86 rfl) rfl
theorem q424 : (Jvm.Cond.sameMethod "java/lang/Object" "java/lang/Object" "getClass" "()Ljava/lang/Class;") ∈ lw_all := lw_g (lw_at lw_m2 87 rfl) rfl
theorem q460 : (Jvm.Cond.native ({ cls := "java/lang/Object", name := "getClass", desc := "()Ljava/lang/Class;" } : Jvm.MethodName)) ∈ lw_all := lw_g (lw_at lw_m2 123 rfl) rfl
theorem q1025 : (Jvm.Cond.native ({ cls := "java/lang/Object", name := "clone", desc := "()Ljava/lang/Object;" } : Jvm.MethodName)) ∈ lw_all := lw_g (lw_at lw_m4 208 rfl) rfl
theorem q1026 : (Jvm.Cond.instanceMethod ({ cls := "java/lang/Object", name := "clone", desc := "()Ljava/lang/Object;" } : Jvm.MethodName)) ∈ lw_all := lw_g (lw_at lw_m4 209 rfl) rfl
theorem q2934 : (Jvm.Cond.initialized "java/lang/Object") ∈ lw_all := lw_g (lw_at lw_m12 197 rfl) rfl
theorem q2982 : (Jvm.Cond.declares ({ cls := "java/lang/Object", name := "getClass", desc := "()Ljava/lang/Class;" } : Jvm.MethodName)) ∈ lw_tbl := lw_at lw_m13 5 rfl
/-! java/util/ArrayList -/
set_option maxRecDepth 100000
def RJ4 : String := "java/util/ArrayList"
def TJ4 : u_T := fun k => match k with
  | 0 => ("java/util/AbstractList", "modCount", "I", false)
  | 1 => ("java/util/ArrayList", "elementData", "[Ljava/lang/Object;", false)
  | _ => ("java/util/ArrayList", "size", "I", false)
def tyJ4 : Nat → FieldType := fun k => match k with
  | 0 => .int
  | 1 => .array (.object "java/lang/Object")
  | _ => .int
abbrev wsJ40 : List Cond := u_ws RJ4 TJ4 3
theorem nmJ4 : ∀ a, a < 3 → ∀ b, b < 3 → a ≠ b → (TJ4 a).2.1 ≠ (TJ4 b).2.1 := by decide +kernel
theorem tyJ4_ok : ∀ k, k < 3 → parseFieldDescriptor (TJ4 k).2.2.1 = some (tyJ4 k) := by decide +kernel
abbrev cJ4_init : ByteArray := prog_57_method_2_code
def yJ4_init : MethodName := ⟨RJ4, "<init>", "()V"⟩
def dkwJ4_init_0 : List UInt8 := [42, 183, 0, 1, 42, 178, 0, 39, 181, 0, 9, 177]
abbrev dktJ4_init_0 : List UInt8 := dkwJ4_init_0 ++ []
theorem dksJ4_init_0 : cJ4_init.data.toList.drop 0 = dktJ4_init_0 := by decide +kernel
theorem dJ4_init_0 : decode cJ4_init 0 = .ok (.aload_n 0, 1) := dk_42 (dk_at dksJ4_init_0 0 rfl rfl)
theorem dJ4_init_1 : decode cJ4_init 1 = .ok (.invokespecial 1, 3) := dk_183 0 1 (dk_at dksJ4_init_0 1 rfl rfl)
theorem dJ4_init_4 : decode cJ4_init 4 = .ok (.aload_n 0, 1) := dk_42 (dk_at dksJ4_init_0 4 rfl rfl)
theorem dJ4_init_5 : decode cJ4_init 5 = .ok (.getstatic 39, 3) := dk_178 0 39 (dk_at dksJ4_init_0 5 rfl rfl)
theorem dJ4_init_8 : decode cJ4_init 8 = .ok (.putfield 9, 3) := dk_181 0 9 (dk_at dksJ4_init_0 8 rfl rfl)
theorem dJ4_init_11 : decode cJ4_init 11 = .ok (.return_, 1) := dk_177 (dk_at dksJ4_init_0 11 rfl rfl)
abbrev cJ4_add : ByteArray := prog_57_method_25_code
def yJ4_add : MethodName := ⟨RJ4, "add", "(Ljava/lang/Object;)Z"⟩
def dkwJ4_add_1 : List UInt8 := [172]
abbrev dktJ4_add_1 : List UInt8 := dkwJ4_add_1 ++ []
def dkwJ4_add_0 : List UInt8 := [42, 89, 180, 0, 63, 4, 96, 181, 0, 63, 42, 43, 42, 180, 0, 9, 42, 180, 0, 48, 182, 0, 131, 4]
abbrev dktJ4_add_0 : List UInt8 := dkwJ4_add_0 ++ dktJ4_add_1
theorem dksJ4_add_0 : cJ4_add.data.toList.drop 0 = dktJ4_add_0 := by decide +kernel
theorem dksJ4_add_1 : cJ4_add.data.toList.drop 24 = dktJ4_add_1 := dk_seg dksJ4_add_0 24 rfl rfl
theorem dJ4_add_0 : decode cJ4_add 0 = .ok (.aload_n 0, 1) := dk_42 (dk_at dksJ4_add_0 0 rfl rfl)
theorem dJ4_add_1 : decode cJ4_add 1 = .ok (.dup, 1) := dk_89 (dk_at dksJ4_add_0 1 rfl rfl)
theorem dJ4_add_2 : decode cJ4_add 2 = .ok (.getfield 63, 3) := dk_180 0 63 (dk_at dksJ4_add_0 2 rfl rfl)
theorem dJ4_add_5 : decode cJ4_add 5 = .ok (.iconst 1, 1) := dk_4 (dk_at dksJ4_add_0 5 rfl rfl)
theorem dJ4_add_6 : decode cJ4_add 6 = .ok (.iadd, 1) := dk_96 (dk_at dksJ4_add_0 6 rfl rfl)
theorem dJ4_add_7 : decode cJ4_add 7 = .ok (.putfield 63, 3) := dk_181 0 63 (dk_at dksJ4_add_0 7 rfl rfl)
theorem dJ4_add_10 : decode cJ4_add 10 = .ok (.aload_n 0, 1) := dk_42 (dk_at dksJ4_add_0 10 rfl rfl)
theorem dJ4_add_11 : decode cJ4_add 11 = .ok (.aload_n 1, 1) := dk_43 (dk_at dksJ4_add_0 11 rfl rfl)
theorem dJ4_add_12 : decode cJ4_add 12 = .ok (.aload_n 0, 1) := dk_42 (dk_at dksJ4_add_0 12 rfl rfl)
theorem dJ4_add_13 : decode cJ4_add 13 = .ok (.getfield 9, 3) := dk_180 0 9 (dk_at dksJ4_add_0 13 rfl rfl)
theorem dJ4_add_16 : decode cJ4_add 16 = .ok (.aload_n 0, 1) := dk_42 (dk_at dksJ4_add_0 16 rfl rfl)
theorem dJ4_add_17 : decode cJ4_add 17 = .ok (.getfield 48, 3) := dk_180 0 48 (dk_at dksJ4_add_0 17 rfl rfl)
theorem dJ4_add_20 : decode cJ4_add 20 = .ok (.invokevirtual 131, 3) := dk_182 0 131 (dk_at dksJ4_add_0 20 rfl rfl)
theorem dJ4_add_23 : decode cJ4_add 23 = .ok (.iconst 1, 1) := dk_4 (dk_at dksJ4_add_0 23 rfl rfl)
theorem dJ4_add_24 : decode cJ4_add 24 = .ok (.ireturn, 1) := dk_172 (dk_at dksJ4_add_1 0 rfl rfl)
abbrev cJ4_add_2 : ByteArray := prog_57_method_24_code
def yJ4_add_2 : MethodName := ⟨RJ4, "add", "(Ljava/lang/Object;[Ljava/lang/Object;I)V"⟩
def dkwJ4_add_2_0 : List UInt8 := [29, 44, 190, 160, 0, 8, 42, 182, 0, 129, 77, 44, 29, 43, 83, 42, 29, 4, 96, 181, 0, 48, 177]
abbrev dktJ4_add_2_0 : List UInt8 := dkwJ4_add_2_0 ++ []
theorem dksJ4_add_2_0 : cJ4_add_2.data.toList.drop 0 = dktJ4_add_2_0 := by decide +kernel
theorem dJ4_add_2_0 : decode cJ4_add_2 0 = .ok (.iload_n 3, 1) := dk_29 (dk_at dksJ4_add_2_0 0 rfl rfl)
theorem dJ4_add_2_1 : decode cJ4_add_2 1 = .ok (.aload_n 2, 1) := dk_44 (dk_at dksJ4_add_2_0 1 rfl rfl)
theorem dJ4_add_2_2 : decode cJ4_add_2 2 = .ok (.arraylength, 1) := dk_190 (dk_at dksJ4_add_2_0 2 rfl rfl)
theorem dJ4_add_2_3 : decode cJ4_add_2 3 = .ok (.if_icmp .ne 8, 3) := dk_160 0 8 (dk_at dksJ4_add_2_0 3 rfl rfl)
theorem dJ4_add_2_6 : decode cJ4_add_2 6 = .ok (.aload_n 0, 1) := dk_42 (dk_at dksJ4_add_2_0 6 rfl rfl)
theorem dJ4_add_2_7 : decode cJ4_add_2 7 = .ok (.invokevirtual 129, 3) := dk_182 0 129 (dk_at dksJ4_add_2_0 7 rfl rfl)
theorem dJ4_add_2_10 : decode cJ4_add_2 10 = .ok (.astore_n 2, 1) := dk_77 (dk_at dksJ4_add_2_0 10 rfl rfl)
theorem dJ4_add_2_11 : decode cJ4_add_2 11 = .ok (.aload_n 2, 1) := dk_44 (dk_at dksJ4_add_2_0 11 rfl rfl)
theorem dJ4_add_2_12 : decode cJ4_add_2 12 = .ok (.iload_n 3, 1) := dk_29 (dk_at dksJ4_add_2_0 12 rfl rfl)
theorem dJ4_add_2_13 : decode cJ4_add_2 13 = .ok (.aload_n 1, 1) := dk_43 (dk_at dksJ4_add_2_0 13 rfl rfl)
theorem dJ4_add_2_14 : decode cJ4_add_2 14 = .ok (.aastore, 1) := dk_83 (dk_at dksJ4_add_2_0 14 rfl rfl)
theorem dJ4_add_2_15 : decode cJ4_add_2 15 = .ok (.aload_n 0, 1) := dk_42 (dk_at dksJ4_add_2_0 15 rfl rfl)
theorem dJ4_add_2_16 : decode cJ4_add_2 16 = .ok (.iload_n 3, 1) := dk_29 (dk_at dksJ4_add_2_0 16 rfl rfl)
theorem dJ4_add_2_17 : decode cJ4_add_2 17 = .ok (.iconst 1, 1) := dk_4 (dk_at dksJ4_add_2_0 17 rfl rfl)
theorem dJ4_add_2_18 : decode cJ4_add_2 18 = .ok (.iadd, 1) := dk_96 (dk_at dksJ4_add_2_0 18 rfl rfl)
theorem dJ4_add_2_19 : decode cJ4_add_2 19 = .ok (.putfield 48, 3) := dk_181 0 48 (dk_at dksJ4_add_2_0 19 rfl rfl)
theorem dJ4_add_2_22 : decode cJ4_add_2 22 = .ok (.return_, 1) := dk_177 (dk_at dksJ4_add_2_0 22 rfl rfl)
abbrev cJ4_grow : ByteArray := prog_57_method_7_code
def yJ4_grow : MethodName := ⟨RJ4, "grow", "()[Ljava/lang/Object;"⟩
def dkwJ4_grow_0 : List UInt8 := [42, 42, 180, 0, 48, 4, 96, 182, 0, 69, 176]
abbrev dktJ4_grow_0 : List UInt8 := dkwJ4_grow_0 ++ []
theorem dksJ4_grow_0 : cJ4_grow.data.toList.drop 0 = dktJ4_grow_0 := by decide +kernel
theorem dJ4_grow_0 : decode cJ4_grow 0 = .ok (.aload_n 0, 1) := dk_42 (dk_at dksJ4_grow_0 0 rfl rfl)
theorem dJ4_grow_1 : decode cJ4_grow 1 = .ok (.aload_n 0, 1) := dk_42 (dk_at dksJ4_grow_0 1 rfl rfl)
theorem dJ4_grow_2 : decode cJ4_grow 2 = .ok (.getfield 48, 3) := dk_180 0 48 (dk_at dksJ4_grow_0 2 rfl rfl)
theorem dJ4_grow_5 : decode cJ4_grow 5 = .ok (.iconst 1, 1) := dk_4 (dk_at dksJ4_grow_0 5 rfl rfl)
theorem dJ4_grow_6 : decode cJ4_grow 6 = .ok (.iadd, 1) := dk_96 (dk_at dksJ4_grow_0 6 rfl rfl)
theorem dJ4_grow_7 : decode cJ4_grow 7 = .ok (.invokevirtual 69, 3) := dk_182 0 69 (dk_at dksJ4_grow_0 7 rfl rfl)
theorem dJ4_grow_10 : decode cJ4_grow 10 = .ok (.areturn, 1) := dk_176 (dk_at dksJ4_grow_0 10 rfl rfl)
abbrev cJ4_grow_2 : ByteArray := prog_57_method_6_code
def yJ4_grow_2 : MethodName := ⟨RJ4, "grow", "(I)[Ljava/lang/Object;"⟩
def dkwJ4_grow_2_2 : List UInt8 := [27, 184, 0, 79, 189, 0, 7, 90, 181, 0, 9, 176]
abbrev dktJ4_grow_2_2 : List UInt8 := dkwJ4_grow_2_2 ++ []
def dkwJ4_grow_2_1 : List UInt8 := [28, 4, 122, 184, 0, 73, 62, 42, 42, 180, 0, 9, 29, 184, 0, 66, 90, 181, 0, 9, 176, 42, 16, 10]
abbrev dktJ4_grow_2_1 : List UInt8 := dkwJ4_grow_2_1 ++ dktJ4_grow_2_2
def dkwJ4_grow_2_0 : List UInt8 := [42, 180, 0, 9, 190, 61, 28, 157, 0, 13, 42, 180, 0, 9, 178, 0, 39, 165, 0, 28, 28, 27, 28, 100]
abbrev dktJ4_grow_2_0 : List UInt8 := dkwJ4_grow_2_0 ++ dktJ4_grow_2_1
theorem dksJ4_grow_2_0 : cJ4_grow_2.data.toList.drop 0 = dktJ4_grow_2_0 := by decide +kernel
theorem dksJ4_grow_2_1 : cJ4_grow_2.data.toList.drop 24 = dktJ4_grow_2_1 := dk_seg dksJ4_grow_2_0 24 rfl rfl
theorem dksJ4_grow_2_2 : cJ4_grow_2.data.toList.drop 48 = dktJ4_grow_2_2 := dk_seg dksJ4_grow_2_1 24 rfl rfl
theorem dJ4_grow_2_0 : decode cJ4_grow_2 0 = .ok (.aload_n 0, 1) := dk_42 (dk_at dksJ4_grow_2_0 0 rfl rfl)
theorem dJ4_grow_2_1 : decode cJ4_grow_2 1 = .ok (.getfield 9, 3) := dk_180 0 9 (dk_at dksJ4_grow_2_0 1 rfl rfl)
theorem dJ4_grow_2_4 : decode cJ4_grow_2 4 = .ok (.arraylength, 1) := dk_190 (dk_at dksJ4_grow_2_0 4 rfl rfl)
theorem dJ4_grow_2_5 : decode cJ4_grow_2 5 = .ok (.istore_n 2, 1) := dk_61 (dk_at dksJ4_grow_2_0 5 rfl rfl)
theorem dJ4_grow_2_6 : decode cJ4_grow_2 6 = .ok (.iload_n 2, 1) := dk_28 (dk_at dksJ4_grow_2_0 6 rfl rfl)
theorem dJ4_grow_2_7 : decode cJ4_grow_2 7 = .ok (.ifCond .gt 13, 3) := dk_157 0 13 (dk_at dksJ4_grow_2_0 7 rfl rfl)
theorem dJ4_grow_2_10 : decode cJ4_grow_2 10 = .ok (.aload_n 0, 1) := dk_42 (dk_at dksJ4_grow_2_0 10 rfl rfl)
theorem dJ4_grow_2_11 : decode cJ4_grow_2 11 = .ok (.getfield 9, 3) := dk_180 0 9 (dk_at dksJ4_grow_2_0 11 rfl rfl)
theorem dJ4_grow_2_14 : decode cJ4_grow_2 14 = .ok (.getstatic 39, 3) := dk_178 0 39 (dk_at dksJ4_grow_2_0 14 rfl rfl)
theorem dJ4_grow_2_17 : decode cJ4_grow_2 17 = .ok (.if_acmp .eq 28, 3) := dk_165 0 28 (dk_at dksJ4_grow_2_0 17 rfl rfl)
theorem dJ4_grow_2_20 : decode cJ4_grow_2 20 = .ok (.iload_n 2, 1) := dk_28 (dk_at dksJ4_grow_2_0 20 rfl rfl)
theorem dJ4_grow_2_21 : decode cJ4_grow_2 21 = .ok (.iload_n 1, 1) := dk_27 (dk_at dksJ4_grow_2_0 21 rfl rfl)
theorem dJ4_grow_2_22 : decode cJ4_grow_2 22 = .ok (.iload_n 2, 1) := dk_28 (dk_at dksJ4_grow_2_0 22 rfl rfl)
theorem dJ4_grow_2_23 : decode cJ4_grow_2 23 = .ok (.isub, 1) := dk_100 (dk_at dksJ4_grow_2_0 23 rfl rfl)
theorem dJ4_grow_2_24 : decode cJ4_grow_2 24 = .ok (.iload_n 2, 1) := dk_28 (dk_at dksJ4_grow_2_1 0 rfl rfl)
theorem dJ4_grow_2_25 : decode cJ4_grow_2 25 = .ok (.iconst 1, 1) := dk_4 (dk_at dksJ4_grow_2_1 1 rfl rfl)
theorem dJ4_grow_2_26 : decode cJ4_grow_2 26 = .ok (.ishr, 1) := dk_122 (dk_at dksJ4_grow_2_1 2 rfl rfl)
theorem dJ4_grow_2_27 : decode cJ4_grow_2 27 = .ok (.invokestatic 73, 3) := dk_184 0 73 (dk_at dksJ4_grow_2_1 3 rfl rfl)
theorem dJ4_grow_2_30 : decode cJ4_grow_2 30 = .ok (.istore_n 3, 1) := dk_62 (dk_at dksJ4_grow_2_1 6 rfl rfl)
theorem dJ4_grow_2_31 : decode cJ4_grow_2 31 = .ok (.aload_n 0, 1) := dk_42 (dk_at dksJ4_grow_2_1 7 rfl rfl)
theorem dJ4_grow_2_32 : decode cJ4_grow_2 32 = .ok (.aload_n 0, 1) := dk_42 (dk_at dksJ4_grow_2_1 8 rfl rfl)
theorem dJ4_grow_2_33 : decode cJ4_grow_2 33 = .ok (.getfield 9, 3) := dk_180 0 9 (dk_at dksJ4_grow_2_1 9 rfl rfl)
theorem dJ4_grow_2_36 : decode cJ4_grow_2 36 = .ok (.iload_n 3, 1) := dk_29 (dk_at dksJ4_grow_2_1 12 rfl rfl)
theorem dJ4_grow_2_37 : decode cJ4_grow_2 37 = .ok (.invokestatic 66, 3) := dk_184 0 66 (dk_at dksJ4_grow_2_1 13 rfl rfl)
theorem dJ4_grow_2_40 : decode cJ4_grow_2 40 = .ok (.dup_x1, 1) := dk_90 (dk_at dksJ4_grow_2_1 16 rfl rfl)
theorem dJ4_grow_2_41 : decode cJ4_grow_2 41 = .ok (.putfield 9, 3) := dk_181 0 9 (dk_at dksJ4_grow_2_1 17 rfl rfl)
theorem dJ4_grow_2_44 : decode cJ4_grow_2 44 = .ok (.areturn, 1) := dk_176 (dk_at dksJ4_grow_2_1 20 rfl rfl)
theorem dJ4_grow_2_45 : decode cJ4_grow_2 45 = .ok (.aload_n 0, 1) := dk_42 (dk_at dksJ4_grow_2_1 21 rfl rfl)
theorem dJ4_grow_2_46 : decode cJ4_grow_2 46 = .ok (.bipush 10, 2) := dk_16 10 (dk_at dksJ4_grow_2_1 22 rfl rfl)
theorem dJ4_grow_2_48 : decode cJ4_grow_2 48 = .ok (.iload_n 1, 1) := dk_27 (dk_at dksJ4_grow_2_2 0 rfl rfl)
theorem dJ4_grow_2_49 : decode cJ4_grow_2 49 = .ok (.invokestatic 79, 3) := dk_184 0 79 (dk_at dksJ4_grow_2_2 1 rfl rfl)
theorem dJ4_grow_2_52 : decode cJ4_grow_2 52 = .ok (.anewarray 7, 3) := dk_189 0 7 (dk_at dksJ4_grow_2_2 4 rfl rfl)
theorem dJ4_grow_2_55 : decode cJ4_grow_2 55 = .ok (.dup_x1, 1) := dk_90 (dk_at dksJ4_grow_2_2 7 rfl rfl)
theorem dJ4_grow_2_56 : decode cJ4_grow_2 56 = .ok (.putfield 9, 3) := dk_181 0 9 (dk_at dksJ4_grow_2_2 8 rfl rfl)
theorem dJ4_grow_2_59 : decode cJ4_grow_2 59 = .ok (.areturn, 1) := dk_176 (dk_at dksJ4_grow_2_2 11 rfl rfl)
abbrev cJ4_clear : ByteArray := prog_57_method_40_code
def yJ4_clear : MethodName := ⟨RJ4, "clear", "()V"⟩
def dkwJ4_clear_1 : List UInt8 := [181, 0, 48, 62, 29, 28, 162, 0, 13, 43, 29, 1, 83, 132, 3, 1, 167, 255, 244, 177]
abbrev dktJ4_clear_1 : List UInt8 := dkwJ4_clear_1 ++ []
def dkwJ4_clear_0 : List UInt8 := [42, 89, 180, 0, 63, 4, 96, 181, 0, 63, 42, 180, 0, 9, 76, 42, 180, 0, 48, 61, 42, 3, 90]
abbrev dktJ4_clear_0 : List UInt8 := dkwJ4_clear_0 ++ dktJ4_clear_1
theorem dksJ4_clear_0 : cJ4_clear.data.toList.drop 0 = dktJ4_clear_0 := by decide +kernel
theorem dksJ4_clear_1 : cJ4_clear.data.toList.drop 23 = dktJ4_clear_1 := dk_seg dksJ4_clear_0 23 rfl rfl
theorem dJ4_clear_0 : decode cJ4_clear 0 = .ok (.aload_n 0, 1) := dk_42 (dk_at dksJ4_clear_0 0 rfl rfl)
theorem dJ4_clear_1 : decode cJ4_clear 1 = .ok (.dup, 1) := dk_89 (dk_at dksJ4_clear_0 1 rfl rfl)
theorem dJ4_clear_2 : decode cJ4_clear 2 = .ok (.getfield 63, 3) := dk_180 0 63 (dk_at dksJ4_clear_0 2 rfl rfl)
theorem dJ4_clear_5 : decode cJ4_clear 5 = .ok (.iconst 1, 1) := dk_4 (dk_at dksJ4_clear_0 5 rfl rfl)
theorem dJ4_clear_6 : decode cJ4_clear 6 = .ok (.iadd, 1) := dk_96 (dk_at dksJ4_clear_0 6 rfl rfl)
theorem dJ4_clear_7 : decode cJ4_clear 7 = .ok (.putfield 63, 3) := dk_181 0 63 (dk_at dksJ4_clear_0 7 rfl rfl)
theorem dJ4_clear_10 : decode cJ4_clear 10 = .ok (.aload_n 0, 1) := dk_42 (dk_at dksJ4_clear_0 10 rfl rfl)
theorem dJ4_clear_11 : decode cJ4_clear 11 = .ok (.getfield 9, 3) := dk_180 0 9 (dk_at dksJ4_clear_0 11 rfl rfl)
theorem dJ4_clear_14 : decode cJ4_clear 14 = .ok (.astore_n 1, 1) := dk_76 (dk_at dksJ4_clear_0 14 rfl rfl)
theorem dJ4_clear_15 : decode cJ4_clear 15 = .ok (.aload_n 0, 1) := dk_42 (dk_at dksJ4_clear_0 15 rfl rfl)
theorem dJ4_clear_16 : decode cJ4_clear 16 = .ok (.getfield 48, 3) := dk_180 0 48 (dk_at dksJ4_clear_0 16 rfl rfl)
theorem dJ4_clear_19 : decode cJ4_clear 19 = .ok (.istore_n 2, 1) := dk_61 (dk_at dksJ4_clear_0 19 rfl rfl)
theorem dJ4_clear_20 : decode cJ4_clear 20 = .ok (.aload_n 0, 1) := dk_42 (dk_at dksJ4_clear_0 20 rfl rfl)
theorem dJ4_clear_21 : decode cJ4_clear 21 = .ok (.iconst 0, 1) := dk_3 (dk_at dksJ4_clear_0 21 rfl rfl)
theorem dJ4_clear_22 : decode cJ4_clear 22 = .ok (.dup_x1, 1) := dk_90 (dk_at dksJ4_clear_0 22 rfl rfl)
theorem dJ4_clear_23 : decode cJ4_clear 23 = .ok (.putfield 48, 3) := dk_181 0 48 (dk_at dksJ4_clear_1 0 rfl rfl)
theorem dJ4_clear_26 : decode cJ4_clear 26 = .ok (.istore_n 3, 1) := dk_62 (dk_at dksJ4_clear_1 3 rfl rfl)
theorem dJ4_clear_27 : decode cJ4_clear 27 = .ok (.iload_n 3, 1) := dk_29 (dk_at dksJ4_clear_1 4 rfl rfl)
theorem dJ4_clear_28 : decode cJ4_clear 28 = .ok (.iload_n 2, 1) := dk_28 (dk_at dksJ4_clear_1 5 rfl rfl)
theorem dJ4_clear_29 : decode cJ4_clear 29 = .ok (.if_icmp .ge 13, 3) := dk_162 0 13 (dk_at dksJ4_clear_1 6 rfl rfl)
theorem dJ4_clear_32 : decode cJ4_clear 32 = .ok (.aload_n 1, 1) := dk_43 (dk_at dksJ4_clear_1 9 rfl rfl)
theorem dJ4_clear_33 : decode cJ4_clear 33 = .ok (.iload_n 3, 1) := dk_29 (dk_at dksJ4_clear_1 10 rfl rfl)
theorem dJ4_clear_34 : decode cJ4_clear 34 = .ok (.aconst_null, 1) := dk_1 (dk_at dksJ4_clear_1 11 rfl rfl)
theorem dJ4_clear_35 : decode cJ4_clear 35 = .ok (.aastore, 1) := dk_83 (dk_at dksJ4_clear_1 12 rfl rfl)
theorem dJ4_clear_36 : decode cJ4_clear 36 = .ok (.iinc 3 1, 3) := dk_132 3 1 (dk_at dksJ4_clear_1 13 rfl rfl)
theorem dJ4_clear_39 : decode cJ4_clear 39 = .ok (.goto (-12), 3) := dk_167 255 244 (dk_at dksJ4_clear_1 16 rfl rfl)
theorem dJ4_clear_42 : decode cJ4_clear 42 = .ok (.return_, 1) := dk_177 (dk_at dksJ4_clear_1 19 rfl rfl)
abbrev cJ4_size : ByteArray := prog_57_method_8_code
def yJ4_size : MethodName := ⟨RJ4, "size", "()I"⟩
theorem dJ4_size_0 : decode cJ4_size 0 = .ok (.aload_n 0, 1) := by decide +kernel
theorem dJ4_size_1 : decode cJ4_size 1 = .ok (.getfield 48, 3) := by decide +kernel
theorem dJ4_size_4 : decode cJ4_size 4 = .ok (.ireturn, 1) := by decide +kernel
abbrev cJ4_get : ByteArray := prog_57_method_20_code
def yJ4_get : MethodName := ⟨RJ4, "get", "(I)Ljava/lang/Object;"⟩
def dkwJ4_get_0 : List UInt8 := [27, 42, 180, 0, 48, 184, 0, 118, 87, 42, 27, 182, 0, 123, 176]
abbrev dktJ4_get_0 : List UInt8 := dkwJ4_get_0 ++ []
theorem dksJ4_get_0 : cJ4_get.data.toList.drop 0 = dktJ4_get_0 := by decide +kernel
theorem dJ4_get_0 : decode cJ4_get 0 = .ok (.iload_n 1, 1) := dk_27 (dk_at dksJ4_get_0 0 rfl rfl)
theorem dJ4_get_1 : decode cJ4_get 1 = .ok (.aload_n 0, 1) := dk_42 (dk_at dksJ4_get_0 1 rfl rfl)
theorem dJ4_get_2 : decode cJ4_get 2 = .ok (.getfield 48, 3) := dk_180 0 48 (dk_at dksJ4_get_0 2 rfl rfl)
theorem dJ4_get_5 : decode cJ4_get 5 = .ok (.invokestatic 118, 3) := dk_184 0 118 (dk_at dksJ4_get_0 5 rfl rfl)
theorem dJ4_get_8 : decode cJ4_get 8 = .ok (.pop, 1) := dk_87 (dk_at dksJ4_get_0 8 rfl rfl)
theorem dJ4_get_9 : decode cJ4_get 9 = .ok (.aload_n 0, 1) := dk_42 (dk_at dksJ4_get_0 9 rfl rfl)
theorem dJ4_get_10 : decode cJ4_get 10 = .ok (.iload_n 1, 1) := dk_27 (dk_at dksJ4_get_0 10 rfl rfl)
theorem dJ4_get_11 : decode cJ4_get 11 = .ok (.invokevirtual 123, 3) := dk_182 0 123 (dk_at dksJ4_get_0 11 rfl rfl)
theorem dJ4_get_14 : decode cJ4_get 14 = .ok (.areturn, 1) := dk_176 (dk_at dksJ4_get_0 14 rfl rfl)
abbrev cJ4_elementData : ByteArray := prog_57_method_18_code
def yJ4_elementData : MethodName := ⟨RJ4, "elementData", "(I)Ljava/lang/Object;"⟩
def dkwJ4_elementData_0 : List UInt8 := [42, 180, 0, 9, 27, 50, 176]
abbrev dktJ4_elementData_0 : List UInt8 := dkwJ4_elementData_0 ++ []
theorem dksJ4_elementData_0 : cJ4_elementData.data.toList.drop 0 = dktJ4_elementData_0 := by decide +kernel
theorem dJ4_elementData_0 : decode cJ4_elementData 0 = .ok (.aload_n 0, 1) := dk_42 (dk_at dksJ4_elementData_0 0 rfl rfl)
theorem dJ4_elementData_1 : decode cJ4_elementData 1 = .ok (.getfield 9, 3) := dk_180 0 9 (dk_at dksJ4_elementData_0 1 rfl rfl)
theorem dJ4_elementData_4 : decode cJ4_elementData 4 = .ok (.iload_n 1, 1) := dk_27 (dk_at dksJ4_elementData_0 4 rfl rfl)
theorem dJ4_elementData_5 : decode cJ4_elementData 5 = .ok (.aaload, 1) := dk_50 (dk_at dksJ4_elementData_0 5 rfl rfl)
theorem dJ4_elementData_6 : decode cJ4_elementData 6 = .ok (.areturn, 1) := dk_176 (dk_at dksJ4_elementData_0 6 rfl rfl)
abbrev cJ4_iterator : ByteArray := prog_57_method_55_code
def yJ4_iterator : MethodName := ⟨RJ4, "iterator", "()Ljava/util/Iterator;"⟩
def dkwJ4_iterator_0 : List UInt8 := [187, 1, 11, 89, 42, 183, 1, 13, 176]
abbrev dktJ4_iterator_0 : List UInt8 := dkwJ4_iterator_0 ++ []
theorem dksJ4_iterator_0 : cJ4_iterator.data.toList.drop 0 = dktJ4_iterator_0 := by decide +kernel
theorem dJ4_iterator_0 : decode cJ4_iterator 0 = .ok (.new 267, 3) := dk_187 1 11 (dk_at dksJ4_iterator_0 0 rfl rfl)
theorem dJ4_iterator_3 : decode cJ4_iterator 3 = .ok (.dup, 1) := dk_89 (dk_at dksJ4_iterator_0 3 rfl rfl)
theorem dJ4_iterator_4 : decode cJ4_iterator 4 = .ok (.aload_n 0, 1) := dk_42 (dk_at dksJ4_iterator_0 4 rfl rfl)
theorem dJ4_iterator_5 : decode cJ4_iterator 5 = .ok (.invokespecial 269, 3) := dk_183 1 13 (dk_at dksJ4_iterator_0 5 rfl rfl)
theorem dJ4_iterator_8 : decode cJ4_iterator 8 = .ok (.areturn, 1) := dk_176 (dk_at dksJ4_iterator_0 8 rfl rfl)
abbrev cJ4_listIterator : ByteArray := prog_57_method_53_code
def yJ4_listIterator : MethodName := ⟨RJ4, "listIterator", "(I)Ljava/util/ListIterator;"⟩
def dkwJ4_listIterator_0 : List UInt8 := [42, 27, 182, 0, 135, 187, 1, 6, 89, 42, 27, 183, 1, 8, 176]
abbrev dktJ4_listIterator_0 : List UInt8 := dkwJ4_listIterator_0 ++ []
theorem dksJ4_listIterator_0 : cJ4_listIterator.data.toList.drop 0 = dktJ4_listIterator_0 := by decide +kernel
theorem dJ4_listIterator_0 : decode cJ4_listIterator 0 = .ok (.aload_n 0, 1) := dk_42 (dk_at dksJ4_listIterator_0 0 rfl rfl)
theorem dJ4_listIterator_1 : decode cJ4_listIterator 1 = .ok (.iload_n 1, 1) := dk_27 (dk_at dksJ4_listIterator_0 1 rfl rfl)
theorem dJ4_listIterator_2 : decode cJ4_listIterator 2 = .ok (.invokevirtual 135, 3) := dk_182 0 135 (dk_at dksJ4_listIterator_0 2 rfl rfl)
theorem dJ4_listIterator_5 : decode cJ4_listIterator 5 = .ok (.new 262, 3) := dk_187 1 6 (dk_at dksJ4_listIterator_0 5 rfl rfl)
theorem dJ4_listIterator_8 : decode cJ4_listIterator 8 = .ok (.dup, 1) := dk_89 (dk_at dksJ4_listIterator_0 8 rfl rfl)
theorem dJ4_listIterator_9 : decode cJ4_listIterator 9 = .ok (.aload_n 0, 1) := dk_42 (dk_at dksJ4_listIterator_0 9 rfl rfl)
theorem dJ4_listIterator_10 : decode cJ4_listIterator 10 = .ok (.iload_n 1, 1) := dk_27 (dk_at dksJ4_listIterator_0 10 rfl rfl)
theorem dJ4_listIterator_11 : decode cJ4_listIterator 11 = .ok (.invokespecial 264, 3) := dk_183 1 8 (dk_at dksJ4_listIterator_0 11 rfl rfl)
theorem dJ4_listIterator_14 : decode cJ4_listIterator 14 = .ok (.areturn, 1) := dk_176 (dk_at dksJ4_listIterator_0 14 rfl rfl)
abbrev cJ4_rangeCheckForAdd : ByteArray := prog_57_method_45_code
def yJ4_rangeCheckForAdd : MethodName := ⟨RJ4, "rangeCheckForAdd", "(I)V"⟩
def dkwJ4_rangeCheckForAdd_1 : List UInt8 := [191, 177]
abbrev dktJ4_rangeCheckForAdd_1 : List UInt8 := dkwJ4_rangeCheckForAdd_1 ++ []
def dkwJ4_rangeCheckForAdd_0 : List UInt8 := [27, 42, 180, 0, 48, 163, 0, 7, 27, 156, 0, 16, 187, 0, 187, 89, 42, 27, 182, 0, 198, 183, 0, 193]
abbrev dktJ4_rangeCheckForAdd_0 : List UInt8 := dkwJ4_rangeCheckForAdd_0 ++ dktJ4_rangeCheckForAdd_1
theorem dksJ4_rangeCheckForAdd_0 : cJ4_rangeCheckForAdd.data.toList.drop 0 = dktJ4_rangeCheckForAdd_0 := by decide +kernel
theorem dksJ4_rangeCheckForAdd_1 : cJ4_rangeCheckForAdd.data.toList.drop 24 = dktJ4_rangeCheckForAdd_1 := dk_seg dksJ4_rangeCheckForAdd_0 24 rfl rfl
theorem dJ4_rangeCheckForAdd_0 : decode cJ4_rangeCheckForAdd 0 = .ok (.iload_n 1, 1) := dk_27 (dk_at dksJ4_rangeCheckForAdd_0 0 rfl rfl)
theorem dJ4_rangeCheckForAdd_1 : decode cJ4_rangeCheckForAdd 1 = .ok (.aload_n 0, 1) := dk_42 (dk_at dksJ4_rangeCheckForAdd_0 1 rfl rfl)
theorem dJ4_rangeCheckForAdd_2 : decode cJ4_rangeCheckForAdd 2 = .ok (.getfield 48, 3) := dk_180 0 48 (dk_at dksJ4_rangeCheckForAdd_0 2 rfl rfl)
theorem dJ4_rangeCheckForAdd_5 : decode cJ4_rangeCheckForAdd 5 = .ok (.if_icmp .gt 7, 3) := dk_163 0 7 (dk_at dksJ4_rangeCheckForAdd_0 5 rfl rfl)
theorem dJ4_rangeCheckForAdd_8 : decode cJ4_rangeCheckForAdd 8 = .ok (.iload_n 1, 1) := dk_27 (dk_at dksJ4_rangeCheckForAdd_0 8 rfl rfl)
theorem dJ4_rangeCheckForAdd_9 : decode cJ4_rangeCheckForAdd 9 = .ok (.ifCond .ge 16, 3) := dk_156 0 16 (dk_at dksJ4_rangeCheckForAdd_0 9 rfl rfl)
theorem dJ4_rangeCheckForAdd_12 : decode cJ4_rangeCheckForAdd 12 = .ok (.new 187, 3) := dk_187 0 187 (dk_at dksJ4_rangeCheckForAdd_0 12 rfl rfl)
theorem dJ4_rangeCheckForAdd_15 : decode cJ4_rangeCheckForAdd 15 = .ok (.dup, 1) := dk_89 (dk_at dksJ4_rangeCheckForAdd_0 15 rfl rfl)
theorem dJ4_rangeCheckForAdd_16 : decode cJ4_rangeCheckForAdd 16 = .ok (.aload_n 0, 1) := dk_42 (dk_at dksJ4_rangeCheckForAdd_0 16 rfl rfl)
theorem dJ4_rangeCheckForAdd_17 : decode cJ4_rangeCheckForAdd 17 = .ok (.iload_n 1, 1) := dk_27 (dk_at dksJ4_rangeCheckForAdd_0 17 rfl rfl)
theorem dJ4_rangeCheckForAdd_18 : decode cJ4_rangeCheckForAdd 18 = .ok (.invokevirtual 198, 3) := dk_182 0 198 (dk_at dksJ4_rangeCheckForAdd_0 18 rfl rfl)
theorem dJ4_rangeCheckForAdd_21 : decode cJ4_rangeCheckForAdd 21 = .ok (.invokespecial 193, 3) := dk_183 0 193 (dk_at dksJ4_rangeCheckForAdd_0 21 rfl rfl)
theorem dJ4_rangeCheckForAdd_24 : decode cJ4_rangeCheckForAdd 24 = .ok (.athrow, 1) := dk_191 (dk_at dksJ4_rangeCheckForAdd_1 0 rfl rfl)
theorem dJ4_rangeCheckForAdd_25 : decode cJ4_rangeCheckForAdd 25 = .ok (.return_, 1) := dk_177 (dk_at dksJ4_rangeCheckForAdd_1 1 rfl rfl)
theorem q103 : (Jvm.Cond.initialized "java/util/ArrayList") ∈ lw_all := lw_g (lw_at lw_m1 6 rfl) rfl
theorem q186 : (Jvm.Cond.sameField "java/util/ArrayList" "java/util/AbstractList" "modCount" "I") ∈ lw_all := lw_g (lw_at lw_m1 89 rfl) rfl
theorem q189 : (Jvm.Cond.fieldLink "java/util/ArrayList" (63 : Nat) "java/util/ArrayList" "modCount" "I") ∈ lw_all := lw_g (lw_at lw_m1 92 rfl) rfl
theorem q200 : (Jvm.Cond.instantiable "java/util/ArrayList" (3 : Nat)) ∈ lw_all := lw_g (lw_at lw_m1 103 rfl) rfl
theorem q202 : (Jvm.Cond.instanceMethod ({ cls := "java/util/ArrayList", name := "<init>", desc := "()V" } : Jvm.MethodName)) ∈ lw_all := lw_g (lw_at lw_m1 105 rfl) rfl
theorem q203 : (Jvm.Cond.code ({ cls := "java/util/ArrayList", name := "<init>", desc := "()V" } : Jvm.MethodName) prog_57_method_2_code (1 : Nat) (Option.none : Option Jvm.ClassFile.FieldType)) ∈ lw_all := lw_g (lw_at lw_m1 106 rfl) rfl
theorem q204 : (Jvm.Cond.methodLink "java/util/ArrayList" (1 : Nat) ({ cls := "java/util/AbstractList", name := "<init>", desc := "()V" } : Jvm.MethodName)) ∈ lw_all := lw_g (lw_at lw_m1 107 rfl) rfl
theorem q205 : (Jvm.Cond.fieldLink "java/util/ArrayList" (39 : Nat) "java/util/ArrayList" "DEFAULTCAPACITY_EMPTY_ELEMENTDATA" "[Ljava/lang/Object;") ∈ lw_all := lw_g (lw_at lw_m1 108 rfl) rfl
theorem q206 : (Jvm.Cond.laysStatic "java/util/ArrayList" "DEFAULTCAPACITY_EMPTY_ELEMENTDATA" "[Ljava/lang/Object;") ∈ lw_tbl := lw_at lw_m1 109 rfl
theorem q207 : (Jvm.Cond.fieldLink "java/util/ArrayList" (9 : Nat) "java/util/ArrayList" "elementData" "[Ljava/lang/Object;") ∈ lw_all := lw_g (lw_at lw_m1 110 rfl) rfl
theorem q210 : (Jvm.Cond.fieldLink "java/util/ArrayList" (48 : Nat) "java/util/ArrayList" "size" "I") ∈ lw_all := lw_g (lw_at lw_m1 113 rfl) rfl
theorem q211 : (Jvm.Cond.lays "java/util/ArrayList" "java/util/ArrayList" "elementData" "[Ljava/lang/Object;") ∈ lw_all := lw_g (lw_at lw_m1 114 rfl) rfl
theorem q212 : (Jvm.Cond.soleField "java/util/ArrayList" "elementData") ∈ lw_all := lw_g (lw_at lw_m1 115 rfl) rfl
theorem q213 : (Jvm.Cond.lays "java/util/ArrayList" "java/util/ArrayList" "size" "I") ∈ lw_all := lw_g (lw_at lw_m1 116 rfl) rfl
theorem q214 : (Jvm.Cond.soleField "java/util/ArrayList" "size") ∈ lw_all := lw_g (lw_at lw_m1 117 rfl) rfl
theorem q215 : (Jvm.Cond.lays "java/util/ArrayList" "java/util/AbstractList" "modCount" "I") ∈ lw_all := lw_g (lw_at lw_m1 118 rfl) rfl
theorem q216 : (Jvm.Cond.superclass "java/util/ArrayList" "java/util/AbstractList") ∈ lw_all := lw_g (lw_at lw_m1 119 rfl) rfl
theorem q394 : (Jvm.Cond.instanceMethod ({ cls := "java/util/ArrayList", name := "add", desc := "(Ljava/lang/Object;)Z" } : Jvm.MethodName)) ∈ lw_all := lw_g (lw_at lw_m2 57 rfl) rfl
theorem q395 : (Jvm.Cond.selects "java/util/ArrayList" ({ cls := "java/util/ArrayList", name := "add", desc := "(Ljava/lang/Object;)Z" } : Jvm.MethodName) ({ cls := "java/util/ArrayList", name := "add", desc := "(Ljava/lang/Object;)Z" } : Jvm.MethodName)) ∈ lw_all := lw_g (lw_at lw_m2 58 rfl) rfl
theorem q396 : (Jvm.Cond.code ({ cls := "java/util/ArrayList", name := "add", desc := "(Ljava/lang/Object;)Z" } : Jvm.MethodName) prog_57_method_25_code (2 : Nat) (Option.some Jvm.ClassFile.FieldType.boolean)) ∈ lw_all := lw_g (lw_at lw_m2 59 rfl) rfl
theorem q397 : (Jvm.Cond.methodLink "java/util/ArrayList" (131 : Nat) ({ cls := "java/util/ArrayList", name := "add", desc := "(Ljava/lang/Object;[Ljava/lang/Object;I)V" } : Jvm.MethodName)) ∈ lw_all := lw_g (lw_at lw_m2 60 rfl) rfl
theorem q398 : (Jvm.Cond.privateMethod ({ cls := "java/util/ArrayList", name := "add", desc := "(Ljava/lang/Object;[Ljava/lang/Object;I)V" } : Jvm.MethodName)) ∈ lw_tbl := lw_at lw_m2 61 rfl
theorem q399 : (Jvm.Cond.instanceMethod ({ cls := "java/util/ArrayList", name := "add", desc := "(Ljava/lang/Object;[Ljava/lang/Object;I)V" } : Jvm.MethodName)) ∈ lw_all := lw_g (lw_at lw_m2 62 rfl) rfl
theorem q400 : (Jvm.Cond.code ({ cls := "java/util/ArrayList", name := "add", desc := "(Ljava/lang/Object;[Ljava/lang/Object;I)V" } : Jvm.MethodName) prog_57_method_24_code (4 : Nat) (Option.none : Option Jvm.ClassFile.FieldType)) ∈ lw_all := lw_g (lw_at lw_m2 63 rfl) rfl
theorem q401 : (Jvm.Cond.methodLink "java/util/ArrayList" (129 : Nat) ({ cls := "java/util/ArrayList", name := "grow", desc := "()[Ljava/lang/Object;" } : Jvm.MethodName)) ∈ lw_all := lw_g (lw_at lw_m2 64 rfl) rfl
theorem q402 : (Jvm.Cond.privateMethod ({ cls := "java/util/ArrayList", name := "grow", desc := "()[Ljava/lang/Object;" } : Jvm.MethodName)) ∈ lw_tbl := lw_at lw_m2 65 rfl
theorem q403 : (Jvm.Cond.instanceMethod ({ cls := "java/util/ArrayList", name := "grow", desc := "()[Ljava/lang/Object;" } : Jvm.MethodName)) ∈ lw_all := lw_g (lw_at lw_m2 66 rfl) rfl
theorem q404 : (Jvm.Cond.code ({ cls := "java/util/ArrayList", name := "grow", desc := "()[Ljava/lang/Object;" } : Jvm.MethodName) prog_57_method_7_code (1 : Nat) (Option.some (Jvm.ClassFile.FieldType.array (Jvm.ClassFile.FieldType.object "java/lang/Object")))) ∈ lw_all := lw_g (lw_at lw_m2 67 rfl) rfl
theorem q405 : (Jvm.Cond.methodLink "java/util/ArrayList" (69 : Nat) ({ cls := "java/util/ArrayList", name := "grow", desc := "(I)[Ljava/lang/Object;" } : Jvm.MethodName)) ∈ lw_all := lw_g (lw_at lw_m2 68 rfl) rfl
theorem q406 : (Jvm.Cond.privateMethod ({ cls := "java/util/ArrayList", name := "grow", desc := "(I)[Ljava/lang/Object;" } : Jvm.MethodName)) ∈ lw_tbl := lw_at lw_m2 69 rfl
theorem q407 : (Jvm.Cond.instanceMethod ({ cls := "java/util/ArrayList", name := "grow", desc := "(I)[Ljava/lang/Object;" } : Jvm.MethodName)) ∈ lw_all := lw_g (lw_at lw_m2 70 rfl) rfl
theorem q408 : (Jvm.Cond.code ({ cls := "java/util/ArrayList", name := "grow", desc := "(I)[Ljava/lang/Object;" } : Jvm.MethodName) prog_57_method_6_code (4 : Nat) (Option.some (Jvm.ClassFile.FieldType.array (Jvm.ClassFile.FieldType.object "java/lang/Object")))) ∈ lw_all := lw_g (lw_at lw_m2 71 rfl) rfl
theorem q409 : (Jvm.Cond.methodLink "java/util/ArrayList" (73 : Nat) ({ cls := "jdk/internal/util/ArraysSupport", name := "newLength", desc := "(III)I" } : Jvm.MethodName)) ∈ lw_all := lw_g (lw_at lw_m2 72 rfl) rfl
theorem q419 : (Jvm.Cond.methodLink "java/util/ArrayList" (66 : Nat) ({ cls := "java/util/Arrays", name := "copyOf", desc := "([Ljava/lang/Object;I)[Ljava/lang/Object;" } : Jvm.MethodName)) ∈ lw_all := lw_g (lw_at lw_m2 82 rfl) rfl
theorem q452 : (Jvm.Cond.selects "java/util/ArrayList" ({ cls := "java/lang/Object", name := "getClass", desc := "()Ljava/lang/Class;" } : Jvm.MethodName) ({ cls := "java/lang/Object", name := "getClass", desc := "()Ljava/lang/Class;" } : Jvm.MethodName)) ∈ lw_all := lw_g (lw_at lw_m2 115 rfl) rfl
theorem q473 : (Jvm.Cond.methodLink "java/util/ArrayList" (79 : Nat) ({ cls := "java/lang/Math", name := "max", desc := "(II)I" } : Jvm.MethodName)) ∈ lw_all := lw_g (lw_at lw_m2 136 rfl) rfl
theorem q474 : (Jvm.Cond.classLink "java/util/ArrayList" (7 : Nat) "java/lang/Object") ∈ lw_all := lw_g (lw_at lw_m2 137 rfl) rfl
theorem q499 : (Jvm.Cond.instanceMethod ({ cls := "java/util/ArrayList", name := "clear", desc := "()V" } : Jvm.MethodName)) ∈ lw_all := lw_g (lw_at lw_m2 162 rfl) rfl
theorem q500 : (Jvm.Cond.selects "java/util/ArrayList" ({ cls := "java/util/ArrayList", name := "clear", desc := "()V" } : Jvm.MethodName) ({ cls := "java/util/ArrayList", name := "clear", desc := "()V" } : Jvm.MethodName)) ∈ lw_all := lw_g (lw_at lw_m2 163 rfl) rfl
theorem q501 : (Jvm.Cond.code ({ cls := "java/util/ArrayList", name := "clear", desc := "()V" } : Jvm.MethodName) prog_57_method_40_code (4 : Nat) (Option.none : Option Jvm.ClassFile.FieldType)) ∈ lw_all := lw_g (lw_at lw_m2 164 rfl) rfl
theorem q503 : (Jvm.Cond.instanceMethod ({ cls := "java/util/ArrayList", name := "size", desc := "()I" } : Jvm.MethodName)) ∈ lw_all := lw_g (lw_at lw_m2 166 rfl) rfl
theorem q504 : (Jvm.Cond.selects "java/util/ArrayList" ({ cls := "java/util/ArrayList", name := "size", desc := "()I" } : Jvm.MethodName) ({ cls := "java/util/ArrayList", name := "size", desc := "()I" } : Jvm.MethodName)) ∈ lw_all := lw_g (lw_at lw_m2 167 rfl) rfl
theorem q505 : (Jvm.Cond.code ({ cls := "java/util/ArrayList", name := "size", desc := "()I" } : Jvm.MethodName) prog_57_method_8_code (1 : Nat) (Option.some Jvm.ClassFile.FieldType.int)) ∈ lw_all := lw_g (lw_at lw_m2 168 rfl) rfl
theorem q507 : (Jvm.Cond.instanceMethod ({ cls := "java/util/ArrayList", name := "get", desc := "(I)Ljava/lang/Object;" } : Jvm.MethodName)) ∈ lw_all := lw_g (lw_at lw_m2 170 rfl) rfl
theorem q508 : (Jvm.Cond.selects "java/util/ArrayList" ({ cls := "java/util/ArrayList", name := "get", desc := "(I)Ljava/lang/Object;" } : Jvm.MethodName) ({ cls := "java/util/ArrayList", name := "get", desc := "(I)Ljava/lang/Object;" } : Jvm.MethodName)) ∈ lw_all := lw_g (lw_at lw_m2 171 rfl) rfl
theorem q509 : (Jvm.Cond.code ({ cls := "java/util/ArrayList", name := "get", desc := "(I)Ljava/lang/Object;" } : Jvm.MethodName) prog_57_method_20_code (2 : Nat) (Option.some (Jvm.ClassFile.FieldType.object "java/lang/Object"))) ∈ lw_all := lw_g (lw_at lw_m2 172 rfl) rfl
theorem q510 : (Jvm.Cond.methodLink "java/util/ArrayList" (118 : Nat) ({ cls := "java/util/Objects", name := "checkIndex", desc := "(II)I" } : Jvm.MethodName)) ∈ lw_all := lw_g (lw_at lw_m2 173 rfl) rfl
theorem q516 : (Jvm.Cond.methodLink "java/util/ArrayList" (123 : Nat) ({ cls := "java/util/ArrayList", name := "elementData", desc := "(I)Ljava/lang/Object;" } : Jvm.MethodName)) ∈ lw_all := lw_g (lw_at lw_m2 179 rfl) rfl
theorem q517 : (Jvm.Cond.instanceMethod ({ cls := "java/util/ArrayList", name := "elementData", desc := "(I)Ljava/lang/Object;" } : Jvm.MethodName)) ∈ lw_all := lw_g (lw_at lw_m2 180 rfl) rfl
theorem q518 : (Jvm.Cond.selects "java/util/ArrayList" ({ cls := "java/util/ArrayList", name := "elementData", desc := "(I)Ljava/lang/Object;" } : Jvm.MethodName) ({ cls := "java/util/ArrayList", name := "elementData", desc := "(I)Ljava/lang/Object;" } : Jvm.MethodName)) ∈ lw_all := lw_g (lw_at lw_m2 181 rfl) rfl
theorem q519 : (Jvm.Cond.code ({ cls := "java/util/ArrayList", name := "elementData", desc := "(I)Ljava/lang/Object;" } : Jvm.MethodName) prog_57_method_18_code (2 : Nat) (Option.some (Jvm.ClassFile.FieldType.object "java/lang/Object"))) ∈ lw_all := lw_g (lw_at lw_m2 182 rfl) rfl
theorem q618 : (Jvm.Cond.selects "java/util/ArrayList" ({ cls := "java/util/AbstractCollection", name := "size", desc := "()I" } : Jvm.MethodName) ({ cls := "java/util/ArrayList", name := "size", desc := "()I" } : Jvm.MethodName)) ∈ lw_all := lw_g (lw_at lw_m3 41 rfl) rfl
theorem q830 : (Jvm.Cond.instanceMethod ({ cls := "java/util/ArrayList", name := "iterator", desc := "()Ljava/util/Iterator;" } : Jvm.MethodName)) ∈ lw_all := lw_g (lw_at lw_m4 13 rfl) rfl
theorem q831 : (Jvm.Cond.selects "java/util/ArrayList" ({ cls := "java/util/ArrayList", name := "iterator", desc := "()Ljava/util/Iterator;" } : Jvm.MethodName) ({ cls := "java/util/ArrayList", name := "iterator", desc := "()Ljava/util/Iterator;" } : Jvm.MethodName)) ∈ lw_all := lw_g (lw_at lw_m4 14 rfl) rfl
theorem q832 : (Jvm.Cond.code ({ cls := "java/util/ArrayList", name := "iterator", desc := "()Ljava/util/Iterator;" } : Jvm.MethodName) prog_57_method_55_code (1 : Nat) (Option.some (Jvm.ClassFile.FieldType.object "java/util/Iterator"))) ∈ lw_all := lw_g (lw_at lw_m4 15 rfl) rfl
theorem q833 : (Jvm.Cond.classLink "java/util/ArrayList" (267 : Nat) "java/util/ArrayList$Itr") ∈ lw_all := lw_g (lw_at lw_m4 16 rfl) rfl
theorem q835 : (Jvm.Cond.methodLink "java/util/ArrayList" (269 : Nat) ({ cls := "java/util/ArrayList$Itr", name := "<init>", desc := "(Ljava/util/ArrayList;)V" } : Jvm.MethodName)) ∈ lw_all := lw_g (lw_at lw_m4 18 rfl) rfl
theorem q866 : (Jvm.Cond.selects "java/util/ArrayList" ({ cls := "java/util/AbstractList", name := "size", desc := "()I" } : Jvm.MethodName) ({ cls := "java/util/ArrayList", name := "size", desc := "()I" } : Jvm.MethodName)) ∈ lw_all := lw_g (lw_at lw_m4 49 rfl) rfl
theorem q906 : (Jvm.Cond.selects "java/util/ArrayList" ({ cls := "java/util/AbstractList", name := "get", desc := "(I)Ljava/lang/Object;" } : Jvm.MethodName) ({ cls := "java/util/ArrayList", name := "get", desc := "(I)Ljava/lang/Object;" } : Jvm.MethodName)) ∈ lw_all := lw_g (lw_at lw_m4 89 rfl) rfl
theorem q1688 : (Jvm.Cond.castable "java/util/ArrayList" "java/lang/Iterable") ∈ lw_tbl := lw_at lw_m7 151 rfl
theorem q1689 : (Jvm.Cond.selects "java/util/ArrayList" ({ cls := "java/lang/Iterable", name := "iterator", desc := "()Ljava/util/Iterator;" } : Jvm.MethodName) ({ cls := "java/util/ArrayList", name := "iterator", desc := "()Ljava/util/Iterator;" } : Jvm.MethodName)) ∈ lw_all := lw_g (lw_at lw_m7 152 rfl) rfl
theorem q1690 : (Jvm.Cond.unhidden "java/util/ArrayList" "iterator" "()Ljava/util/Iterator;") ∈ lw_tbl := lw_at lw_m7 153 rfl
theorem q1691 : (Jvm.Cond.publicMethod ({ cls := "java/util/ArrayList", name := "iterator", desc := "()Ljava/util/Iterator;" } : Jvm.MethodName)) ∈ lw_tbl := lw_at lw_m7 154 rfl
theorem q1707 : (Jvm.Cond.selects "java/util/ArrayList" ({ cls := "java/util/AbstractList", name := "listIterator", desc := "(I)Ljava/util/ListIterator;" } : Jvm.MethodName) ({ cls := "java/util/ArrayList", name := "listIterator", desc := "(I)Ljava/util/ListIterator;" } : Jvm.MethodName)) ∈ lw_all := lw_g (lw_at lw_m7 170 rfl) rfl
theorem q1708 : (Jvm.Cond.instanceMethod ({ cls := "java/util/ArrayList", name := "listIterator", desc := "(I)Ljava/util/ListIterator;" } : Jvm.MethodName)) ∈ lw_all := lw_g (lw_at lw_m7 171 rfl) rfl
theorem q1709 : (Jvm.Cond.code ({ cls := "java/util/ArrayList", name := "listIterator", desc := "(I)Ljava/util/ListIterator;" } : Jvm.MethodName) prog_57_method_53_code (2 : Nat) (Option.some (Jvm.ClassFile.FieldType.object "java/util/ListIterator"))) ∈ lw_all := lw_g (lw_at lw_m7 172 rfl) rfl
theorem q1710 : (Jvm.Cond.methodLink "java/util/ArrayList" (135 : Nat) ({ cls := "java/util/ArrayList", name := "rangeCheckForAdd", desc := "(I)V" } : Jvm.MethodName)) ∈ lw_all := lw_g (lw_at lw_m7 173 rfl) rfl
theorem q1711 : (Jvm.Cond.privateMethod ({ cls := "java/util/ArrayList", name := "rangeCheckForAdd", desc := "(I)V" } : Jvm.MethodName)) ∈ lw_tbl := lw_at lw_m7 174 rfl
theorem q1712 : (Jvm.Cond.instanceMethod ({ cls := "java/util/ArrayList", name := "rangeCheckForAdd", desc := "(I)V" } : Jvm.MethodName)) ∈ lw_all := lw_g (lw_at lw_m7 175 rfl) rfl
theorem q1713 : (Jvm.Cond.code ({ cls := "java/util/ArrayList", name := "rangeCheckForAdd", desc := "(I)V" } : Jvm.MethodName) prog_57_method_45_code (2 : Nat) (Option.none : Option Jvm.ClassFile.FieldType)) ∈ lw_all := lw_g (lw_at lw_m7 176 rfl) rfl
theorem q1714 : (Jvm.Cond.classLink "java/util/ArrayList" (262 : Nat) "java/util/ArrayList$ListItr") ∈ lw_all := lw_g (lw_at lw_m7 177 rfl) rfl
theorem q1716 : (Jvm.Cond.methodLink "java/util/ArrayList" (264 : Nat) ({ cls := "java/util/ArrayList$ListItr", name := "<init>", desc := "(Ljava/util/ArrayList;I)V" } : Jvm.MethodName)) ∈ lw_all := lw_g (lw_at lw_m7 179 rfl) rfl
theorem q2948 : (Jvm.Cond.castable "java/util/ArrayList" "java/lang/Object") ∈ lw_tbl := lw_at lw_m12 211 rfl
theorem in_J4 : ∀ w ∈ wsJ40, w ∈ lw_all := lw_in wsJ40 [215, 211, 213] (by decide +kernel) (by decide +kernel)
/-! java/util/BitSet -/
set_option maxRecDepth 100000
def RJ5 : String := "java/util/BitSet"
def TJ5 : u_T := fun k => match k with
  | 0 => ("java/util/BitSet", "words", "[J", false)
  | 1 => ("java/util/BitSet", "wordsInUse", "I", false)
  | _ => ("java/util/BitSet", "sizeIsSticky", "Z", false)
def tyJ5 : Nat → FieldType := fun k => match k with
  | 0 => .array .long
  | 1 => .int
  | _ => .boolean
abbrev wsJ50 : List Cond := u_ws RJ5 TJ5 3
theorem nmJ5 : ∀ a, a < 3 → ∀ b, b < 3 → a ≠ b → (TJ5 a).2.1 ≠ (TJ5 b).2.1 := by decide +kernel
theorem tyJ5_ok : ∀ k, k < 3 → parseFieldDescriptor (TJ5 k).2.2.1 = some (tyJ5 k) := by decide +kernel
abbrev cJ5_init : ByteArray := prog_61_method_5_code
def yJ5_init : MethodName := ⟨RJ5, "<init>", "(I)V"⟩
def dkwJ5_init_2 : List UInt8 := [27, 182, 0, 27, 42, 4, 181, 0, 24, 177]
abbrev dktJ5_init_2 : List UInt8 := dkwJ5_init_2 ++ []
def dkwJ5_init_1 : List UInt8 := [187, 0, 33, 89, 183, 0, 35, 18, 36, 182, 0, 38, 27, 182, 0, 42, 182, 0, 45, 183, 0, 49, 191, 42]
abbrev dktJ5_init_1 : List UInt8 := dkwJ5_init_1 ++ dktJ5_init_2
def dkwJ5_init_0 : List UInt8 := [42, 183, 0, 21, 42, 3, 181, 0, 7, 42, 3, 181, 0, 24, 27, 156, 0, 30, 187, 0, 31, 89]
abbrev dktJ5_init_0 : List UInt8 := dkwJ5_init_0 ++ dktJ5_init_1
theorem dksJ5_init_0 : cJ5_init.data.toList.drop 0 = dktJ5_init_0 := by decide +kernel
theorem dksJ5_init_1 : cJ5_init.data.toList.drop 22 = dktJ5_init_1 := dk_seg dksJ5_init_0 22 rfl rfl
theorem dksJ5_init_2 : cJ5_init.data.toList.drop 46 = dktJ5_init_2 := dk_seg dksJ5_init_1 24 rfl rfl
theorem dJ5_init_0 : decode cJ5_init 0 = .ok (.aload_n 0, 1) := dk_42 (dk_at dksJ5_init_0 0 rfl rfl)
theorem dJ5_init_1 : decode cJ5_init 1 = .ok (.invokespecial 21, 3) := dk_183 0 21 (dk_at dksJ5_init_0 1 rfl rfl)
theorem dJ5_init_4 : decode cJ5_init 4 = .ok (.aload_n 0, 1) := dk_42 (dk_at dksJ5_init_0 4 rfl rfl)
theorem dJ5_init_5 : decode cJ5_init 5 = .ok (.iconst 0, 1) := dk_3 (dk_at dksJ5_init_0 5 rfl rfl)
theorem dJ5_init_6 : decode cJ5_init 6 = .ok (.putfield 7, 3) := dk_181 0 7 (dk_at dksJ5_init_0 6 rfl rfl)
theorem dJ5_init_9 : decode cJ5_init 9 = .ok (.aload_n 0, 1) := dk_42 (dk_at dksJ5_init_0 9 rfl rfl)
theorem dJ5_init_10 : decode cJ5_init 10 = .ok (.iconst 0, 1) := dk_3 (dk_at dksJ5_init_0 10 rfl rfl)
theorem dJ5_init_11 : decode cJ5_init 11 = .ok (.putfield 24, 3) := dk_181 0 24 (dk_at dksJ5_init_0 11 rfl rfl)
theorem dJ5_init_14 : decode cJ5_init 14 = .ok (.iload_n 1, 1) := dk_27 (dk_at dksJ5_init_0 14 rfl rfl)
theorem dJ5_init_15 : decode cJ5_init 15 = .ok (.ifCond .ge 30, 3) := dk_156 0 30 (dk_at dksJ5_init_0 15 rfl rfl)
theorem dJ5_init_18 : decode cJ5_init 18 = .ok (.new 31, 3) := dk_187 0 31 (dk_at dksJ5_init_0 18 rfl rfl)
theorem dJ5_init_21 : decode cJ5_init 21 = .ok (.dup, 1) := dk_89 (dk_at dksJ5_init_0 21 rfl rfl)
theorem dJ5_init_22 : decode cJ5_init 22 = .ok (.new 33, 3) := dk_187 0 33 (dk_at dksJ5_init_1 0 rfl rfl)
theorem dJ5_init_25 : decode cJ5_init 25 = .ok (.dup, 1) := dk_89 (dk_at dksJ5_init_1 3 rfl rfl)
theorem dJ5_init_26 : decode cJ5_init 26 = .ok (.invokespecial 35, 3) := dk_183 0 35 (dk_at dksJ5_init_1 4 rfl rfl)
theorem dJ5_init_29 : decode cJ5_init 29 = .ok (.ldc 36, 2) := dk_18 36 (dk_at dksJ5_init_1 7 rfl rfl)
theorem dJ5_init_31 : decode cJ5_init 31 = .ok (.invokevirtual 38, 3) := dk_182 0 38 (dk_at dksJ5_init_1 9 rfl rfl)
theorem dJ5_init_34 : decode cJ5_init 34 = .ok (.iload_n 1, 1) := dk_27 (dk_at dksJ5_init_1 12 rfl rfl)
theorem dJ5_init_35 : decode cJ5_init 35 = .ok (.invokevirtual 42, 3) := dk_182 0 42 (dk_at dksJ5_init_1 13 rfl rfl)
theorem dJ5_init_38 : decode cJ5_init 38 = .ok (.invokevirtual 45, 3) := dk_182 0 45 (dk_at dksJ5_init_1 16 rfl rfl)
theorem dJ5_init_41 : decode cJ5_init 41 = .ok (.invokespecial 49, 3) := dk_183 0 49 (dk_at dksJ5_init_1 19 rfl rfl)
theorem dJ5_init_44 : decode cJ5_init 44 = .ok (.athrow, 1) := dk_191 (dk_at dksJ5_init_1 22 rfl rfl)
theorem dJ5_init_45 : decode cJ5_init 45 = .ok (.aload_n 0, 1) := dk_42 (dk_at dksJ5_init_1 23 rfl rfl)
theorem dJ5_init_46 : decode cJ5_init 46 = .ok (.iload_n 1, 1) := dk_27 (dk_at dksJ5_init_2 0 rfl rfl)
theorem dJ5_init_47 : decode cJ5_init 47 = .ok (.invokevirtual 27, 3) := dk_182 0 27 (dk_at dksJ5_init_2 1 rfl rfl)
theorem dJ5_init_50 : decode cJ5_init 50 = .ok (.aload_n 0, 1) := dk_42 (dk_at dksJ5_init_2 4 rfl rfl)
theorem dJ5_init_51 : decode cJ5_init 51 = .ok (.iconst 1, 1) := dk_4 (dk_at dksJ5_init_2 5 rfl rfl)
theorem dJ5_init_52 : decode cJ5_init 52 = .ok (.putfield 24, 3) := dk_181 0 24 (dk_at dksJ5_init_2 6 rfl rfl)
theorem dJ5_init_55 : decode cJ5_init 55 = .ok (.return_, 1) := dk_177 (dk_at dksJ5_init_2 9 rfl rfl)
abbrev cJ5_initWords : ByteArray := prog_61_method_6_code
def yJ5_initWords : MethodName := ⟨RJ5, "initWords", "(I)V"⟩
def dkwJ5_initWords_0 : List UInt8 := [42, 27, 4, 100, 184, 0, 52, 4, 96, 188, 11, 181, 0, 11, 177]
abbrev dktJ5_initWords_0 : List UInt8 := dkwJ5_initWords_0 ++ []
theorem dksJ5_initWords_0 : cJ5_initWords.data.toList.drop 0 = dktJ5_initWords_0 := by decide +kernel
theorem dJ5_initWords_0 : decode cJ5_initWords 0 = .ok (.aload_n 0, 1) := dk_42 (dk_at dksJ5_initWords_0 0 rfl rfl)
theorem dJ5_initWords_1 : decode cJ5_initWords 1 = .ok (.iload_n 1, 1) := dk_27 (dk_at dksJ5_initWords_0 1 rfl rfl)
theorem dJ5_initWords_2 : decode cJ5_initWords 2 = .ok (.iconst 1, 1) := dk_4 (dk_at dksJ5_initWords_0 2 rfl rfl)
theorem dJ5_initWords_3 : decode cJ5_initWords 3 = .ok (.isub, 1) := dk_100 (dk_at dksJ5_initWords_0 3 rfl rfl)
theorem dJ5_initWords_4 : decode cJ5_initWords 4 = .ok (.invokestatic 52, 3) := dk_184 0 52 (dk_at dksJ5_initWords_0 4 rfl rfl)
theorem dJ5_initWords_7 : decode cJ5_initWords 7 = .ok (.iconst 1, 1) := dk_4 (dk_at dksJ5_initWords_0 7 rfl rfl)
theorem dJ5_initWords_8 : decode cJ5_initWords 8 = .ok (.iadd, 1) := dk_96 (dk_at dksJ5_initWords_0 8 rfl rfl)
theorem dJ5_initWords_9 : decode cJ5_initWords 9 = .ok (.newarray .long, 2) := dk_188_11 (dk_at dksJ5_initWords_0 9 rfl rfl)
theorem dJ5_initWords_11 : decode cJ5_initWords 11 = .ok (.putfield 11, 3) := dk_181 0 11 (dk_at dksJ5_initWords_0 11 rfl rfl)
theorem dJ5_initWords_14 : decode cJ5_initWords 14 = .ok (.return_, 1) := dk_177 (dk_at dksJ5_initWords_0 14 rfl rfl)
abbrev cJ5_wordIndex : ByteArray := prog_61_method_1_code
def yJ5_wordIndex : MethodName := ⟨RJ5, "wordIndex", "(I)I"⟩
def dkwJ5_wordIndex_0 : List UInt8 := [26, 16, 6, 122, 172]
abbrev dktJ5_wordIndex_0 : List UInt8 := dkwJ5_wordIndex_0 ++ []
theorem dksJ5_wordIndex_0 : cJ5_wordIndex.data.toList.drop 0 = dktJ5_wordIndex_0 := by decide +kernel
theorem dJ5_wordIndex_0 : decode cJ5_wordIndex 0 = .ok (.iload_n 0, 1) := dk_26 (dk_at dksJ5_wordIndex_0 0 rfl rfl)
theorem dJ5_wordIndex_1 : decode cJ5_wordIndex 1 = .ok (.bipush 6, 2) := dk_16 6 (dk_at dksJ5_wordIndex_0 1 rfl rfl)
theorem dJ5_wordIndex_3 : decode cJ5_wordIndex 3 = .ok (.ishr, 1) := dk_122 (dk_at dksJ5_wordIndex_0 3 rfl rfl)
theorem dJ5_wordIndex_4 : decode cJ5_wordIndex 4 = .ok (.ireturn, 1) := dk_172 (dk_at dksJ5_wordIndex_0 4 rfl rfl)
abbrev cJ5_clear : ByteArray := prog_61_method_25_code
def yJ5_clear : MethodName := ⟨RJ5, "clear", "()V"⟩
def dkwJ5_clear_1 : List UInt8 := [167, 255, 232, 177]
abbrev dktJ5_clear_1 : List UInt8 := dkwJ5_clear_1 ++ []
def dkwJ5_clear_0 : List UInt8 := [42, 180, 0, 7, 158, 0, 23, 42, 180, 0, 11, 42, 89, 180, 0, 7, 4, 100, 90, 181, 0, 7, 9, 80]
abbrev dktJ5_clear_0 : List UInt8 := dkwJ5_clear_0 ++ dktJ5_clear_1
theorem dksJ5_clear_0 : cJ5_clear.data.toList.drop 0 = dktJ5_clear_0 := by decide +kernel
theorem dksJ5_clear_1 : cJ5_clear.data.toList.drop 24 = dktJ5_clear_1 := dk_seg dksJ5_clear_0 24 rfl rfl
theorem dJ5_clear_0 : decode cJ5_clear 0 = .ok (.aload_n 0, 1) := dk_42 (dk_at dksJ5_clear_0 0 rfl rfl)
theorem dJ5_clear_1 : decode cJ5_clear 1 = .ok (.getfield 7, 3) := dk_180 0 7 (dk_at dksJ5_clear_0 1 rfl rfl)
theorem dJ5_clear_4 : decode cJ5_clear 4 = .ok (.ifCond .le 23, 3) := dk_158 0 23 (dk_at dksJ5_clear_0 4 rfl rfl)
theorem dJ5_clear_7 : decode cJ5_clear 7 = .ok (.aload_n 0, 1) := dk_42 (dk_at dksJ5_clear_0 7 rfl rfl)
theorem dJ5_clear_8 : decode cJ5_clear 8 = .ok (.getfield 11, 3) := dk_180 0 11 (dk_at dksJ5_clear_0 8 rfl rfl)
theorem dJ5_clear_11 : decode cJ5_clear 11 = .ok (.aload_n 0, 1) := dk_42 (dk_at dksJ5_clear_0 11 rfl rfl)
theorem dJ5_clear_12 : decode cJ5_clear 12 = .ok (.dup, 1) := dk_89 (dk_at dksJ5_clear_0 12 rfl rfl)
theorem dJ5_clear_13 : decode cJ5_clear 13 = .ok (.getfield 7, 3) := dk_180 0 7 (dk_at dksJ5_clear_0 13 rfl rfl)
theorem dJ5_clear_16 : decode cJ5_clear 16 = .ok (.iconst 1, 1) := dk_4 (dk_at dksJ5_clear_0 16 rfl rfl)
theorem dJ5_clear_17 : decode cJ5_clear 17 = .ok (.isub, 1) := dk_100 (dk_at dksJ5_clear_0 17 rfl rfl)
theorem dJ5_clear_18 : decode cJ5_clear 18 = .ok (.dup_x1, 1) := dk_90 (dk_at dksJ5_clear_0 18 rfl rfl)
theorem dJ5_clear_19 : decode cJ5_clear 19 = .ok (.putfield 7, 3) := dk_181 0 7 (dk_at dksJ5_clear_0 19 rfl rfl)
theorem dJ5_clear_22 : decode cJ5_clear 22 = .ok (.lconst 0, 1) := dk_9 (dk_at dksJ5_clear_0 22 rfl rfl)
theorem dJ5_clear_23 : decode cJ5_clear 23 = .ok (.lastore, 1) := dk_80 (dk_at dksJ5_clear_0 23 rfl rfl)
theorem dJ5_clear_24 : decode cJ5_clear 24 = .ok (.goto (-24), 3) := dk_167 255 232 (dk_at dksJ5_clear_1 0 rfl rfl)
theorem dJ5_clear_27 : decode cJ5_clear 27 = .ok (.return_, 1) := dk_177 (dk_at dksJ5_clear_1 3 rfl rfl)
abbrev cJ5_get : ByteArray := prog_61_method_26_code
def yJ5_get : MethodName := ⟨RJ5, "get", "(I)Z"⟩
def dkwJ5_get_2 : List UInt8 := [42, 180, 0, 11, 28, 47, 10, 27, 121, 127, 9, 148, 153, 0, 7, 4, 167, 0, 4, 3, 172]
abbrev dktJ5_get_2 : List UInt8 := dkwJ5_get_2 ++ []
def dkwJ5_get_1 : List UInt8 := [182, 0, 45, 183, 0, 146, 191, 42, 182, 0, 56, 27, 184, 0, 52, 61, 28, 42, 180, 0, 7, 162, 0, 22]
abbrev dktJ5_get_1 : List UInt8 := dkwJ5_get_1 ++ dktJ5_get_2
def dkwJ5_get_0 : List UInt8 := [27, 156, 0, 30, 187, 0, 142, 89, 187, 0, 33, 89, 183, 0, 35, 18, 153, 182, 0, 38, 27, 182, 0, 42]
abbrev dktJ5_get_0 : List UInt8 := dkwJ5_get_0 ++ dktJ5_get_1
theorem dksJ5_get_0 : cJ5_get.data.toList.drop 0 = dktJ5_get_0 := by decide +kernel
theorem dksJ5_get_1 : cJ5_get.data.toList.drop 24 = dktJ5_get_1 := dk_seg dksJ5_get_0 24 rfl rfl
theorem dksJ5_get_2 : cJ5_get.data.toList.drop 48 = dktJ5_get_2 := dk_seg dksJ5_get_1 24 rfl rfl
theorem dJ5_get_0 : decode cJ5_get 0 = .ok (.iload_n 1, 1) := dk_27 (dk_at dksJ5_get_0 0 rfl rfl)
theorem dJ5_get_1 : decode cJ5_get 1 = .ok (.ifCond .ge 30, 3) := dk_156 0 30 (dk_at dksJ5_get_0 1 rfl rfl)
theorem dJ5_get_4 : decode cJ5_get 4 = .ok (.new 142, 3) := dk_187 0 142 (dk_at dksJ5_get_0 4 rfl rfl)
theorem dJ5_get_7 : decode cJ5_get 7 = .ok (.dup, 1) := dk_89 (dk_at dksJ5_get_0 7 rfl rfl)
theorem dJ5_get_8 : decode cJ5_get 8 = .ok (.new 33, 3) := dk_187 0 33 (dk_at dksJ5_get_0 8 rfl rfl)
theorem dJ5_get_11 : decode cJ5_get 11 = .ok (.dup, 1) := dk_89 (dk_at dksJ5_get_0 11 rfl rfl)
theorem dJ5_get_12 : decode cJ5_get 12 = .ok (.invokespecial 35, 3) := dk_183 0 35 (dk_at dksJ5_get_0 12 rfl rfl)
theorem dJ5_get_15 : decode cJ5_get 15 = .ok (.ldc 153, 2) := dk_18 153 (dk_at dksJ5_get_0 15 rfl rfl)
theorem dJ5_get_17 : decode cJ5_get 17 = .ok (.invokevirtual 38, 3) := dk_182 0 38 (dk_at dksJ5_get_0 17 rfl rfl)
theorem dJ5_get_20 : decode cJ5_get 20 = .ok (.iload_n 1, 1) := dk_27 (dk_at dksJ5_get_0 20 rfl rfl)
theorem dJ5_get_21 : decode cJ5_get 21 = .ok (.invokevirtual 42, 3) := dk_182 0 42 (dk_at dksJ5_get_0 21 rfl rfl)
theorem dJ5_get_24 : decode cJ5_get 24 = .ok (.invokevirtual 45, 3) := dk_182 0 45 (dk_at dksJ5_get_1 0 rfl rfl)
theorem dJ5_get_27 : decode cJ5_get 27 = .ok (.invokespecial 146, 3) := dk_183 0 146 (dk_at dksJ5_get_1 3 rfl rfl)
theorem dJ5_get_30 : decode cJ5_get 30 = .ok (.athrow, 1) := dk_191 (dk_at dksJ5_get_1 6 rfl rfl)
theorem dJ5_get_31 : decode cJ5_get 31 = .ok (.aload_n 0, 1) := dk_42 (dk_at dksJ5_get_1 7 rfl rfl)
theorem dJ5_get_32 : decode cJ5_get 32 = .ok (.invokevirtual 56, 3) := dk_182 0 56 (dk_at dksJ5_get_1 8 rfl rfl)
theorem dJ5_get_35 : decode cJ5_get 35 = .ok (.iload_n 1, 1) := dk_27 (dk_at dksJ5_get_1 11 rfl rfl)
theorem dJ5_get_36 : decode cJ5_get 36 = .ok (.invokestatic 52, 3) := dk_184 0 52 (dk_at dksJ5_get_1 12 rfl rfl)
theorem dJ5_get_39 : decode cJ5_get 39 = .ok (.istore_n 2, 1) := dk_61 (dk_at dksJ5_get_1 15 rfl rfl)
theorem dJ5_get_40 : decode cJ5_get 40 = .ok (.iload_n 2, 1) := dk_28 (dk_at dksJ5_get_1 16 rfl rfl)
theorem dJ5_get_41 : decode cJ5_get 41 = .ok (.aload_n 0, 1) := dk_42 (dk_at dksJ5_get_1 17 rfl rfl)
theorem dJ5_get_42 : decode cJ5_get 42 = .ok (.getfield 7, 3) := dk_180 0 7 (dk_at dksJ5_get_1 18 rfl rfl)
theorem dJ5_get_45 : decode cJ5_get 45 = .ok (.if_icmp .ge 22, 3) := dk_162 0 22 (dk_at dksJ5_get_1 21 rfl rfl)
theorem dJ5_get_48 : decode cJ5_get 48 = .ok (.aload_n 0, 1) := dk_42 (dk_at dksJ5_get_2 0 rfl rfl)
theorem dJ5_get_49 : decode cJ5_get 49 = .ok (.getfield 11, 3) := dk_180 0 11 (dk_at dksJ5_get_2 1 rfl rfl)
theorem dJ5_get_52 : decode cJ5_get 52 = .ok (.iload_n 2, 1) := dk_28 (dk_at dksJ5_get_2 4 rfl rfl)
theorem dJ5_get_53 : decode cJ5_get 53 = .ok (.laload, 1) := dk_47 (dk_at dksJ5_get_2 5 rfl rfl)
theorem dJ5_get_54 : decode cJ5_get 54 = .ok (.lconst 1, 1) := dk_10 (dk_at dksJ5_get_2 6 rfl rfl)
theorem dJ5_get_55 : decode cJ5_get 55 = .ok (.iload_n 1, 1) := dk_27 (dk_at dksJ5_get_2 7 rfl rfl)
theorem dJ5_get_56 : decode cJ5_get 56 = .ok (.lshl, 1) := dk_121 (dk_at dksJ5_get_2 8 rfl rfl)
theorem dJ5_get_57 : decode cJ5_get 57 = .ok (.land, 1) := dk_127 (dk_at dksJ5_get_2 9 rfl rfl)
theorem dJ5_get_58 : decode cJ5_get 58 = .ok (.lconst 0, 1) := dk_9 (dk_at dksJ5_get_2 10 rfl rfl)
theorem dJ5_get_59 : decode cJ5_get 59 = .ok (.lcmp, 1) := dk_148 (dk_at dksJ5_get_2 11 rfl rfl)
theorem dJ5_get_60 : decode cJ5_get 60 = .ok (.ifCond .eq 7, 3) := dk_153 0 7 (dk_at dksJ5_get_2 12 rfl rfl)
theorem dJ5_get_63 : decode cJ5_get 63 = .ok (.iconst 1, 1) := dk_4 (dk_at dksJ5_get_2 15 rfl rfl)
theorem dJ5_get_64 : decode cJ5_get 64 = .ok (.goto 4, 3) := dk_167 0 4 (dk_at dksJ5_get_2 16 rfl rfl)
theorem dJ5_get_67 : decode cJ5_get 67 = .ok (.iconst 0, 1) := dk_3 (dk_at dksJ5_get_2 19 rfl rfl)
theorem dJ5_get_68 : decode cJ5_get 68 = .ok (.ireturn, 1) := dk_172 (dk_at dksJ5_get_2 20 rfl rfl)
abbrev cJ5_checkInvariants : ByteArray := prog_61_method_2_code
def yJ5_checkInvariants : MethodName := ⟨RJ5, "checkInvariants", "()V"⟩
def dkwJ5_checkInvariants_4 : List UInt8 := [180, 0, 7, 47, 9, 148, 153, 0, 11, 187, 0, 15, 89, 183, 0, 17, 191, 177]
abbrev dktJ5_checkInvariants_4 : List UInt8 := dkwJ5_checkInvariants_4 ++ []
def dkwJ5_checkInvariants_3 : List UInt8 := [178, 0, 3, 154, 0, 37, 42, 180, 0, 7, 42, 180, 0, 11, 190, 159, 0, 25, 42, 180, 0, 11, 42]
abbrev dktJ5_checkInvariants_3 : List UInt8 := dkwJ5_checkInvariants_3 ++ dktJ5_checkInvariants_4
def dkwJ5_checkInvariants_2 : List UInt8 := [155, 0, 15, 42, 180, 0, 7, 42, 180, 0, 11, 190, 164, 0, 11, 187, 0, 15, 89, 183, 0, 17, 191]
abbrev dktJ5_checkInvariants_2 : List UInt8 := dkwJ5_checkInvariants_2 ++ dktJ5_checkInvariants_3
def dkwJ5_checkInvariants_1 : List UInt8 := [9, 148, 154, 0, 11, 187, 0, 15, 89, 183, 0, 17, 191, 178, 0, 3, 154, 0, 30, 42, 180, 0, 7]
abbrev dktJ5_checkInvariants_1 : List UInt8 := dkwJ5_checkInvariants_1 ++ dktJ5_checkInvariants_2
def dkwJ5_checkInvariants_0 : List UInt8 := [178, 0, 3, 154, 0, 34, 42, 180, 0, 7, 153, 0, 27, 42, 180, 0, 11, 42, 180, 0, 7, 4, 100, 47]
abbrev dktJ5_checkInvariants_0 : List UInt8 := dkwJ5_checkInvariants_0 ++ dktJ5_checkInvariants_1
theorem dksJ5_checkInvariants_0 : cJ5_checkInvariants.data.toList.drop 0 = dktJ5_checkInvariants_0 := by decide +kernel
theorem dksJ5_checkInvariants_1 : cJ5_checkInvariants.data.toList.drop 24 = dktJ5_checkInvariants_1 := dk_seg dksJ5_checkInvariants_0 24 rfl rfl
theorem dksJ5_checkInvariants_2 : cJ5_checkInvariants.data.toList.drop 47 = dktJ5_checkInvariants_2 := dk_seg dksJ5_checkInvariants_1 23 rfl rfl
theorem dksJ5_checkInvariants_3 : cJ5_checkInvariants.data.toList.drop 70 = dktJ5_checkInvariants_3 := dk_seg dksJ5_checkInvariants_2 23 rfl rfl
theorem dksJ5_checkInvariants_4 : cJ5_checkInvariants.data.toList.drop 93 = dktJ5_checkInvariants_4 := dk_seg dksJ5_checkInvariants_3 23 rfl rfl
theorem dJ5_checkInvariants_0 : decode cJ5_checkInvariants 0 = .ok (.getstatic 3, 3) := dk_178 0 3 (dk_at dksJ5_checkInvariants_0 0 rfl rfl)
theorem dJ5_checkInvariants_3 : decode cJ5_checkInvariants 3 = .ok (.ifCond .ne 34, 3) := dk_154 0 34 (dk_at dksJ5_checkInvariants_0 3 rfl rfl)
theorem dJ5_checkInvariants_6 : decode cJ5_checkInvariants 6 = .ok (.aload_n 0, 1) := dk_42 (dk_at dksJ5_checkInvariants_0 6 rfl rfl)
theorem dJ5_checkInvariants_7 : decode cJ5_checkInvariants 7 = .ok (.getfield 7, 3) := dk_180 0 7 (dk_at dksJ5_checkInvariants_0 7 rfl rfl)
theorem dJ5_checkInvariants_10 : decode cJ5_checkInvariants 10 = .ok (.ifCond .eq 27, 3) := dk_153 0 27 (dk_at dksJ5_checkInvariants_0 10 rfl rfl)
theorem dJ5_checkInvariants_13 : decode cJ5_checkInvariants 13 = .ok (.aload_n 0, 1) := dk_42 (dk_at dksJ5_checkInvariants_0 13 rfl rfl)
theorem dJ5_checkInvariants_14 : decode cJ5_checkInvariants 14 = .ok (.getfield 11, 3) := dk_180 0 11 (dk_at dksJ5_checkInvariants_0 14 rfl rfl)
theorem dJ5_checkInvariants_17 : decode cJ5_checkInvariants 17 = .ok (.aload_n 0, 1) := dk_42 (dk_at dksJ5_checkInvariants_0 17 rfl rfl)
theorem dJ5_checkInvariants_18 : decode cJ5_checkInvariants 18 = .ok (.getfield 7, 3) := dk_180 0 7 (dk_at dksJ5_checkInvariants_0 18 rfl rfl)
theorem dJ5_checkInvariants_21 : decode cJ5_checkInvariants 21 = .ok (.iconst 1, 1) := dk_4 (dk_at dksJ5_checkInvariants_0 21 rfl rfl)
theorem dJ5_checkInvariants_22 : decode cJ5_checkInvariants 22 = .ok (.isub, 1) := dk_100 (dk_at dksJ5_checkInvariants_0 22 rfl rfl)
theorem dJ5_checkInvariants_23 : decode cJ5_checkInvariants 23 = .ok (.laload, 1) := dk_47 (dk_at dksJ5_checkInvariants_0 23 rfl rfl)
theorem dJ5_checkInvariants_24 : decode cJ5_checkInvariants 24 = .ok (.lconst 0, 1) := dk_9 (dk_at dksJ5_checkInvariants_1 0 rfl rfl)
theorem dJ5_checkInvariants_25 : decode cJ5_checkInvariants 25 = .ok (.lcmp, 1) := dk_148 (dk_at dksJ5_checkInvariants_1 1 rfl rfl)
theorem dJ5_checkInvariants_26 : decode cJ5_checkInvariants 26 = .ok (.ifCond .ne 11, 3) := dk_154 0 11 (dk_at dksJ5_checkInvariants_1 2 rfl rfl)
theorem dJ5_checkInvariants_29 : decode cJ5_checkInvariants 29 = .ok (.new 15, 3) := dk_187 0 15 (dk_at dksJ5_checkInvariants_1 5 rfl rfl)
theorem dJ5_checkInvariants_32 : decode cJ5_checkInvariants 32 = .ok (.dup, 1) := dk_89 (dk_at dksJ5_checkInvariants_1 8 rfl rfl)
theorem dJ5_checkInvariants_33 : decode cJ5_checkInvariants 33 = .ok (.invokespecial 17, 3) := dk_183 0 17 (dk_at dksJ5_checkInvariants_1 9 rfl rfl)
theorem dJ5_checkInvariants_36 : decode cJ5_checkInvariants 36 = .ok (.athrow, 1) := dk_191 (dk_at dksJ5_checkInvariants_1 12 rfl rfl)
theorem dJ5_checkInvariants_37 : decode cJ5_checkInvariants 37 = .ok (.getstatic 3, 3) := dk_178 0 3 (dk_at dksJ5_checkInvariants_1 13 rfl rfl)
theorem dJ5_checkInvariants_40 : decode cJ5_checkInvariants 40 = .ok (.ifCond .ne 30, 3) := dk_154 0 30 (dk_at dksJ5_checkInvariants_1 16 rfl rfl)
theorem dJ5_checkInvariants_43 : decode cJ5_checkInvariants 43 = .ok (.aload_n 0, 1) := dk_42 (dk_at dksJ5_checkInvariants_1 19 rfl rfl)
theorem dJ5_checkInvariants_44 : decode cJ5_checkInvariants 44 = .ok (.getfield 7, 3) := dk_180 0 7 (dk_at dksJ5_checkInvariants_1 20 rfl rfl)
theorem dJ5_checkInvariants_47 : decode cJ5_checkInvariants 47 = .ok (.ifCond .lt 15, 3) := dk_155 0 15 (dk_at dksJ5_checkInvariants_2 0 rfl rfl)
theorem dJ5_checkInvariants_50 : decode cJ5_checkInvariants 50 = .ok (.aload_n 0, 1) := dk_42 (dk_at dksJ5_checkInvariants_2 3 rfl rfl)
theorem dJ5_checkInvariants_51 : decode cJ5_checkInvariants 51 = .ok (.getfield 7, 3) := dk_180 0 7 (dk_at dksJ5_checkInvariants_2 4 rfl rfl)
theorem dJ5_checkInvariants_54 : decode cJ5_checkInvariants 54 = .ok (.aload_n 0, 1) := dk_42 (dk_at dksJ5_checkInvariants_2 7 rfl rfl)
theorem dJ5_checkInvariants_55 : decode cJ5_checkInvariants 55 = .ok (.getfield 11, 3) := dk_180 0 11 (dk_at dksJ5_checkInvariants_2 8 rfl rfl)
theorem dJ5_checkInvariants_58 : decode cJ5_checkInvariants 58 = .ok (.arraylength, 1) := dk_190 (dk_at dksJ5_checkInvariants_2 11 rfl rfl)
theorem dJ5_checkInvariants_59 : decode cJ5_checkInvariants 59 = .ok (.if_icmp .le 11, 3) := dk_164 0 11 (dk_at dksJ5_checkInvariants_2 12 rfl rfl)
theorem dJ5_checkInvariants_62 : decode cJ5_checkInvariants 62 = .ok (.new 15, 3) := dk_187 0 15 (dk_at dksJ5_checkInvariants_2 15 rfl rfl)
theorem dJ5_checkInvariants_65 : decode cJ5_checkInvariants 65 = .ok (.dup, 1) := dk_89 (dk_at dksJ5_checkInvariants_2 18 rfl rfl)
theorem dJ5_checkInvariants_66 : decode cJ5_checkInvariants 66 = .ok (.invokespecial 17, 3) := dk_183 0 17 (dk_at dksJ5_checkInvariants_2 19 rfl rfl)
theorem dJ5_checkInvariants_69 : decode cJ5_checkInvariants 69 = .ok (.athrow, 1) := dk_191 (dk_at dksJ5_checkInvariants_2 22 rfl rfl)
theorem dJ5_checkInvariants_70 : decode cJ5_checkInvariants 70 = .ok (.getstatic 3, 3) := dk_178 0 3 (dk_at dksJ5_checkInvariants_3 0 rfl rfl)
theorem dJ5_checkInvariants_73 : decode cJ5_checkInvariants 73 = .ok (.ifCond .ne 37, 3) := dk_154 0 37 (dk_at dksJ5_checkInvariants_3 3 rfl rfl)
theorem dJ5_checkInvariants_76 : decode cJ5_checkInvariants 76 = .ok (.aload_n 0, 1) := dk_42 (dk_at dksJ5_checkInvariants_3 6 rfl rfl)
theorem dJ5_checkInvariants_77 : decode cJ5_checkInvariants 77 = .ok (.getfield 7, 3) := dk_180 0 7 (dk_at dksJ5_checkInvariants_3 7 rfl rfl)
theorem dJ5_checkInvariants_80 : decode cJ5_checkInvariants 80 = .ok (.aload_n 0, 1) := dk_42 (dk_at dksJ5_checkInvariants_3 10 rfl rfl)
theorem dJ5_checkInvariants_81 : decode cJ5_checkInvariants 81 = .ok (.getfield 11, 3) := dk_180 0 11 (dk_at dksJ5_checkInvariants_3 11 rfl rfl)
theorem dJ5_checkInvariants_84 : decode cJ5_checkInvariants 84 = .ok (.arraylength, 1) := dk_190 (dk_at dksJ5_checkInvariants_3 14 rfl rfl)
theorem dJ5_checkInvariants_85 : decode cJ5_checkInvariants 85 = .ok (.if_icmp .eq 25, 3) := dk_159 0 25 (dk_at dksJ5_checkInvariants_3 15 rfl rfl)
theorem dJ5_checkInvariants_88 : decode cJ5_checkInvariants 88 = .ok (.aload_n 0, 1) := dk_42 (dk_at dksJ5_checkInvariants_3 18 rfl rfl)
theorem dJ5_checkInvariants_89 : decode cJ5_checkInvariants 89 = .ok (.getfield 11, 3) := dk_180 0 11 (dk_at dksJ5_checkInvariants_3 19 rfl rfl)
theorem dJ5_checkInvariants_92 : decode cJ5_checkInvariants 92 = .ok (.aload_n 0, 1) := dk_42 (dk_at dksJ5_checkInvariants_3 22 rfl rfl)
theorem dJ5_checkInvariants_93 : decode cJ5_checkInvariants 93 = .ok (.getfield 7, 3) := dk_180 0 7 (dk_at dksJ5_checkInvariants_4 0 rfl rfl)
theorem dJ5_checkInvariants_96 : decode cJ5_checkInvariants 96 = .ok (.laload, 1) := dk_47 (dk_at dksJ5_checkInvariants_4 3 rfl rfl)
theorem dJ5_checkInvariants_97 : decode cJ5_checkInvariants 97 = .ok (.lconst 0, 1) := dk_9 (dk_at dksJ5_checkInvariants_4 4 rfl rfl)
theorem dJ5_checkInvariants_98 : decode cJ5_checkInvariants 98 = .ok (.lcmp, 1) := dk_148 (dk_at dksJ5_checkInvariants_4 5 rfl rfl)
theorem dJ5_checkInvariants_99 : decode cJ5_checkInvariants 99 = .ok (.ifCond .eq 11, 3) := dk_153 0 11 (dk_at dksJ5_checkInvariants_4 6 rfl rfl)
theorem dJ5_checkInvariants_102 : decode cJ5_checkInvariants 102 = .ok (.new 15, 3) := dk_187 0 15 (dk_at dksJ5_checkInvariants_4 9 rfl rfl)
theorem dJ5_checkInvariants_105 : decode cJ5_checkInvariants 105 = .ok (.dup, 1) := dk_89 (dk_at dksJ5_checkInvariants_4 12 rfl rfl)
theorem dJ5_checkInvariants_106 : decode cJ5_checkInvariants 106 = .ok (.invokespecial 17, 3) := dk_183 0 17 (dk_at dksJ5_checkInvariants_4 13 rfl rfl)
theorem dJ5_checkInvariants_109 : decode cJ5_checkInvariants 109 = .ok (.athrow, 1) := dk_191 (dk_at dksJ5_checkInvariants_4 16 rfl rfl)
theorem dJ5_checkInvariants_110 : decode cJ5_checkInvariants 110 = .ok (.return_, 1) := dk_177 (dk_at dksJ5_checkInvariants_4 17 rfl rfl)
abbrev cJ5_set : ByteArray := prog_61_method_19_code
def yJ5_set : MethodName := ⟨RJ5, "set", "(I)V"⟩
def dkwJ5_set_2 : List UInt8 := [10, 27, 121, 129, 80, 42, 182, 0, 56, 177]
abbrev dktJ5_set_2 : List UInt8 := dkwJ5_set_2 ++ []
def dkwJ5_set_1 : List UInt8 := [182, 0, 45, 183, 0, 146, 191, 27, 184, 0, 52, 61, 42, 28, 182, 0, 155, 42, 180, 0, 11, 28, 92, 47]
abbrev dktJ5_set_1 : List UInt8 := dkwJ5_set_1 ++ dktJ5_set_2
def dkwJ5_set_0 : List UInt8 := [27, 156, 0, 30, 187, 0, 142, 89, 187, 0, 33, 89, 183, 0, 35, 18, 153, 182, 0, 38, 27, 182, 0, 42]
abbrev dktJ5_set_0 : List UInt8 := dkwJ5_set_0 ++ dktJ5_set_1
theorem dksJ5_set_0 : cJ5_set.data.toList.drop 0 = dktJ5_set_0 := by decide +kernel
theorem dksJ5_set_1 : cJ5_set.data.toList.drop 24 = dktJ5_set_1 := dk_seg dksJ5_set_0 24 rfl rfl
theorem dksJ5_set_2 : cJ5_set.data.toList.drop 48 = dktJ5_set_2 := dk_seg dksJ5_set_1 24 rfl rfl
theorem dJ5_set_0 : decode cJ5_set 0 = .ok (.iload_n 1, 1) := dk_27 (dk_at dksJ5_set_0 0 rfl rfl)
theorem dJ5_set_1 : decode cJ5_set 1 = .ok (.ifCond .ge 30, 3) := dk_156 0 30 (dk_at dksJ5_set_0 1 rfl rfl)
theorem dJ5_set_4 : decode cJ5_set 4 = .ok (.new 142, 3) := dk_187 0 142 (dk_at dksJ5_set_0 4 rfl rfl)
theorem dJ5_set_7 : decode cJ5_set 7 = .ok (.dup, 1) := dk_89 (dk_at dksJ5_set_0 7 rfl rfl)
theorem dJ5_set_8 : decode cJ5_set 8 = .ok (.new 33, 3) := dk_187 0 33 (dk_at dksJ5_set_0 8 rfl rfl)
theorem dJ5_set_11 : decode cJ5_set 11 = .ok (.dup, 1) := dk_89 (dk_at dksJ5_set_0 11 rfl rfl)
theorem dJ5_set_12 : decode cJ5_set 12 = .ok (.invokespecial 35, 3) := dk_183 0 35 (dk_at dksJ5_set_0 12 rfl rfl)
theorem dJ5_set_15 : decode cJ5_set 15 = .ok (.ldc 153, 2) := dk_18 153 (dk_at dksJ5_set_0 15 rfl rfl)
theorem dJ5_set_17 : decode cJ5_set 17 = .ok (.invokevirtual 38, 3) := dk_182 0 38 (dk_at dksJ5_set_0 17 rfl rfl)
theorem dJ5_set_20 : decode cJ5_set 20 = .ok (.iload_n 1, 1) := dk_27 (dk_at dksJ5_set_0 20 rfl rfl)
theorem dJ5_set_21 : decode cJ5_set 21 = .ok (.invokevirtual 42, 3) := dk_182 0 42 (dk_at dksJ5_set_0 21 rfl rfl)
theorem dJ5_set_24 : decode cJ5_set 24 = .ok (.invokevirtual 45, 3) := dk_182 0 45 (dk_at dksJ5_set_1 0 rfl rfl)
theorem dJ5_set_27 : decode cJ5_set 27 = .ok (.invokespecial 146, 3) := dk_183 0 146 (dk_at dksJ5_set_1 3 rfl rfl)
theorem dJ5_set_30 : decode cJ5_set 30 = .ok (.athrow, 1) := dk_191 (dk_at dksJ5_set_1 6 rfl rfl)
theorem dJ5_set_31 : decode cJ5_set 31 = .ok (.iload_n 1, 1) := dk_27 (dk_at dksJ5_set_1 7 rfl rfl)
theorem dJ5_set_32 : decode cJ5_set 32 = .ok (.invokestatic 52, 3) := dk_184 0 52 (dk_at dksJ5_set_1 8 rfl rfl)
theorem dJ5_set_35 : decode cJ5_set 35 = .ok (.istore_n 2, 1) := dk_61 (dk_at dksJ5_set_1 11 rfl rfl)
theorem dJ5_set_36 : decode cJ5_set 36 = .ok (.aload_n 0, 1) := dk_42 (dk_at dksJ5_set_1 12 rfl rfl)
theorem dJ5_set_37 : decode cJ5_set 37 = .ok (.iload_n 2, 1) := dk_28 (dk_at dksJ5_set_1 13 rfl rfl)
theorem dJ5_set_38 : decode cJ5_set 38 = .ok (.invokevirtual 155, 3) := dk_182 0 155 (dk_at dksJ5_set_1 14 rfl rfl)
theorem dJ5_set_41 : decode cJ5_set 41 = .ok (.aload_n 0, 1) := dk_42 (dk_at dksJ5_set_1 17 rfl rfl)
theorem dJ5_set_42 : decode cJ5_set 42 = .ok (.getfield 11, 3) := dk_180 0 11 (dk_at dksJ5_set_1 18 rfl rfl)
theorem dJ5_set_45 : decode cJ5_set 45 = .ok (.iload_n 2, 1) := dk_28 (dk_at dksJ5_set_1 21 rfl rfl)
theorem dJ5_set_46 : decode cJ5_set 46 = .ok (.dup2, 1) := dk_92 (dk_at dksJ5_set_1 22 rfl rfl)
theorem dJ5_set_47 : decode cJ5_set 47 = .ok (.laload, 1) := dk_47 (dk_at dksJ5_set_1 23 rfl rfl)
theorem dJ5_set_48 : decode cJ5_set 48 = .ok (.lconst 1, 1) := dk_10 (dk_at dksJ5_set_2 0 rfl rfl)
theorem dJ5_set_49 : decode cJ5_set 49 = .ok (.iload_n 1, 1) := dk_27 (dk_at dksJ5_set_2 1 rfl rfl)
theorem dJ5_set_50 : decode cJ5_set 50 = .ok (.lshl, 1) := dk_121 (dk_at dksJ5_set_2 2 rfl rfl)
theorem dJ5_set_51 : decode cJ5_set 51 = .ok (.lor, 1) := dk_129 (dk_at dksJ5_set_2 3 rfl rfl)
theorem dJ5_set_52 : decode cJ5_set 52 = .ok (.lastore, 1) := dk_80 (dk_at dksJ5_set_2 4 rfl rfl)
theorem dJ5_set_53 : decode cJ5_set 53 = .ok (.aload_n 0, 1) := dk_42 (dk_at dksJ5_set_2 5 rfl rfl)
theorem dJ5_set_54 : decode cJ5_set 54 = .ok (.invokevirtual 56, 3) := dk_182 0 56 (dk_at dksJ5_set_2 6 rfl rfl)
theorem dJ5_set_57 : decode cJ5_set 57 = .ok (.return_, 1) := dk_177 (dk_at dksJ5_set_2 9 rfl rfl)
abbrev cJ5_expandTo : ByteArray := prog_61_method_15_code
def yJ5_expandTo : MethodName := ⟨RJ5, "expandTo", "(I)V"⟩
def dkwJ5_expandTo_0 : List UInt8 := [27, 4, 96, 61, 42, 180, 0, 7, 28, 162, 0, 13, 42, 28, 182, 0, 139, 42, 28, 181, 0, 7, 177]
abbrev dktJ5_expandTo_0 : List UInt8 := dkwJ5_expandTo_0 ++ []
theorem dksJ5_expandTo_0 : cJ5_expandTo.data.toList.drop 0 = dktJ5_expandTo_0 := by decide +kernel
theorem dJ5_expandTo_0 : decode cJ5_expandTo 0 = .ok (.iload_n 1, 1) := dk_27 (dk_at dksJ5_expandTo_0 0 rfl rfl)
theorem dJ5_expandTo_1 : decode cJ5_expandTo 1 = .ok (.iconst 1, 1) := dk_4 (dk_at dksJ5_expandTo_0 1 rfl rfl)
theorem dJ5_expandTo_2 : decode cJ5_expandTo 2 = .ok (.iadd, 1) := dk_96 (dk_at dksJ5_expandTo_0 2 rfl rfl)
theorem dJ5_expandTo_3 : decode cJ5_expandTo 3 = .ok (.istore_n 2, 1) := dk_61 (dk_at dksJ5_expandTo_0 3 rfl rfl)
theorem dJ5_expandTo_4 : decode cJ5_expandTo 4 = .ok (.aload_n 0, 1) := dk_42 (dk_at dksJ5_expandTo_0 4 rfl rfl)
theorem dJ5_expandTo_5 : decode cJ5_expandTo 5 = .ok (.getfield 7, 3) := dk_180 0 7 (dk_at dksJ5_expandTo_0 5 rfl rfl)
theorem dJ5_expandTo_8 : decode cJ5_expandTo 8 = .ok (.iload_n 2, 1) := dk_28 (dk_at dksJ5_expandTo_0 8 rfl rfl)
theorem dJ5_expandTo_9 : decode cJ5_expandTo 9 = .ok (.if_icmp .ge 13, 3) := dk_162 0 13 (dk_at dksJ5_expandTo_0 9 rfl rfl)
theorem dJ5_expandTo_12 : decode cJ5_expandTo 12 = .ok (.aload_n 0, 1) := dk_42 (dk_at dksJ5_expandTo_0 12 rfl rfl)
theorem dJ5_expandTo_13 : decode cJ5_expandTo 13 = .ok (.iload_n 2, 1) := dk_28 (dk_at dksJ5_expandTo_0 13 rfl rfl)
theorem dJ5_expandTo_14 : decode cJ5_expandTo 14 = .ok (.invokevirtual 139, 3) := dk_182 0 139 (dk_at dksJ5_expandTo_0 14 rfl rfl)
theorem dJ5_expandTo_17 : decode cJ5_expandTo 17 = .ok (.aload_n 0, 1) := dk_42 (dk_at dksJ5_expandTo_0 17 rfl rfl)
theorem dJ5_expandTo_18 : decode cJ5_expandTo 18 = .ok (.iload_n 2, 1) := dk_28 (dk_at dksJ5_expandTo_0 18 rfl rfl)
theorem dJ5_expandTo_19 : decode cJ5_expandTo 19 = .ok (.putfield 7, 3) := dk_181 0 7 (dk_at dksJ5_expandTo_0 19 rfl rfl)
theorem dJ5_expandTo_22 : decode cJ5_expandTo 22 = .ok (.return_, 1) := dk_177 (dk_at dksJ5_expandTo_0 22 rfl rfl)
abbrev cJ5_ensureCapacity : ByteArray := prog_61_method_14_code
def yJ5_ensureCapacity : MethodName := ⟨RJ5, "ensureCapacity", "(I)V"⟩
def dkwJ5_ensureCapacity_1 : List UInt8 := [180, 0, 11, 28, 184, 0, 59, 181, 0, 11, 42, 3, 181, 0, 24, 177]
abbrev dktJ5_ensureCapacity_1 : List UInt8 := dkwJ5_ensureCapacity_1 ++ []
def dkwJ5_ensureCapacity_0 : List UInt8 := [42, 180, 0, 11, 190, 27, 162, 0, 32, 5, 42, 180, 0, 11, 190, 104, 27, 184, 0, 133, 61, 42, 42]
abbrev dktJ5_ensureCapacity_0 : List UInt8 := dkwJ5_ensureCapacity_0 ++ dktJ5_ensureCapacity_1
theorem dksJ5_ensureCapacity_0 : cJ5_ensureCapacity.data.toList.drop 0 = dktJ5_ensureCapacity_0 := by decide +kernel
theorem dksJ5_ensureCapacity_1 : cJ5_ensureCapacity.data.toList.drop 23 = dktJ5_ensureCapacity_1 := dk_seg dksJ5_ensureCapacity_0 23 rfl rfl
theorem dJ5_ensureCapacity_0 : decode cJ5_ensureCapacity 0 = .ok (.aload_n 0, 1) := dk_42 (dk_at dksJ5_ensureCapacity_0 0 rfl rfl)
theorem dJ5_ensureCapacity_1 : decode cJ5_ensureCapacity 1 = .ok (.getfield 11, 3) := dk_180 0 11 (dk_at dksJ5_ensureCapacity_0 1 rfl rfl)
theorem dJ5_ensureCapacity_4 : decode cJ5_ensureCapacity 4 = .ok (.arraylength, 1) := dk_190 (dk_at dksJ5_ensureCapacity_0 4 rfl rfl)
theorem dJ5_ensureCapacity_5 : decode cJ5_ensureCapacity 5 = .ok (.iload_n 1, 1) := dk_27 (dk_at dksJ5_ensureCapacity_0 5 rfl rfl)
theorem dJ5_ensureCapacity_6 : decode cJ5_ensureCapacity 6 = .ok (.if_icmp .ge 32, 3) := dk_162 0 32 (dk_at dksJ5_ensureCapacity_0 6 rfl rfl)
theorem dJ5_ensureCapacity_9 : decode cJ5_ensureCapacity 9 = .ok (.iconst 2, 1) := dk_5 (dk_at dksJ5_ensureCapacity_0 9 rfl rfl)
theorem dJ5_ensureCapacity_10 : decode cJ5_ensureCapacity 10 = .ok (.aload_n 0, 1) := dk_42 (dk_at dksJ5_ensureCapacity_0 10 rfl rfl)
theorem dJ5_ensureCapacity_11 : decode cJ5_ensureCapacity 11 = .ok (.getfield 11, 3) := dk_180 0 11 (dk_at dksJ5_ensureCapacity_0 11 rfl rfl)
theorem dJ5_ensureCapacity_14 : decode cJ5_ensureCapacity 14 = .ok (.arraylength, 1) := dk_190 (dk_at dksJ5_ensureCapacity_0 14 rfl rfl)
theorem dJ5_ensureCapacity_15 : decode cJ5_ensureCapacity 15 = .ok (.imul, 1) := dk_104 (dk_at dksJ5_ensureCapacity_0 15 rfl rfl)
theorem dJ5_ensureCapacity_16 : decode cJ5_ensureCapacity 16 = .ok (.iload_n 1, 1) := dk_27 (dk_at dksJ5_ensureCapacity_0 16 rfl rfl)
theorem dJ5_ensureCapacity_17 : decode cJ5_ensureCapacity 17 = .ok (.invokestatic 133, 3) := dk_184 0 133 (dk_at dksJ5_ensureCapacity_0 17 rfl rfl)
theorem dJ5_ensureCapacity_20 : decode cJ5_ensureCapacity 20 = .ok (.istore_n 2, 1) := dk_61 (dk_at dksJ5_ensureCapacity_0 20 rfl rfl)
theorem dJ5_ensureCapacity_21 : decode cJ5_ensureCapacity 21 = .ok (.aload_n 0, 1) := dk_42 (dk_at dksJ5_ensureCapacity_0 21 rfl rfl)
theorem dJ5_ensureCapacity_22 : decode cJ5_ensureCapacity 22 = .ok (.aload_n 0, 1) := dk_42 (dk_at dksJ5_ensureCapacity_0 22 rfl rfl)
theorem dJ5_ensureCapacity_23 : decode cJ5_ensureCapacity 23 = .ok (.getfield 11, 3) := dk_180 0 11 (dk_at dksJ5_ensureCapacity_1 0 rfl rfl)
theorem dJ5_ensureCapacity_26 : decode cJ5_ensureCapacity 26 = .ok (.iload_n 2, 1) := dk_28 (dk_at dksJ5_ensureCapacity_1 3 rfl rfl)
theorem dJ5_ensureCapacity_27 : decode cJ5_ensureCapacity 27 = .ok (.invokestatic 59, 3) := dk_184 0 59 (dk_at dksJ5_ensureCapacity_1 4 rfl rfl)
theorem dJ5_ensureCapacity_30 : decode cJ5_ensureCapacity 30 = .ok (.putfield 11, 3) := dk_181 0 11 (dk_at dksJ5_ensureCapacity_1 7 rfl rfl)
theorem dJ5_ensureCapacity_33 : decode cJ5_ensureCapacity 33 = .ok (.aload_n 0, 1) := dk_42 (dk_at dksJ5_ensureCapacity_1 10 rfl rfl)
theorem dJ5_ensureCapacity_34 : decode cJ5_ensureCapacity 34 = .ok (.iconst 0, 1) := dk_3 (dk_at dksJ5_ensureCapacity_1 11 rfl rfl)
theorem dJ5_ensureCapacity_35 : decode cJ5_ensureCapacity 35 = .ok (.putfield 24, 3) := dk_181 0 24 (dk_at dksJ5_ensureCapacity_1 12 rfl rfl)
theorem dJ5_ensureCapacity_38 : decode cJ5_ensureCapacity 38 = .ok (.return_, 1) := dk_177 (dk_at dksJ5_ensureCapacity_1 15 rfl rfl)
abbrev cJ5_clear_2 : ByteArray := prog_61_method_23_code
def yJ5_clear_2 : MethodName := ⟨RJ5, "clear", "(I)V"⟩
def dkwJ5_clear_2_2 : List UInt8 := [180, 0, 11, 28, 92, 47, 10, 27, 121, 20, 0, 165, 131, 127, 80, 42, 182, 0, 158, 42, 182, 0, 56, 177]
abbrev dktJ5_clear_2_2 : List UInt8 := dkwJ5_clear_2_2 ++ []
def dkwJ5_clear_2_1 : List UInt8 := [182, 0, 45, 183, 0, 146, 191, 27, 184, 0, 52, 61, 28, 42, 180, 0, 7, 161, 0, 4, 177, 42]
abbrev dktJ5_clear_2_1 : List UInt8 := dkwJ5_clear_2_1 ++ dktJ5_clear_2_2
def dkwJ5_clear_2_0 : List UInt8 := [27, 156, 0, 30, 187, 0, 142, 89, 187, 0, 33, 89, 183, 0, 35, 18, 153, 182, 0, 38, 27, 182, 0, 42]
abbrev dktJ5_clear_2_0 : List UInt8 := dkwJ5_clear_2_0 ++ dktJ5_clear_2_1
theorem dksJ5_clear_2_0 : cJ5_clear_2.data.toList.drop 0 = dktJ5_clear_2_0 := by decide +kernel
theorem dksJ5_clear_2_1 : cJ5_clear_2.data.toList.drop 24 = dktJ5_clear_2_1 := dk_seg dksJ5_clear_2_0 24 rfl rfl
theorem dksJ5_clear_2_2 : cJ5_clear_2.data.toList.drop 46 = dktJ5_clear_2_2 := dk_seg dksJ5_clear_2_1 22 rfl rfl
theorem dJ5_clear_2_0 : decode cJ5_clear_2 0 = .ok (.iload_n 1, 1) := dk_27 (dk_at dksJ5_clear_2_0 0 rfl rfl)
theorem dJ5_clear_2_1 : decode cJ5_clear_2 1 = .ok (.ifCond .ge 30, 3) := dk_156 0 30 (dk_at dksJ5_clear_2_0 1 rfl rfl)
theorem dJ5_clear_2_4 : decode cJ5_clear_2 4 = .ok (.new 142, 3) := dk_187 0 142 (dk_at dksJ5_clear_2_0 4 rfl rfl)
theorem dJ5_clear_2_7 : decode cJ5_clear_2 7 = .ok (.dup, 1) := dk_89 (dk_at dksJ5_clear_2_0 7 rfl rfl)
theorem dJ5_clear_2_8 : decode cJ5_clear_2 8 = .ok (.new 33, 3) := dk_187 0 33 (dk_at dksJ5_clear_2_0 8 rfl rfl)
theorem dJ5_clear_2_11 : decode cJ5_clear_2 11 = .ok (.dup, 1) := dk_89 (dk_at dksJ5_clear_2_0 11 rfl rfl)
theorem dJ5_clear_2_12 : decode cJ5_clear_2 12 = .ok (.invokespecial 35, 3) := dk_183 0 35 (dk_at dksJ5_clear_2_0 12 rfl rfl)
theorem dJ5_clear_2_15 : decode cJ5_clear_2 15 = .ok (.ldc 153, 2) := dk_18 153 (dk_at dksJ5_clear_2_0 15 rfl rfl)
theorem dJ5_clear_2_17 : decode cJ5_clear_2 17 = .ok (.invokevirtual 38, 3) := dk_182 0 38 (dk_at dksJ5_clear_2_0 17 rfl rfl)
theorem dJ5_clear_2_20 : decode cJ5_clear_2 20 = .ok (.iload_n 1, 1) := dk_27 (dk_at dksJ5_clear_2_0 20 rfl rfl)
theorem dJ5_clear_2_21 : decode cJ5_clear_2 21 = .ok (.invokevirtual 42, 3) := dk_182 0 42 (dk_at dksJ5_clear_2_0 21 rfl rfl)
theorem dJ5_clear_2_24 : decode cJ5_clear_2 24 = .ok (.invokevirtual 45, 3) := dk_182 0 45 (dk_at dksJ5_clear_2_1 0 rfl rfl)
theorem dJ5_clear_2_27 : decode cJ5_clear_2 27 = .ok (.invokespecial 146, 3) := dk_183 0 146 (dk_at dksJ5_clear_2_1 3 rfl rfl)
theorem dJ5_clear_2_30 : decode cJ5_clear_2 30 = .ok (.athrow, 1) := dk_191 (dk_at dksJ5_clear_2_1 6 rfl rfl)
theorem dJ5_clear_2_31 : decode cJ5_clear_2 31 = .ok (.iload_n 1, 1) := dk_27 (dk_at dksJ5_clear_2_1 7 rfl rfl)
theorem dJ5_clear_2_32 : decode cJ5_clear_2 32 = .ok (.invokestatic 52, 3) := dk_184 0 52 (dk_at dksJ5_clear_2_1 8 rfl rfl)
theorem dJ5_clear_2_35 : decode cJ5_clear_2 35 = .ok (.istore_n 2, 1) := dk_61 (dk_at dksJ5_clear_2_1 11 rfl rfl)
theorem dJ5_clear_2_36 : decode cJ5_clear_2 36 = .ok (.iload_n 2, 1) := dk_28 (dk_at dksJ5_clear_2_1 12 rfl rfl)
theorem dJ5_clear_2_37 : decode cJ5_clear_2 37 = .ok (.aload_n 0, 1) := dk_42 (dk_at dksJ5_clear_2_1 13 rfl rfl)
theorem dJ5_clear_2_38 : decode cJ5_clear_2 38 = .ok (.getfield 7, 3) := dk_180 0 7 (dk_at dksJ5_clear_2_1 14 rfl rfl)
theorem dJ5_clear_2_41 : decode cJ5_clear_2 41 = .ok (.if_icmp .lt 4, 3) := dk_161 0 4 (dk_at dksJ5_clear_2_1 17 rfl rfl)
theorem dJ5_clear_2_44 : decode cJ5_clear_2 44 = .ok (.return_, 1) := dk_177 (dk_at dksJ5_clear_2_1 20 rfl rfl)
theorem dJ5_clear_2_45 : decode cJ5_clear_2 45 = .ok (.aload_n 0, 1) := dk_42 (dk_at dksJ5_clear_2_1 21 rfl rfl)
theorem dJ5_clear_2_46 : decode cJ5_clear_2 46 = .ok (.getfield 11, 3) := dk_180 0 11 (dk_at dksJ5_clear_2_2 0 rfl rfl)
theorem dJ5_clear_2_49 : decode cJ5_clear_2 49 = .ok (.iload_n 2, 1) := dk_28 (dk_at dksJ5_clear_2_2 3 rfl rfl)
theorem dJ5_clear_2_50 : decode cJ5_clear_2 50 = .ok (.dup2, 1) := dk_92 (dk_at dksJ5_clear_2_2 4 rfl rfl)
theorem dJ5_clear_2_51 : decode cJ5_clear_2 51 = .ok (.laload, 1) := dk_47 (dk_at dksJ5_clear_2_2 5 rfl rfl)
theorem dJ5_clear_2_52 : decode cJ5_clear_2 52 = .ok (.lconst 1, 1) := dk_10 (dk_at dksJ5_clear_2_2 6 rfl rfl)
theorem dJ5_clear_2_53 : decode cJ5_clear_2 53 = .ok (.iload_n 1, 1) := dk_27 (dk_at dksJ5_clear_2_2 7 rfl rfl)
theorem dJ5_clear_2_54 : decode cJ5_clear_2 54 = .ok (.lshl, 1) := dk_121 (dk_at dksJ5_clear_2_2 8 rfl rfl)
theorem dJ5_clear_2_55 : decode cJ5_clear_2 55 = .ok (.ldc2_w 165, 3) := dk_20 0 165 (dk_at dksJ5_clear_2_2 9 rfl rfl)
theorem dJ5_clear_2_58 : decode cJ5_clear_2 58 = .ok (.lxor, 1) := dk_131 (dk_at dksJ5_clear_2_2 12 rfl rfl)
theorem dJ5_clear_2_59 : decode cJ5_clear_2 59 = .ok (.land, 1) := dk_127 (dk_at dksJ5_clear_2_2 13 rfl rfl)
theorem dJ5_clear_2_60 : decode cJ5_clear_2 60 = .ok (.lastore, 1) := dk_80 (dk_at dksJ5_clear_2_2 14 rfl rfl)
theorem dJ5_clear_2_61 : decode cJ5_clear_2 61 = .ok (.aload_n 0, 1) := dk_42 (dk_at dksJ5_clear_2_2 15 rfl rfl)
theorem dJ5_clear_2_62 : decode cJ5_clear_2 62 = .ok (.invokevirtual 158, 3) := dk_182 0 158 (dk_at dksJ5_clear_2_2 16 rfl rfl)
theorem dJ5_clear_2_65 : decode cJ5_clear_2 65 = .ok (.aload_n 0, 1) := dk_42 (dk_at dksJ5_clear_2_2 19 rfl rfl)
theorem dJ5_clear_2_66 : decode cJ5_clear_2 66 = .ok (.invokevirtual 56, 3) := dk_182 0 56 (dk_at dksJ5_clear_2_2 20 rfl rfl)
theorem dJ5_clear_2_69 : decode cJ5_clear_2 69 = .ok (.return_, 1) := dk_177 (dk_at dksJ5_clear_2_2 23 rfl rfl)
abbrev cJ5_recalculateWordsInUse : ByteArray := prog_61_method_3_code
def yJ5_recalculateWordsInUse : MethodName := ⟨RJ5, "recalculateWordsInUse", "()V"⟩
def dkwJ5_recalculateWordsInUse_1 : List UInt8 := [167, 0, 9, 132, 1, 255, 167, 255, 235, 42, 27, 4, 96, 181, 0, 7, 177]
abbrev dktJ5_recalculateWordsInUse_1 : List UInt8 := dkwJ5_recalculateWordsInUse_1 ++ []
def dkwJ5_recalculateWordsInUse_0 : List UInt8 := [42, 180, 0, 7, 4, 100, 60, 27, 155, 0, 23, 42, 180, 0, 11, 27, 47, 9, 148, 153, 0, 6]
abbrev dktJ5_recalculateWordsInUse_0 : List UInt8 := dkwJ5_recalculateWordsInUse_0 ++ dktJ5_recalculateWordsInUse_1
theorem dksJ5_recalculateWordsInUse_0 : cJ5_recalculateWordsInUse.data.toList.drop 0 = dktJ5_recalculateWordsInUse_0 := by decide +kernel
theorem dksJ5_recalculateWordsInUse_1 : cJ5_recalculateWordsInUse.data.toList.drop 22 = dktJ5_recalculateWordsInUse_1 := dk_seg dksJ5_recalculateWordsInUse_0 22 rfl rfl
theorem dJ5_recalculateWordsInUse_0 : decode cJ5_recalculateWordsInUse 0 = .ok (.aload_n 0, 1) := dk_42 (dk_at dksJ5_recalculateWordsInUse_0 0 rfl rfl)
theorem dJ5_recalculateWordsInUse_1 : decode cJ5_recalculateWordsInUse 1 = .ok (.getfield 7, 3) := dk_180 0 7 (dk_at dksJ5_recalculateWordsInUse_0 1 rfl rfl)
theorem dJ5_recalculateWordsInUse_4 : decode cJ5_recalculateWordsInUse 4 = .ok (.iconst 1, 1) := dk_4 (dk_at dksJ5_recalculateWordsInUse_0 4 rfl rfl)
theorem dJ5_recalculateWordsInUse_5 : decode cJ5_recalculateWordsInUse 5 = .ok (.isub, 1) := dk_100 (dk_at dksJ5_recalculateWordsInUse_0 5 rfl rfl)
theorem dJ5_recalculateWordsInUse_6 : decode cJ5_recalculateWordsInUse 6 = .ok (.istore_n 1, 1) := dk_60 (dk_at dksJ5_recalculateWordsInUse_0 6 rfl rfl)
theorem dJ5_recalculateWordsInUse_7 : decode cJ5_recalculateWordsInUse 7 = .ok (.iload_n 1, 1) := dk_27 (dk_at dksJ5_recalculateWordsInUse_0 7 rfl rfl)
theorem dJ5_recalculateWordsInUse_8 : decode cJ5_recalculateWordsInUse 8 = .ok (.ifCond .lt 23, 3) := dk_155 0 23 (dk_at dksJ5_recalculateWordsInUse_0 8 rfl rfl)
theorem dJ5_recalculateWordsInUse_11 : decode cJ5_recalculateWordsInUse 11 = .ok (.aload_n 0, 1) := dk_42 (dk_at dksJ5_recalculateWordsInUse_0 11 rfl rfl)
theorem dJ5_recalculateWordsInUse_12 : decode cJ5_recalculateWordsInUse 12 = .ok (.getfield 11, 3) := dk_180 0 11 (dk_at dksJ5_recalculateWordsInUse_0 12 rfl rfl)
theorem dJ5_recalculateWordsInUse_15 : decode cJ5_recalculateWordsInUse 15 = .ok (.iload_n 1, 1) := dk_27 (dk_at dksJ5_recalculateWordsInUse_0 15 rfl rfl)
theorem dJ5_recalculateWordsInUse_16 : decode cJ5_recalculateWordsInUse 16 = .ok (.laload, 1) := dk_47 (dk_at dksJ5_recalculateWordsInUse_0 16 rfl rfl)
theorem dJ5_recalculateWordsInUse_17 : decode cJ5_recalculateWordsInUse 17 = .ok (.lconst 0, 1) := dk_9 (dk_at dksJ5_recalculateWordsInUse_0 17 rfl rfl)
theorem dJ5_recalculateWordsInUse_18 : decode cJ5_recalculateWordsInUse 18 = .ok (.lcmp, 1) := dk_148 (dk_at dksJ5_recalculateWordsInUse_0 18 rfl rfl)
theorem dJ5_recalculateWordsInUse_19 : decode cJ5_recalculateWordsInUse 19 = .ok (.ifCond .eq 6, 3) := dk_153 0 6 (dk_at dksJ5_recalculateWordsInUse_0 19 rfl rfl)
theorem dJ5_recalculateWordsInUse_22 : decode cJ5_recalculateWordsInUse 22 = .ok (.goto 9, 3) := dk_167 0 9 (dk_at dksJ5_recalculateWordsInUse_1 0 rfl rfl)
theorem dJ5_recalculateWordsInUse_25 : decode cJ5_recalculateWordsInUse 25 = .ok (.iinc 1 (-1), 3) := dk_132 1 255 (dk_at dksJ5_recalculateWordsInUse_1 3 rfl rfl)
theorem dJ5_recalculateWordsInUse_28 : decode cJ5_recalculateWordsInUse 28 = .ok (.goto (-21), 3) := dk_167 255 235 (dk_at dksJ5_recalculateWordsInUse_1 6 rfl rfl)
theorem dJ5_recalculateWordsInUse_31 : decode cJ5_recalculateWordsInUse 31 = .ok (.aload_n 0, 1) := dk_42 (dk_at dksJ5_recalculateWordsInUse_1 9 rfl rfl)
theorem dJ5_recalculateWordsInUse_32 : decode cJ5_recalculateWordsInUse 32 = .ok (.iload_n 1, 1) := dk_27 (dk_at dksJ5_recalculateWordsInUse_1 10 rfl rfl)
theorem dJ5_recalculateWordsInUse_33 : decode cJ5_recalculateWordsInUse 33 = .ok (.iconst 1, 1) := dk_4 (dk_at dksJ5_recalculateWordsInUse_1 11 rfl rfl)
theorem dJ5_recalculateWordsInUse_34 : decode cJ5_recalculateWordsInUse 34 = .ok (.iadd, 1) := dk_96 (dk_at dksJ5_recalculateWordsInUse_1 12 rfl rfl)
theorem dJ5_recalculateWordsInUse_35 : decode cJ5_recalculateWordsInUse 35 = .ok (.putfield 7, 3) := dk_181 0 7 (dk_at dksJ5_recalculateWordsInUse_1 13 rfl rfl)
theorem dJ5_recalculateWordsInUse_38 : decode cJ5_recalculateWordsInUse 38 = .ok (.return_, 1) := dk_177 (dk_at dksJ5_recalculateWordsInUse_1 16 rfl rfl)
abbrev cJ5_cardinality : ByteArray := prog_61_method_35_code
def yJ5_cardinality : MethodName := ⟨RJ5, "cardinality", "()I"⟩
def dkwJ5_cardinality_1 : List UInt8 := [132, 2, 1, 167, 255, 233, 27, 172]
abbrev dktJ5_cardinality_1 : List UInt8 := dkwJ5_cardinality_1 ++ []
def dkwJ5_cardinality_0 : List UInt8 := [3, 60, 3, 61, 28, 42, 180, 0, 7, 162, 0, 21, 27, 42, 180, 0, 11, 28, 47, 184, 0, 196, 96, 60]
abbrev dktJ5_cardinality_0 : List UInt8 := dkwJ5_cardinality_0 ++ dktJ5_cardinality_1
theorem dksJ5_cardinality_0 : cJ5_cardinality.data.toList.drop 0 = dktJ5_cardinality_0 := by decide +kernel
theorem dksJ5_cardinality_1 : cJ5_cardinality.data.toList.drop 24 = dktJ5_cardinality_1 := dk_seg dksJ5_cardinality_0 24 rfl rfl
theorem dJ5_cardinality_0 : decode cJ5_cardinality 0 = .ok (.iconst 0, 1) := dk_3 (dk_at dksJ5_cardinality_0 0 rfl rfl)
theorem dJ5_cardinality_1 : decode cJ5_cardinality 1 = .ok (.istore_n 1, 1) := dk_60 (dk_at dksJ5_cardinality_0 1 rfl rfl)
theorem dJ5_cardinality_2 : decode cJ5_cardinality 2 = .ok (.iconst 0, 1) := dk_3 (dk_at dksJ5_cardinality_0 2 rfl rfl)
theorem dJ5_cardinality_3 : decode cJ5_cardinality 3 = .ok (.istore_n 2, 1) := dk_61 (dk_at dksJ5_cardinality_0 3 rfl rfl)
theorem dJ5_cardinality_4 : decode cJ5_cardinality 4 = .ok (.iload_n 2, 1) := dk_28 (dk_at dksJ5_cardinality_0 4 rfl rfl)
theorem dJ5_cardinality_5 : decode cJ5_cardinality 5 = .ok (.aload_n 0, 1) := dk_42 (dk_at dksJ5_cardinality_0 5 rfl rfl)
theorem dJ5_cardinality_6 : decode cJ5_cardinality 6 = .ok (.getfield 7, 3) := dk_180 0 7 (dk_at dksJ5_cardinality_0 6 rfl rfl)
theorem dJ5_cardinality_9 : decode cJ5_cardinality 9 = .ok (.if_icmp .ge 21, 3) := dk_162 0 21 (dk_at dksJ5_cardinality_0 9 rfl rfl)
theorem dJ5_cardinality_12 : decode cJ5_cardinality 12 = .ok (.iload_n 1, 1) := dk_27 (dk_at dksJ5_cardinality_0 12 rfl rfl)
theorem dJ5_cardinality_13 : decode cJ5_cardinality 13 = .ok (.aload_n 0, 1) := dk_42 (dk_at dksJ5_cardinality_0 13 rfl rfl)
theorem dJ5_cardinality_14 : decode cJ5_cardinality 14 = .ok (.getfield 11, 3) := dk_180 0 11 (dk_at dksJ5_cardinality_0 14 rfl rfl)
theorem dJ5_cardinality_17 : decode cJ5_cardinality 17 = .ok (.iload_n 2, 1) := dk_28 (dk_at dksJ5_cardinality_0 17 rfl rfl)
theorem dJ5_cardinality_18 : decode cJ5_cardinality 18 = .ok (.laload, 1) := dk_47 (dk_at dksJ5_cardinality_0 18 rfl rfl)
theorem dJ5_cardinality_19 : decode cJ5_cardinality 19 = .ok (.invokestatic 196, 3) := dk_184 0 196 (dk_at dksJ5_cardinality_0 19 rfl rfl)
theorem dJ5_cardinality_22 : decode cJ5_cardinality 22 = .ok (.iadd, 1) := dk_96 (dk_at dksJ5_cardinality_0 22 rfl rfl)
theorem dJ5_cardinality_23 : decode cJ5_cardinality 23 = .ok (.istore_n 1, 1) := dk_60 (dk_at dksJ5_cardinality_0 23 rfl rfl)
theorem dJ5_cardinality_24 : decode cJ5_cardinality 24 = .ok (.iinc 2 1, 3) := dk_132 2 1 (dk_at dksJ5_cardinality_1 0 rfl rfl)
theorem dJ5_cardinality_27 : decode cJ5_cardinality 27 = .ok (.goto (-23), 3) := dk_167 255 233 (dk_at dksJ5_cardinality_1 3 rfl rfl)
theorem dJ5_cardinality_30 : decode cJ5_cardinality 30 = .ok (.iload_n 1, 1) := dk_27 (dk_at dksJ5_cardinality_1 6 rfl rfl)
theorem dJ5_cardinality_31 : decode cJ5_cardinality 31 = .ok (.ireturn, 1) := dk_172 (dk_at dksJ5_cardinality_1 7 rfl rfl)
abbrev cJ5_isEmpty : ByteArray := prog_61_method_33_code
def yJ5_isEmpty : MethodName := ⟨RJ5, "isEmpty", "()Z"⟩
def dkwJ5_isEmpty_0 : List UInt8 := [42, 180, 0, 7, 154, 0, 7, 4, 167, 0, 4, 3, 172]
abbrev dktJ5_isEmpty_0 : List UInt8 := dkwJ5_isEmpty_0 ++ []
theorem dksJ5_isEmpty_0 : cJ5_isEmpty.data.toList.drop 0 = dktJ5_isEmpty_0 := by decide +kernel
theorem dJ5_isEmpty_0 : decode cJ5_isEmpty 0 = .ok (.aload_n 0, 1) := dk_42 (dk_at dksJ5_isEmpty_0 0 rfl rfl)
theorem dJ5_isEmpty_1 : decode cJ5_isEmpty 1 = .ok (.getfield 7, 3) := dk_180 0 7 (dk_at dksJ5_isEmpty_0 1 rfl rfl)
theorem dJ5_isEmpty_4 : decode cJ5_isEmpty 4 = .ok (.ifCond .ne 7, 3) := dk_154 0 7 (dk_at dksJ5_isEmpty_0 4 rfl rfl)
theorem dJ5_isEmpty_7 : decode cJ5_isEmpty 7 = .ok (.iconst 1, 1) := dk_4 (dk_at dksJ5_isEmpty_0 7 rfl rfl)
theorem dJ5_isEmpty_8 : decode cJ5_isEmpty 8 = .ok (.goto 4, 3) := dk_167 0 4 (dk_at dksJ5_isEmpty_0 8 rfl rfl)
theorem dJ5_isEmpty_11 : decode cJ5_isEmpty 11 = .ok (.iconst 0, 1) := dk_3 (dk_at dksJ5_isEmpty_0 11 rfl rfl)
theorem dJ5_isEmpty_12 : decode cJ5_isEmpty 12 = .ok (.ireturn, 1) := dk_172 (dk_at dksJ5_isEmpty_0 12 rfl rfl)
abbrev cJ5_nextClearBit : ByteArray := prog_61_method_29_code
def yJ5_nextClearBit : MethodName := ⟨RJ5, "nextClearBit", "(I)I"⟩
def dkwJ5_nextClearBit_4 : List UInt8 := [42, 180, 0, 7, 16, 64, 104, 172, 42, 180, 0, 11, 28, 47, 20, 0, 165, 131, 66, 167, 255, 210]
abbrev dktJ5_nextClearBit_4 : List UInt8 := dkwJ5_nextClearBit_4 ++ []
def dkwJ5_nextClearBit_3 : List UInt8 := [153, 0, 13, 28, 16, 64, 104, 33, 184, 0, 182, 96, 172, 132, 2, 1, 28, 42, 180, 0, 7, 160, 0, 11]
abbrev dktJ5_nextClearBit_3 : List UInt8 := dkwJ5_nextClearBit_3 ++ dktJ5_nextClearBit_4
def dkwJ5_nextClearBit_2 : List UInt8 := [27, 172, 42, 180, 0, 11, 28, 47, 20, 0, 165, 131, 20, 0, 165, 27, 121, 127, 66, 33, 9, 148]
abbrev dktJ5_nextClearBit_2 : List UInt8 := dkwJ5_nextClearBit_2 ++ dktJ5_nextClearBit_3
def dkwJ5_nextClearBit_1 : List UInt8 := [182, 0, 45, 183, 0, 146, 191, 42, 182, 0, 56, 27, 184, 0, 52, 61, 28, 42, 180, 0, 7, 161, 0, 5]
abbrev dktJ5_nextClearBit_1 : List UInt8 := dkwJ5_nextClearBit_1 ++ dktJ5_nextClearBit_2
def dkwJ5_nextClearBit_0 : List UInt8 := [27, 156, 0, 30, 187, 0, 142, 89, 187, 0, 33, 89, 183, 0, 35, 18, 144, 182, 0, 38, 27, 182, 0, 42]
abbrev dktJ5_nextClearBit_0 : List UInt8 := dkwJ5_nextClearBit_0 ++ dktJ5_nextClearBit_1
theorem dksJ5_nextClearBit_0 : cJ5_nextClearBit.data.toList.drop 0 = dktJ5_nextClearBit_0 := by decide +kernel
theorem dksJ5_nextClearBit_1 : cJ5_nextClearBit.data.toList.drop 24 = dktJ5_nextClearBit_1 := dk_seg dksJ5_nextClearBit_0 24 rfl rfl
theorem dksJ5_nextClearBit_2 : cJ5_nextClearBit.data.toList.drop 48 = dktJ5_nextClearBit_2 := dk_seg dksJ5_nextClearBit_1 24 rfl rfl
theorem dksJ5_nextClearBit_3 : cJ5_nextClearBit.data.toList.drop 70 = dktJ5_nextClearBit_3 := dk_seg dksJ5_nextClearBit_2 22 rfl rfl
theorem dksJ5_nextClearBit_4 : cJ5_nextClearBit.data.toList.drop 94 = dktJ5_nextClearBit_4 := dk_seg dksJ5_nextClearBit_3 24 rfl rfl
theorem dJ5_nextClearBit_0 : decode cJ5_nextClearBit 0 = .ok (.iload_n 1, 1) := dk_27 (dk_at dksJ5_nextClearBit_0 0 rfl rfl)
theorem dJ5_nextClearBit_1 : decode cJ5_nextClearBit 1 = .ok (.ifCond .ge 30, 3) := dk_156 0 30 (dk_at dksJ5_nextClearBit_0 1 rfl rfl)
theorem dJ5_nextClearBit_4 : decode cJ5_nextClearBit 4 = .ok (.new 142, 3) := dk_187 0 142 (dk_at dksJ5_nextClearBit_0 4 rfl rfl)
theorem dJ5_nextClearBit_7 : decode cJ5_nextClearBit 7 = .ok (.dup, 1) := dk_89 (dk_at dksJ5_nextClearBit_0 7 rfl rfl)
theorem dJ5_nextClearBit_8 : decode cJ5_nextClearBit 8 = .ok (.new 33, 3) := dk_187 0 33 (dk_at dksJ5_nextClearBit_0 8 rfl rfl)
theorem dJ5_nextClearBit_11 : decode cJ5_nextClearBit 11 = .ok (.dup, 1) := dk_89 (dk_at dksJ5_nextClearBit_0 11 rfl rfl)
theorem dJ5_nextClearBit_12 : decode cJ5_nextClearBit 12 = .ok (.invokespecial 35, 3) := dk_183 0 35 (dk_at dksJ5_nextClearBit_0 12 rfl rfl)
theorem dJ5_nextClearBit_15 : decode cJ5_nextClearBit 15 = .ok (.ldc 144, 2) := dk_18 144 (dk_at dksJ5_nextClearBit_0 15 rfl rfl)
theorem dJ5_nextClearBit_17 : decode cJ5_nextClearBit 17 = .ok (.invokevirtual 38, 3) := dk_182 0 38 (dk_at dksJ5_nextClearBit_0 17 rfl rfl)
theorem dJ5_nextClearBit_20 : decode cJ5_nextClearBit 20 = .ok (.iload_n 1, 1) := dk_27 (dk_at dksJ5_nextClearBit_0 20 rfl rfl)
theorem dJ5_nextClearBit_21 : decode cJ5_nextClearBit 21 = .ok (.invokevirtual 42, 3) := dk_182 0 42 (dk_at dksJ5_nextClearBit_0 21 rfl rfl)
theorem dJ5_nextClearBit_24 : decode cJ5_nextClearBit 24 = .ok (.invokevirtual 45, 3) := dk_182 0 45 (dk_at dksJ5_nextClearBit_1 0 rfl rfl)
theorem dJ5_nextClearBit_27 : decode cJ5_nextClearBit 27 = .ok (.invokespecial 146, 3) := dk_183 0 146 (dk_at dksJ5_nextClearBit_1 3 rfl rfl)
theorem dJ5_nextClearBit_30 : decode cJ5_nextClearBit 30 = .ok (.athrow, 1) := dk_191 (dk_at dksJ5_nextClearBit_1 6 rfl rfl)
theorem dJ5_nextClearBit_31 : decode cJ5_nextClearBit 31 = .ok (.aload_n 0, 1) := dk_42 (dk_at dksJ5_nextClearBit_1 7 rfl rfl)
theorem dJ5_nextClearBit_32 : decode cJ5_nextClearBit 32 = .ok (.invokevirtual 56, 3) := dk_182 0 56 (dk_at dksJ5_nextClearBit_1 8 rfl rfl)
theorem dJ5_nextClearBit_35 : decode cJ5_nextClearBit 35 = .ok (.iload_n 1, 1) := dk_27 (dk_at dksJ5_nextClearBit_1 11 rfl rfl)
theorem dJ5_nextClearBit_36 : decode cJ5_nextClearBit 36 = .ok (.invokestatic 52, 3) := dk_184 0 52 (dk_at dksJ5_nextClearBit_1 12 rfl rfl)
theorem dJ5_nextClearBit_39 : decode cJ5_nextClearBit 39 = .ok (.istore_n 2, 1) := dk_61 (dk_at dksJ5_nextClearBit_1 15 rfl rfl)
theorem dJ5_nextClearBit_40 : decode cJ5_nextClearBit 40 = .ok (.iload_n 2, 1) := dk_28 (dk_at dksJ5_nextClearBit_1 16 rfl rfl)
theorem dJ5_nextClearBit_41 : decode cJ5_nextClearBit 41 = .ok (.aload_n 0, 1) := dk_42 (dk_at dksJ5_nextClearBit_1 17 rfl rfl)
theorem dJ5_nextClearBit_42 : decode cJ5_nextClearBit 42 = .ok (.getfield 7, 3) := dk_180 0 7 (dk_at dksJ5_nextClearBit_1 18 rfl rfl)
theorem dJ5_nextClearBit_45 : decode cJ5_nextClearBit 45 = .ok (.if_icmp .lt 5, 3) := dk_161 0 5 (dk_at dksJ5_nextClearBit_1 21 rfl rfl)
theorem dJ5_nextClearBit_48 : decode cJ5_nextClearBit 48 = .ok (.iload_n 1, 1) := dk_27 (dk_at dksJ5_nextClearBit_2 0 rfl rfl)
theorem dJ5_nextClearBit_49 : decode cJ5_nextClearBit 49 = .ok (.ireturn, 1) := dk_172 (dk_at dksJ5_nextClearBit_2 1 rfl rfl)
theorem dJ5_nextClearBit_50 : decode cJ5_nextClearBit 50 = .ok (.aload_n 0, 1) := dk_42 (dk_at dksJ5_nextClearBit_2 2 rfl rfl)
theorem dJ5_nextClearBit_51 : decode cJ5_nextClearBit 51 = .ok (.getfield 11, 3) := dk_180 0 11 (dk_at dksJ5_nextClearBit_2 3 rfl rfl)
theorem dJ5_nextClearBit_54 : decode cJ5_nextClearBit 54 = .ok (.iload_n 2, 1) := dk_28 (dk_at dksJ5_nextClearBit_2 6 rfl rfl)
theorem dJ5_nextClearBit_55 : decode cJ5_nextClearBit 55 = .ok (.laload, 1) := dk_47 (dk_at dksJ5_nextClearBit_2 7 rfl rfl)
theorem dJ5_nextClearBit_56 : decode cJ5_nextClearBit 56 = .ok (.ldc2_w 165, 3) := dk_20 0 165 (dk_at dksJ5_nextClearBit_2 8 rfl rfl)
theorem dJ5_nextClearBit_59 : decode cJ5_nextClearBit 59 = .ok (.lxor, 1) := dk_131 (dk_at dksJ5_nextClearBit_2 11 rfl rfl)
theorem dJ5_nextClearBit_60 : decode cJ5_nextClearBit 60 = .ok (.ldc2_w 165, 3) := dk_20 0 165 (dk_at dksJ5_nextClearBit_2 12 rfl rfl)
theorem dJ5_nextClearBit_63 : decode cJ5_nextClearBit 63 = .ok (.iload_n 1, 1) := dk_27 (dk_at dksJ5_nextClearBit_2 15 rfl rfl)
theorem dJ5_nextClearBit_64 : decode cJ5_nextClearBit 64 = .ok (.lshl, 1) := dk_121 (dk_at dksJ5_nextClearBit_2 16 rfl rfl)
theorem dJ5_nextClearBit_65 : decode cJ5_nextClearBit 65 = .ok (.land, 1) := dk_127 (dk_at dksJ5_nextClearBit_2 17 rfl rfl)
theorem dJ5_nextClearBit_66 : decode cJ5_nextClearBit 66 = .ok (.lstore_n 3, 1) := dk_66 (dk_at dksJ5_nextClearBit_2 18 rfl rfl)
theorem dJ5_nextClearBit_67 : decode cJ5_nextClearBit 67 = .ok (.lload_n 3, 1) := dk_33 (dk_at dksJ5_nextClearBit_2 19 rfl rfl)
theorem dJ5_nextClearBit_68 : decode cJ5_nextClearBit 68 = .ok (.lconst 0, 1) := dk_9 (dk_at dksJ5_nextClearBit_2 20 rfl rfl)
theorem dJ5_nextClearBit_69 : decode cJ5_nextClearBit 69 = .ok (.lcmp, 1) := dk_148 (dk_at dksJ5_nextClearBit_2 21 rfl rfl)
theorem dJ5_nextClearBit_70 : decode cJ5_nextClearBit 70 = .ok (.ifCond .eq 13, 3) := dk_153 0 13 (dk_at dksJ5_nextClearBit_3 0 rfl rfl)
theorem dJ5_nextClearBit_73 : decode cJ5_nextClearBit 73 = .ok (.iload_n 2, 1) := dk_28 (dk_at dksJ5_nextClearBit_3 3 rfl rfl)
theorem dJ5_nextClearBit_74 : decode cJ5_nextClearBit 74 = .ok (.bipush 64, 2) := dk_16 64 (dk_at dksJ5_nextClearBit_3 4 rfl rfl)
theorem dJ5_nextClearBit_76 : decode cJ5_nextClearBit 76 = .ok (.imul, 1) := dk_104 (dk_at dksJ5_nextClearBit_3 6 rfl rfl)
theorem dJ5_nextClearBit_77 : decode cJ5_nextClearBit 77 = .ok (.lload_n 3, 1) := dk_33 (dk_at dksJ5_nextClearBit_3 7 rfl rfl)
theorem dJ5_nextClearBit_78 : decode cJ5_nextClearBit 78 = .ok (.invokestatic 182, 3) := dk_184 0 182 (dk_at dksJ5_nextClearBit_3 8 rfl rfl)
theorem dJ5_nextClearBit_81 : decode cJ5_nextClearBit 81 = .ok (.iadd, 1) := dk_96 (dk_at dksJ5_nextClearBit_3 11 rfl rfl)
theorem dJ5_nextClearBit_82 : decode cJ5_nextClearBit 82 = .ok (.ireturn, 1) := dk_172 (dk_at dksJ5_nextClearBit_3 12 rfl rfl)
theorem dJ5_nextClearBit_83 : decode cJ5_nextClearBit 83 = .ok (.iinc 2 1, 3) := dk_132 2 1 (dk_at dksJ5_nextClearBit_3 13 rfl rfl)
theorem dJ5_nextClearBit_86 : decode cJ5_nextClearBit 86 = .ok (.iload_n 2, 1) := dk_28 (dk_at dksJ5_nextClearBit_3 16 rfl rfl)
theorem dJ5_nextClearBit_87 : decode cJ5_nextClearBit 87 = .ok (.aload_n 0, 1) := dk_42 (dk_at dksJ5_nextClearBit_3 17 rfl rfl)
theorem dJ5_nextClearBit_88 : decode cJ5_nextClearBit 88 = .ok (.getfield 7, 3) := dk_180 0 7 (dk_at dksJ5_nextClearBit_3 18 rfl rfl)
theorem dJ5_nextClearBit_91 : decode cJ5_nextClearBit 91 = .ok (.if_icmp .ne 11, 3) := dk_160 0 11 (dk_at dksJ5_nextClearBit_3 21 rfl rfl)
theorem dJ5_nextClearBit_94 : decode cJ5_nextClearBit 94 = .ok (.aload_n 0, 1) := dk_42 (dk_at dksJ5_nextClearBit_4 0 rfl rfl)
theorem dJ5_nextClearBit_95 : decode cJ5_nextClearBit 95 = .ok (.getfield 7, 3) := dk_180 0 7 (dk_at dksJ5_nextClearBit_4 1 rfl rfl)
theorem dJ5_nextClearBit_98 : decode cJ5_nextClearBit 98 = .ok (.bipush 64, 2) := dk_16 64 (dk_at dksJ5_nextClearBit_4 4 rfl rfl)
theorem dJ5_nextClearBit_100 : decode cJ5_nextClearBit 100 = .ok (.imul, 1) := dk_104 (dk_at dksJ5_nextClearBit_4 6 rfl rfl)
theorem dJ5_nextClearBit_101 : decode cJ5_nextClearBit 101 = .ok (.ireturn, 1) := dk_172 (dk_at dksJ5_nextClearBit_4 7 rfl rfl)
theorem dJ5_nextClearBit_102 : decode cJ5_nextClearBit 102 = .ok (.aload_n 0, 1) := dk_42 (dk_at dksJ5_nextClearBit_4 8 rfl rfl)
theorem dJ5_nextClearBit_103 : decode cJ5_nextClearBit 103 = .ok (.getfield 11, 3) := dk_180 0 11 (dk_at dksJ5_nextClearBit_4 9 rfl rfl)
theorem dJ5_nextClearBit_106 : decode cJ5_nextClearBit 106 = .ok (.iload_n 2, 1) := dk_28 (dk_at dksJ5_nextClearBit_4 12 rfl rfl)
theorem dJ5_nextClearBit_107 : decode cJ5_nextClearBit 107 = .ok (.laload, 1) := dk_47 (dk_at dksJ5_nextClearBit_4 13 rfl rfl)
theorem dJ5_nextClearBit_108 : decode cJ5_nextClearBit 108 = .ok (.ldc2_w 165, 3) := dk_20 0 165 (dk_at dksJ5_nextClearBit_4 14 rfl rfl)
theorem dJ5_nextClearBit_111 : decode cJ5_nextClearBit 111 = .ok (.lxor, 1) := dk_131 (dk_at dksJ5_nextClearBit_4 17 rfl rfl)
theorem dJ5_nextClearBit_112 : decode cJ5_nextClearBit 112 = .ok (.lstore_n 3, 1) := dk_66 (dk_at dksJ5_nextClearBit_4 18 rfl rfl)
theorem dJ5_nextClearBit_113 : decode cJ5_nextClearBit 113 = .ok (.goto (-46), 3) := dk_167 255 210 (dk_at dksJ5_nextClearBit_4 19 rfl rfl)
theorem q110 : (Jvm.Cond.initialized "java/util/BitSet") ∈ lw_all := lw_g (lw_at lw_m1 13 rfl) rfl
theorem q299 : (Jvm.Cond.instantiable "java/util/BitSet" (3 : Nat)) ∈ lw_all := lw_g (lw_at lw_m1 202 rfl) rfl
theorem q301 : (Jvm.Cond.instanceMethod ({ cls := "java/util/BitSet", name := "<init>", desc := "(I)V" } : Jvm.MethodName)) ∈ lw_all := lw_g (lw_at lw_m1 204 rfl) rfl
theorem q302 : (Jvm.Cond.code ({ cls := "java/util/BitSet", name := "<init>", desc := "(I)V" } : Jvm.MethodName) prog_61_method_5_code (2 : Nat) (Option.none : Option Jvm.ClassFile.FieldType)) ∈ lw_all := lw_g (lw_at lw_m1 205 rfl) rfl
theorem q303 : (Jvm.Cond.methodLink "java/util/BitSet" (21 : Nat) ({ cls := "java/lang/Object", name := "<init>", desc := "()V" } : Jvm.MethodName)) ∈ lw_all := lw_g (lw_at lw_m1 206 rfl) rfl
theorem q304 : (Jvm.Cond.methodLink "java/util/BitSet" (27 : Nat) ({ cls := "java/util/BitSet", name := "initWords", desc := "(I)V" } : Jvm.MethodName)) ∈ lw_all := lw_g (lw_at lw_m1 207 rfl) rfl
theorem q305 : (Jvm.Cond.privateMethod ({ cls := "java/util/BitSet", name := "initWords", desc := "(I)V" } : Jvm.MethodName)) ∈ lw_tbl := lw_at lw_m1 208 rfl
theorem q306 : (Jvm.Cond.instanceMethod ({ cls := "java/util/BitSet", name := "initWords", desc := "(I)V" } : Jvm.MethodName)) ∈ lw_all := lw_g (lw_at lw_m1 209 rfl) rfl
theorem q307 : (Jvm.Cond.code ({ cls := "java/util/BitSet", name := "initWords", desc := "(I)V" } : Jvm.MethodName) prog_61_method_6_code (2 : Nat) (Option.none : Option Jvm.ClassFile.FieldType)) ∈ lw_all := lw_g (lw_at lw_m1 210 rfl) rfl
theorem q308 : (Jvm.Cond.methodLink "java/util/BitSet" (52 : Nat) ({ cls := "java/util/BitSet", name := "wordIndex", desc := "(I)I" } : Jvm.MethodName)) ∈ lw_all := lw_g (lw_at lw_m1 211 rfl) rfl
theorem q309 : (Jvm.Cond.static ({ cls := "java/util/BitSet", name := "wordIndex", desc := "(I)I" } : Jvm.MethodName)) ∈ lw_all := lw_g (lw_at lw_m1 212 rfl) rfl
theorem q310 : (Jvm.Cond.code ({ cls := "java/util/BitSet", name := "wordIndex", desc := "(I)I" } : Jvm.MethodName) prog_61_method_1_code (1 : Nat) (Option.some Jvm.ClassFile.FieldType.int)) ∈ lw_all := lw_g (lw_at lw_m1 213 rfl) rfl
theorem q311 : (Jvm.Cond.fieldLink "java/util/BitSet" (11 : Nat) "java/util/BitSet" "words" "[J") ∈ lw_all := lw_g (lw_at lw_m1 214 rfl) rfl
theorem q312 : (Jvm.Cond.fieldLink "java/util/BitSet" (7 : Nat) "java/util/BitSet" "wordsInUse" "I") ∈ lw_all := lw_g (lw_at lw_m1 215 rfl) rfl
theorem q313 : (Jvm.Cond.fieldLink "java/util/BitSet" (24 : Nat) "java/util/BitSet" "sizeIsSticky" "Z") ∈ lw_all := lw_g (lw_at lw_m1 216 rfl) rfl
theorem q314 : (Jvm.Cond.lays "java/util/BitSet" "java/util/BitSet" "words" "[J") ∈ lw_all := lw_g (lw_at lw_m1 217 rfl) rfl
theorem q315 : (Jvm.Cond.soleField "java/util/BitSet" "words") ∈ lw_all := lw_g (lw_at lw_m1 218 rfl) rfl
theorem q316 : (Jvm.Cond.lays "java/util/BitSet" "java/util/BitSet" "wordsInUse" "I") ∈ lw_all := lw_g (lw_at lw_m1 219 rfl) rfl
theorem q317 : (Jvm.Cond.soleField "java/util/BitSet" "wordsInUse") ∈ lw_all := lw_g (lw_at lw_m1 220 rfl) rfl
theorem q318 : (Jvm.Cond.lays "java/util/BitSet" "java/util/BitSet" "sizeIsSticky" "Z") ∈ lw_all := lw_g (lw_at lw_m1 221 rfl) rfl
theorem q319 : (Jvm.Cond.soleField "java/util/BitSet" "sizeIsSticky") ∈ lw_all := lw_g (lw_at lw_m1 222 rfl) rfl
theorem q320 : (Jvm.Cond.superclass "java/util/BitSet" "java/lang/Object") ∈ lw_all := lw_g (lw_at lw_m1 223 rfl) rfl
theorem q455 : (Jvm.Cond.selects "java/util/BitSet" ({ cls := "java/lang/Object", name := "getClass", desc := "()Ljava/lang/Class;" } : Jvm.MethodName) ({ cls := "java/lang/Object", name := "getClass", desc := "()Ljava/lang/Class;" } : Jvm.MethodName)) ∈ lw_all := lw_g (lw_at lw_m2 118 rfl) rfl
theorem q1233 : (Jvm.Cond.instanceMethod ({ cls := "java/util/BitSet", name := "clear", desc := "()V" } : Jvm.MethodName)) ∈ lw_all := lw_g (lw_at lw_m5 176 rfl) rfl
theorem q1234 : (Jvm.Cond.selects "java/util/BitSet" ({ cls := "java/util/BitSet", name := "clear", desc := "()V" } : Jvm.MethodName) ({ cls := "java/util/BitSet", name := "clear", desc := "()V" } : Jvm.MethodName)) ∈ lw_all := lw_g (lw_at lw_m5 177 rfl) rfl
theorem q1235 : (Jvm.Cond.code ({ cls := "java/util/BitSet", name := "clear", desc := "()V" } : Jvm.MethodName) prog_61_method_25_code (1 : Nat) (Option.none : Option Jvm.ClassFile.FieldType)) ∈ lw_all := lw_g (lw_at lw_m5 178 rfl) rfl
theorem q1430 : (Jvm.Cond.instanceMethod ({ cls := "java/util/BitSet", name := "get", desc := "(I)Z" } : Jvm.MethodName)) ∈ lw_all := lw_g (lw_at lw_m6 133 rfl) rfl
theorem q1431 : (Jvm.Cond.selects "java/util/BitSet" ({ cls := "java/util/BitSet", name := "get", desc := "(I)Z" } : Jvm.MethodName) ({ cls := "java/util/BitSet", name := "get", desc := "(I)Z" } : Jvm.MethodName)) ∈ lw_all := lw_g (lw_at lw_m6 134 rfl) rfl
theorem q1432 : (Jvm.Cond.code ({ cls := "java/util/BitSet", name := "get", desc := "(I)Z" } : Jvm.MethodName) prog_61_method_26_code (3 : Nat) (Option.some Jvm.ClassFile.FieldType.boolean)) ∈ lw_all := lw_g (lw_at lw_m6 135 rfl) rfl
theorem q1433 : (Jvm.Cond.methodLink "java/util/BitSet" (56 : Nat) ({ cls := "java/util/BitSet", name := "checkInvariants", desc := "()V" } : Jvm.MethodName)) ∈ lw_all := lw_g (lw_at lw_m6 136 rfl) rfl
theorem q1434 : (Jvm.Cond.privateMethod ({ cls := "java/util/BitSet", name := "checkInvariants", desc := "()V" } : Jvm.MethodName)) ∈ lw_tbl := lw_at lw_m6 137 rfl
theorem q1435 : (Jvm.Cond.instanceMethod ({ cls := "java/util/BitSet", name := "checkInvariants", desc := "()V" } : Jvm.MethodName)) ∈ lw_all := lw_g (lw_at lw_m6 138 rfl) rfl
theorem q1436 : (Jvm.Cond.code ({ cls := "java/util/BitSet", name := "checkInvariants", desc := "()V" } : Jvm.MethodName) prog_61_method_2_code (1 : Nat) (Option.none : Option Jvm.ClassFile.FieldType)) ∈ lw_all := lw_g (lw_at lw_m6 139 rfl) rfl
theorem q1437 : (Jvm.Cond.fieldLink "java/util/BitSet" (3 : Nat) "java/util/BitSet" "$assertionsDisabled" "Z") ∈ lw_all := lw_g (lw_at lw_m6 140 rfl) rfl
theorem q1438 : (Jvm.Cond.laysStatic "java/util/BitSet" "$assertionsDisabled" "Z") ∈ lw_tbl := lw_at lw_m6 141 rfl
theorem q1449 : (Jvm.Cond.instanceMethod ({ cls := "java/util/BitSet", name := "set", desc := "(I)V" } : Jvm.MethodName)) ∈ lw_all := lw_g (lw_at lw_m6 152 rfl) rfl
theorem q1450 : (Jvm.Cond.selects "java/util/BitSet" ({ cls := "java/util/BitSet", name := "set", desc := "(I)V" } : Jvm.MethodName) ({ cls := "java/util/BitSet", name := "set", desc := "(I)V" } : Jvm.MethodName)) ∈ lw_all := lw_g (lw_at lw_m6 153 rfl) rfl
theorem q1451 : (Jvm.Cond.code ({ cls := "java/util/BitSet", name := "set", desc := "(I)V" } : Jvm.MethodName) prog_61_method_19_code (3 : Nat) (Option.none : Option Jvm.ClassFile.FieldType)) ∈ lw_all := lw_g (lw_at lw_m6 154 rfl) rfl
theorem q1452 : (Jvm.Cond.methodLink "java/util/BitSet" (155 : Nat) ({ cls := "java/util/BitSet", name := "expandTo", desc := "(I)V" } : Jvm.MethodName)) ∈ lw_all := lw_g (lw_at lw_m6 155 rfl) rfl
theorem q1453 : (Jvm.Cond.privateMethod ({ cls := "java/util/BitSet", name := "expandTo", desc := "(I)V" } : Jvm.MethodName)) ∈ lw_tbl := lw_at lw_m6 156 rfl
theorem q1454 : (Jvm.Cond.instanceMethod ({ cls := "java/util/BitSet", name := "expandTo", desc := "(I)V" } : Jvm.MethodName)) ∈ lw_all := lw_g (lw_at lw_m6 157 rfl) rfl
theorem q1455 : (Jvm.Cond.code ({ cls := "java/util/BitSet", name := "expandTo", desc := "(I)V" } : Jvm.MethodName) prog_61_method_15_code (3 : Nat) (Option.none : Option Jvm.ClassFile.FieldType)) ∈ lw_all := lw_g (lw_at lw_m6 158 rfl) rfl
theorem q1456 : (Jvm.Cond.methodLink "java/util/BitSet" (139 : Nat) ({ cls := "java/util/BitSet", name := "ensureCapacity", desc := "(I)V" } : Jvm.MethodName)) ∈ lw_all := lw_g (lw_at lw_m6 159 rfl) rfl
theorem q1457 : (Jvm.Cond.privateMethod ({ cls := "java/util/BitSet", name := "ensureCapacity", desc := "(I)V" } : Jvm.MethodName)) ∈ lw_tbl := lw_at lw_m6 160 rfl
theorem q1458 : (Jvm.Cond.instanceMethod ({ cls := "java/util/BitSet", name := "ensureCapacity", desc := "(I)V" } : Jvm.MethodName)) ∈ lw_all := lw_g (lw_at lw_m6 161 rfl) rfl
theorem q1459 : (Jvm.Cond.code ({ cls := "java/util/BitSet", name := "ensureCapacity", desc := "(I)V" } : Jvm.MethodName) prog_61_method_14_code (3 : Nat) (Option.none : Option Jvm.ClassFile.FieldType)) ∈ lw_all := lw_g (lw_at lw_m6 162 rfl) rfl
theorem q1460 : (Jvm.Cond.methodLink "java/util/BitSet" (133 : Nat) ({ cls := "java/lang/Math", name := "max", desc := "(II)I" } : Jvm.MethodName)) ∈ lw_all := lw_g (lw_at lw_m6 163 rfl) rfl
theorem q1461 : (Jvm.Cond.methodLink "java/util/BitSet" (59 : Nat) ({ cls := "java/util/Arrays", name := "copyOf", desc := "([JI)[J" } : Jvm.MethodName)) ∈ lw_all := lw_g (lw_at lw_m6 164 rfl) rfl
theorem q1540 : (Jvm.Cond.instanceMethod ({ cls := "java/util/BitSet", name := "clear", desc := "(I)V" } : Jvm.MethodName)) ∈ lw_all := lw_g (lw_at lw_m7 3 rfl) rfl
theorem q1541 : (Jvm.Cond.selects "java/util/BitSet" ({ cls := "java/util/BitSet", name := "clear", desc := "(I)V" } : Jvm.MethodName) ({ cls := "java/util/BitSet", name := "clear", desc := "(I)V" } : Jvm.MethodName)) ∈ lw_all := lw_g (lw_at lw_m7 4 rfl) rfl
theorem q1542 : (Jvm.Cond.code ({ cls := "java/util/BitSet", name := "clear", desc := "(I)V" } : Jvm.MethodName) prog_61_method_23_code (3 : Nat) (Option.none : Option Jvm.ClassFile.FieldType)) ∈ lw_all := lw_g (lw_at lw_m7 5 rfl) rfl
theorem q1543 : (Jvm.Cond.constantLong "java/util/BitSet" (165 : Nat) (-1 : Int64)) ∈ lw_all := lw_g (lw_at lw_m7 6 rfl) rfl
theorem q1544 : (Jvm.Cond.methodLink "java/util/BitSet" (158 : Nat) ({ cls := "java/util/BitSet", name := "recalculateWordsInUse", desc := "()V" } : Jvm.MethodName)) ∈ lw_all := lw_g (lw_at lw_m7 7 rfl) rfl
theorem q1545 : (Jvm.Cond.privateMethod ({ cls := "java/util/BitSet", name := "recalculateWordsInUse", desc := "()V" } : Jvm.MethodName)) ∈ lw_tbl := lw_at lw_m7 8 rfl
theorem q1546 : (Jvm.Cond.instanceMethod ({ cls := "java/util/BitSet", name := "recalculateWordsInUse", desc := "()V" } : Jvm.MethodName)) ∈ lw_all := lw_g (lw_at lw_m7 9 rfl) rfl
theorem q1547 : (Jvm.Cond.code ({ cls := "java/util/BitSet", name := "recalculateWordsInUse", desc := "()V" } : Jvm.MethodName) prog_61_method_3_code (2 : Nat) (Option.none : Option Jvm.ClassFile.FieldType)) ∈ lw_all := lw_g (lw_at lw_m7 10 rfl) rfl
theorem q1626 : (Jvm.Cond.instanceMethod ({ cls := "java/util/BitSet", name := "cardinality", desc := "()I" } : Jvm.MethodName)) ∈ lw_all := lw_g (lw_at lw_m7 89 rfl) rfl
theorem q1627 : (Jvm.Cond.selects "java/util/BitSet" ({ cls := "java/util/BitSet", name := "cardinality", desc := "()I" } : Jvm.MethodName) ({ cls := "java/util/BitSet", name := "cardinality", desc := "()I" } : Jvm.MethodName)) ∈ lw_all := lw_g (lw_at lw_m7 90 rfl) rfl
theorem q1628 : (Jvm.Cond.code ({ cls := "java/util/BitSet", name := "cardinality", desc := "()I" } : Jvm.MethodName) prog_61_method_35_code (3 : Nat) (Option.some Jvm.ClassFile.FieldType.int)) ∈ lw_all := lw_g (lw_at lw_m7 91 rfl) rfl
theorem q1629 : (Jvm.Cond.methodLink "java/util/BitSet" (196 : Nat) ({ cls := "java/lang/Long", name := "bitCount", desc := "(J)I" } : Jvm.MethodName)) ∈ lw_all := lw_g (lw_at lw_m7 92 rfl) rfl
theorem q1977 : (Jvm.Cond.instanceMethod ({ cls := "java/util/BitSet", name := "isEmpty", desc := "()Z" } : Jvm.MethodName)) ∈ lw_all := lw_g (lw_at lw_m8 200 rfl) rfl
theorem q1978 : (Jvm.Cond.selects "java/util/BitSet" ({ cls := "java/util/BitSet", name := "isEmpty", desc := "()Z" } : Jvm.MethodName) ({ cls := "java/util/BitSet", name := "isEmpty", desc := "()Z" } : Jvm.MethodName)) ∈ lw_all := lw_g (lw_at lw_m8 201 rfl) rfl
theorem q1979 : (Jvm.Cond.code ({ cls := "java/util/BitSet", name := "isEmpty", desc := "()Z" } : Jvm.MethodName) prog_61_method_33_code (1 : Nat) (Option.some Jvm.ClassFile.FieldType.boolean)) ∈ lw_all := lw_g (lw_at lw_m8 202 rfl) rfl
theorem q2010 : (Jvm.Cond.instanceMethod ({ cls := "java/util/BitSet", name := "nextClearBit", desc := "(I)I" } : Jvm.MethodName)) ∈ lw_all := lw_g (lw_at lw_m8 233 rfl) rfl
theorem q2011 : (Jvm.Cond.selects "java/util/BitSet" ({ cls := "java/util/BitSet", name := "nextClearBit", desc := "(I)I" } : Jvm.MethodName) ({ cls := "java/util/BitSet", name := "nextClearBit", desc := "(I)I" } : Jvm.MethodName)) ∈ lw_all := lw_g (lw_at lw_m8 234 rfl) rfl
theorem q2012 : (Jvm.Cond.code ({ cls := "java/util/BitSet", name := "nextClearBit", desc := "(I)I" } : Jvm.MethodName) prog_61_method_29_code (5 : Nat) (Option.some Jvm.ClassFile.FieldType.int)) ∈ lw_all := lw_g (lw_at lw_m8 235 rfl) rfl
theorem q2013 : (Jvm.Cond.methodLink "java/util/BitSet" (182 : Nat) ({ cls := "java/lang/Long", name := "numberOfTrailingZeros", desc := "(J)I" } : Jvm.MethodName)) ∈ lw_all := lw_g (lw_at lw_m8 236 rfl) rfl
theorem q2954 : (Jvm.Cond.castable "java/util/BitSet" "java/lang/Object") ∈ lw_tbl := lw_at lw_m12 217 rfl
theorem in_J5 : ∀ w ∈ wsJ50, w ∈ lw_all := lw_in wsJ50 [314, 316, 318] (by decide +kernel) (by decide +kernel)
/-! jdk/internal/util/ArraysSupport -/
set_option maxRecDepth 100000
def RJ6 : String := "jdk/internal/util/ArraysSupport"
abbrev cJ6_newLength : ByteArray := prog_75_method_27_code
def yJ6_newLength : MethodName := ⟨RJ6, "newLength", "(III)I"⟩
def dkwJ6_newLength_1 : List UInt8 := [184, 0, 201, 172]
abbrev dktJ6_newLength_1 : List UInt8 := dkwJ6_newLength_1 ++ []
def dkwJ6_newLength_0 : List UInt8 := [26, 27, 28, 184, 0, 194, 96, 62, 3, 29, 162, 0, 11, 29, 18, 200, 163, 0, 5, 29, 172, 26, 27]
abbrev dktJ6_newLength_0 : List UInt8 := dkwJ6_newLength_0 ++ dktJ6_newLength_1
theorem dksJ6_newLength_0 : cJ6_newLength.data.toList.drop 0 = dktJ6_newLength_0 := by decide +kernel
theorem dksJ6_newLength_1 : cJ6_newLength.data.toList.drop 23 = dktJ6_newLength_1 := dk_seg dksJ6_newLength_0 23 rfl rfl
theorem dJ6_newLength_0 : decode cJ6_newLength 0 = .ok (.iload_n 0, 1) := dk_26 (dk_at dksJ6_newLength_0 0 rfl rfl)
theorem dJ6_newLength_1 : decode cJ6_newLength 1 = .ok (.iload_n 1, 1) := dk_27 (dk_at dksJ6_newLength_0 1 rfl rfl)
theorem dJ6_newLength_2 : decode cJ6_newLength 2 = .ok (.iload_n 2, 1) := dk_28 (dk_at dksJ6_newLength_0 2 rfl rfl)
theorem dJ6_newLength_3 : decode cJ6_newLength 3 = .ok (.invokestatic 194, 3) := dk_184 0 194 (dk_at dksJ6_newLength_0 3 rfl rfl)
theorem dJ6_newLength_6 : decode cJ6_newLength 6 = .ok (.iadd, 1) := dk_96 (dk_at dksJ6_newLength_0 6 rfl rfl)
theorem dJ6_newLength_7 : decode cJ6_newLength 7 = .ok (.istore_n 3, 1) := dk_62 (dk_at dksJ6_newLength_0 7 rfl rfl)
theorem dJ6_newLength_8 : decode cJ6_newLength 8 = .ok (.iconst 0, 1) := dk_3 (dk_at dksJ6_newLength_0 8 rfl rfl)
theorem dJ6_newLength_9 : decode cJ6_newLength 9 = .ok (.iload_n 3, 1) := dk_29 (dk_at dksJ6_newLength_0 9 rfl rfl)
theorem dJ6_newLength_10 : decode cJ6_newLength 10 = .ok (.if_icmp .ge 11, 3) := dk_162 0 11 (dk_at dksJ6_newLength_0 10 rfl rfl)
theorem dJ6_newLength_13 : decode cJ6_newLength 13 = .ok (.iload_n 3, 1) := dk_29 (dk_at dksJ6_newLength_0 13 rfl rfl)
theorem dJ6_newLength_14 : decode cJ6_newLength 14 = .ok (.ldc 200, 2) := dk_18 200 (dk_at dksJ6_newLength_0 14 rfl rfl)
theorem dJ6_newLength_16 : decode cJ6_newLength 16 = .ok (.if_icmp .gt 5, 3) := dk_163 0 5 (dk_at dksJ6_newLength_0 16 rfl rfl)
theorem dJ6_newLength_19 : decode cJ6_newLength 19 = .ok (.iload_n 3, 1) := dk_29 (dk_at dksJ6_newLength_0 19 rfl rfl)
theorem dJ6_newLength_20 : decode cJ6_newLength 20 = .ok (.ireturn, 1) := dk_172 (dk_at dksJ6_newLength_0 20 rfl rfl)
theorem dJ6_newLength_21 : decode cJ6_newLength 21 = .ok (.iload_n 0, 1) := dk_26 (dk_at dksJ6_newLength_0 21 rfl rfl)
theorem dJ6_newLength_22 : decode cJ6_newLength 22 = .ok (.iload_n 1, 1) := dk_27 (dk_at dksJ6_newLength_0 22 rfl rfl)
theorem dJ6_newLength_23 : decode cJ6_newLength 23 = .ok (.invokestatic 201, 3) := dk_184 0 201 (dk_at dksJ6_newLength_1 0 rfl rfl)
theorem dJ6_newLength_26 : decode cJ6_newLength 26 = .ok (.ireturn, 1) := dk_172 (dk_at dksJ6_newLength_1 3 rfl rfl)
abbrev cJ6_hugeLength : ByteArray := prog_75_method_28_code
def yJ6_hugeLength : MethodName := ⟨RJ6, "hugeLength", "(II)I"⟩
def dkwJ6_hugeLength_2 : List UInt8 := [191, 28, 18, 200, 163, 0, 6, 18, 200, 172, 28, 172]
abbrev dktJ6_hugeLength_2 : List UInt8 := dkwJ6_hugeLength_2 ++ []
def dkwJ6_hugeLength_1 : List UInt8 := [26, 182, 0, 98, 18, 208, 182, 0, 94, 27, 182, 0, 98, 18, 210, 182, 0, 94, 182, 0, 101, 183, 0, 212]
abbrev dktJ6_hugeLength_1 : List UInt8 := dkwJ6_hugeLength_1 ++ dktJ6_hugeLength_2
def dkwJ6_hugeLength_0 : List UInt8 := [26, 27, 96, 61, 28, 156, 0, 44, 187, 0, 204, 89, 187, 0, 89, 89, 183, 0, 91, 18, 206, 182, 0, 94]
abbrev dktJ6_hugeLength_0 : List UInt8 := dkwJ6_hugeLength_0 ++ dktJ6_hugeLength_1
theorem dksJ6_hugeLength_0 : cJ6_hugeLength.data.toList.drop 0 = dktJ6_hugeLength_0 := by decide +kernel
theorem dksJ6_hugeLength_1 : cJ6_hugeLength.data.toList.drop 24 = dktJ6_hugeLength_1 := dk_seg dksJ6_hugeLength_0 24 rfl rfl
theorem dksJ6_hugeLength_2 : cJ6_hugeLength.data.toList.drop 48 = dktJ6_hugeLength_2 := dk_seg dksJ6_hugeLength_1 24 rfl rfl
theorem dJ6_hugeLength_0 : decode cJ6_hugeLength 0 = .ok (.iload_n 0, 1) := dk_26 (dk_at dksJ6_hugeLength_0 0 rfl rfl)
theorem dJ6_hugeLength_1 : decode cJ6_hugeLength 1 = .ok (.iload_n 1, 1) := dk_27 (dk_at dksJ6_hugeLength_0 1 rfl rfl)
theorem dJ6_hugeLength_2 : decode cJ6_hugeLength 2 = .ok (.iadd, 1) := dk_96 (dk_at dksJ6_hugeLength_0 2 rfl rfl)
theorem dJ6_hugeLength_3 : decode cJ6_hugeLength 3 = .ok (.istore_n 2, 1) := dk_61 (dk_at dksJ6_hugeLength_0 3 rfl rfl)
theorem dJ6_hugeLength_4 : decode cJ6_hugeLength 4 = .ok (.iload_n 2, 1) := dk_28 (dk_at dksJ6_hugeLength_0 4 rfl rfl)
theorem dJ6_hugeLength_5 : decode cJ6_hugeLength 5 = .ok (.ifCond .ge 44, 3) := dk_156 0 44 (dk_at dksJ6_hugeLength_0 5 rfl rfl)
theorem dJ6_hugeLength_8 : decode cJ6_hugeLength 8 = .ok (.new 204, 3) := dk_187 0 204 (dk_at dksJ6_hugeLength_0 8 rfl rfl)
theorem dJ6_hugeLength_11 : decode cJ6_hugeLength 11 = .ok (.dup, 1) := dk_89 (dk_at dksJ6_hugeLength_0 11 rfl rfl)
theorem dJ6_hugeLength_12 : decode cJ6_hugeLength 12 = .ok (.new 89, 3) := dk_187 0 89 (dk_at dksJ6_hugeLength_0 12 rfl rfl)
theorem dJ6_hugeLength_15 : decode cJ6_hugeLength 15 = .ok (.dup, 1) := dk_89 (dk_at dksJ6_hugeLength_0 15 rfl rfl)
theorem dJ6_hugeLength_16 : decode cJ6_hugeLength 16 = .ok (.invokespecial 91, 3) := dk_183 0 91 (dk_at dksJ6_hugeLength_0 16 rfl rfl)
theorem dJ6_hugeLength_19 : decode cJ6_hugeLength 19 = .ok (.ldc 206, 2) := dk_18 206 (dk_at dksJ6_hugeLength_0 19 rfl rfl)
theorem dJ6_hugeLength_21 : decode cJ6_hugeLength 21 = .ok (.invokevirtual 94, 3) := dk_182 0 94 (dk_at dksJ6_hugeLength_0 21 rfl rfl)
theorem dJ6_hugeLength_24 : decode cJ6_hugeLength 24 = .ok (.iload_n 0, 1) := dk_26 (dk_at dksJ6_hugeLength_1 0 rfl rfl)
theorem dJ6_hugeLength_25 : decode cJ6_hugeLength 25 = .ok (.invokevirtual 98, 3) := dk_182 0 98 (dk_at dksJ6_hugeLength_1 1 rfl rfl)
theorem dJ6_hugeLength_28 : decode cJ6_hugeLength 28 = .ok (.ldc 208, 2) := dk_18 208 (dk_at dksJ6_hugeLength_1 4 rfl rfl)
theorem dJ6_hugeLength_30 : decode cJ6_hugeLength 30 = .ok (.invokevirtual 94, 3) := dk_182 0 94 (dk_at dksJ6_hugeLength_1 6 rfl rfl)
theorem dJ6_hugeLength_33 : decode cJ6_hugeLength 33 = .ok (.iload_n 1, 1) := dk_27 (dk_at dksJ6_hugeLength_1 9 rfl rfl)
theorem dJ6_hugeLength_34 : decode cJ6_hugeLength 34 = .ok (.invokevirtual 98, 3) := dk_182 0 98 (dk_at dksJ6_hugeLength_1 10 rfl rfl)
theorem dJ6_hugeLength_37 : decode cJ6_hugeLength 37 = .ok (.ldc 210, 2) := dk_18 210 (dk_at dksJ6_hugeLength_1 13 rfl rfl)
theorem dJ6_hugeLength_39 : decode cJ6_hugeLength 39 = .ok (.invokevirtual 94, 3) := dk_182 0 94 (dk_at dksJ6_hugeLength_1 15 rfl rfl)
theorem dJ6_hugeLength_42 : decode cJ6_hugeLength 42 = .ok (.invokevirtual 101, 3) := dk_182 0 101 (dk_at dksJ6_hugeLength_1 18 rfl rfl)
theorem dJ6_hugeLength_45 : decode cJ6_hugeLength 45 = .ok (.invokespecial 212, 3) := dk_183 0 212 (dk_at dksJ6_hugeLength_1 21 rfl rfl)
theorem dJ6_hugeLength_48 : decode cJ6_hugeLength 48 = .ok (.athrow, 1) := dk_191 (dk_at dksJ6_hugeLength_2 0 rfl rfl)
theorem dJ6_hugeLength_49 : decode cJ6_hugeLength 49 = .ok (.iload_n 2, 1) := dk_28 (dk_at dksJ6_hugeLength_2 1 rfl rfl)
theorem dJ6_hugeLength_50 : decode cJ6_hugeLength 50 = .ok (.ldc 200, 2) := dk_18 200 (dk_at dksJ6_hugeLength_2 2 rfl rfl)
theorem dJ6_hugeLength_52 : decode cJ6_hugeLength 52 = .ok (.if_icmp .gt 6, 3) := dk_163 0 6 (dk_at dksJ6_hugeLength_2 4 rfl rfl)
theorem dJ6_hugeLength_55 : decode cJ6_hugeLength 55 = .ok (.ldc 200, 2) := dk_18 200 (dk_at dksJ6_hugeLength_2 7 rfl rfl)
theorem dJ6_hugeLength_57 : decode cJ6_hugeLength 57 = .ok (.ireturn, 1) := dk_172 (dk_at dksJ6_hugeLength_2 9 rfl rfl)
theorem dJ6_hugeLength_58 : decode cJ6_hugeLength 58 = .ok (.iload_n 2, 1) := dk_28 (dk_at dksJ6_hugeLength_2 10 rfl rfl)
theorem dJ6_hugeLength_59 : decode cJ6_hugeLength 59 = .ok (.ireturn, 1) := dk_172 (dk_at dksJ6_hugeLength_2 11 rfl rfl)
theorem q111 : (Jvm.Cond.initialized "jdk/internal/util/ArraysSupport") ∈ lw_all := lw_g (lw_at lw_m1 14 rfl) rfl
theorem q410 : (Jvm.Cond.static ({ cls := "jdk/internal/util/ArraysSupport", name := "newLength", desc := "(III)I" } : Jvm.MethodName)) ∈ lw_all := lw_g (lw_at lw_m2 73 rfl) rfl
theorem q411 : (Jvm.Cond.code ({ cls := "jdk/internal/util/ArraysSupport", name := "newLength", desc := "(III)I" } : Jvm.MethodName) prog_75_method_27_code (4 : Nat) (Option.some Jvm.ClassFile.FieldType.int)) ∈ lw_all := lw_g (lw_at lw_m2 74 rfl) rfl
theorem q412 : (Jvm.Cond.methodLink "jdk/internal/util/ArraysSupport" (194 : Nat) ({ cls := "java/lang/Math", name := "max", desc := "(II)I" } : Jvm.MethodName)) ∈ lw_all := lw_g (lw_at lw_m2 75 rfl) rfl
theorem q415 : (Jvm.Cond.constant "jdk/internal/util/ArraysSupport" (200 : Nat) (2147483639 : Int32)) ∈ lw_all := lw_g (lw_at lw_m2 78 rfl) rfl
theorem q416 : (Jvm.Cond.methodLink "jdk/internal/util/ArraysSupport" (201 : Nat) ({ cls := "jdk/internal/util/ArraysSupport", name := "hugeLength", desc := "(II)I" } : Jvm.MethodName)) ∈ lw_all := lw_g (lw_at lw_m2 79 rfl) rfl
theorem q417 : (Jvm.Cond.static ({ cls := "jdk/internal/util/ArraysSupport", name := "hugeLength", desc := "(II)I" } : Jvm.MethodName)) ∈ lw_all := lw_g (lw_at lw_m2 80 rfl) rfl
theorem q418 : (Jvm.Cond.code ({ cls := "jdk/internal/util/ArraysSupport", name := "hugeLength", desc := "(II)I" } : Jvm.MethodName) prog_75_method_28_code (3 : Nat) (Option.some Jvm.ClassFile.FieldType.int)) ∈ lw_all := lw_g (lw_at lw_m2 81 rfl) rfl
/-! java/lang/Math -/
set_option maxRecDepth 100000
def RJ7 : String := "java/lang/Math"
abbrev cJ7_max : ByteArray := prog_39_method_65_code
def yJ7_max : MethodName := ⟨RJ7, "max", "(II)I"⟩
def dkwJ7_max_0 : List UInt8 := [26, 27, 161, 0, 7, 26, 167, 0, 4, 27, 172]
abbrev dktJ7_max_0 : List UInt8 := dkwJ7_max_0 ++ []
theorem dksJ7_max_0 : cJ7_max.data.toList.drop 0 = dktJ7_max_0 := by decide +kernel
theorem dJ7_max_0 : decode cJ7_max 0 = .ok (.iload_n 0, 1) := dk_26 (dk_at dksJ7_max_0 0 rfl rfl)
theorem dJ7_max_1 : decode cJ7_max 1 = .ok (.iload_n 1, 1) := dk_27 (dk_at dksJ7_max_0 1 rfl rfl)
theorem dJ7_max_2 : decode cJ7_max 2 = .ok (.if_icmp .lt 7, 3) := dk_161 0 7 (dk_at dksJ7_max_0 2 rfl rfl)
theorem dJ7_max_5 : decode cJ7_max 5 = .ok (.iload_n 0, 1) := dk_26 (dk_at dksJ7_max_0 5 rfl rfl)
theorem dJ7_max_6 : decode cJ7_max 6 = .ok (.goto 4, 3) := dk_167 0 4 (dk_at dksJ7_max_0 6 rfl rfl)
theorem dJ7_max_9 : decode cJ7_max 9 = .ok (.iload_n 1, 1) := dk_27 (dk_at dksJ7_max_0 9 rfl rfl)
theorem dJ7_max_10 : decode cJ7_max 10 = .ok (.ireturn, 1) := dk_172 (dk_at dksJ7_max_0 10 rfl rfl)
abbrev cJ7_min : ByteArray := prog_39_method_69_code
def yJ7_min : MethodName := ⟨RJ7, "min", "(II)I"⟩
def dkwJ7_min_0 : List UInt8 := [26, 27, 163, 0, 7, 26, 167, 0, 4, 27, 172]
abbrev dktJ7_min_0 : List UInt8 := dkwJ7_min_0 ++ []
theorem dksJ7_min_0 : cJ7_min.data.toList.drop 0 = dktJ7_min_0 := by decide +kernel
theorem dJ7_min_0 : decode cJ7_min 0 = .ok (.iload_n 0, 1) := dk_26 (dk_at dksJ7_min_0 0 rfl rfl)
theorem dJ7_min_1 : decode cJ7_min 1 = .ok (.iload_n 1, 1) := dk_27 (dk_at dksJ7_min_0 1 rfl rfl)
theorem dJ7_min_2 : decode cJ7_min 2 = .ok (.if_icmp .gt 7, 3) := dk_163 0 7 (dk_at dksJ7_min_0 2 rfl rfl)
theorem dJ7_min_5 : decode cJ7_min 5 = .ok (.iload_n 0, 1) := dk_26 (dk_at dksJ7_min_0 5 rfl rfl)
theorem dJ7_min_6 : decode cJ7_min 6 = .ok (.goto 4, 3) := dk_167 0 4 (dk_at dksJ7_min_0 6 rfl rfl)
theorem dJ7_min_9 : decode cJ7_min 9 = .ok (.iload_n 1, 1) := dk_27 (dk_at dksJ7_min_0 9 rfl rfl)
theorem dJ7_min_10 : decode cJ7_min 10 = .ok (.ireturn, 1) := dk_172 (dk_at dksJ7_min_0 10 rfl rfl)
abbrev cJ7_floorMod : ByteArray := prog_39_method_50_code
def yJ7_floorMod : MethodName := ⟨RJ7, "floorMod", "(II)I"⟩
def dkwJ7_floorMod_0 : List UInt8 := [26, 27, 112, 61, 26, 27, 130, 156, 0, 11, 28, 153, 0, 7, 28, 27, 96, 172, 28, 172]
abbrev dktJ7_floorMod_0 : List UInt8 := dkwJ7_floorMod_0 ++ []
theorem dksJ7_floorMod_0 : cJ7_floorMod.data.toList.drop 0 = dktJ7_floorMod_0 := by decide +kernel
theorem dJ7_floorMod_0 : decode cJ7_floorMod 0 = .ok (.iload_n 0, 1) := dk_26 (dk_at dksJ7_floorMod_0 0 rfl rfl)
theorem dJ7_floorMod_1 : decode cJ7_floorMod 1 = .ok (.iload_n 1, 1) := dk_27 (dk_at dksJ7_floorMod_0 1 rfl rfl)
theorem dJ7_floorMod_2 : decode cJ7_floorMod 2 = .ok (.irem, 1) := dk_112 (dk_at dksJ7_floorMod_0 2 rfl rfl)
theorem dJ7_floorMod_3 : decode cJ7_floorMod 3 = .ok (.istore_n 2, 1) := dk_61 (dk_at dksJ7_floorMod_0 3 rfl rfl)
theorem dJ7_floorMod_4 : decode cJ7_floorMod 4 = .ok (.iload_n 0, 1) := dk_26 (dk_at dksJ7_floorMod_0 4 rfl rfl)
theorem dJ7_floorMod_5 : decode cJ7_floorMod 5 = .ok (.iload_n 1, 1) := dk_27 (dk_at dksJ7_floorMod_0 5 rfl rfl)
theorem dJ7_floorMod_6 : decode cJ7_floorMod 6 = .ok (.ixor, 1) := dk_130 (dk_at dksJ7_floorMod_0 6 rfl rfl)
theorem dJ7_floorMod_7 : decode cJ7_floorMod 7 = .ok (.ifCond .ge 11, 3) := dk_156 0 11 (dk_at dksJ7_floorMod_0 7 rfl rfl)
theorem dJ7_floorMod_10 : decode cJ7_floorMod 10 = .ok (.iload_n 2, 1) := dk_28 (dk_at dksJ7_floorMod_0 10 rfl rfl)
theorem dJ7_floorMod_11 : decode cJ7_floorMod 11 = .ok (.ifCond .eq 7, 3) := dk_153 0 7 (dk_at dksJ7_floorMod_0 11 rfl rfl)
theorem dJ7_floorMod_14 : decode cJ7_floorMod 14 = .ok (.iload_n 2, 1) := dk_28 (dk_at dksJ7_floorMod_0 14 rfl rfl)
theorem dJ7_floorMod_15 : decode cJ7_floorMod 15 = .ok (.iload_n 1, 1) := dk_27 (dk_at dksJ7_floorMod_0 15 rfl rfl)
theorem dJ7_floorMod_16 : decode cJ7_floorMod 16 = .ok (.iadd, 1) := dk_96 (dk_at dksJ7_floorMod_0 16 rfl rfl)
theorem dJ7_floorMod_17 : decode cJ7_floorMod 17 = .ok (.ireturn, 1) := dk_172 (dk_at dksJ7_floorMod_0 17 rfl rfl)
theorem dJ7_floorMod_18 : decode cJ7_floorMod 18 = .ok (.iload_n 2, 1) := dk_28 (dk_at dksJ7_floorMod_0 18 rfl rfl)
theorem dJ7_floorMod_19 : decode cJ7_floorMod 19 = .ok (.ireturn, 1) := dk_172 (dk_at dksJ7_floorMod_0 19 rfl rfl)
theorem q112 : (Jvm.Cond.initialized "java/lang/Math") ∈ lw_all := lw_g (lw_at lw_m1 15 rfl) rfl
theorem q413 : (Jvm.Cond.static ({ cls := "java/lang/Math", name := "max", desc := "(II)I" } : Jvm.MethodName)) ∈ lw_all := lw_g (lw_at lw_m2 76 rfl) rfl
theorem q414 : (Jvm.Cond.code ({ cls := "java/lang/Math", name := "max", desc := "(II)I" } : Jvm.MethodName) prog_39_method_65_code (2 : Nat) (Option.some Jvm.ClassFile.FieldType.int)) ∈ lw_all := lw_g (lw_at lw_m2 77 rfl) rfl
theorem q468 : (Jvm.Cond.static ({ cls := "java/lang/Math", name := "min", desc := "(II)I" } : Jvm.MethodName)) ∈ lw_all := lw_g (lw_at lw_m2 131 rfl) rfl
theorem q469 : (Jvm.Cond.code ({ cls := "java/lang/Math", name := "min", desc := "(II)I" } : Jvm.MethodName) prog_39_method_69_code (2 : Nat) (Option.some Jvm.ClassFile.FieldType.int)) ∈ lw_all := lw_g (lw_at lw_m2 132 rfl) rfl
theorem q1514 : (Jvm.Cond.static ({ cls := "java/lang/Math", name := "floorMod", desc := "(II)I" } : Jvm.MethodName)) ∈ lw_all := lw_g (lw_at lw_m6 217 rfl) rfl
theorem q1515 : (Jvm.Cond.code ({ cls := "java/lang/Math", name := "floorMod", desc := "(II)I" } : Jvm.MethodName) prog_39_method_50_code (3 : Nat) (Option.some Jvm.ClassFile.FieldType.int)) ∈ lw_all := lw_g (lw_at lw_m6 218 rfl) rfl
/-! java/util/Arrays -/
set_option maxRecDepth 100000
def RJ8 : String := "java/util/Arrays"
abbrev cJ8_copyOf : ByteArray := prog_60_method_119_code
def yJ8_copyOf : MethodName := ⟨RJ8, "copyOf", "([Ljava/lang/Object;I)[Ljava/lang/Object;"⟩
def dkwJ8_copyOf_0 : List UInt8 := [42, 27, 42, 182, 0, 86, 184, 1, 44, 176]
abbrev dktJ8_copyOf_0 : List UInt8 := dkwJ8_copyOf_0 ++ []
theorem dksJ8_copyOf_0 : cJ8_copyOf.data.toList.drop 0 = dktJ8_copyOf_0 := by decide +kernel
theorem dJ8_copyOf_0 : decode cJ8_copyOf 0 = .ok (.aload_n 0, 1) := dk_42 (dk_at dksJ8_copyOf_0 0 rfl rfl)
theorem dJ8_copyOf_1 : decode cJ8_copyOf 1 = .ok (.iload_n 1, 1) := dk_27 (dk_at dksJ8_copyOf_0 1 rfl rfl)
theorem dJ8_copyOf_2 : decode cJ8_copyOf 2 = .ok (.aload_n 0, 1) := dk_42 (dk_at dksJ8_copyOf_0 2 rfl rfl)
theorem dJ8_copyOf_3 : decode cJ8_copyOf 3 = .ok (.invokevirtual 86, 3) := dk_182 0 86 (dk_at dksJ8_copyOf_0 3 rfl rfl)
theorem dJ8_copyOf_6 : decode cJ8_copyOf 6 = .ok (.invokestatic 300, 3) := dk_184 1 44 (dk_at dksJ8_copyOf_0 6 rfl rfl)
theorem dJ8_copyOf_9 : decode cJ8_copyOf 9 = .ok (.areturn, 1) := dk_176 (dk_at dksJ8_copyOf_0 9 rfl rfl)
abbrev cJ8_copyOf_2 : ByteArray := prog_60_method_120_code
def yJ8_copyOf_2 : MethodName := ⟨RJ8, "copyOf", "([Ljava/lang/Object;ILjava/lang/Class;)[Ljava/lang/Object;"⟩
def dkwJ8_copyOf_2_1 : List UInt8 := [78, 42, 3, 45, 3, 42, 190, 27, 184, 1, 48, 184, 0, 150, 45, 176]
abbrev dktJ8_copyOf_2_1 : List UInt8 := dkwJ8_copyOf_2_1 ++ []
def dkwJ8_copyOf_2_0 : List UInt8 := [44, 18, 110, 166, 0, 10, 27, 189, 0, 2, 167, 0, 14, 44, 182, 0, 90, 27, 184, 0, 95, 192, 0, 110]
abbrev dktJ8_copyOf_2_0 : List UInt8 := dkwJ8_copyOf_2_0 ++ dktJ8_copyOf_2_1
theorem dksJ8_copyOf_2_0 : cJ8_copyOf_2.data.toList.drop 0 = dktJ8_copyOf_2_0 := by decide +kernel
theorem dksJ8_copyOf_2_1 : cJ8_copyOf_2.data.toList.drop 24 = dktJ8_copyOf_2_1 := dk_seg dksJ8_copyOf_2_0 24 rfl rfl
theorem dJ8_copyOf_2_0 : decode cJ8_copyOf_2 0 = .ok (.aload_n 2, 1) := dk_44 (dk_at dksJ8_copyOf_2_0 0 rfl rfl)
theorem dJ8_copyOf_2_1 : decode cJ8_copyOf_2 1 = .ok (.ldc 110, 2) := dk_18 110 (dk_at dksJ8_copyOf_2_0 1 rfl rfl)
theorem dJ8_copyOf_2_3 : decode cJ8_copyOf_2 3 = .ok (.if_acmp .ne 10, 3) := dk_166 0 10 (dk_at dksJ8_copyOf_2_0 3 rfl rfl)
theorem dJ8_copyOf_2_6 : decode cJ8_copyOf_2 6 = .ok (.iload_n 1, 1) := dk_27 (dk_at dksJ8_copyOf_2_0 6 rfl rfl)
theorem dJ8_copyOf_2_7 : decode cJ8_copyOf_2 7 = .ok (.anewarray 2, 3) := dk_189 0 2 (dk_at dksJ8_copyOf_2_0 7 rfl rfl)
theorem dJ8_copyOf_2_10 : decode cJ8_copyOf_2 10 = .ok (.goto 14, 3) := dk_167 0 14 (dk_at dksJ8_copyOf_2_0 10 rfl rfl)
theorem dJ8_copyOf_2_13 : decode cJ8_copyOf_2 13 = .ok (.aload_n 2, 1) := dk_44 (dk_at dksJ8_copyOf_2_0 13 rfl rfl)
theorem dJ8_copyOf_2_14 : decode cJ8_copyOf_2 14 = .ok (.invokevirtual 90, 3) := dk_182 0 90 (dk_at dksJ8_copyOf_2_0 14 rfl rfl)
theorem dJ8_copyOf_2_17 : decode cJ8_copyOf_2 17 = .ok (.iload_n 1, 1) := dk_27 (dk_at dksJ8_copyOf_2_0 17 rfl rfl)
theorem dJ8_copyOf_2_18 : decode cJ8_copyOf_2 18 = .ok (.invokestatic 95, 3) := dk_184 0 95 (dk_at dksJ8_copyOf_2_0 18 rfl rfl)
theorem dJ8_copyOf_2_21 : decode cJ8_copyOf_2 21 = .ok (.checkcast 110, 3) := dk_192 0 110 (dk_at dksJ8_copyOf_2_0 21 rfl rfl)
theorem dJ8_copyOf_2_24 : decode cJ8_copyOf_2 24 = .ok (.astore_n 3, 1) := dk_78 (dk_at dksJ8_copyOf_2_1 0 rfl rfl)
theorem dJ8_copyOf_2_25 : decode cJ8_copyOf_2 25 = .ok (.aload_n 0, 1) := dk_42 (dk_at dksJ8_copyOf_2_1 1 rfl rfl)
theorem dJ8_copyOf_2_26 : decode cJ8_copyOf_2 26 = .ok (.iconst 0, 1) := dk_3 (dk_at dksJ8_copyOf_2_1 2 rfl rfl)
theorem dJ8_copyOf_2_27 : decode cJ8_copyOf_2 27 = .ok (.aload_n 3, 1) := dk_45 (dk_at dksJ8_copyOf_2_1 3 rfl rfl)
theorem dJ8_copyOf_2_28 : decode cJ8_copyOf_2 28 = .ok (.iconst 0, 1) := dk_3 (dk_at dksJ8_copyOf_2_1 4 rfl rfl)
theorem dJ8_copyOf_2_29 : decode cJ8_copyOf_2 29 = .ok (.aload_n 0, 1) := dk_42 (dk_at dksJ8_copyOf_2_1 5 rfl rfl)
theorem dJ8_copyOf_2_30 : decode cJ8_copyOf_2 30 = .ok (.arraylength, 1) := dk_190 (dk_at dksJ8_copyOf_2_1 6 rfl rfl)
theorem dJ8_copyOf_2_31 : decode cJ8_copyOf_2 31 = .ok (.iload_n 1, 1) := dk_27 (dk_at dksJ8_copyOf_2_1 7 rfl rfl)
theorem dJ8_copyOf_2_32 : decode cJ8_copyOf_2 32 = .ok (.invokestatic 304, 3) := dk_184 1 48 (dk_at dksJ8_copyOf_2_1 8 rfl rfl)
theorem dJ8_copyOf_2_35 : decode cJ8_copyOf_2 35 = .ok (.invokestatic 150, 3) := dk_184 0 150 (dk_at dksJ8_copyOf_2_1 11 rfl rfl)
theorem dJ8_copyOf_2_38 : decode cJ8_copyOf_2 38 = .ok (.aload_n 3, 1) := dk_45 (dk_at dksJ8_copyOf_2_1 14 rfl rfl)
theorem dJ8_copyOf_2_39 : decode cJ8_copyOf_2 39 = .ok (.areturn, 1) := dk_176 (dk_at dksJ8_copyOf_2_1 15 rfl rfl)
abbrev cJ8_copyOf_3 : ByteArray := prog_60_method_121_code
def yJ8_copyOf_3 : MethodName := ⟨RJ8, "copyOf", "([BI)[B"⟩
def dkwJ8_copyOf_3_1 : List UInt8 := [27, 184, 1, 48, 184, 0, 150, 44, 176]
abbrev dktJ8_copyOf_3_1 : List UInt8 := dkwJ8_copyOf_3_1 ++ []
def dkwJ8_copyOf_3_0 : List UInt8 := [27, 42, 190, 160, 0, 11, 42, 182, 1, 54, 192, 1, 55, 176, 27, 188, 8, 77, 42, 3, 44, 3, 42, 190]
abbrev dktJ8_copyOf_3_0 : List UInt8 := dkwJ8_copyOf_3_0 ++ dktJ8_copyOf_3_1
theorem dksJ8_copyOf_3_0 : cJ8_copyOf_3.data.toList.drop 0 = dktJ8_copyOf_3_0 := by decide +kernel
theorem dksJ8_copyOf_3_1 : cJ8_copyOf_3.data.toList.drop 24 = dktJ8_copyOf_3_1 := dk_seg dksJ8_copyOf_3_0 24 rfl rfl
theorem dJ8_copyOf_3_0 : decode cJ8_copyOf_3 0 = .ok (.iload_n 1, 1) := dk_27 (dk_at dksJ8_copyOf_3_0 0 rfl rfl)
theorem dJ8_copyOf_3_1 : decode cJ8_copyOf_3 1 = .ok (.aload_n 0, 1) := dk_42 (dk_at dksJ8_copyOf_3_0 1 rfl rfl)
theorem dJ8_copyOf_3_2 : decode cJ8_copyOf_3 2 = .ok (.arraylength, 1) := dk_190 (dk_at dksJ8_copyOf_3_0 2 rfl rfl)
theorem dJ8_copyOf_3_3 : decode cJ8_copyOf_3 3 = .ok (.if_icmp .ne 11, 3) := dk_160 0 11 (dk_at dksJ8_copyOf_3_0 3 rfl rfl)
theorem dJ8_copyOf_3_6 : decode cJ8_copyOf_3 6 = .ok (.aload_n 0, 1) := dk_42 (dk_at dksJ8_copyOf_3_0 6 rfl rfl)
theorem dJ8_copyOf_3_7 : decode cJ8_copyOf_3 7 = .ok (.invokevirtual 310, 3) := dk_182 1 54 (dk_at dksJ8_copyOf_3_0 7 rfl rfl)
theorem dJ8_copyOf_3_10 : decode cJ8_copyOf_3 10 = .ok (.checkcast 311, 3) := dk_192 1 55 (dk_at dksJ8_copyOf_3_0 10 rfl rfl)
theorem dJ8_copyOf_3_13 : decode cJ8_copyOf_3 13 = .ok (.areturn, 1) := dk_176 (dk_at dksJ8_copyOf_3_0 13 rfl rfl)
theorem dJ8_copyOf_3_14 : decode cJ8_copyOf_3 14 = .ok (.iload_n 1, 1) := dk_27 (dk_at dksJ8_copyOf_3_0 14 rfl rfl)
theorem dJ8_copyOf_3_15 : decode cJ8_copyOf_3 15 = .ok (.newarray .byte, 2) := dk_188_8 (dk_at dksJ8_copyOf_3_0 15 rfl rfl)
theorem dJ8_copyOf_3_17 : decode cJ8_copyOf_3 17 = .ok (.astore_n 2, 1) := dk_77 (dk_at dksJ8_copyOf_3_0 17 rfl rfl)
theorem dJ8_copyOf_3_18 : decode cJ8_copyOf_3 18 = .ok (.aload_n 0, 1) := dk_42 (dk_at dksJ8_copyOf_3_0 18 rfl rfl)
theorem dJ8_copyOf_3_19 : decode cJ8_copyOf_3 19 = .ok (.iconst 0, 1) := dk_3 (dk_at dksJ8_copyOf_3_0 19 rfl rfl)
theorem dJ8_copyOf_3_20 : decode cJ8_copyOf_3 20 = .ok (.aload_n 2, 1) := dk_44 (dk_at dksJ8_copyOf_3_0 20 rfl rfl)
theorem dJ8_copyOf_3_21 : decode cJ8_copyOf_3 21 = .ok (.iconst 0, 1) := dk_3 (dk_at dksJ8_copyOf_3_0 21 rfl rfl)
theorem dJ8_copyOf_3_22 : decode cJ8_copyOf_3 22 = .ok (.aload_n 0, 1) := dk_42 (dk_at dksJ8_copyOf_3_0 22 rfl rfl)
theorem dJ8_copyOf_3_23 : decode cJ8_copyOf_3 23 = .ok (.arraylength, 1) := dk_190 (dk_at dksJ8_copyOf_3_0 23 rfl rfl)
theorem dJ8_copyOf_3_24 : decode cJ8_copyOf_3 24 = .ok (.iload_n 1, 1) := dk_27 (dk_at dksJ8_copyOf_3_1 0 rfl rfl)
theorem dJ8_copyOf_3_25 : decode cJ8_copyOf_3 25 = .ok (.invokestatic 304, 3) := dk_184 1 48 (dk_at dksJ8_copyOf_3_1 1 rfl rfl)
theorem dJ8_copyOf_3_28 : decode cJ8_copyOf_3 28 = .ok (.invokestatic 150, 3) := dk_184 0 150 (dk_at dksJ8_copyOf_3_1 4 rfl rfl)
theorem dJ8_copyOf_3_31 : decode cJ8_copyOf_3 31 = .ok (.aload_n 2, 1) := dk_44 (dk_at dksJ8_copyOf_3_1 7 rfl rfl)
theorem dJ8_copyOf_3_32 : decode cJ8_copyOf_3 32 = .ok (.areturn, 1) := dk_176 (dk_at dksJ8_copyOf_3_1 8 rfl rfl)
abbrev cJ8_copyOfRange : ByteArray := prog_60_method_132_code
def yJ8_copyOfRange : MethodName := ⟨RJ8, "copyOfRange", "([BII)[B"⟩
def dkwJ8_copyOfRange_1 : List UInt8 := [176]
abbrev dktJ8_copyOfRange_1 : List UInt8 := dkwJ8_copyOfRange_1 ++ []
def dkwJ8_copyOfRange_0 : List UInt8 := [27, 154, 0, 9, 28, 42, 190, 159, 0, 10, 42, 27, 28, 184, 1, 83, 176, 42, 182, 1, 54, 192, 1, 55]
abbrev dktJ8_copyOfRange_0 : List UInt8 := dkwJ8_copyOfRange_0 ++ dktJ8_copyOfRange_1
theorem dksJ8_copyOfRange_0 : cJ8_copyOfRange.data.toList.drop 0 = dktJ8_copyOfRange_0 := by decide +kernel
theorem dksJ8_copyOfRange_1 : cJ8_copyOfRange.data.toList.drop 24 = dktJ8_copyOfRange_1 := dk_seg dksJ8_copyOfRange_0 24 rfl rfl
theorem dJ8_copyOfRange_0 : decode cJ8_copyOfRange 0 = .ok (.iload_n 1, 1) := dk_27 (dk_at dksJ8_copyOfRange_0 0 rfl rfl)
theorem dJ8_copyOfRange_1 : decode cJ8_copyOfRange 1 = .ok (.ifCond .ne 9, 3) := dk_154 0 9 (dk_at dksJ8_copyOfRange_0 1 rfl rfl)
theorem dJ8_copyOfRange_4 : decode cJ8_copyOfRange 4 = .ok (.iload_n 2, 1) := dk_28 (dk_at dksJ8_copyOfRange_0 4 rfl rfl)
theorem dJ8_copyOfRange_5 : decode cJ8_copyOfRange 5 = .ok (.aload_n 0, 1) := dk_42 (dk_at dksJ8_copyOfRange_0 5 rfl rfl)
theorem dJ8_copyOfRange_6 : decode cJ8_copyOfRange 6 = .ok (.arraylength, 1) := dk_190 (dk_at dksJ8_copyOfRange_0 6 rfl rfl)
theorem dJ8_copyOfRange_7 : decode cJ8_copyOfRange 7 = .ok (.if_icmp .eq 10, 3) := dk_159 0 10 (dk_at dksJ8_copyOfRange_0 7 rfl rfl)
theorem dJ8_copyOfRange_10 : decode cJ8_copyOfRange 10 = .ok (.aload_n 0, 1) := dk_42 (dk_at dksJ8_copyOfRange_0 10 rfl rfl)
theorem dJ8_copyOfRange_11 : decode cJ8_copyOfRange 11 = .ok (.iload_n 1, 1) := dk_27 (dk_at dksJ8_copyOfRange_0 11 rfl rfl)
theorem dJ8_copyOfRange_12 : decode cJ8_copyOfRange 12 = .ok (.iload_n 2, 1) := dk_28 (dk_at dksJ8_copyOfRange_0 12 rfl rfl)
theorem dJ8_copyOfRange_13 : decode cJ8_copyOfRange 13 = .ok (.invokestatic 339, 3) := dk_184 1 83 (dk_at dksJ8_copyOfRange_0 13 rfl rfl)
theorem dJ8_copyOfRange_16 : decode cJ8_copyOfRange 16 = .ok (.areturn, 1) := dk_176 (dk_at dksJ8_copyOfRange_0 16 rfl rfl)
theorem dJ8_copyOfRange_17 : decode cJ8_copyOfRange 17 = .ok (.aload_n 0, 1) := dk_42 (dk_at dksJ8_copyOfRange_0 17 rfl rfl)
theorem dJ8_copyOfRange_18 : decode cJ8_copyOfRange 18 = .ok (.invokevirtual 310, 3) := dk_182 1 54 (dk_at dksJ8_copyOfRange_0 18 rfl rfl)
theorem dJ8_copyOfRange_21 : decode cJ8_copyOfRange 21 = .ok (.checkcast 311, 3) := dk_192 1 55 (dk_at dksJ8_copyOfRange_0 21 rfl rfl)
theorem dJ8_copyOfRange_24 : decode cJ8_copyOfRange 24 = .ok (.areturn, 1) := dk_176 (dk_at dksJ8_copyOfRange_1 0 rfl rfl)
abbrev cJ8_copyOfRangeByte : ByteArray := prog_60_method_133_code
def yJ8_copyOfRangeByte : MethodName := ⟨RJ8, "copyOfRangeByte", "([BII)[B"⟩
def dkwJ8_copyOfRangeByte_1 : List UInt8 := [184, 1, 48, 184, 0, 150, 25, 4, 176]
abbrev dktJ8_copyOfRangeByte_1 : List UInt8 := dkwJ8_copyOfRangeByte_1 ++ []
def dkwJ8_copyOfRangeByte_0 : List UInt8 := [27, 28, 184, 1, 87, 28, 27, 100, 62, 29, 188, 8, 58, 4, 42, 27, 25, 4, 3, 42, 190, 27, 100, 29]
abbrev dktJ8_copyOfRangeByte_0 : List UInt8 := dkwJ8_copyOfRangeByte_0 ++ dktJ8_copyOfRangeByte_1
theorem dksJ8_copyOfRangeByte_0 : cJ8_copyOfRangeByte.data.toList.drop 0 = dktJ8_copyOfRangeByte_0 := by decide +kernel
theorem dksJ8_copyOfRangeByte_1 : cJ8_copyOfRangeByte.data.toList.drop 24 = dktJ8_copyOfRangeByte_1 := dk_seg dksJ8_copyOfRangeByte_0 24 rfl rfl
theorem dJ8_copyOfRangeByte_0 : decode cJ8_copyOfRangeByte 0 = .ok (.iload_n 1, 1) := dk_27 (dk_at dksJ8_copyOfRangeByte_0 0 rfl rfl)
theorem dJ8_copyOfRangeByte_1 : decode cJ8_copyOfRangeByte 1 = .ok (.iload_n 2, 1) := dk_28 (dk_at dksJ8_copyOfRangeByte_0 1 rfl rfl)
theorem dJ8_copyOfRangeByte_2 : decode cJ8_copyOfRangeByte 2 = .ok (.invokestatic 343, 3) := dk_184 1 87 (dk_at dksJ8_copyOfRangeByte_0 2 rfl rfl)
theorem dJ8_copyOfRangeByte_5 : decode cJ8_copyOfRangeByte 5 = .ok (.iload_n 2, 1) := dk_28 (dk_at dksJ8_copyOfRangeByte_0 5 rfl rfl)
theorem dJ8_copyOfRangeByte_6 : decode cJ8_copyOfRangeByte 6 = .ok (.iload_n 1, 1) := dk_27 (dk_at dksJ8_copyOfRangeByte_0 6 rfl rfl)
theorem dJ8_copyOfRangeByte_7 : decode cJ8_copyOfRangeByte 7 = .ok (.isub, 1) := dk_100 (dk_at dksJ8_copyOfRangeByte_0 7 rfl rfl)
theorem dJ8_copyOfRangeByte_8 : decode cJ8_copyOfRangeByte 8 = .ok (.istore_n 3, 1) := dk_62 (dk_at dksJ8_copyOfRangeByte_0 8 rfl rfl)
theorem dJ8_copyOfRangeByte_9 : decode cJ8_copyOfRangeByte 9 = .ok (.iload_n 3, 1) := dk_29 (dk_at dksJ8_copyOfRangeByte_0 9 rfl rfl)
theorem dJ8_copyOfRangeByte_10 : decode cJ8_copyOfRangeByte 10 = .ok (.newarray .byte, 2) := dk_188_8 (dk_at dksJ8_copyOfRangeByte_0 10 rfl rfl)
theorem dJ8_copyOfRangeByte_12 : decode cJ8_copyOfRangeByte 12 = .ok (.astore 4, 2) := dk_58 4 (dk_at dksJ8_copyOfRangeByte_0 12 rfl rfl)
theorem dJ8_copyOfRangeByte_14 : decode cJ8_copyOfRangeByte 14 = .ok (.aload_n 0, 1) := dk_42 (dk_at dksJ8_copyOfRangeByte_0 14 rfl rfl)
theorem dJ8_copyOfRangeByte_15 : decode cJ8_copyOfRangeByte 15 = .ok (.iload_n 1, 1) := dk_27 (dk_at dksJ8_copyOfRangeByte_0 15 rfl rfl)
theorem dJ8_copyOfRangeByte_16 : decode cJ8_copyOfRangeByte 16 = .ok (.aload 4, 2) := dk_25 4 (dk_at dksJ8_copyOfRangeByte_0 16 rfl rfl)
theorem dJ8_copyOfRangeByte_18 : decode cJ8_copyOfRangeByte 18 = .ok (.iconst 0, 1) := dk_3 (dk_at dksJ8_copyOfRangeByte_0 18 rfl rfl)
theorem dJ8_copyOfRangeByte_19 : decode cJ8_copyOfRangeByte 19 = .ok (.aload_n 0, 1) := dk_42 (dk_at dksJ8_copyOfRangeByte_0 19 rfl rfl)
theorem dJ8_copyOfRangeByte_20 : decode cJ8_copyOfRangeByte 20 = .ok (.arraylength, 1) := dk_190 (dk_at dksJ8_copyOfRangeByte_0 20 rfl rfl)
theorem dJ8_copyOfRangeByte_21 : decode cJ8_copyOfRangeByte 21 = .ok (.iload_n 1, 1) := dk_27 (dk_at dksJ8_copyOfRangeByte_0 21 rfl rfl)
theorem dJ8_copyOfRangeByte_22 : decode cJ8_copyOfRangeByte 22 = .ok (.isub, 1) := dk_100 (dk_at dksJ8_copyOfRangeByte_0 22 rfl rfl)
theorem dJ8_copyOfRangeByte_23 : decode cJ8_copyOfRangeByte 23 = .ok (.iload_n 3, 1) := dk_29 (dk_at dksJ8_copyOfRangeByte_0 23 rfl rfl)
theorem dJ8_copyOfRangeByte_24 : decode cJ8_copyOfRangeByte 24 = .ok (.invokestatic 304, 3) := dk_184 1 48 (dk_at dksJ8_copyOfRangeByte_1 0 rfl rfl)
theorem dJ8_copyOfRangeByte_27 : decode cJ8_copyOfRangeByte 27 = .ok (.invokestatic 150, 3) := dk_184 0 150 (dk_at dksJ8_copyOfRangeByte_1 3 rfl rfl)
theorem dJ8_copyOfRangeByte_30 : decode cJ8_copyOfRangeByte 30 = .ok (.aload 4, 2) := dk_25 4 (dk_at dksJ8_copyOfRangeByte_1 6 rfl rfl)
theorem dJ8_copyOfRangeByte_32 : decode cJ8_copyOfRangeByte 32 = .ok (.areturn, 1) := dk_176 (dk_at dksJ8_copyOfRangeByte_1 8 rfl rfl)
abbrev cJ8_checkLength : ByteArray := prog_60_method_131_code
def yJ8_checkLength : MethodName := ⟨RJ8, "checkLength", "(II)V"⟩
def dkwJ8_checkLength_1 : List UInt8 := [182, 0, 50, 27, 182, 0, 54, 182, 0, 61, 183, 0, 65, 191, 177]
abbrev dktJ8_checkLength_1 : List UInt8 := dkwJ8_checkLength_1 ++ []
def dkwJ8_checkLength_0 : List UInt8 := [27, 26, 162, 0, 35, 187, 0, 43, 89, 187, 0, 45, 89, 183, 0, 47, 26, 182, 0, 54, 19, 1, 81]
abbrev dktJ8_checkLength_0 : List UInt8 := dkwJ8_checkLength_0 ++ dktJ8_checkLength_1
theorem dksJ8_checkLength_0 : cJ8_checkLength.data.toList.drop 0 = dktJ8_checkLength_0 := by decide +kernel
theorem dksJ8_checkLength_1 : cJ8_checkLength.data.toList.drop 23 = dktJ8_checkLength_1 := dk_seg dksJ8_checkLength_0 23 rfl rfl
theorem dJ8_checkLength_0 : decode cJ8_checkLength 0 = .ok (.iload_n 1, 1) := dk_27 (dk_at dksJ8_checkLength_0 0 rfl rfl)
theorem dJ8_checkLength_1 : decode cJ8_checkLength 1 = .ok (.iload_n 0, 1) := dk_26 (dk_at dksJ8_checkLength_0 1 rfl rfl)
theorem dJ8_checkLength_2 : decode cJ8_checkLength 2 = .ok (.if_icmp .ge 35, 3) := dk_162 0 35 (dk_at dksJ8_checkLength_0 2 rfl rfl)
theorem dJ8_checkLength_5 : decode cJ8_checkLength 5 = .ok (.new 43, 3) := dk_187 0 43 (dk_at dksJ8_checkLength_0 5 rfl rfl)
theorem dJ8_checkLength_8 : decode cJ8_checkLength 8 = .ok (.dup, 1) := dk_89 (dk_at dksJ8_checkLength_0 8 rfl rfl)
theorem dJ8_checkLength_9 : decode cJ8_checkLength 9 = .ok (.new 45, 3) := dk_187 0 45 (dk_at dksJ8_checkLength_0 9 rfl rfl)
theorem dJ8_checkLength_12 : decode cJ8_checkLength 12 = .ok (.dup, 1) := dk_89 (dk_at dksJ8_checkLength_0 12 rfl rfl)
theorem dJ8_checkLength_13 : decode cJ8_checkLength 13 = .ok (.invokespecial 47, 3) := dk_183 0 47 (dk_at dksJ8_checkLength_0 13 rfl rfl)
theorem dJ8_checkLength_16 : decode cJ8_checkLength 16 = .ok (.iload_n 0, 1) := dk_26 (dk_at dksJ8_checkLength_0 16 rfl rfl)
theorem dJ8_checkLength_17 : decode cJ8_checkLength 17 = .ok (.invokevirtual 54, 3) := dk_182 0 54 (dk_at dksJ8_checkLength_0 17 rfl rfl)
theorem dJ8_checkLength_20 : decode cJ8_checkLength 20 = .ok (.ldc_w 337, 3) := dk_19 1 81 (dk_at dksJ8_checkLength_0 20 rfl rfl)
theorem dJ8_checkLength_23 : decode cJ8_checkLength 23 = .ok (.invokevirtual 50, 3) := dk_182 0 50 (dk_at dksJ8_checkLength_1 0 rfl rfl)
theorem dJ8_checkLength_26 : decode cJ8_checkLength 26 = .ok (.iload_n 1, 1) := dk_27 (dk_at dksJ8_checkLength_1 3 rfl rfl)
theorem dJ8_checkLength_27 : decode cJ8_checkLength 27 = .ok (.invokevirtual 54, 3) := dk_182 0 54 (dk_at dksJ8_checkLength_1 4 rfl rfl)
theorem dJ8_checkLength_30 : decode cJ8_checkLength 30 = .ok (.invokevirtual 61, 3) := dk_182 0 61 (dk_at dksJ8_checkLength_1 7 rfl rfl)
theorem dJ8_checkLength_33 : decode cJ8_checkLength 33 = .ok (.invokespecial 65, 3) := dk_183 0 65 (dk_at dksJ8_checkLength_1 10 rfl rfl)
theorem dJ8_checkLength_36 : decode cJ8_checkLength 36 = .ok (.athrow, 1) := dk_191 (dk_at dksJ8_checkLength_1 13 rfl rfl)
theorem dJ8_checkLength_37 : decode cJ8_checkLength 37 = .ok (.return_, 1) := dk_177 (dk_at dksJ8_checkLength_1 14 rfl rfl)
abbrev cJ8_copyOf_4 : ByteArray := prog_60_method_124_code
def yJ8_copyOf_4 : MethodName := ⟨RJ8, "copyOf", "([JI)[J"⟩
def dkwJ8_copyOf_4_1 : List UInt8 := [27, 184, 1, 48, 184, 0, 150, 44, 176]
abbrev dktJ8_copyOf_4_1 : List UInt8 := dkwJ8_copyOf_4_1 ++ []
def dkwJ8_copyOf_4_0 : List UInt8 := [27, 42, 190, 160, 0, 11, 42, 182, 1, 63, 192, 1, 64, 176, 27, 188, 11, 77, 42, 3, 44, 3, 42, 190]
abbrev dktJ8_copyOf_4_0 : List UInt8 := dkwJ8_copyOf_4_0 ++ dktJ8_copyOf_4_1
theorem dksJ8_copyOf_4_0 : cJ8_copyOf_4.data.toList.drop 0 = dktJ8_copyOf_4_0 := by decide +kernel
theorem dksJ8_copyOf_4_1 : cJ8_copyOf_4.data.toList.drop 24 = dktJ8_copyOf_4_1 := dk_seg dksJ8_copyOf_4_0 24 rfl rfl
theorem dJ8_copyOf_4_0 : decode cJ8_copyOf_4 0 = .ok (.iload_n 1, 1) := dk_27 (dk_at dksJ8_copyOf_4_0 0 rfl rfl)
theorem dJ8_copyOf_4_1 : decode cJ8_copyOf_4 1 = .ok (.aload_n 0, 1) := dk_42 (dk_at dksJ8_copyOf_4_0 1 rfl rfl)
theorem dJ8_copyOf_4_2 : decode cJ8_copyOf_4 2 = .ok (.arraylength, 1) := dk_190 (dk_at dksJ8_copyOf_4_0 2 rfl rfl)
theorem dJ8_copyOf_4_3 : decode cJ8_copyOf_4 3 = .ok (.if_icmp .ne 11, 3) := dk_160 0 11 (dk_at dksJ8_copyOf_4_0 3 rfl rfl)
theorem dJ8_copyOf_4_6 : decode cJ8_copyOf_4 6 = .ok (.aload_n 0, 1) := dk_42 (dk_at dksJ8_copyOf_4_0 6 rfl rfl)
theorem dJ8_copyOf_4_7 : decode cJ8_copyOf_4 7 = .ok (.invokevirtual 319, 3) := dk_182 1 63 (dk_at dksJ8_copyOf_4_0 7 rfl rfl)
theorem dJ8_copyOf_4_10 : decode cJ8_copyOf_4 10 = .ok (.checkcast 320, 3) := dk_192 1 64 (dk_at dksJ8_copyOf_4_0 10 rfl rfl)
theorem dJ8_copyOf_4_13 : decode cJ8_copyOf_4 13 = .ok (.areturn, 1) := dk_176 (dk_at dksJ8_copyOf_4_0 13 rfl rfl)
theorem dJ8_copyOf_4_14 : decode cJ8_copyOf_4 14 = .ok (.iload_n 1, 1) := dk_27 (dk_at dksJ8_copyOf_4_0 14 rfl rfl)
theorem dJ8_copyOf_4_15 : decode cJ8_copyOf_4 15 = .ok (.newarray .long, 2) := dk_188_11 (dk_at dksJ8_copyOf_4_0 15 rfl rfl)
theorem dJ8_copyOf_4_17 : decode cJ8_copyOf_4 17 = .ok (.astore_n 2, 1) := dk_77 (dk_at dksJ8_copyOf_4_0 17 rfl rfl)
theorem dJ8_copyOf_4_18 : decode cJ8_copyOf_4 18 = .ok (.aload_n 0, 1) := dk_42 (dk_at dksJ8_copyOf_4_0 18 rfl rfl)
theorem dJ8_copyOf_4_19 : decode cJ8_copyOf_4 19 = .ok (.iconst 0, 1) := dk_3 (dk_at dksJ8_copyOf_4_0 19 rfl rfl)
theorem dJ8_copyOf_4_20 : decode cJ8_copyOf_4 20 = .ok (.aload_n 2, 1) := dk_44 (dk_at dksJ8_copyOf_4_0 20 rfl rfl)
theorem dJ8_copyOf_4_21 : decode cJ8_copyOf_4 21 = .ok (.iconst 0, 1) := dk_3 (dk_at dksJ8_copyOf_4_0 21 rfl rfl)
theorem dJ8_copyOf_4_22 : decode cJ8_copyOf_4 22 = .ok (.aload_n 0, 1) := dk_42 (dk_at dksJ8_copyOf_4_0 22 rfl rfl)
theorem dJ8_copyOf_4_23 : decode cJ8_copyOf_4 23 = .ok (.arraylength, 1) := dk_190 (dk_at dksJ8_copyOf_4_0 23 rfl rfl)
theorem dJ8_copyOf_4_24 : decode cJ8_copyOf_4 24 = .ok (.iload_n 1, 1) := dk_27 (dk_at dksJ8_copyOf_4_1 0 rfl rfl)
theorem dJ8_copyOf_4_25 : decode cJ8_copyOf_4 25 = .ok (.invokestatic 304, 3) := dk_184 1 48 (dk_at dksJ8_copyOf_4_1 1 rfl rfl)
theorem dJ8_copyOf_4_28 : decode cJ8_copyOf_4 28 = .ok (.invokestatic 150, 3) := dk_184 0 150 (dk_at dksJ8_copyOf_4_1 4 rfl rfl)
theorem dJ8_copyOf_4_31 : decode cJ8_copyOf_4 31 = .ok (.aload_n 2, 1) := dk_44 (dk_at dksJ8_copyOf_4_1 7 rfl rfl)
theorem dJ8_copyOf_4_32 : decode cJ8_copyOf_4 32 = .ok (.areturn, 1) := dk_176 (dk_at dksJ8_copyOf_4_1 8 rfl rfl)
abbrev cJ8_fill : ByteArray := prog_60_method_110_code
def yJ8_fill : MethodName := ⟨RJ8, "fill", "([BIIB)V"⟩
def dkwJ8_fill_1 : List UInt8 := [167, 255, 242, 177]
abbrev dktJ8_fill_1 : List UInt8 := dkwJ8_fill_1 ++ []
def dkwJ8_fill_0 : List UInt8 := [42, 190, 27, 28, 184, 0, 13, 27, 54, 4, 21, 4, 28, 162, 0, 14, 42, 21, 4, 29, 84, 132, 4, 1]
abbrev dktJ8_fill_0 : List UInt8 := dkwJ8_fill_0 ++ dktJ8_fill_1
theorem dksJ8_fill_0 : cJ8_fill.data.toList.drop 0 = dktJ8_fill_0 := by decide +kernel
theorem dksJ8_fill_1 : cJ8_fill.data.toList.drop 24 = dktJ8_fill_1 := dk_seg dksJ8_fill_0 24 rfl rfl
theorem dJ8_fill_0 : decode cJ8_fill 0 = .ok (.aload_n 0, 1) := dk_42 (dk_at dksJ8_fill_0 0 rfl rfl)
theorem dJ8_fill_1 : decode cJ8_fill 1 = .ok (.arraylength, 1) := dk_190 (dk_at dksJ8_fill_0 1 rfl rfl)
theorem dJ8_fill_2 : decode cJ8_fill 2 = .ok (.iload_n 1, 1) := dk_27 (dk_at dksJ8_fill_0 2 rfl rfl)
theorem dJ8_fill_3 : decode cJ8_fill 3 = .ok (.iload_n 2, 1) := dk_28 (dk_at dksJ8_fill_0 3 rfl rfl)
theorem dJ8_fill_4 : decode cJ8_fill 4 = .ok (.invokestatic 13, 3) := dk_184 0 13 (dk_at dksJ8_fill_0 4 rfl rfl)
theorem dJ8_fill_7 : decode cJ8_fill 7 = .ok (.iload_n 1, 1) := dk_27 (dk_at dksJ8_fill_0 7 rfl rfl)
theorem dJ8_fill_8 : decode cJ8_fill 8 = .ok (.istore 4, 2) := dk_54 4 (dk_at dksJ8_fill_0 8 rfl rfl)
theorem dJ8_fill_10 : decode cJ8_fill 10 = .ok (.iload 4, 2) := dk_21 4 (dk_at dksJ8_fill_0 10 rfl rfl)
theorem dJ8_fill_12 : decode cJ8_fill 12 = .ok (.iload_n 2, 1) := dk_28 (dk_at dksJ8_fill_0 12 rfl rfl)
theorem dJ8_fill_13 : decode cJ8_fill 13 = .ok (.if_icmp .ge 14, 3) := dk_162 0 14 (dk_at dksJ8_fill_0 13 rfl rfl)
theorem dJ8_fill_16 : decode cJ8_fill 16 = .ok (.aload_n 0, 1) := dk_42 (dk_at dksJ8_fill_0 16 rfl rfl)
theorem dJ8_fill_17 : decode cJ8_fill 17 = .ok (.iload 4, 2) := dk_21 4 (dk_at dksJ8_fill_0 17 rfl rfl)
theorem dJ8_fill_19 : decode cJ8_fill 19 = .ok (.iload_n 3, 1) := dk_29 (dk_at dksJ8_fill_0 19 rfl rfl)
theorem dJ8_fill_20 : decode cJ8_fill 20 = .ok (.bastore, 1) := dk_84 (dk_at dksJ8_fill_0 20 rfl rfl)
theorem dJ8_fill_21 : decode cJ8_fill 21 = .ok (.iinc 4 1, 3) := dk_132 4 1 (dk_at dksJ8_fill_0 21 rfl rfl)
theorem dJ8_fill_24 : decode cJ8_fill 24 = .ok (.goto (-14), 3) := dk_167 255 242 (dk_at dksJ8_fill_1 0 rfl rfl)
theorem dJ8_fill_27 : decode cJ8_fill 27 = .ok (.return_, 1) := dk_177 (dk_at dksJ8_fill_1 3 rfl rfl)
abbrev cJ8_rangeCheck : ByteArray := prog_60_method_30_code
def yJ8_rangeCheck : MethodName := ⟨RJ8, "rangeCheck", "(III)V"⟩
def dkwJ8_rangeCheck_3 : List UInt8 := [183, 0, 70, 191, 177]
abbrev dktJ8_rangeCheck_3 : List UInt8 := dkwJ8_rangeCheck_3 ++ []
def dkwJ8_rangeCheck_2 : List UInt8 := [27, 156, 0, 12, 187, 0, 68, 89, 27, 183, 0, 70, 191, 28, 26, 164, 0, 12, 187, 0, 68, 89, 28]
abbrev dktJ8_rangeCheck_2 : List UInt8 := dkwJ8_rangeCheck_2 ++ dktJ8_rangeCheck_3
def dkwJ8_rangeCheck_1 : List UInt8 := [182, 0, 54, 18, 57, 182, 0, 50, 28, 182, 0, 54, 18, 59, 182, 0, 50, 182, 0, 61, 183, 0, 65, 191]
abbrev dktJ8_rangeCheck_1 : List UInt8 := dkwJ8_rangeCheck_1 ++ dktJ8_rangeCheck_2
def dkwJ8_rangeCheck_0 : List UInt8 := [27, 28, 164, 0, 44, 187, 0, 43, 89, 187, 0, 45, 89, 183, 0, 47, 18, 48, 182, 0, 50, 27]
abbrev dktJ8_rangeCheck_0 : List UInt8 := dkwJ8_rangeCheck_0 ++ dktJ8_rangeCheck_1
theorem dksJ8_rangeCheck_0 : cJ8_rangeCheck.data.toList.drop 0 = dktJ8_rangeCheck_0 := by decide +kernel
theorem dksJ8_rangeCheck_1 : cJ8_rangeCheck.data.toList.drop 22 = dktJ8_rangeCheck_1 := dk_seg dksJ8_rangeCheck_0 22 rfl rfl
theorem dksJ8_rangeCheck_2 : cJ8_rangeCheck.data.toList.drop 46 = dktJ8_rangeCheck_2 := dk_seg dksJ8_rangeCheck_1 24 rfl rfl
theorem dksJ8_rangeCheck_3 : cJ8_rangeCheck.data.toList.drop 69 = dktJ8_rangeCheck_3 := dk_seg dksJ8_rangeCheck_2 23 rfl rfl
theorem dJ8_rangeCheck_0 : decode cJ8_rangeCheck 0 = .ok (.iload_n 1, 1) := dk_27 (dk_at dksJ8_rangeCheck_0 0 rfl rfl)
theorem dJ8_rangeCheck_1 : decode cJ8_rangeCheck 1 = .ok (.iload_n 2, 1) := dk_28 (dk_at dksJ8_rangeCheck_0 1 rfl rfl)
theorem dJ8_rangeCheck_2 : decode cJ8_rangeCheck 2 = .ok (.if_icmp .le 44, 3) := dk_164 0 44 (dk_at dksJ8_rangeCheck_0 2 rfl rfl)
theorem dJ8_rangeCheck_5 : decode cJ8_rangeCheck 5 = .ok (.new 43, 3) := dk_187 0 43 (dk_at dksJ8_rangeCheck_0 5 rfl rfl)
theorem dJ8_rangeCheck_8 : decode cJ8_rangeCheck 8 = .ok (.dup, 1) := dk_89 (dk_at dksJ8_rangeCheck_0 8 rfl rfl)
theorem dJ8_rangeCheck_9 : decode cJ8_rangeCheck 9 = .ok (.new 45, 3) := dk_187 0 45 (dk_at dksJ8_rangeCheck_0 9 rfl rfl)
theorem dJ8_rangeCheck_12 : decode cJ8_rangeCheck 12 = .ok (.dup, 1) := dk_89 (dk_at dksJ8_rangeCheck_0 12 rfl rfl)
theorem dJ8_rangeCheck_13 : decode cJ8_rangeCheck 13 = .ok (.invokespecial 47, 3) := dk_183 0 47 (dk_at dksJ8_rangeCheck_0 13 rfl rfl)
theorem dJ8_rangeCheck_16 : decode cJ8_rangeCheck 16 = .ok (.ldc 48, 2) := dk_18 48 (dk_at dksJ8_rangeCheck_0 16 rfl rfl)
theorem dJ8_rangeCheck_18 : decode cJ8_rangeCheck 18 = .ok (.invokevirtual 50, 3) := dk_182 0 50 (dk_at dksJ8_rangeCheck_0 18 rfl rfl)
theorem dJ8_rangeCheck_21 : decode cJ8_rangeCheck 21 = .ok (.iload_n 1, 1) := dk_27 (dk_at dksJ8_rangeCheck_0 21 rfl rfl)
theorem dJ8_rangeCheck_22 : decode cJ8_rangeCheck 22 = .ok (.invokevirtual 54, 3) := dk_182 0 54 (dk_at dksJ8_rangeCheck_1 0 rfl rfl)
theorem dJ8_rangeCheck_25 : decode cJ8_rangeCheck 25 = .ok (.ldc 57, 2) := dk_18 57 (dk_at dksJ8_rangeCheck_1 3 rfl rfl)
theorem dJ8_rangeCheck_27 : decode cJ8_rangeCheck 27 = .ok (.invokevirtual 50, 3) := dk_182 0 50 (dk_at dksJ8_rangeCheck_1 5 rfl rfl)
theorem dJ8_rangeCheck_30 : decode cJ8_rangeCheck 30 = .ok (.iload_n 2, 1) := dk_28 (dk_at dksJ8_rangeCheck_1 8 rfl rfl)
theorem dJ8_rangeCheck_31 : decode cJ8_rangeCheck 31 = .ok (.invokevirtual 54, 3) := dk_182 0 54 (dk_at dksJ8_rangeCheck_1 9 rfl rfl)
theorem dJ8_rangeCheck_34 : decode cJ8_rangeCheck 34 = .ok (.ldc 59, 2) := dk_18 59 (dk_at dksJ8_rangeCheck_1 12 rfl rfl)
theorem dJ8_rangeCheck_36 : decode cJ8_rangeCheck 36 = .ok (.invokevirtual 50, 3) := dk_182 0 50 (dk_at dksJ8_rangeCheck_1 14 rfl rfl)
theorem dJ8_rangeCheck_39 : decode cJ8_rangeCheck 39 = .ok (.invokevirtual 61, 3) := dk_182 0 61 (dk_at dksJ8_rangeCheck_1 17 rfl rfl)
theorem dJ8_rangeCheck_42 : decode cJ8_rangeCheck 42 = .ok (.invokespecial 65, 3) := dk_183 0 65 (dk_at dksJ8_rangeCheck_1 20 rfl rfl)
theorem dJ8_rangeCheck_45 : decode cJ8_rangeCheck 45 = .ok (.athrow, 1) := dk_191 (dk_at dksJ8_rangeCheck_1 23 rfl rfl)
theorem dJ8_rangeCheck_46 : decode cJ8_rangeCheck 46 = .ok (.iload_n 1, 1) := dk_27 (dk_at dksJ8_rangeCheck_2 0 rfl rfl)
theorem dJ8_rangeCheck_47 : decode cJ8_rangeCheck 47 = .ok (.ifCond .ge 12, 3) := dk_156 0 12 (dk_at dksJ8_rangeCheck_2 1 rfl rfl)
theorem dJ8_rangeCheck_50 : decode cJ8_rangeCheck 50 = .ok (.new 68, 3) := dk_187 0 68 (dk_at dksJ8_rangeCheck_2 4 rfl rfl)
theorem dJ8_rangeCheck_53 : decode cJ8_rangeCheck 53 = .ok (.dup, 1) := dk_89 (dk_at dksJ8_rangeCheck_2 7 rfl rfl)
theorem dJ8_rangeCheck_54 : decode cJ8_rangeCheck 54 = .ok (.iload_n 1, 1) := dk_27 (dk_at dksJ8_rangeCheck_2 8 rfl rfl)
theorem dJ8_rangeCheck_55 : decode cJ8_rangeCheck 55 = .ok (.invokespecial 70, 3) := dk_183 0 70 (dk_at dksJ8_rangeCheck_2 9 rfl rfl)
theorem dJ8_rangeCheck_58 : decode cJ8_rangeCheck 58 = .ok (.athrow, 1) := dk_191 (dk_at dksJ8_rangeCheck_2 12 rfl rfl)
theorem dJ8_rangeCheck_59 : decode cJ8_rangeCheck 59 = .ok (.iload_n 2, 1) := dk_28 (dk_at dksJ8_rangeCheck_2 13 rfl rfl)
theorem dJ8_rangeCheck_60 : decode cJ8_rangeCheck 60 = .ok (.iload_n 0, 1) := dk_26 (dk_at dksJ8_rangeCheck_2 14 rfl rfl)
theorem dJ8_rangeCheck_61 : decode cJ8_rangeCheck 61 = .ok (.if_icmp .le 12, 3) := dk_164 0 12 (dk_at dksJ8_rangeCheck_2 15 rfl rfl)
theorem dJ8_rangeCheck_64 : decode cJ8_rangeCheck 64 = .ok (.new 68, 3) := dk_187 0 68 (dk_at dksJ8_rangeCheck_2 18 rfl rfl)
theorem dJ8_rangeCheck_67 : decode cJ8_rangeCheck 67 = .ok (.dup, 1) := dk_89 (dk_at dksJ8_rangeCheck_2 21 rfl rfl)
theorem dJ8_rangeCheck_68 : decode cJ8_rangeCheck 68 = .ok (.iload_n 2, 1) := dk_28 (dk_at dksJ8_rangeCheck_2 22 rfl rfl)
theorem dJ8_rangeCheck_69 : decode cJ8_rangeCheck 69 = .ok (.invokespecial 70, 3) := dk_183 0 70 (dk_at dksJ8_rangeCheck_3 0 rfl rfl)
theorem dJ8_rangeCheck_72 : decode cJ8_rangeCheck 72 = .ok (.athrow, 1) := dk_191 (dk_at dksJ8_rangeCheck_3 3 rfl rfl)
theorem dJ8_rangeCheck_73 : decode cJ8_rangeCheck 73 = .ok (.return_, 1) := dk_177 (dk_at dksJ8_rangeCheck_3 4 rfl rfl)
theorem q113 : (Jvm.Cond.initialized "java/util/Arrays") ∈ lw_all := lw_g (lw_at lw_m1 16 rfl) rfl
theorem q420 : (Jvm.Cond.static ({ cls := "java/util/Arrays", name := "copyOf", desc := "([Ljava/lang/Object;I)[Ljava/lang/Object;" } : Jvm.MethodName)) ∈ lw_all := lw_g (lw_at lw_m2 83 rfl) rfl
theorem q421 : (Jvm.Cond.code ({ cls := "java/util/Arrays", name := "copyOf", desc := "([Ljava/lang/Object;I)[Ljava/lang/Object;" } : Jvm.MethodName) prog_60_method_119_code (2 : Nat) (Option.some (Jvm.ClassFile.FieldType.array (Jvm.ClassFile.FieldType.object "java/lang/Object")))) ∈ lw_all := lw_g (lw_at lw_m2 84 rfl) rfl
theorem q422 : (Jvm.Cond.methodLink "java/util/Arrays" (86 : Nat) ({ cls := "java/lang/Object", name := "getClass", desc := "()Ljava/lang/Class;" } : Jvm.MethodName)) ∈ lw_all := lw_g (lw_at lw_m2 85 rfl) rfl
theorem q461 : (Jvm.Cond.methodLink "java/util/Arrays" (300 : Nat) ({ cls := "java/util/Arrays", name := "copyOf", desc := "([Ljava/lang/Object;ILjava/lang/Class;)[Ljava/lang/Object;" } : Jvm.MethodName)) ∈ lw_all := lw_g (lw_at lw_m2 124 rfl) rfl
theorem q462 : (Jvm.Cond.static ({ cls := "java/util/Arrays", name := "copyOf", desc := "([Ljava/lang/Object;ILjava/lang/Class;)[Ljava/lang/Object;" } : Jvm.MethodName)) ∈ lw_all := lw_g (lw_at lw_m2 125 rfl) rfl
theorem q463 : (Jvm.Cond.code ({ cls := "java/util/Arrays", name := "copyOf", desc := "([Ljava/lang/Object;ILjava/lang/Class;)[Ljava/lang/Object;" } : Jvm.MethodName) prog_60_method_120_code (4 : Nat) (Option.some (Jvm.ClassFile.FieldType.array (Jvm.ClassFile.FieldType.object "java/lang/Object")))) ∈ lw_all := lw_g (lw_at lw_m2 126 rfl) rfl
theorem q464 : (Jvm.Cond.classLink "java/util/Arrays" (110 : Nat) "[Ljava/lang/Object;") ∈ lw_all := lw_g (lw_at lw_m2 127 rfl) rfl
theorem q466 : (Jvm.Cond.classLink "java/util/Arrays" (2 : Nat) "java/lang/Object") ∈ lw_all := lw_g (lw_at lw_m2 129 rfl) rfl
theorem q467 : (Jvm.Cond.methodLink "java/util/Arrays" (304 : Nat) ({ cls := "java/lang/Math", name := "min", desc := "(II)I" } : Jvm.MethodName)) ∈ lw_all := lw_g (lw_at lw_m2 130 rfl) rfl
theorem q470 : (Jvm.Cond.methodLink "java/util/Arrays" (150 : Nat) ({ cls := "java/lang/System", name := "arraycopy", desc := "(Ljava/lang/Object;ILjava/lang/Object;II)V" } : Jvm.MethodName)) ∈ lw_all := lw_g (lw_at lw_m2 133 rfl) rfl
theorem q1021 : (Jvm.Cond.static ({ cls := "java/util/Arrays", name := "copyOf", desc := "([BI)[B" } : Jvm.MethodName)) ∈ lw_all := lw_g (lw_at lw_m4 204 rfl) rfl
theorem q1022 : (Jvm.Cond.code ({ cls := "java/util/Arrays", name := "copyOf", desc := "([BI)[B" } : Jvm.MethodName) prog_60_method_121_code (3 : Nat) (Option.some (Jvm.ClassFile.FieldType.array Jvm.ClassFile.FieldType.byte))) ∈ lw_all := lw_g (lw_at lw_m4 205 rfl) rfl
theorem q1023 : (Jvm.Cond.methodLink "java/util/Arrays" (310 : Nat) ({ cls := "[B", name := "clone", desc := "()Ljava/lang/Object;" } : Jvm.MethodName)) ∈ lw_all := lw_g (lw_at lw_m4 206 rfl) rfl
theorem q1029 : (Jvm.Cond.classLink "java/util/Arrays" (311 : Nat) "[B") ∈ lw_all := lw_g (lw_at lw_m4 212 rfl) rfl
theorem q1133 : (Jvm.Cond.static ({ cls := "java/util/Arrays", name := "copyOfRange", desc := "([BII)[B" } : Jvm.MethodName)) ∈ lw_all := lw_g (lw_at lw_m5 76 rfl) rfl
theorem q1134 : (Jvm.Cond.code ({ cls := "java/util/Arrays", name := "copyOfRange", desc := "([BII)[B" } : Jvm.MethodName) prog_60_method_132_code (3 : Nat) (Option.some (Jvm.ClassFile.FieldType.array Jvm.ClassFile.FieldType.byte))) ∈ lw_all := lw_g (lw_at lw_m5 77 rfl) rfl
theorem q1135 : (Jvm.Cond.methodLink "java/util/Arrays" (339 : Nat) ({ cls := "java/util/Arrays", name := "copyOfRangeByte", desc := "([BII)[B" } : Jvm.MethodName)) ∈ lw_all := lw_g (lw_at lw_m5 78 rfl) rfl
theorem q1136 : (Jvm.Cond.static ({ cls := "java/util/Arrays", name := "copyOfRangeByte", desc := "([BII)[B" } : Jvm.MethodName)) ∈ lw_all := lw_g (lw_at lw_m5 79 rfl) rfl
theorem q1137 : (Jvm.Cond.code ({ cls := "java/util/Arrays", name := "copyOfRangeByte", desc := "([BII)[B" } : Jvm.MethodName) prog_60_method_133_code (5 : Nat) (Option.some (Jvm.ClassFile.FieldType.array Jvm.ClassFile.FieldType.byte))) ∈ lw_all := lw_g (lw_at lw_m5 80 rfl) rfl
theorem q1138 : (Jvm.Cond.methodLink "java/util/Arrays" (343 : Nat) ({ cls := "java/util/Arrays", name := "checkLength", desc := "(II)V" } : Jvm.MethodName)) ∈ lw_all := lw_g (lw_at lw_m5 81 rfl) rfl
theorem q1139 : (Jvm.Cond.static ({ cls := "java/util/Arrays", name := "checkLength", desc := "(II)V" } : Jvm.MethodName)) ∈ lw_all := lw_g (lw_at lw_m5 82 rfl) rfl
theorem q1140 : (Jvm.Cond.code ({ cls := "java/util/Arrays", name := "checkLength", desc := "(II)V" } : Jvm.MethodName) prog_60_method_131_code (2 : Nat) (Option.none : Option Jvm.ClassFile.FieldType)) ∈ lw_all := lw_g (lw_at lw_m5 83 rfl) rfl
theorem q1462 : (Jvm.Cond.static ({ cls := "java/util/Arrays", name := "copyOf", desc := "([JI)[J" } : Jvm.MethodName)) ∈ lw_all := lw_g (lw_at lw_m6 165 rfl) rfl
theorem q1463 : (Jvm.Cond.code ({ cls := "java/util/Arrays", name := "copyOf", desc := "([JI)[J" } : Jvm.MethodName) prog_60_method_124_code (3 : Nat) (Option.some (Jvm.ClassFile.FieldType.array Jvm.ClassFile.FieldType.long))) ∈ lw_all := lw_g (lw_at lw_m6 166 rfl) rfl
theorem q1464 : (Jvm.Cond.methodLink "java/util/Arrays" (319 : Nat) ({ cls := "[J", name := "clone", desc := "()Ljava/lang/Object;" } : Jvm.MethodName)) ∈ lw_all := lw_g (lw_at lw_m6 167 rfl) rfl
theorem q1468 : (Jvm.Cond.classLink "java/util/Arrays" (320 : Nat) "[J") ∈ lw_all := lw_g (lw_at lw_m6 171 rfl) rfl
theorem q2334 : (Jvm.Cond.static ({ cls := "java/util/Arrays", name := "fill", desc := "([BIIB)V" } : Jvm.MethodName)) ∈ lw_all := lw_g (lw_at lw_m10 77 rfl) rfl
theorem q2335 : (Jvm.Cond.code ({ cls := "java/util/Arrays", name := "fill", desc := "([BIIB)V" } : Jvm.MethodName) prog_60_method_110_code (5 : Nat) (Option.none : Option Jvm.ClassFile.FieldType)) ∈ lw_all := lw_g (lw_at lw_m10 78 rfl) rfl
theorem q2336 : (Jvm.Cond.methodLink "java/util/Arrays" (13 : Nat) ({ cls := "java/util/Arrays", name := "rangeCheck", desc := "(III)V" } : Jvm.MethodName)) ∈ lw_all := lw_g (lw_at lw_m10 79 rfl) rfl
theorem q2337 : (Jvm.Cond.static ({ cls := "java/util/Arrays", name := "rangeCheck", desc := "(III)V" } : Jvm.MethodName)) ∈ lw_all := lw_g (lw_at lw_m10 80 rfl) rfl
theorem q2338 : (Jvm.Cond.code ({ cls := "java/util/Arrays", name := "rangeCheck", desc := "(III)V" } : Jvm.MethodName) prog_60_method_30_code (3 : Nat) (Option.none : Option Jvm.ClassFile.FieldType)) ∈ lw_all := lw_g (lw_at lw_m10 81 rfl) rfl
/-! java/util/Objects -/
set_option maxRecDepth 100000
def RJ9 : String := "java/util/Objects"
abbrev cJ9_checkIndex : ByteArray := prog_71_method_17_code
def yJ9_checkIndex : MethodName := ⟨RJ9, "checkIndex", "(II)I"⟩
def dkwJ9_checkIndex_0 : List UInt8 := [26, 27, 1, 184, 0, 105, 172]
abbrev dktJ9_checkIndex_0 : List UInt8 := dkwJ9_checkIndex_0 ++ []
theorem dksJ9_checkIndex_0 : cJ9_checkIndex.data.toList.drop 0 = dktJ9_checkIndex_0 := by decide +kernel
theorem dJ9_checkIndex_0 : decode cJ9_checkIndex 0 = .ok (.iload_n 0, 1) := dk_26 (dk_at dksJ9_checkIndex_0 0 rfl rfl)
theorem dJ9_checkIndex_1 : decode cJ9_checkIndex 1 = .ok (.iload_n 1, 1) := dk_27 (dk_at dksJ9_checkIndex_0 1 rfl rfl)
theorem dJ9_checkIndex_2 : decode cJ9_checkIndex 2 = .ok (.aconst_null, 1) := dk_1 (dk_at dksJ9_checkIndex_0 2 rfl rfl)
theorem dJ9_checkIndex_3 : decode cJ9_checkIndex 3 = .ok (.invokestatic 105, 3) := dk_184 0 105 (dk_at dksJ9_checkIndex_0 3 rfl rfl)
theorem dJ9_checkIndex_6 : decode cJ9_checkIndex 6 = .ok (.ireturn, 1) := dk_172 (dk_at dksJ9_checkIndex_0 6 rfl rfl)
theorem q117 : (Jvm.Cond.initialized "java/util/Objects") ∈ lw_all := lw_g (lw_at lw_m1 20 rfl) rfl
theorem q511 : (Jvm.Cond.static ({ cls := "java/util/Objects", name := "checkIndex", desc := "(II)I" } : Jvm.MethodName)) ∈ lw_all := lw_g (lw_at lw_m2 174 rfl) rfl
theorem q512 : (Jvm.Cond.code ({ cls := "java/util/Objects", name := "checkIndex", desc := "(II)I" } : Jvm.MethodName) prog_71_method_17_code (2 : Nat) (Option.some Jvm.ClassFile.FieldType.int)) ∈ lw_all := lw_g (lw_at lw_m2 175 rfl) rfl
theorem q513 : (Jvm.Cond.methodLink "java/util/Objects" (105 : Nat) ({ cls := "jdk/internal/util/Preconditions", name := "checkIndex", desc := "(IILjava/util/function/BiFunction;)I" } : Jvm.MethodName)) ∈ lw_all := lw_g (lw_at lw_m2 176 rfl) rfl
