theorem q97 : (Jvm.Cond.initialized "PipelineSimulatorLaw") ∈ lw_all := lw_g (lw_at lw_m1 0 rfl) rfl
set_option maxRecDepth 100000
theorem q155 : (Jvm.Cond.classLink "PipelineSimulatorLaw" (7 : Nat) "PipelineSimulator") ∈ lw_all := lw_g (lw_at lw_m1 58 rfl) rfl
theorem q157 : (Jvm.Cond.methodLink "PipelineSimulatorLaw" (9 : Nat) ({ cls := "PipelineSimulator", name := "<init>", desc := "()V" } : Jvm.MethodName)) ∈ lw_all := lw_g (lw_at lw_m1 60 rfl) rfl
theorem q800 : (Jvm.Cond.methodLink "PipelineSimulatorLaw" (23 : Nat) ({ cls := "PipelineSimulator", name := "configure", desc := "(IIII)I" } : Jvm.MethodName)) ∈ lw_all := lw_g (lw_at lw_m3 223 rfl) rfl
theorem q813 : (Jvm.Cond.methodLink "PipelineSimulatorLaw" (28 : Nat) ({ cls := "PipelineSimulator", name := "push", desc := "(II)I" } : Jvm.MethodName)) ∈ lw_all := lw_g (lw_at lw_m3 236 rfl) rfl
theorem q821 : (Jvm.Cond.methodLink "PipelineSimulatorLaw" (98 : Nat) ({ cls := "PipelineSimulator", name := "clear", desc := "()I" } : Jvm.MethodName)) ∈ lw_all := lw_g (lw_at lw_m4 4 rfl) rfl
theorem q1254 : (Jvm.Cond.methodLink "PipelineSimulatorLaw" (32 : Nat) ({ cls := "PipelineSimulator", name := "tick", desc := "(I)I" } : Jvm.MethodName)) ∈ lw_all := lw_g (lw_at lw_m5 197 rfl) rfl
theorem q1815 : (Jvm.Cond.methodLink "PipelineSimulatorLaw" (37 : Nat) ({ cls := "PipelineSimulator", name := "isQuiet", desc := "()I" } : Jvm.MethodName)) ∈ lw_all := lw_g (lw_at lw_m8 38 rfl) rfl
theorem q1819 : (Jvm.Cond.methodLink "PipelineSimulatorLaw" (41 : Nat) ({ cls := "PipelineSimulator", name := "checkpoint", desc := "()I" } : Jvm.MethodName)) ∈ lw_all := lw_g (lw_at lw_m8 42 rfl) rfl
theorem q1825 : (Jvm.Cond.methodLink "PipelineSimulatorLaw" (45 : Nat) ({ cls := "PipelineSimulator", name := "fail", desc := "()I" } : Jvm.MethodName)) ∈ lw_all := lw_g (lw_at lw_m8 48 rfl) rfl
theorem q1849 : (Jvm.Cond.methodLink "PipelineSimulatorLaw" (49 : Nat) ({ cls := "PipelineSimulator", name := "rescale", desc := "(II)I" } : Jvm.MethodName)) ∈ lw_all := lw_g (lw_at lw_m8 72 rfl) rfl
theorem q1862 : (Jvm.Cond.methodLink "PipelineSimulatorLaw" (53 : Nat) ({ cls := "PipelineSimulator", name := "count", desc := "(I)I" } : Jvm.MethodName)) ∈ lw_all := lw_g (lw_at lw_m8 85 rfl) rfl
theorem q1871 : (Jvm.Cond.methodLink "PipelineSimulatorLaw" (57 : Nat) ({ cls := "PipelineSimulator", name := "operator", desc := "(II)I" } : Jvm.MethodName)) ∈ lw_all := lw_g (lw_at lw_m8 94 rfl) rfl
theorem q1879 : (Jvm.Cond.methodLink "PipelineSimulatorLaw" (61 : Nat) ({ cls := "PipelineSimulator", name := "instance", desc := "(III)I" } : Jvm.MethodName)) ∈ lw_all := lw_g (lw_at lw_m8 102 rfl) rfl
theorem q1896 : (Jvm.Cond.methodLink "PipelineSimulatorLaw" (66 : Nat) ({ cls := "PipelineSimulator", name := "channel", desc := "(IIII)I" } : Jvm.MethodName)) ∈ lw_all := lw_g (lw_at lw_m8 119 rfl) rfl
theorem q1903 : (Jvm.Cond.methodLink "PipelineSimulatorLaw" (70 : Nat) ({ cls := "PipelineSimulator", name := "state", desc := "(III)I" } : Jvm.MethodName)) ∈ lw_all := lw_g (lw_at lw_m8 126 rfl) rfl
theorem q1920 : (Jvm.Cond.methodLink "PipelineSimulatorLaw" (74 : Nat) ({ cls := "PipelineSimulator", name := "savedState", desc := "(III)I" } : Jvm.MethodName)) ∈ lw_all := lw_g (lw_at lw_m8 143 rfl) rfl
theorem q1924 : (Jvm.Cond.methodLink "PipelineSimulatorLaw" (78 : Nat) ({ cls := "PipelineSimulator", name := "plain", desc := "(II)I" } : Jvm.MethodName)) ∈ lw_all := lw_g (lw_at lw_m8 147 rfl) rfl
theorem q1958 : (Jvm.Cond.methodLink "PipelineSimulatorLaw" (82 : Nat) ({ cls := "PipelineSimulator", name := "explain", desc := "(II)I" } : Jvm.MethodName)) ∈ lw_all := lw_g (lw_at lw_m8 181 rfl) rfl
theorem q2034 : (Jvm.Cond.methodLink "PipelineSimulatorLaw" (86 : Nat) ({ cls := "PipelineSimulator", name := "explanation", desc := "(II)I" } : Jvm.MethodName)) ∈ lw_all := lw_g (lw_at lw_m9 17 rfl) rfl
theorem q2038 : (Jvm.Cond.methodLink "PipelineSimulatorLaw" (13 : Nat) ({ cls := "PipelineSimulator", name := "append", desc := "(II)I" } : Jvm.MethodName)) ∈ lw_all := lw_g (lw_at lw_m9 21 rfl) rfl
theorem q2065 : (Jvm.Cond.methodLink "PipelineSimulatorLaw" (18 : Nat) ({ cls := "PipelineSimulator", name := "readPipeline", desc := "()I" } : Jvm.MethodName)) ∈ lw_all := lw_g (lw_at lw_m9 48 rfl) rfl
theorem q2343 : (Jvm.Cond.methodLink "PipelineSimulatorLaw" (90 : Nat) ({ cls := "PipelineSimulator", name := "write", desc := "()I" } : Jvm.MethodName)) ∈ lw_all := lw_g (lw_at lw_m10 86 rfl) rfl
theorem q2402 : (Jvm.Cond.methodLink "PipelineSimulatorLaw" (94 : Nat) ({ cls := "PipelineSimulator", name := "written", desc := "(I)I" } : Jvm.MethodName)) ∈ lw_all := lw_g (lw_at lw_m10 145 rfl) rfl
theorem q2407 : (Jvm.Cond.classLink "PipelineSimulatorLaw" (10 : Nat) "PipelineSimulatorModel") ∈ lw_all := lw_g (lw_at lw_m10 150 rfl) rfl
theorem q2409 : (Jvm.Cond.methodLink "PipelineSimulatorLaw" (12 : Nat) ({ cls := "PipelineSimulatorModel", name := "<init>", desc := "()V" } : Jvm.MethodName)) ∈ lw_all := lw_g (lw_at lw_m10 152 rfl) rfl
theorem q2659 : (Jvm.Cond.methodLink "PipelineSimulatorLaw" (17 : Nat) ({ cls := "PipelineSimulatorModel", name := "append", desc := "(II)I" } : Jvm.MethodName)) ∈ lw_all := lw_g (lw_at lw_m11 162 rfl) rfl
theorem q2668 : (Jvm.Cond.methodLink "PipelineSimulatorLaw" (22 : Nat) ({ cls := "PipelineSimulatorModel", name := "readPipeline", desc := "()I" } : Jvm.MethodName)) ∈ lw_all := lw_g (lw_at lw_m11 171 rfl) rfl
theorem q2703 : (Jvm.Cond.methodLink "PipelineSimulatorLaw" (27 : Nat) ({ cls := "PipelineSimulatorModel", name := "configure", desc := "(IIII)I" } : Jvm.MethodName)) ∈ lw_all := lw_g (lw_at lw_m11 206 rfl) rfl
theorem q2708 : (Jvm.Cond.methodLink "PipelineSimulatorLaw" (31 : Nat) ({ cls := "PipelineSimulatorModel", name := "push", desc := "(II)I" } : Jvm.MethodName)) ∈ lw_all := lw_g (lw_at lw_m11 211 rfl) rfl
theorem q2712 : (Jvm.Cond.methodLink "PipelineSimulatorLaw" (101 : Nat) ({ cls := "PipelineSimulatorModel", name := "clear", desc := "()I" } : Jvm.MethodName)) ∈ lw_all := lw_g (lw_at lw_m11 215 rfl) rfl
theorem q2716 : (Jvm.Cond.methodLink "PipelineSimulatorLaw" (36 : Nat) ({ cls := "PipelineSimulatorModel", name := "tick", desc := "(I)I" } : Jvm.MethodName)) ∈ lw_all := lw_g (lw_at lw_m11 219 rfl) rfl
theorem q2825 : (Jvm.Cond.methodLink "PipelineSimulatorLaw" (40 : Nat) ({ cls := "PipelineSimulatorModel", name := "isQuiet", desc := "()I" } : Jvm.MethodName)) ∈ lw_all := lw_g (lw_at lw_m12 88 rfl) rfl
theorem q2829 : (Jvm.Cond.methodLink "PipelineSimulatorLaw" (44 : Nat) ({ cls := "PipelineSimulatorModel", name := "checkpoint", desc := "()I" } : Jvm.MethodName)) ∈ lw_all := lw_g (lw_at lw_m12 92 rfl) rfl
theorem q2834 : (Jvm.Cond.methodLink "PipelineSimulatorLaw" (48 : Nat) ({ cls := "PipelineSimulatorModel", name := "fail", desc := "()I" } : Jvm.MethodName)) ∈ lw_all := lw_g (lw_at lw_m12 97 rfl) rfl
theorem q2838 : (Jvm.Cond.methodLink "PipelineSimulatorLaw" (52 : Nat) ({ cls := "PipelineSimulatorModel", name := "rescale", desc := "(II)I" } : Jvm.MethodName)) ∈ lw_all := lw_g (lw_at lw_m12 101 rfl) rfl
theorem q2847 : (Jvm.Cond.methodLink "PipelineSimulatorLaw" (56 : Nat) ({ cls := "PipelineSimulatorModel", name := "count", desc := "(I)I" } : Jvm.MethodName)) ∈ lw_all := lw_g (lw_at lw_m12 110 rfl) rfl
theorem q2855 : (Jvm.Cond.methodLink "PipelineSimulatorLaw" (60 : Nat) ({ cls := "PipelineSimulatorModel", name := "operator", desc := "(II)I" } : Jvm.MethodName)) ∈ lw_all := lw_g (lw_at lw_m12 118 rfl) rfl
theorem q2859 : (Jvm.Cond.methodLink "PipelineSimulatorLaw" (65 : Nat) ({ cls := "PipelineSimulatorModel", name := "instance", desc := "(III)I" } : Jvm.MethodName)) ∈ lw_all := lw_g (lw_at lw_m12 122 rfl) rfl
theorem q2867 : (Jvm.Cond.methodLink "PipelineSimulatorLaw" (69 : Nat) ({ cls := "PipelineSimulatorModel", name := "channel", desc := "(IIII)I" } : Jvm.MethodName)) ∈ lw_all := lw_g (lw_at lw_m12 130 rfl) rfl
theorem q2871 : (Jvm.Cond.methodLink "PipelineSimulatorLaw" (73 : Nat) ({ cls := "PipelineSimulatorModel", name := "state", desc := "(III)I" } : Jvm.MethodName)) ∈ lw_all := lw_g (lw_at lw_m12 134 rfl) rfl
theorem q2879 : (Jvm.Cond.methodLink "PipelineSimulatorLaw" (77 : Nat) ({ cls := "PipelineSimulatorModel", name := "savedState", desc := "(III)I" } : Jvm.MethodName)) ∈ lw_all := lw_g (lw_at lw_m12 142 rfl) rfl
theorem q2883 : (Jvm.Cond.methodLink "PipelineSimulatorLaw" (81 : Nat) ({ cls := "PipelineSimulatorModel", name := "plain", desc := "(II)I" } : Jvm.MethodName)) ∈ lw_all := lw_g (lw_at lw_m12 146 rfl) rfl
theorem q2891 : (Jvm.Cond.methodLink "PipelineSimulatorLaw" (85 : Nat) ({ cls := "PipelineSimulatorModel", name := "explain", desc := "(II)I" } : Jvm.MethodName)) ∈ lw_all := lw_g (lw_at lw_m12 154 rfl) rfl
theorem q2899 : (Jvm.Cond.methodLink "PipelineSimulatorLaw" (89 : Nat) ({ cls := "PipelineSimulatorModel", name := "explanation", desc := "(II)I" } : Jvm.MethodName)) ∈ lw_all := lw_g (lw_at lw_m12 162 rfl) rfl
theorem q2903 : (Jvm.Cond.methodLink "PipelineSimulatorLaw" (93 : Nat) ({ cls := "PipelineSimulatorModel", name := "write", desc := "()I" } : Jvm.MethodName)) ∈ lw_all := lw_g (lw_at lw_m12 166 rfl) rfl
theorem q2915 : (Jvm.Cond.methodLink "PipelineSimulatorLaw" (97 : Nat) ({ cls := "PipelineSimulatorModel", name := "written", desc := "(I)I" } : Jvm.MethodName)) ∈ lw_all := lw_g (lw_at lw_m12 178 rfl) rfl
theorem q1218 : (Jvm.Cond.interfaceMethod "PipelineSimulator$Copyable" "PipelineSimulator$Copyable" "reset" "()V") ∈ lw_tbl := lw_at lw_m5 161 rfl
set_option maxRecDepth 100000
theorem q1219 : (Jvm.Cond.declares ({ cls := "PipelineSimulator$Copyable", name := "reset", desc := "()V" } : Jvm.MethodName)) ∈ lw_tbl := lw_at lw_m5 162 rfl
theorem q1769 : (Jvm.Cond.interfaceMethod "PipelineSimulator$Copyable" "PipelineSimulator$Copyable" "copyTo" "(Ljava/lang/Object;)V") ∈ lw_tbl := lw_at lw_m7 232 rfl
theorem q1770 : (Jvm.Cond.declares ({ cls := "PipelineSimulator$Copyable", name := "copyTo", desc := "(Ljava/lang/Object;)V" } : Jvm.MethodName)) ∈ lw_tbl := lw_at lw_m7 233 rfl
theorem q1471 : (Jvm.Cond.interfaceMethod "PipelineSimulator$Output" "PipelineSimulator$Output" "emit" "(II)V") ∈ lw_tbl := lw_at lw_m6 174 rfl
set_option maxRecDepth 100000
theorem q1472 : (Jvm.Cond.declares ({ cls := "PipelineSimulator$Output", name := "emit", desc := "(II)V" } : Jvm.MethodName)) ∈ lw_tbl := lw_at lw_m6 175 rfl
theorem q1024 : (Jvm.Cond.sameMethod "[B" "java/lang/Object" "clone" "()Ljava/lang/Object;") ∈ lw_all := lw_g (lw_at lw_m4 207 rfl) rfl
set_option maxRecDepth 100000
theorem q1027 : (Jvm.Cond.selects "[B" ({ cls := "[B", name := "clone", desc := "()Ljava/lang/Object;" } : Jvm.MethodName) ({ cls := "java/lang/Object", name := "clone", desc := "()Ljava/lang/Object;" } : Jvm.MethodName)) ∈ lw_all := lw_g (lw_at lw_m4 210 rfl) rfl
theorem q1028 : (Jvm.Cond.castable "[B" "java/lang/Cloneable") ∈ lw_tbl := lw_at lw_m4 211 rfl
theorem q2991 : (Jvm.Cond.castable "[B" "java/lang/Object") ∈ lw_tbl := lw_at lw_m13 14 rfl
theorem q2983 : (Jvm.Cond.castable "[I" "java/lang/Object") ∈ lw_tbl := lw_at lw_m13 6 rfl
set_option maxRecDepth 100000
theorem q1465 : (Jvm.Cond.sameMethod "[J" "java/lang/Object" "clone" "()Ljava/lang/Object;") ∈ lw_all := lw_g (lw_at lw_m6 168 rfl) rfl
set_option maxRecDepth 100000
theorem q1466 : (Jvm.Cond.selects "[J" ({ cls := "[J", name := "clone", desc := "()Ljava/lang/Object;" } : Jvm.MethodName) ({ cls := "java/lang/Object", name := "clone", desc := "()Ljava/lang/Object;" } : Jvm.MethodName)) ∈ lw_all := lw_g (lw_at lw_m6 169 rfl) rfl
theorem q1467 : (Jvm.Cond.castable "[J" "java/lang/Cloneable") ∈ lw_tbl := lw_at lw_m6 170 rfl
theorem q2989 : (Jvm.Cond.castable "[J" "java/lang/Object") ∈ lw_tbl := lw_at lw_m13 12 rfl
theorem q2988 : (Jvm.Cond.castable "[LPipelineSimulator$Channel;" "java/lang/Object") ∈ lw_tbl := lw_at lw_m13 11 rfl
set_option maxRecDepth 100000
theorem q2985 : (Jvm.Cond.castable "[LPipelineSimulator$Instance;" "java/lang/Object") ∈ lw_tbl := lw_at lw_m13 8 rfl
set_option maxRecDepth 100000
theorem q2980 : (Jvm.Cond.sameMethod "[Ljava/lang/Object;" "java/lang/Object" "getClass" "()Ljava/lang/Class;") ∈ lw_all := lw_g (lw_at lw_m13 3 rfl) rfl
set_option maxRecDepth 100000
theorem q2981 : (Jvm.Cond.selects "[Ljava/lang/Object;" ({ cls := "java/lang/Object", name := "getClass", desc := "()Ljava/lang/Class;" } : Jvm.MethodName) ({ cls := "java/lang/Object", name := "getClass", desc := "()Ljava/lang/Class;" } : Jvm.MethodName)) ∈ lw_all := lw_g (lw_at lw_m13 4 rfl) rfl
theorem q2990 : (Jvm.Cond.castable "[Ljava/lang/Object;" "java/lang/Object") ∈ lw_tbl := lw_at lw_m13 13 rfl
theorem q2992 : (Jvm.Cond.castable "[Z" "java/lang/Object") ∈ lw_tbl := lw_at lw_m13 15 rfl
set_option maxRecDepth 100000
theorem q2987 : (Jvm.Cond.castable "[[LPipelineSimulator$Channel;" "java/lang/Object") ∈ lw_tbl := lw_at lw_m13 10 rfl
set_option maxRecDepth 100000
theorem q2984 : (Jvm.Cond.castable "[[LPipelineSimulator$Instance;" "java/lang/Object") ∈ lw_tbl := lw_at lw_m13 7 rfl
set_option maxRecDepth 100000
theorem q2986 : (Jvm.Cond.castable "[[[LPipelineSimulator$Channel;" "java/lang/Object") ∈ lw_tbl := lw_at lw_m13 9 rfl
set_option maxRecDepth 100000
theorem q1660 : (Jvm.Cond.interfaceMethod "java/lang/Iterable" "java/lang/Iterable" "iterator" "()Ljava/util/Iterator;") ∈ lw_tbl := lw_at lw_m7 123 rfl
set_option maxRecDepth 100000
theorem q1661 : (Jvm.Cond.declares ({ cls := "java/lang/Iterable", name := "iterator", desc := "()Ljava/util/Iterator;" } : Jvm.MethodName)) ∈ lw_tbl := lw_at lw_m7 124 rfl
theorem q145 : (Jvm.Cond.initialized "java/lang/Number") ∈ lw_all := lw_g (lw_at lw_m1 48 rfl) rfl
set_option maxRecDepth 100000
theorem q114 : (Jvm.Cond.initialized "java/lang/System") ∈ lw_all := lw_g (lw_at lw_m1 17 rfl) rfl
set_option maxRecDepth 100000
theorem q471 : (Jvm.Cond.static ({ cls := "java/lang/System", name := "arraycopy", desc := "(Ljava/lang/Object;ILjava/lang/Object;II)V" } : Jvm.MethodName)) ∈ lw_all := lw_g (lw_at lw_m2 134 rfl) rfl
theorem q472 : (Jvm.Cond.native ({ cls := "java/lang/System", name := "arraycopy", desc := "(Ljava/lang/Object;ILjava/lang/Object;II)V" } : Jvm.MethodName)) ∈ lw_all := lw_g (lw_at lw_m2 135 rfl) rfl
theorem q149 : (Jvm.Cond.initialized "java/util/AbstractList$ListItr") ∈ lw_all := lw_g (lw_at lw_m1 52 rfl) rfl
set_option maxRecDepth 100000
theorem q449 : (Jvm.Cond.selects "java/util/AbstractList$ListItr" ({ cls := "java/lang/Object", name := "getClass", desc := "()Ljava/lang/Class;" } : Jvm.MethodName) ({ cls := "java/lang/Object", name := "getClass", desc := "()Ljava/lang/Class;" } : Jvm.MethodName)) ∈ lw_all := lw_g (lw_at lw_m2 112 rfl) rfl
theorem q858 : (Jvm.Cond.castable "java/util/AbstractList$ListItr" "java/util/Iterator") ∈ lw_tbl := lw_at lw_m4 41 rfl
theorem q859 : (Jvm.Cond.selects "java/util/AbstractList$ListItr" ({ cls := "java/util/Iterator", name := "hasNext", desc := "()Z" } : Jvm.MethodName) ({ cls := "java/util/AbstractList$Itr", name := "hasNext", desc := "()Z" } : Jvm.MethodName)) ∈ lw_all := lw_g (lw_at lw_m4 42 rfl) rfl
theorem q860 : (Jvm.Cond.unhidden "java/util/AbstractList$ListItr" "hasNext" "()Z") ∈ lw_tbl := lw_at lw_m4 43 rfl
theorem q893 : (Jvm.Cond.selects "java/util/AbstractList$ListItr" ({ cls := "java/util/Iterator", name := "next", desc := "()Ljava/lang/Object;" } : Jvm.MethodName) ({ cls := "java/util/AbstractList$Itr", name := "next", desc := "()Ljava/lang/Object;" } : Jvm.MethodName)) ∈ lw_all := lw_g (lw_at lw_m4 76 rfl) rfl
theorem q894 : (Jvm.Cond.unhidden "java/util/AbstractList$ListItr" "next" "()Ljava/lang/Object;") ∈ lw_tbl := lw_at lw_m4 77 rfl
theorem q901 : (Jvm.Cond.selects "java/util/AbstractList$ListItr" ({ cls := "java/util/AbstractList$Itr", name := "checkForComodification", desc := "()V" } : Jvm.MethodName) ({ cls := "java/util/AbstractList$Itr", name := "checkForComodification", desc := "()V" } : Jvm.MethodName)) ∈ lw_all := lw_g (lw_at lw_m4 84 rfl) rfl
theorem q2972 : (Jvm.Cond.castable "java/util/AbstractList$ListItr" "java/lang/Object") ∈ lw_tbl := lw_at lw_m12 235 rfl
theorem q2997 : (Jvm.Cond.fieldLink "java/util/AbstractList$ListItr" (1 : Nat) "java/util/AbstractList$ListItr" "this$0" "Ljava/util/AbstractList;") ∈ lw_all := lw_g (lw_at lw_m13 20 rfl) rfl
theorem q2998 : (Jvm.Cond.fieldLink "java/util/AbstractList$ListItr" (13 : Nat) "java/util/AbstractList$ListItr" "cursor" "I") ∈ lw_all := lw_g (lw_at lw_m13 21 rfl) rfl
theorem q2999 : (Jvm.Cond.sameField "java/util/AbstractList$ListItr" "java/util/AbstractList$Itr" "cursor" "I") ∈ lw_all := lw_g (lw_at lw_m13 22 rfl) rfl
theorem q856 : (Jvm.Cond.interfaceMethod "java/util/Iterator" "java/util/Iterator" "hasNext" "()Z") ∈ lw_tbl := lw_at lw_m4 39 rfl
set_option maxRecDepth 100000
theorem q857 : (Jvm.Cond.declares ({ cls := "java/util/Iterator", name := "hasNext", desc := "()Z" } : Jvm.MethodName)) ∈ lw_tbl := lw_at lw_m4 40 rfl
theorem q891 : (Jvm.Cond.interfaceMethod "java/util/Iterator" "java/util/Iterator" "next" "()Ljava/lang/Object;") ∈ lw_tbl := lw_at lw_m4 74 rfl
theorem q892 : (Jvm.Cond.declares ({ cls := "java/util/Iterator", name := "next", desc := "()Ljava/lang/Object;" } : Jvm.MethodName)) ∈ lw_tbl := lw_at lw_m4 75 rfl
theorem q217 : (Jvm.Cond.arrayClass Jvm.ClassFile.FieldType.int) ∈ lw_all := lw_g (lw_at lw_m1 120 rfl) rfl
set_option maxRecDepth 100000
theorem q255 : (Jvm.Cond.arrayOver (Jvm.ClassFile.FieldType.array (Jvm.ClassFile.FieldType.object "PipelineSimulator$Instance"))) ∈ lw_tbl := lw_at lw_m1 158 rfl
theorem q256 : (Jvm.Cond.arrayOver (Jvm.ClassFile.FieldType.object "PipelineSimulator$Instance")) ∈ lw_tbl := lw_at lw_m1 159 rfl
theorem q258 : (Jvm.Cond.arrayOver (Jvm.ClassFile.FieldType.array (Jvm.ClassFile.FieldType.array (Jvm.ClassFile.FieldType.object "PipelineSimulator$Channel")))) ∈ lw_tbl := lw_at lw_m1 161 rfl
theorem q259 : (Jvm.Cond.arrayOver (Jvm.ClassFile.FieldType.array (Jvm.ClassFile.FieldType.object "PipelineSimulator$Channel"))) ∈ lw_tbl := lw_at lw_m1 162 rfl
theorem q260 : (Jvm.Cond.arrayOver (Jvm.ClassFile.FieldType.object "PipelineSimulator$Channel")) ∈ lw_tbl := lw_at lw_m1 163 rfl
theorem q321 : (Jvm.Cond.arrayClass Jvm.ClassFile.FieldType.long) ∈ lw_all := lw_g (lw_at lw_m1 224 rfl) rfl
theorem q465 : (Jvm.Cond.arrayOver (Jvm.ClassFile.FieldType.object "java/lang/Object")) ∈ lw_tbl := lw_at lw_m2 128 rfl
theorem q713 : (Jvm.Cond.arrayClass Jvm.ClassFile.FieldType.byte) ∈ lw_all := lw_g (lw_at lw_m3 136 rfl) rfl
theorem q2658 : (Jvm.Cond.arrayClass Jvm.ClassFile.FieldType.boolean) ∈ lw_all := lw_g (lw_at lw_m11 161 rfl) rfl
