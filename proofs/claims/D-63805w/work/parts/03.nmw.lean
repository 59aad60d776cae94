theorem q34 : (Jvm.Cond.initialized "FuzzyFinderLaw") ∈ lw_all := lw_g (lw_at lw_m1 0 rfl) rfl
set_option maxRecDepth 100000
theorem q65 : (Jvm.Cond.classLink "FuzzyFinderLaw" (7 : Nat) "FuzzyFinder") ∈ lw_all := lw_g (lw_at lw_m1 31 rfl) rfl
theorem q67 : (Jvm.Cond.methodLink "FuzzyFinderLaw" (9 : Nat) ({ cls := "FuzzyFinder", name := "<init>", desc := "()V" } : Jvm.MethodName)) ∈ lw_all := lw_g (lw_at lw_m1 33 rfl) rfl
theorem q274 : (Jvm.Cond.methodLink "FuzzyFinderLaw" (13 : Nat) ({ cls := "FuzzyFinder", name := "type", desc := "(C)Z" } : Jvm.MethodName)) ∈ lw_all := lw_g (lw_at lw_m2 0 rfl) rfl
theorem q380 : (Jvm.Cond.methodLink "FuzzyFinderLaw" (18 : Nat) ({ cls := "FuzzyFinder", name := "compile", desc := "()I" } : Jvm.MethodName)) ∈ lw_all := lw_g (lw_at lw_m2 106 rfl) rfl
theorem q533 : (Jvm.Cond.methodLink "FuzzyFinderLaw" (23 : Nat) ({ cls := "FuzzyFinder", name := "nodes", desc := "()I" } : Jvm.MethodName)) ∈ lw_all := lw_g (lw_at lw_m3 19 rfl) rfl
theorem q537 : (Jvm.Cond.methodLink "FuzzyFinderLaw" (27 : Nat) ({ cls := "FuzzyFinder", name := "weights", desc := "(III)Z" } : Jvm.MethodName)) ∈ lw_all := lw_g (lw_at lw_m3 23 rfl) rfl
theorem q544 : (Jvm.Cond.methodLink "FuzzyFinderLaw" (32 : Nat) ({ cls := "FuzzyFinder", name := "bound", desc := "(I)Z" } : Jvm.MethodName)) ∈ lw_all := lw_g (lw_at lw_m3 30 rfl) rfl
theorem q548 : (Jvm.Cond.methodLink "FuzzyFinderLaw" (37 : Nat) ({ cls := "FuzzyFinder", name := "write", desc := "(C)Z" } : Jvm.MethodName)) ∈ lw_all := lw_g (lw_at lw_m3 34 rfl) rfl
theorem q552 : (Jvm.Cond.methodLink "FuzzyFinderLaw" (41 : Nat) ({ cls := "FuzzyFinder", name := "erase", desc := "()V" } : Jvm.MethodName)) ∈ lw_all := lw_g (lw_at lw_m3 38 rfl) rfl
theorem q556 : (Jvm.Cond.methodLink "FuzzyFinderLaw" (45 : Nat) ({ cls := "FuzzyFinder", name := "cost", desc := "(II)I" } : Jvm.MethodName)) ∈ lw_all := lw_g (lw_at lw_m3 42 rfl) rfl
theorem q633 : (Jvm.Cond.methodLink "FuzzyFinderLaw" (50 : Nat) ({ cls := "FuzzyFinder", name := "find", desc := "(Z)I" } : Jvm.MethodName)) ∈ lw_all := lw_g (lw_at lw_m3 119 rfl) rfl
theorem q637 : (Jvm.Cond.methodLink "FuzzyFinderLaw" (55 : Nat) ({ cls := "FuzzyFinder", name := "from", desc := "()I" } : Jvm.MethodName)) ∈ lw_all := lw_g (lw_at lw_m3 123 rfl) rfl
theorem q641 : (Jvm.Cond.methodLink "FuzzyFinderLaw" (59 : Nat) ({ cls := "FuzzyFinder", name := "to", desc := "()I" } : Jvm.MethodName)) ∈ lw_all := lw_g (lw_at lw_m3 127 rfl) rfl
theorem q645 : (Jvm.Cond.methodLink "FuzzyFinderLaw" (63 : Nat) ({ cls := "FuzzyFinder", name := "ends", desc := "()I" } : Jvm.MethodName)) ∈ lw_all := lw_g (lw_at lw_m3 131 rfl) rfl
theorem q649 : (Jvm.Cond.methodLink "FuzzyFinderLaw" (67 : Nat) ({ cls := "FuzzyFinder", name := "add", desc := "()I" } : Jvm.MethodName)) ∈ lw_all := lw_g (lw_at lw_m3 135 rfl) rfl
theorem q659 : (Jvm.Cond.methodLink "FuzzyFinderLaw" (71 : Nat) ({ cls := "FuzzyFinder", name := "words", desc := "()I" } : Jvm.MethodName)) ∈ lw_all := lw_g (lw_at lw_m3 145 rfl) rfl
theorem q663 : (Jvm.Cond.methodLink "FuzzyFinderLaw" (75 : Nat) ({ cls := "FuzzyFinder", name := "distance", desc := "(IZ)I" } : Jvm.MethodName)) ∈ lw_all := lw_g (lw_at lw_m3 149 rfl) rfl
theorem q770 : (Jvm.Cond.methodLink "FuzzyFinderLaw" (80 : Nat) ({ cls := "FuzzyFinder", name := "near", desc := "(IZ)I" } : Jvm.MethodName)) ∈ lw_all := lw_g (lw_at lw_m4 16 rfl) rfl
theorem q774 : (Jvm.Cond.methodLink "FuzzyFinderLaw" (84 : Nat) ({ cls := "FuzzyFinder", name := "rank", desc := "(IZ)I" } : Jvm.MethodName)) ∈ lw_all := lw_g (lw_at lw_m4 20 rfl) rfl
theorem q778 : (Jvm.Cond.classLink "FuzzyFinderLaw" (10 : Nat) "FuzzyFinderModel") ∈ lw_all := lw_g (lw_at lw_m4 24 rfl) rfl
theorem q780 : (Jvm.Cond.methodLink "FuzzyFinderLaw" (12 : Nat) ({ cls := "FuzzyFinderModel", name := "<init>", desc := "()V" } : Jvm.MethodName)) ∈ lw_all := lw_g (lw_at lw_m4 26 rfl) rfl
theorem q872 : (Jvm.Cond.methodLink "FuzzyFinderLaw" (17 : Nat) ({ cls := "FuzzyFinderModel", name := "type", desc := "(C)Z" } : Jvm.MethodName)) ∈ lw_all := lw_g (lw_at lw_m4 118 rfl) rfl
theorem q876 : (Jvm.Cond.methodLink "FuzzyFinderLaw" (22 : Nat) ({ cls := "FuzzyFinderModel", name := "compile", desc := "()I" } : Jvm.MethodName)) ∈ lw_all := lw_g (lw_at lw_m4 122 rfl) rfl
theorem q923 : (Jvm.Cond.methodLink "FuzzyFinderLaw" (26 : Nat) ({ cls := "FuzzyFinderModel", name := "nodes", desc := "()I" } : Jvm.MethodName)) ∈ lw_all := lw_g (lw_at lw_m4 169 rfl) rfl
theorem q927 : (Jvm.Cond.methodLink "FuzzyFinderLaw" (31 : Nat) ({ cls := "FuzzyFinderModel", name := "weights", desc := "(III)Z" } : Jvm.MethodName)) ∈ lw_all := lw_g (lw_at lw_m4 173 rfl) rfl
theorem q931 : (Jvm.Cond.methodLink "FuzzyFinderLaw" (36 : Nat) ({ cls := "FuzzyFinderModel", name := "bound", desc := "(I)Z" } : Jvm.MethodName)) ∈ lw_all := lw_g (lw_at lw_m4 177 rfl) rfl
theorem q935 : (Jvm.Cond.methodLink "FuzzyFinderLaw" (40 : Nat) ({ cls := "FuzzyFinderModel", name := "write", desc := "(C)Z" } : Jvm.MethodName)) ∈ lw_all := lw_g (lw_at lw_m4 181 rfl) rfl
theorem q939 : (Jvm.Cond.methodLink "FuzzyFinderLaw" (44 : Nat) ({ cls := "FuzzyFinderModel", name := "erase", desc := "()V" } : Jvm.MethodName)) ∈ lw_all := lw_g (lw_at lw_m4 185 rfl) rfl
theorem q943 : (Jvm.Cond.methodLink "FuzzyFinderLaw" (49 : Nat) ({ cls := "FuzzyFinderModel", name := "cost", desc := "(II)I" } : Jvm.MethodName)) ∈ lw_all := lw_g (lw_at lw_m4 189 rfl) rfl
theorem q975 : (Jvm.Cond.methodLink "FuzzyFinderLaw" (54 : Nat) ({ cls := "FuzzyFinderModel", name := "find", desc := "(Z)I" } : Jvm.MethodName)) ∈ lw_all := lw_g (lw_at lw_m4 221 rfl) rfl
theorem q988 : (Jvm.Cond.methodLink "FuzzyFinderLaw" (58 : Nat) ({ cls := "FuzzyFinderModel", name := "from", desc := "()I" } : Jvm.MethodName)) ∈ lw_all := lw_g (lw_at lw_m4 234 rfl) rfl
theorem q992 : (Jvm.Cond.methodLink "FuzzyFinderLaw" (62 : Nat) ({ cls := "FuzzyFinderModel", name := "to", desc := "()I" } : Jvm.MethodName)) ∈ lw_all := lw_g (lw_at lw_m4 238 rfl) rfl
theorem q996 : (Jvm.Cond.methodLink "FuzzyFinderLaw" (66 : Nat) ({ cls := "FuzzyFinderModel", name := "ends", desc := "()I" } : Jvm.MethodName)) ∈ lw_all := lw_g (lw_at lw_m5 2 rfl) rfl
theorem q1000 : (Jvm.Cond.methodLink "FuzzyFinderLaw" (70 : Nat) ({ cls := "FuzzyFinderModel", name := "add", desc := "()I" } : Jvm.MethodName)) ∈ lw_all := lw_g (lw_at lw_m5 6 rfl) rfl
theorem q1012 : (Jvm.Cond.methodLink "FuzzyFinderLaw" (74 : Nat) ({ cls := "FuzzyFinderModel", name := "words", desc := "()I" } : Jvm.MethodName)) ∈ lw_all := lw_g (lw_at lw_m5 18 rfl) rfl
theorem q1016 : (Jvm.Cond.methodLink "FuzzyFinderLaw" (79 : Nat) ({ cls := "FuzzyFinderModel", name := "distance", desc := "(IZ)I" } : Jvm.MethodName)) ∈ lw_all := lw_g (lw_at lw_m5 22 rfl) rfl
theorem q1017 : (Jvm.Cond.methodLink "FuzzyFinderLaw" (83 : Nat) ({ cls := "FuzzyFinderModel", name := "near", desc := "(IZ)I" } : Jvm.MethodName)) ∈ lw_all := lw_g (lw_at lw_m5 23 rfl) rfl
theorem q1021 : (Jvm.Cond.methodLink "FuzzyFinderLaw" (87 : Nat) ({ cls := "FuzzyFinderModel", name := "rank", desc := "(IZ)I" } : Jvm.MethodName)) ∈ lw_all := lw_g (lw_at lw_m5 27 rfl) rfl
theorem q566 : (Jvm.Cond.interfaceMethod "FuzzyFinder$Node" "FuzzyFinder$Node" "fill" "(LFuzzyFinder$Bench;I)V") ∈ lw_tbl := lw_at lw_m3 52 rfl
set_option maxRecDepth 100000
theorem q567 : (Jvm.Cond.declares ({ cls := "FuzzyFinder$Node", name := "fill", desc := "(LFuzzyFinder$Bench;I)V" } : Jvm.MethodName)) ∈ lw_tbl := lw_at lw_m3 53 rfl
theorem q56 : (Jvm.Cond.initialized "FuzzyFinder$Times") ∈ lw_all := lw_g (lw_at lw_m1 22 rfl) rfl
set_option maxRecDepth 100000
theorem q441 : (Jvm.Cond.laysStatic "FuzzyFinder$Times" "ANY" "LFuzzyFinder$Times;") ∈ lw_tbl := lw_at lw_m2 167 rfl
theorem q460 : (Jvm.Cond.laysStatic "FuzzyFinder$Times" "SOME" "LFuzzyFinder$Times;") ∈ lw_tbl := lw_at lw_m2 186 rfl
theorem q462 : (Jvm.Cond.laysStatic "FuzzyFinder$Times" "MAYBE" "LFuzzyFinder$Times;") ∈ lw_tbl := lw_at lw_m2 188 rfl
theorem q734 : (Jvm.Cond.selects "FuzzyFinder$Times" ({ cls := "java/lang/Object", name := "getClass", desc := "()Ljava/lang/Class;" } : Jvm.MethodName) ({ cls := "java/lang/Object", name := "getClass", desc := "()Ljava/lang/Class;" } : Jvm.MethodName)) ∈ lw_all := lw_g (lw_at lw_m3 220 rfl) rfl
theorem q1045 : (Jvm.Cond.castable "FuzzyFinder$Times" "java/lang/Object") ∈ lw_tbl := lw_at lw_m5 51 rfl
theorem q315 : (Jvm.Cond.sameMethod "[B" "java/lang/Object" "clone" "()Ljava/lang/Object;") ∈ lw_all := lw_g (lw_at lw_m2 41 rfl) rfl
set_option maxRecDepth 100000
theorem q318 : (Jvm.Cond.selects "[B" ({ cls := "[B", name := "clone", desc := "()Ljava/lang/Object;" } : Jvm.MethodName) ({ cls := "java/lang/Object", name := "clone", desc := "()Ljava/lang/Object;" } : Jvm.MethodName)) ∈ lw_all := lw_g (lw_at lw_m2 44 rfl) rfl
theorem q319 : (Jvm.Cond.castable "[B" "java/lang/Cloneable") ∈ lw_tbl := lw_at lw_m2 45 rfl
theorem q1056 : (Jvm.Cond.castable "[B" "java/lang/Object") ∈ lw_tbl := lw_at lw_m5 62 rfl
theorem q1055 : (Jvm.Cond.castable "[I" "java/lang/Object") ∈ lw_tbl := lw_at lw_m5 61 rfl
set_option maxRecDepth 100000
theorem q1051 : (Jvm.Cond.sameMethod "[Ljava/lang/Object;" "java/lang/Object" "getClass" "()Ljava/lang/Class;") ∈ lw_all := lw_g (lw_at lw_m5 57 rfl) rfl
set_option maxRecDepth 100000
theorem q1052 : (Jvm.Cond.selects "[Ljava/lang/Object;" ({ cls := "java/lang/Object", name := "getClass", desc := "()Ljava/lang/Class;" } : Jvm.MethodName) ({ cls := "java/lang/Object", name := "getClass", desc := "()Ljava/lang/Class;" } : Jvm.MethodName)) ∈ lw_all := lw_g (lw_at lw_m5 58 rfl) rfl
theorem q1057 : (Jvm.Cond.castable "[Ljava/lang/Object;" "java/lang/Object") ∈ lw_tbl := lw_at lw_m5 63 rfl
theorem q1054 : (Jvm.Cond.castable "[[I" "java/lang/Object") ∈ lw_tbl := lw_at lw_m5 60 rfl
set_option maxRecDepth 100000
theorem q55 : (Jvm.Cond.initialized "java/lang/Enum") ∈ lw_all := lw_g (lw_at lw_m1 21 rfl) rfl
set_option maxRecDepth 100000
theorem q63 : (Jvm.Cond.initialized "java/lang/Integer$IntegerCache") ∈ lw_all := lw_g (lw_at lw_m1 29 rfl) rfl
set_option maxRecDepth 100000
theorem q686 : (Jvm.Cond.laysStatic "java/lang/Integer$IntegerCache" "high" "I") ∈ lw_tbl := lw_at lw_m3 172 rfl
theorem q688 : (Jvm.Cond.laysStatic "java/lang/Integer$IntegerCache" "cache" "[Ljava/lang/Integer;") ∈ lw_tbl := lw_at lw_m3 174 rfl
theorem q52 : (Jvm.Cond.initialized "java/lang/System") ∈ lw_all := lw_g (lw_at lw_m1 18 rfl) rfl
set_option maxRecDepth 100000
theorem q325 : (Jvm.Cond.static ({ cls := "java/lang/System", name := "arraycopy", desc := "(Ljava/lang/Object;ILjava/lang/Object;II)V" } : Jvm.MethodName)) ∈ lw_all := lw_g (lw_at lw_m2 51 rfl) rfl
theorem q326 : (Jvm.Cond.native ({ cls := "java/lang/System", name := "arraycopy", desc := "(Ljava/lang/Object;ILjava/lang/Object;II)V" } : Jvm.MethodName)) ∈ lw_all := lw_g (lw_at lw_m2 52 rfl) rfl
theorem q80 : (Jvm.Cond.arrayOver (Jvm.ClassFile.FieldType.array Jvm.ClassFile.FieldType.int)) ∈ lw_tbl := lw_at lw_m1 46 rfl
set_option maxRecDepth 100000
theorem q106 : (Jvm.Cond.arrayClass Jvm.ClassFile.FieldType.int) ∈ lw_all := lw_g (lw_at lw_m1 72 rfl) rfl
theorem q144 : (Jvm.Cond.arrayClass Jvm.ClassFile.FieldType.byte) ∈ lw_all := lw_g (lw_at lw_m1 110 rfl) rfl
theorem q744 : (Jvm.Cond.arrayOver (Jvm.ClassFile.FieldType.object "java/lang/Object")) ∈ lw_tbl := lw_at lw_m3 230 rfl
