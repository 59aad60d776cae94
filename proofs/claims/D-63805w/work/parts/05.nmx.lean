/-! FuzzyFinder -/
set_option maxRecDepth 100000
def RX0 : String := "FuzzyFinder"
def TX0 : u_T := fun k => match k with
  | 0 => ("FuzzyFinder", "bench", "LFuzzyFinder$Bench;", true)
  | 1 => ("FuzzyFinder", "reader", "LFuzzyFinder$Reader;", true)
  | 2 => ("FuzzyFinder", "pattern", "LFuzzyFinder$Node;", false)
  | 3 => ("FuzzyFinder", "size", "I", false)
  | 4 => ("FuzzyFinder", "most", "I", false)
  | 5 => ("FuzzyFinder", "made", "Z", false)
  | 6 => ("FuzzyFinder", "found", "I", false)
  | 7 => ("FuzzyFinder", "start", "I", false)
  | 8 => ("FuzzyFinder", "end", "I", false)
  | 9 => ("FuzzyFinder", "root", "LFuzzyFinder$Branch;", true)
  | 10 => ("FuzzyFinder", "words", "I", false)
  | 11 => ("FuzzyFinder", "path", "[I", true)
  | 12 => ("FuzzyFinder", "distances", "[[I", true)
  | 13 => ("FuzzyFinder", "order", "Ljava/util/ArrayList;", true)
  | _ => ("FuzzyFinder", "far", "[I", true)
def tyX0 : Nat → FieldType := fun k => match k with
  | 0 => .object "FuzzyFinder$Bench"
  | 1 => .object "FuzzyFinder$Reader"
  | 2 => .object "FuzzyFinder$Node"
  | 3 => .int
  | 4 => .int
  | 5 => .boolean
  | 6 => .int
  | 7 => .int
  | 8 => .int
  | 9 => .object "FuzzyFinder$Branch"
  | 10 => .int
  | 11 => .array .int
  | 12 => .array (.array .int)
  | 13 => .object "java/util/ArrayList"
  | _ => .array .int
abbrev wsX00 : List Cond := u_ws RX0 TX0 15
set_option maxRecDepth 100000 in
theorem nmX0 : ∀ a, a < 15 → ∀ b, b < 15 → a ≠ b → (TX0 a).2.1 ≠ (TX0 b).2.1 := by decide +kernel
set_option maxRecDepth 100000 in
theorem tyX0_ok : ∀ k, k < 15 → parseFieldDescriptor (TX0 k).2.2.1 = some (tyX0 k) := by decide +kernel
abbrev cX0_init : ByteArray := prog_1_method_1_code
def yX0_init : MethodName := ⟨RX0, "<init>", "()V"⟩
def dkwX0_init_3 : List UInt8 := [183, 0, 47, 181, 0, 48, 42, 16, 20, 188, 10, 181, 0, 52, 177]
abbrev dktX0_init_3 : List UInt8 := dkwX0_init_3 ++ []
def dkwX0_init_2 : List UInt8 := [188, 10, 181, 0, 36, 42, 16, 13, 16, 25, 197, 0, 40, 2, 181, 0, 42, 42, 187, 0, 45, 89]
abbrev dktX0_init_2 : List UInt8 := dkwX0_init_2 ++ dktX0_init_3
def dkwX0_init_1 : List UInt8 := [181, 0, 19, 42, 2, 181, 0, 23, 42, 187, 0, 27, 89, 2, 183, 0, 29, 181, 0, 32, 42, 16, 12]
abbrev dktX0_init_1 : List UInt8 := dkwX0_init_1 ++ dktX0_init_2
def dkwX0_init_0 : List UInt8 := [42, 183, 0, 1, 42, 187, 0, 7, 89, 183, 0, 9, 181, 0, 10, 42, 187, 0, 16, 89, 183, 0, 18]
abbrev dktX0_init_0 : List UInt8 := dkwX0_init_0 ++ dktX0_init_1
theorem dksX0_init_0 : cX0_init.data.toList.drop 0 = dktX0_init_0 := by decide +kernel
theorem dksX0_init_1 : cX0_init.data.toList.drop 23 = dktX0_init_1 := dk_seg dksX0_init_0 23 rfl rfl
theorem dksX0_init_2 : cX0_init.data.toList.drop 46 = dktX0_init_2 := dk_seg dksX0_init_1 23 rfl rfl
theorem dksX0_init_3 : cX0_init.data.toList.drop 68 = dktX0_init_3 := dk_seg dksX0_init_2 22 rfl rfl
theorem dX0_init_0 : decode cX0_init 0 = .ok (.aload_n 0, 1) := dk_42 (dk_at dksX0_init_0 0 rfl rfl)
theorem dX0_init_1 : decode cX0_init 1 = .ok (.invokespecial 1, 3) := dk_183 0 1 (dk_at dksX0_init_0 1 rfl rfl)
theorem dX0_init_4 : decode cX0_init 4 = .ok (.aload_n 0, 1) := dk_42 (dk_at dksX0_init_0 4 rfl rfl)
theorem dX0_init_5 : decode cX0_init 5 = .ok (.new 7, 3) := dk_187 0 7 (dk_at dksX0_init_0 5 rfl rfl)
theorem dX0_init_8 : decode cX0_init 8 = .ok (.dup, 1) := dk_89 (dk_at dksX0_init_0 8 rfl rfl)
theorem dX0_init_9 : decode cX0_init 9 = .ok (.invokespecial 9, 3) := dk_183 0 9 (dk_at dksX0_init_0 9 rfl rfl)
theorem dX0_init_12 : decode cX0_init 12 = .ok (.putfield 10, 3) := dk_181 0 10 (dk_at dksX0_init_0 12 rfl rfl)
theorem dX0_init_15 : decode cX0_init 15 = .ok (.aload_n 0, 1) := dk_42 (dk_at dksX0_init_0 15 rfl rfl)
theorem dX0_init_16 : decode cX0_init 16 = .ok (.new 16, 3) := dk_187 0 16 (dk_at dksX0_init_0 16 rfl rfl)
theorem dX0_init_19 : decode cX0_init 19 = .ok (.dup, 1) := dk_89 (dk_at dksX0_init_0 19 rfl rfl)
theorem dX0_init_20 : decode cX0_init 20 = .ok (.invokespecial 18, 3) := dk_183 0 18 (dk_at dksX0_init_0 20 rfl rfl)
theorem dX0_init_23 : decode cX0_init 23 = .ok (.putfield 19, 3) := dk_181 0 19 (dk_at dksX0_init_1 0 rfl rfl)
theorem dX0_init_26 : decode cX0_init 26 = .ok (.aload_n 0, 1) := dk_42 (dk_at dksX0_init_1 3 rfl rfl)
theorem dX0_init_27 : decode cX0_init 27 = .ok (.iconst (-1), 1) := dk_2 (dk_at dksX0_init_1 4 rfl rfl)
theorem dX0_init_28 : decode cX0_init 28 = .ok (.putfield 23, 3) := dk_181 0 23 (dk_at dksX0_init_1 5 rfl rfl)
theorem dX0_init_31 : decode cX0_init 31 = .ok (.aload_n 0, 1) := dk_42 (dk_at dksX0_init_1 8 rfl rfl)
theorem dX0_init_32 : decode cX0_init 32 = .ok (.new 27, 3) := dk_187 0 27 (dk_at dksX0_init_1 9 rfl rfl)
theorem dX0_init_35 : decode cX0_init 35 = .ok (.dup, 1) := dk_89 (dk_at dksX0_init_1 12 rfl rfl)
theorem dX0_init_36 : decode cX0_init 36 = .ok (.iconst (-1), 1) := dk_2 (dk_at dksX0_init_1 13 rfl rfl)
theorem dX0_init_37 : decode cX0_init 37 = .ok (.invokespecial 29, 3) := dk_183 0 29 (dk_at dksX0_init_1 14 rfl rfl)
theorem dX0_init_40 : decode cX0_init 40 = .ok (.putfield 32, 3) := dk_181 0 32 (dk_at dksX0_init_1 17 rfl rfl)
theorem dX0_init_43 : decode cX0_init 43 = .ok (.aload_n 0, 1) := dk_42 (dk_at dksX0_init_1 20 rfl rfl)
theorem dX0_init_44 : decode cX0_init 44 = .ok (.bipush 12, 2) := dk_16 12 (dk_at dksX0_init_1 21 rfl rfl)
theorem dX0_init_46 : decode cX0_init 46 = .ok (.newarray .int, 2) := dk_188_10 (dk_at dksX0_init_2 0 rfl rfl)
theorem dX0_init_48 : decode cX0_init 48 = .ok (.putfield 36, 3) := dk_181 0 36 (dk_at dksX0_init_2 2 rfl rfl)
theorem dX0_init_51 : decode cX0_init 51 = .ok (.aload_n 0, 1) := dk_42 (dk_at dksX0_init_2 5 rfl rfl)
theorem dX0_init_52 : decode cX0_init 52 = .ok (.bipush 13, 2) := dk_16 13 (dk_at dksX0_init_2 6 rfl rfl)
theorem dX0_init_54 : decode cX0_init 54 = .ok (.bipush 25, 2) := dk_16 25 (dk_at dksX0_init_2 8 rfl rfl)
theorem dX0_init_56 : decode cX0_init 56 = .ok (.multianewarray 40 2, 4) := by decide +kernel
theorem dX0_init_60 : decode cX0_init 60 = .ok (.putfield 42, 3) := dk_181 0 42 (dk_at dksX0_init_2 14 rfl rfl)
theorem dX0_init_63 : decode cX0_init 63 = .ok (.aload_n 0, 1) := dk_42 (dk_at dksX0_init_2 17 rfl rfl)
theorem dX0_init_64 : decode cX0_init 64 = .ok (.new 45, 3) := dk_187 0 45 (dk_at dksX0_init_2 18 rfl rfl)
theorem dX0_init_67 : decode cX0_init 67 = .ok (.dup, 1) := dk_89 (dk_at dksX0_init_2 21 rfl rfl)
theorem dX0_init_68 : decode cX0_init 68 = .ok (.invokespecial 47, 3) := dk_183 0 47 (dk_at dksX0_init_3 0 rfl rfl)
theorem dX0_init_71 : decode cX0_init 71 = .ok (.putfield 48, 3) := dk_181 0 48 (dk_at dksX0_init_3 3 rfl rfl)
theorem dX0_init_74 : decode cX0_init 74 = .ok (.aload_n 0, 1) := dk_42 (dk_at dksX0_init_3 6 rfl rfl)
theorem dX0_init_75 : decode cX0_init 75 = .ok (.bipush 20, 2) := dk_16 20 (dk_at dksX0_init_3 7 rfl rfl)
theorem dX0_init_77 : decode cX0_init 77 = .ok (.newarray .int, 2) := dk_188_10 (dk_at dksX0_init_3 9 rfl rfl)
theorem dX0_init_79 : decode cX0_init 79 = .ok (.putfield 52, 3) := dk_181 0 52 (dk_at dksX0_init_3 11 rfl rfl)
theorem dX0_init_82 : decode cX0_init 82 = .ok (.return_, 1) := dk_177 (dk_at dksX0_init_3 14 rfl rfl)
abbrev cX0_type : ByteArray := prog_1_method_2_code
def yX0_type : MethodName := ⟨RX0, "type", "(C)Z"⟩
def dkwX0_type_1 : List UInt8 := [160, 0, 5, 3, 172, 42, 180, 0, 19, 180, 0, 55, 27, 182, 0, 65, 87, 4, 172]
abbrev dktX0_type_1 : List UInt8 := dkwX0_type_1 ++ []
def dkwX0_type_0 : List UInt8 := [27, 16, 33, 161, 0, 24, 27, 16, 126, 163, 0, 18, 42, 180, 0, 19, 180, 0, 55, 182, 0, 59, 16, 40]
abbrev dktX0_type_0 : List UInt8 := dkwX0_type_0 ++ dktX0_type_1
theorem dksX0_type_0 : cX0_type.data.toList.drop 0 = dktX0_type_0 := by decide +kernel
theorem dksX0_type_1 : cX0_type.data.toList.drop 24 = dktX0_type_1 := dk_seg dksX0_type_0 24 rfl rfl
theorem dX0_type_0 : decode cX0_type 0 = .ok (.iload_n 1, 1) := dk_27 (dk_at dksX0_type_0 0 rfl rfl)
theorem dX0_type_1 : decode cX0_type 1 = .ok (.bipush 33, 2) := dk_16 33 (dk_at dksX0_type_0 1 rfl rfl)
theorem dX0_type_3 : decode cX0_type 3 = .ok (.if_icmp .lt 24, 3) := dk_161 0 24 (dk_at dksX0_type_0 3 rfl rfl)
theorem dX0_type_6 : decode cX0_type 6 = .ok (.iload_n 1, 1) := dk_27 (dk_at dksX0_type_0 6 rfl rfl)
theorem dX0_type_7 : decode cX0_type 7 = .ok (.bipush 126, 2) := dk_16 126 (dk_at dksX0_type_0 7 rfl rfl)
theorem dX0_type_9 : decode cX0_type 9 = .ok (.if_icmp .gt 18, 3) := dk_163 0 18 (dk_at dksX0_type_0 9 rfl rfl)
theorem dX0_type_12 : decode cX0_type 12 = .ok (.aload_n 0, 1) := dk_42 (dk_at dksX0_type_0 12 rfl rfl)
theorem dX0_type_13 : decode cX0_type 13 = .ok (.getfield 19, 3) := dk_180 0 19 (dk_at dksX0_type_0 13 rfl rfl)
theorem dX0_type_16 : decode cX0_type 16 = .ok (.getfield 55, 3) := dk_180 0 55 (dk_at dksX0_type_0 16 rfl rfl)
theorem dX0_type_19 : decode cX0_type 19 = .ok (.invokevirtual 59, 3) := dk_182 0 59 (dk_at dksX0_type_0 19 rfl rfl)
theorem dX0_type_22 : decode cX0_type 22 = .ok (.bipush 40, 2) := dk_16 40 (dk_at dksX0_type_0 22 rfl rfl)
theorem dX0_type_24 : decode cX0_type 24 = .ok (.if_icmp .ne 5, 3) := dk_160 0 5 (dk_at dksX0_type_1 0 rfl rfl)
theorem dX0_type_27 : decode cX0_type 27 = .ok (.iconst 0, 1) := dk_3 (dk_at dksX0_type_1 3 rfl rfl)
theorem dX0_type_28 : decode cX0_type 28 = .ok (.ireturn, 1) := dk_172 (dk_at dksX0_type_1 4 rfl rfl)
theorem dX0_type_29 : decode cX0_type 29 = .ok (.aload_n 0, 1) := dk_42 (dk_at dksX0_type_1 5 rfl rfl)
theorem dX0_type_30 : decode cX0_type 30 = .ok (.getfield 19, 3) := dk_180 0 19 (dk_at dksX0_type_1 6 rfl rfl)
theorem dX0_type_33 : decode cX0_type 33 = .ok (.getfield 55, 3) := dk_180 0 55 (dk_at dksX0_type_1 9 rfl rfl)
theorem dX0_type_36 : decode cX0_type 36 = .ok (.iload_n 1, 1) := dk_27 (dk_at dksX0_type_1 12 rfl rfl)
theorem dX0_type_37 : decode cX0_type 37 = .ok (.invokevirtual 65, 3) := dk_182 0 65 (dk_at dksX0_type_1 13 rfl rfl)
theorem dX0_type_40 : decode cX0_type 40 = .ok (.pop, 1) := dk_87 (dk_at dksX0_type_1 16 rfl rfl)
theorem dX0_type_41 : decode cX0_type 41 = .ok (.iconst 1, 1) := dk_4 (dk_at dksX0_type_1 17 rfl rfl)
theorem dX0_type_42 : decode cX0_type 42 = .ok (.ireturn, 1) := dk_172 (dk_at dksX0_type_1 18 rfl rfl)
abbrev cX0_compile : ByteArray := prog_1_method_3_code
def yX0_compile : MethodName := ⟨RX0, "compile", "()I"⟩
def dkwX0_compile_2 : List UInt8 := [181, 0, 82, 42, 42, 180, 0, 19, 180, 0, 79, 181, 0, 86, 42, 182, 0, 89, 2, 172]
abbrev dktX0_compile_2 : List UInt8 := dkwX0_compile_2 ++ []
def dkwX0_compile_1 : List UInt8 := [180, 0, 19, 180, 0, 76, 172, 42, 180, 0, 19, 180, 0, 79, 16, 24, 164, 0, 6, 16, 254, 172, 42, 43]
abbrev dktX0_compile_1 : List UInt8 := dkwX0_compile_1 ++ dktX0_compile_2
def dkwX0_compile_0 : List UInt8 := [42, 180, 0, 19, 182, 0, 69, 76, 42, 180, 0, 19, 180, 0, 55, 3, 182, 0, 73, 43, 199, 0, 11, 42]
abbrev dktX0_compile_0 : List UInt8 := dkwX0_compile_0 ++ dktX0_compile_1
theorem dksX0_compile_0 : cX0_compile.data.toList.drop 0 = dktX0_compile_0 := by decide +kernel
theorem dksX0_compile_1 : cX0_compile.data.toList.drop 24 = dktX0_compile_1 := dk_seg dksX0_compile_0 24 rfl rfl
theorem dksX0_compile_2 : cX0_compile.data.toList.drop 48 = dktX0_compile_2 := dk_seg dksX0_compile_1 24 rfl rfl
theorem dX0_compile_0 : decode cX0_compile 0 = .ok (.aload_n 0, 1) := dk_42 (dk_at dksX0_compile_0 0 rfl rfl)
theorem dX0_compile_1 : decode cX0_compile 1 = .ok (.getfield 19, 3) := dk_180 0 19 (dk_at dksX0_compile_0 1 rfl rfl)
theorem dX0_compile_4 : decode cX0_compile 4 = .ok (.invokevirtual 69, 3) := dk_182 0 69 (dk_at dksX0_compile_0 4 rfl rfl)
theorem dX0_compile_7 : decode cX0_compile 7 = .ok (.astore_n 1, 1) := dk_76 (dk_at dksX0_compile_0 7 rfl rfl)
theorem dX0_compile_8 : decode cX0_compile 8 = .ok (.aload_n 0, 1) := dk_42 (dk_at dksX0_compile_0 8 rfl rfl)
theorem dX0_compile_9 : decode cX0_compile 9 = .ok (.getfield 19, 3) := dk_180 0 19 (dk_at dksX0_compile_0 9 rfl rfl)
theorem dX0_compile_12 : decode cX0_compile 12 = .ok (.getfield 55, 3) := dk_180 0 55 (dk_at dksX0_compile_0 12 rfl rfl)
theorem dX0_compile_15 : decode cX0_compile 15 = .ok (.iconst 0, 1) := dk_3 (dk_at dksX0_compile_0 15 rfl rfl)
theorem dX0_compile_16 : decode cX0_compile 16 = .ok (.invokevirtual 73, 3) := dk_182 0 73 (dk_at dksX0_compile_0 16 rfl rfl)
theorem dX0_compile_19 : decode cX0_compile 19 = .ok (.aload_n 1, 1) := dk_43 (dk_at dksX0_compile_0 19 rfl rfl)
theorem dX0_compile_20 : decode cX0_compile 20 = .ok (.ifnonnull 11, 3) := dk_199 0 11 (dk_at dksX0_compile_0 20 rfl rfl)
theorem dX0_compile_23 : decode cX0_compile 23 = .ok (.aload_n 0, 1) := dk_42 (dk_at dksX0_compile_0 23 rfl rfl)
theorem dX0_compile_24 : decode cX0_compile 24 = .ok (.getfield 19, 3) := dk_180 0 19 (dk_at dksX0_compile_1 0 rfl rfl)
theorem dX0_compile_27 : decode cX0_compile 27 = .ok (.getfield 76, 3) := dk_180 0 76 (dk_at dksX0_compile_1 3 rfl rfl)
theorem dX0_compile_30 : decode cX0_compile 30 = .ok (.ireturn, 1) := dk_172 (dk_at dksX0_compile_1 6 rfl rfl)
theorem dX0_compile_31 : decode cX0_compile 31 = .ok (.aload_n 0, 1) := dk_42 (dk_at dksX0_compile_1 7 rfl rfl)
theorem dX0_compile_32 : decode cX0_compile 32 = .ok (.getfield 19, 3) := dk_180 0 19 (dk_at dksX0_compile_1 8 rfl rfl)
theorem dX0_compile_35 : decode cX0_compile 35 = .ok (.getfield 79, 3) := dk_180 0 79 (dk_at dksX0_compile_1 11 rfl rfl)
theorem dX0_compile_38 : decode cX0_compile 38 = .ok (.bipush 24, 2) := dk_16 24 (dk_at dksX0_compile_1 14 rfl rfl)
theorem dX0_compile_40 : decode cX0_compile 40 = .ok (.if_icmp .le 6, 3) := dk_164 0 6 (dk_at dksX0_compile_1 16 rfl rfl)
theorem dX0_compile_43 : decode cX0_compile 43 = .ok (.bipush (-2), 2) := dk_16 254 (dk_at dksX0_compile_1 19 rfl rfl)
theorem dX0_compile_45 : decode cX0_compile 45 = .ok (.ireturn, 1) := dk_172 (dk_at dksX0_compile_1 21 rfl rfl)
theorem dX0_compile_46 : decode cX0_compile 46 = .ok (.aload_n 0, 1) := dk_42 (dk_at dksX0_compile_1 22 rfl rfl)
theorem dX0_compile_47 : decode cX0_compile 47 = .ok (.aload_n 1, 1) := dk_43 (dk_at dksX0_compile_1 23 rfl rfl)
theorem dX0_compile_48 : decode cX0_compile 48 = .ok (.putfield 82, 3) := dk_181 0 82 (dk_at dksX0_compile_2 0 rfl rfl)
theorem dX0_compile_51 : decode cX0_compile 51 = .ok (.aload_n 0, 1) := dk_42 (dk_at dksX0_compile_2 3 rfl rfl)
theorem dX0_compile_52 : decode cX0_compile 52 = .ok (.aload_n 0, 1) := dk_42 (dk_at dksX0_compile_2 4 rfl rfl)
theorem dX0_compile_53 : decode cX0_compile 53 = .ok (.getfield 19, 3) := dk_180 0 19 (dk_at dksX0_compile_2 5 rfl rfl)
theorem dX0_compile_56 : decode cX0_compile 56 = .ok (.getfield 79, 3) := dk_180 0 79 (dk_at dksX0_compile_2 8 rfl rfl)
theorem dX0_compile_59 : decode cX0_compile 59 = .ok (.putfield 86, 3) := dk_181 0 86 (dk_at dksX0_compile_2 11 rfl rfl)
theorem dX0_compile_62 : decode cX0_compile 62 = .ok (.aload_n 0, 1) := dk_42 (dk_at dksX0_compile_2 14 rfl rfl)
theorem dX0_compile_63 : decode cX0_compile 63 = .ok (.invokevirtual 89, 3) := dk_182 0 89 (dk_at dksX0_compile_2 15 rfl rfl)
theorem dX0_compile_66 : decode cX0_compile 66 = .ok (.iconst (-1), 1) := dk_2 (dk_at dksX0_compile_2 18 rfl rfl)
theorem dX0_compile_67 : decode cX0_compile 67 = .ok (.ireturn, 1) := dk_172 (dk_at dksX0_compile_2 19 rfl rfl)
abbrev cX0_changed : ByteArray := prog_1_method_10_code
def yX0_changed : MethodName := ⟨RX0, "changed", "()V"⟩
def dkwX0_changed_0 : List UInt8 := [42, 2, 181, 0, 23, 42, 3, 181, 0, 112, 177]
abbrev dktX0_changed_0 : List UInt8 := dkwX0_changed_0 ++ []
theorem dksX0_changed_0 : cX0_changed.data.toList.drop 0 = dktX0_changed_0 := by decide +kernel
theorem dX0_changed_0 : decode cX0_changed 0 = .ok (.aload_n 0, 1) := dk_42 (dk_at dksX0_changed_0 0 rfl rfl)
theorem dX0_changed_1 : decode cX0_changed 1 = .ok (.iconst (-1), 1) := dk_2 (dk_at dksX0_changed_0 1 rfl rfl)
theorem dX0_changed_2 : decode cX0_changed 2 = .ok (.putfield 23, 3) := dk_181 0 23 (dk_at dksX0_changed_0 2 rfl rfl)
theorem dX0_changed_5 : decode cX0_changed 5 = .ok (.aload_n 0, 1) := dk_42 (dk_at dksX0_changed_0 5 rfl rfl)
theorem dX0_changed_6 : decode cX0_changed 6 = .ok (.iconst 0, 1) := dk_3 (dk_at dksX0_changed_0 6 rfl rfl)
theorem dX0_changed_7 : decode cX0_changed 7 = .ok (.putfield 112, 3) := dk_181 0 112 (dk_at dksX0_changed_0 7 rfl rfl)
theorem dX0_changed_10 : decode cX0_changed 10 = .ok (.return_, 1) := dk_177 (dk_at dksX0_changed_0 10 rfl rfl)
abbrev cX0_nodes : ByteArray := prog_1_method_4_code
def yX0_nodes : MethodName := ⟨RX0, "nodes", "()I"⟩
theorem dX0_nodes_0 : decode cX0_nodes 0 = .ok (.aload_n 0, 1) := by decide +kernel
theorem dX0_nodes_1 : decode cX0_nodes 1 = .ok (.getfield 86, 3) := by decide +kernel
theorem dX0_nodes_4 : decode cX0_nodes 4 = .ok (.ireturn, 1) := by decide +kernel
abbrev cX0_weights : ByteArray := prog_1_method_6_code
def yX0_weights : MethodName := ⟨RX0, "weights", "(III)Z"⟩
def dkwX0_weights_2 : List UInt8 := [182, 0, 89, 4, 172]
abbrev dktX0_weights_2 : List UInt8 := dkwX0_weights_2 ++ []
def dkwX0_weights_1 : List UInt8 := [180, 0, 10, 27, 181, 0, 96, 42, 180, 0, 10, 28, 181, 0, 99, 42, 180, 0, 10, 29, 181, 0, 102, 42]
abbrev dktX0_weights_1 : List UInt8 := dkwX0_weights_1 ++ dktX0_weights_2
def dkwX0_weights_0 : List UInt8 := [27, 184, 0, 92, 153, 0, 17, 28, 184, 0, 92, 153, 0, 10, 29, 184, 0, 92, 154, 0, 5, 3, 172, 42]
abbrev dktX0_weights_0 : List UInt8 := dkwX0_weights_0 ++ dktX0_weights_1
theorem dksX0_weights_0 : cX0_weights.data.toList.drop 0 = dktX0_weights_0 := by decide +kernel
theorem dksX0_weights_1 : cX0_weights.data.toList.drop 24 = dktX0_weights_1 := dk_seg dksX0_weights_0 24 rfl rfl
theorem dksX0_weights_2 : cX0_weights.data.toList.drop 48 = dktX0_weights_2 := dk_seg dksX0_weights_1 24 rfl rfl
theorem dX0_weights_0 : decode cX0_weights 0 = .ok (.iload_n 1, 1) := dk_27 (dk_at dksX0_weights_0 0 rfl rfl)
theorem dX0_weights_1 : decode cX0_weights 1 = .ok (.invokestatic 92, 3) := dk_184 0 92 (dk_at dksX0_weights_0 1 rfl rfl)
theorem dX0_weights_4 : decode cX0_weights 4 = .ok (.ifCond .eq 17, 3) := dk_153 0 17 (dk_at dksX0_weights_0 4 rfl rfl)
theorem dX0_weights_7 : decode cX0_weights 7 = .ok (.iload_n 2, 1) := dk_28 (dk_at dksX0_weights_0 7 rfl rfl)
theorem dX0_weights_8 : decode cX0_weights 8 = .ok (.invokestatic 92, 3) := dk_184 0 92 (dk_at dksX0_weights_0 8 rfl rfl)
theorem dX0_weights_11 : decode cX0_weights 11 = .ok (.ifCond .eq 10, 3) := dk_153 0 10 (dk_at dksX0_weights_0 11 rfl rfl)
theorem dX0_weights_14 : decode cX0_weights 14 = .ok (.iload_n 3, 1) := dk_29 (dk_at dksX0_weights_0 14 rfl rfl)
theorem dX0_weights_15 : decode cX0_weights 15 = .ok (.invokestatic 92, 3) := dk_184 0 92 (dk_at dksX0_weights_0 15 rfl rfl)
theorem dX0_weights_18 : decode cX0_weights 18 = .ok (.ifCond .ne 5, 3) := dk_154 0 5 (dk_at dksX0_weights_0 18 rfl rfl)
theorem dX0_weights_21 : decode cX0_weights 21 = .ok (.iconst 0, 1) := dk_3 (dk_at dksX0_weights_0 21 rfl rfl)
theorem dX0_weights_22 : decode cX0_weights 22 = .ok (.ireturn, 1) := dk_172 (dk_at dksX0_weights_0 22 rfl rfl)
theorem dX0_weights_23 : decode cX0_weights 23 = .ok (.aload_n 0, 1) := dk_42 (dk_at dksX0_weights_0 23 rfl rfl)
theorem dX0_weights_24 : decode cX0_weights 24 = .ok (.getfield 10, 3) := dk_180 0 10 (dk_at dksX0_weights_1 0 rfl rfl)
theorem dX0_weights_27 : decode cX0_weights 27 = .ok (.iload_n 1, 1) := dk_27 (dk_at dksX0_weights_1 3 rfl rfl)
theorem dX0_weights_28 : decode cX0_weights 28 = .ok (.putfield 96, 3) := dk_181 0 96 (dk_at dksX0_weights_1 4 rfl rfl)
theorem dX0_weights_31 : decode cX0_weights 31 = .ok (.aload_n 0, 1) := dk_42 (dk_at dksX0_weights_1 7 rfl rfl)
theorem dX0_weights_32 : decode cX0_weights 32 = .ok (.getfield 10, 3) := dk_180 0 10 (dk_at dksX0_weights_1 8 rfl rfl)
theorem dX0_weights_35 : decode cX0_weights 35 = .ok (.iload_n 2, 1) := dk_28 (dk_at dksX0_weights_1 11 rfl rfl)
theorem dX0_weights_36 : decode cX0_weights 36 = .ok (.putfield 99, 3) := dk_181 0 99 (dk_at dksX0_weights_1 12 rfl rfl)
theorem dX0_weights_39 : decode cX0_weights 39 = .ok (.aload_n 0, 1) := dk_42 (dk_at dksX0_weights_1 15 rfl rfl)
theorem dX0_weights_40 : decode cX0_weights 40 = .ok (.getfield 10, 3) := dk_180 0 10 (dk_at dksX0_weights_1 16 rfl rfl)
theorem dX0_weights_43 : decode cX0_weights 43 = .ok (.iload_n 3, 1) := dk_29 (dk_at dksX0_weights_1 19 rfl rfl)
theorem dX0_weights_44 : decode cX0_weights 44 = .ok (.putfield 102, 3) := dk_181 0 102 (dk_at dksX0_weights_1 20 rfl rfl)
theorem dX0_weights_47 : decode cX0_weights 47 = .ok (.aload_n 0, 1) := dk_42 (dk_at dksX0_weights_1 23 rfl rfl)
theorem dX0_weights_48 : decode cX0_weights 48 = .ok (.invokevirtual 89, 3) := dk_182 0 89 (dk_at dksX0_weights_2 0 rfl rfl)
theorem dX0_weights_51 : decode cX0_weights 51 = .ok (.iconst 1, 1) := dk_4 (dk_at dksX0_weights_2 3 rfl rfl)
theorem dX0_weights_52 : decode cX0_weights 52 = .ok (.ireturn, 1) := dk_172 (dk_at dksX0_weights_2 4 rfl rfl)
abbrev cX0_digit : ByteArray := prog_1_method_5_code
def yX0_digit : MethodName := ⟨RX0, "digit", "(I)Z"⟩
def dkwX0_digit_0 : List UInt8 := [26, 155, 0, 13, 26, 16, 9, 163, 0, 7, 4, 167, 0, 4, 3, 172]
abbrev dktX0_digit_0 : List UInt8 := dkwX0_digit_0 ++ []
theorem dksX0_digit_0 : cX0_digit.data.toList.drop 0 = dktX0_digit_0 := by decide +kernel
theorem dX0_digit_0 : decode cX0_digit 0 = .ok (.iload_n 0, 1) := dk_26 (dk_at dksX0_digit_0 0 rfl rfl)
theorem dX0_digit_1 : decode cX0_digit 1 = .ok (.ifCond .lt 13, 3) := dk_155 0 13 (dk_at dksX0_digit_0 1 rfl rfl)
theorem dX0_digit_4 : decode cX0_digit 4 = .ok (.iload_n 0, 1) := dk_26 (dk_at dksX0_digit_0 4 rfl rfl)
theorem dX0_digit_5 : decode cX0_digit 5 = .ok (.bipush 9, 2) := dk_16 9 (dk_at dksX0_digit_0 5 rfl rfl)
theorem dX0_digit_7 : decode cX0_digit 7 = .ok (.if_icmp .gt 7, 3) := dk_163 0 7 (dk_at dksX0_digit_0 7 rfl rfl)
theorem dX0_digit_10 : decode cX0_digit 10 = .ok (.iconst 1, 1) := dk_4 (dk_at dksX0_digit_0 10 rfl rfl)
theorem dX0_digit_11 : decode cX0_digit 11 = .ok (.goto 4, 3) := dk_167 0 4 (dk_at dksX0_digit_0 11 rfl rfl)
theorem dX0_digit_14 : decode cX0_digit 14 = .ok (.iconst 0, 1) := dk_3 (dk_at dksX0_digit_0 14 rfl rfl)
theorem dX0_digit_15 : decode cX0_digit 15 = .ok (.ireturn, 1) := dk_172 (dk_at dksX0_digit_0 15 rfl rfl)
abbrev cX0_bound : ByteArray := prog_1_method_7_code
def yX0_bound : MethodName := ⟨RX0, "bound", "(I)Z"⟩
def dkwX0_bound_1 : List UInt8 := [172]
abbrev dktX0_bound_1 : List UInt8 := dkwX0_bound_1 ++ []
def dkwX0_bound_0 : List UInt8 := [27, 155, 0, 10, 27, 17, 3, 231, 164, 0, 5, 3, 172, 42, 27, 181, 0, 105, 42, 2, 181, 0, 23, 4]
abbrev dktX0_bound_0 : List UInt8 := dkwX0_bound_0 ++ dktX0_bound_1
theorem dksX0_bound_0 : cX0_bound.data.toList.drop 0 = dktX0_bound_0 := by decide +kernel
theorem dksX0_bound_1 : cX0_bound.data.toList.drop 24 = dktX0_bound_1 := dk_seg dksX0_bound_0 24 rfl rfl
theorem dX0_bound_0 : decode cX0_bound 0 = .ok (.iload_n 1, 1) := dk_27 (dk_at dksX0_bound_0 0 rfl rfl)
theorem dX0_bound_1 : decode cX0_bound 1 = .ok (.ifCond .lt 10, 3) := dk_155 0 10 (dk_at dksX0_bound_0 1 rfl rfl)
theorem dX0_bound_4 : decode cX0_bound 4 = .ok (.iload_n 1, 1) := dk_27 (dk_at dksX0_bound_0 4 rfl rfl)
theorem dX0_bound_5 : decode cX0_bound 5 = .ok (.sipush 999, 3) := dk_17 3 231 (dk_at dksX0_bound_0 5 rfl rfl)
theorem dX0_bound_8 : decode cX0_bound 8 = .ok (.if_icmp .le 5, 3) := dk_164 0 5 (dk_at dksX0_bound_0 8 rfl rfl)
theorem dX0_bound_11 : decode cX0_bound 11 = .ok (.iconst 0, 1) := dk_3 (dk_at dksX0_bound_0 11 rfl rfl)
theorem dX0_bound_12 : decode cX0_bound 12 = .ok (.ireturn, 1) := dk_172 (dk_at dksX0_bound_0 12 rfl rfl)
theorem dX0_bound_13 : decode cX0_bound 13 = .ok (.aload_n 0, 1) := dk_42 (dk_at dksX0_bound_0 13 rfl rfl)
theorem dX0_bound_14 : decode cX0_bound 14 = .ok (.iload_n 1, 1) := dk_27 (dk_at dksX0_bound_0 14 rfl rfl)
theorem dX0_bound_15 : decode cX0_bound 15 = .ok (.putfield 105, 3) := dk_181 0 105 (dk_at dksX0_bound_0 15 rfl rfl)
theorem dX0_bound_18 : decode cX0_bound 18 = .ok (.aload_n 0, 1) := dk_42 (dk_at dksX0_bound_0 18 rfl rfl)
theorem dX0_bound_19 : decode cX0_bound 19 = .ok (.iconst (-1), 1) := dk_2 (dk_at dksX0_bound_0 19 rfl rfl)
theorem dX0_bound_20 : decode cX0_bound 20 = .ok (.putfield 23, 3) := dk_181 0 23 (dk_at dksX0_bound_0 20 rfl rfl)
theorem dX0_bound_23 : decode cX0_bound 23 = .ok (.iconst 1, 1) := dk_4 (dk_at dksX0_bound_0 23 rfl rfl)
theorem dX0_bound_24 : decode cX0_bound 24 = .ok (.ireturn, 1) := dk_172 (dk_at dksX0_bound_1 0 rfl rfl)
abbrev cX0_write : ByteArray := prog_1_method_8_code
def yX0_write : MethodName := ⟨RX0, "write", "(C)Z"⟩
def dkwX0_write_2 : List UInt8 := [16, 97, 100, 79, 42, 182, 0, 89, 4, 172]
abbrev dktX0_write_2 : List UInt8 := dkwX0_write_2 ++ []
def dkwX0_write_1 : List UInt8 := [3, 172, 42, 180, 0, 10, 180, 0, 110, 42, 180, 0, 10, 89, 180, 0, 108, 90, 4, 96, 181, 0, 108, 27]
abbrev dktX0_write_1 : List UInt8 := dkwX0_write_1 ++ dktX0_write_2
def dkwX0_write_0 : List UInt8 := [27, 16, 97, 161, 0, 21, 27, 16, 122, 163, 0, 15, 42, 180, 0, 10, 180, 0, 108, 16, 24, 160, 0, 5]
abbrev dktX0_write_0 : List UInt8 := dkwX0_write_0 ++ dktX0_write_1
theorem dksX0_write_0 : cX0_write.data.toList.drop 0 = dktX0_write_0 := by decide +kernel
theorem dksX0_write_1 : cX0_write.data.toList.drop 24 = dktX0_write_1 := dk_seg dksX0_write_0 24 rfl rfl
theorem dksX0_write_2 : cX0_write.data.toList.drop 48 = dktX0_write_2 := dk_seg dksX0_write_1 24 rfl rfl
theorem dX0_write_0 : decode cX0_write 0 = .ok (.iload_n 1, 1) := dk_27 (dk_at dksX0_write_0 0 rfl rfl)
theorem dX0_write_1 : decode cX0_write 1 = .ok (.bipush 97, 2) := dk_16 97 (dk_at dksX0_write_0 1 rfl rfl)
theorem dX0_write_3 : decode cX0_write 3 = .ok (.if_icmp .lt 21, 3) := dk_161 0 21 (dk_at dksX0_write_0 3 rfl rfl)
theorem dX0_write_6 : decode cX0_write 6 = .ok (.iload_n 1, 1) := dk_27 (dk_at dksX0_write_0 6 rfl rfl)
theorem dX0_write_7 : decode cX0_write 7 = .ok (.bipush 122, 2) := dk_16 122 (dk_at dksX0_write_0 7 rfl rfl)
theorem dX0_write_9 : decode cX0_write 9 = .ok (.if_icmp .gt 15, 3) := dk_163 0 15 (dk_at dksX0_write_0 9 rfl rfl)
theorem dX0_write_12 : decode cX0_write 12 = .ok (.aload_n 0, 1) := dk_42 (dk_at dksX0_write_0 12 rfl rfl)
theorem dX0_write_13 : decode cX0_write 13 = .ok (.getfield 10, 3) := dk_180 0 10 (dk_at dksX0_write_0 13 rfl rfl)
theorem dX0_write_16 : decode cX0_write 16 = .ok (.getfield 108, 3) := dk_180 0 108 (dk_at dksX0_write_0 16 rfl rfl)
theorem dX0_write_19 : decode cX0_write 19 = .ok (.bipush 24, 2) := dk_16 24 (dk_at dksX0_write_0 19 rfl rfl)
theorem dX0_write_21 : decode cX0_write 21 = .ok (.if_icmp .ne 5, 3) := dk_160 0 5 (dk_at dksX0_write_0 21 rfl rfl)
theorem dX0_write_24 : decode cX0_write 24 = .ok (.iconst 0, 1) := dk_3 (dk_at dksX0_write_1 0 rfl rfl)
theorem dX0_write_25 : decode cX0_write 25 = .ok (.ireturn, 1) := dk_172 (dk_at dksX0_write_1 1 rfl rfl)
theorem dX0_write_26 : decode cX0_write 26 = .ok (.aload_n 0, 1) := dk_42 (dk_at dksX0_write_1 2 rfl rfl)
theorem dX0_write_27 : decode cX0_write 27 = .ok (.getfield 10, 3) := dk_180 0 10 (dk_at dksX0_write_1 3 rfl rfl)
theorem dX0_write_30 : decode cX0_write 30 = .ok (.getfield 110, 3) := dk_180 0 110 (dk_at dksX0_write_1 6 rfl rfl)
theorem dX0_write_33 : decode cX0_write 33 = .ok (.aload_n 0, 1) := dk_42 (dk_at dksX0_write_1 9 rfl rfl)
theorem dX0_write_34 : decode cX0_write 34 = .ok (.getfield 10, 3) := dk_180 0 10 (dk_at dksX0_write_1 10 rfl rfl)
theorem dX0_write_37 : decode cX0_write 37 = .ok (.dup, 1) := dk_89 (dk_at dksX0_write_1 13 rfl rfl)
theorem dX0_write_38 : decode cX0_write 38 = .ok (.getfield 108, 3) := dk_180 0 108 (dk_at dksX0_write_1 14 rfl rfl)
theorem dX0_write_41 : decode cX0_write 41 = .ok (.dup_x1, 1) := dk_90 (dk_at dksX0_write_1 17 rfl rfl)
theorem dX0_write_42 : decode cX0_write 42 = .ok (.iconst 1, 1) := dk_4 (dk_at dksX0_write_1 18 rfl rfl)
theorem dX0_write_43 : decode cX0_write 43 = .ok (.iadd, 1) := dk_96 (dk_at dksX0_write_1 19 rfl rfl)
theorem dX0_write_44 : decode cX0_write 44 = .ok (.putfield 108, 3) := dk_181 0 108 (dk_at dksX0_write_1 20 rfl rfl)
theorem dX0_write_47 : decode cX0_write 47 = .ok (.iload_n 1, 1) := dk_27 (dk_at dksX0_write_1 23 rfl rfl)
theorem dX0_write_48 : decode cX0_write 48 = .ok (.bipush 97, 2) := dk_16 97 (dk_at dksX0_write_2 0 rfl rfl)
theorem dX0_write_50 : decode cX0_write 50 = .ok (.isub, 1) := dk_100 (dk_at dksX0_write_2 2 rfl rfl)
theorem dX0_write_51 : decode cX0_write 51 = .ok (.iastore, 1) := dk_79 (dk_at dksX0_write_2 3 rfl rfl)
theorem dX0_write_52 : decode cX0_write 52 = .ok (.aload_n 0, 1) := dk_42 (dk_at dksX0_write_2 4 rfl rfl)
theorem dX0_write_53 : decode cX0_write 53 = .ok (.invokevirtual 89, 3) := dk_182 0 89 (dk_at dksX0_write_2 5 rfl rfl)
theorem dX0_write_56 : decode cX0_write 56 = .ok (.iconst 1, 1) := dk_4 (dk_at dksX0_write_2 8 rfl rfl)
theorem dX0_write_57 : decode cX0_write 57 = .ok (.ireturn, 1) := dk_172 (dk_at dksX0_write_2 9 rfl rfl)
abbrev cX0_erase : ByteArray := prog_1_method_9_code
def yX0_erase : MethodName := ⟨RX0, "erase", "()V"⟩
def dkwX0_erase_0 : List UInt8 := [42, 180, 0, 10, 3, 181, 0, 108, 42, 182, 0, 89, 177]
abbrev dktX0_erase_0 : List UInt8 := dkwX0_erase_0 ++ []
theorem dksX0_erase_0 : cX0_erase.data.toList.drop 0 = dktX0_erase_0 := by decide +kernel
theorem dX0_erase_0 : decode cX0_erase 0 = .ok (.aload_n 0, 1) := dk_42 (dk_at dksX0_erase_0 0 rfl rfl)
theorem dX0_erase_1 : decode cX0_erase 1 = .ok (.getfield 10, 3) := dk_180 0 10 (dk_at dksX0_erase_0 1 rfl rfl)
theorem dX0_erase_4 : decode cX0_erase 4 = .ok (.iconst 0, 1) := dk_3 (dk_at dksX0_erase_0 4 rfl rfl)
theorem dX0_erase_5 : decode cX0_erase 5 = .ok (.putfield 108, 3) := dk_181 0 108 (dk_at dksX0_erase_0 5 rfl rfl)
theorem dX0_erase_8 : decode cX0_erase 8 = .ok (.aload_n 0, 1) := dk_42 (dk_at dksX0_erase_0 8 rfl rfl)
theorem dX0_erase_9 : decode cX0_erase 9 = .ok (.invokevirtual 89, 3) := dk_182 0 89 (dk_at dksX0_erase_0 9 rfl rfl)
theorem dX0_erase_12 : decode cX0_erase 12 = .ok (.return_, 1) := dk_177 (dk_at dksX0_erase_0 12 rfl rfl)
abbrev cX0_cost : ByteArray := prog_1_method_12_code
def yX0_cost : MethodName := ⟨RX0, "cost", "(II)I"⟩
def dkwX0_cost_1 : List UInt8 := [164, 0, 5, 2, 172, 42, 27, 28, 182, 0, 125, 62, 29, 18, 129, 162, 0, 7, 29, 167, 0, 4, 2, 172]
abbrev dktX0_cost_1 : List UInt8 := dkwX0_cost_1 ++ []
def dkwX0_cost_0 : List UInt8 := [42, 180, 0, 82, 198, 0, 23, 27, 155, 0, 19, 27, 28, 163, 0, 14, 28, 42, 180, 0, 10, 180, 0, 108]
abbrev dktX0_cost_0 : List UInt8 := dkwX0_cost_0 ++ dktX0_cost_1
theorem dksX0_cost_0 : cX0_cost.data.toList.drop 0 = dktX0_cost_0 := by decide +kernel
theorem dksX0_cost_1 : cX0_cost.data.toList.drop 24 = dktX0_cost_1 := dk_seg dksX0_cost_0 24 rfl rfl
theorem dX0_cost_0 : decode cX0_cost 0 = .ok (.aload_n 0, 1) := dk_42 (dk_at dksX0_cost_0 0 rfl rfl)
theorem dX0_cost_1 : decode cX0_cost 1 = .ok (.getfield 82, 3) := dk_180 0 82 (dk_at dksX0_cost_0 1 rfl rfl)
theorem dX0_cost_4 : decode cX0_cost 4 = .ok (.ifnull 23, 3) := dk_198 0 23 (dk_at dksX0_cost_0 4 rfl rfl)
theorem dX0_cost_7 : decode cX0_cost 7 = .ok (.iload_n 1, 1) := dk_27 (dk_at dksX0_cost_0 7 rfl rfl)
theorem dX0_cost_8 : decode cX0_cost 8 = .ok (.ifCond .lt 19, 3) := dk_155 0 19 (dk_at dksX0_cost_0 8 rfl rfl)
theorem dX0_cost_11 : decode cX0_cost 11 = .ok (.iload_n 1, 1) := dk_27 (dk_at dksX0_cost_0 11 rfl rfl)
theorem dX0_cost_12 : decode cX0_cost 12 = .ok (.iload_n 2, 1) := dk_28 (dk_at dksX0_cost_0 12 rfl rfl)
theorem dX0_cost_13 : decode cX0_cost 13 = .ok (.if_icmp .gt 14, 3) := dk_163 0 14 (dk_at dksX0_cost_0 13 rfl rfl)
theorem dX0_cost_16 : decode cX0_cost 16 = .ok (.iload_n 2, 1) := dk_28 (dk_at dksX0_cost_0 16 rfl rfl)
theorem dX0_cost_17 : decode cX0_cost 17 = .ok (.aload_n 0, 1) := dk_42 (dk_at dksX0_cost_0 17 rfl rfl)
theorem dX0_cost_18 : decode cX0_cost 18 = .ok (.getfield 10, 3) := dk_180 0 10 (dk_at dksX0_cost_0 18 rfl rfl)
theorem dX0_cost_21 : decode cX0_cost 21 = .ok (.getfield 108, 3) := dk_180 0 108 (dk_at dksX0_cost_0 21 rfl rfl)
theorem dX0_cost_24 : decode cX0_cost 24 = .ok (.if_icmp .le 5, 3) := dk_164 0 5 (dk_at dksX0_cost_1 0 rfl rfl)
theorem dX0_cost_27 : decode cX0_cost 27 = .ok (.iconst (-1), 1) := dk_2 (dk_at dksX0_cost_1 3 rfl rfl)
theorem dX0_cost_28 : decode cX0_cost 28 = .ok (.ireturn, 1) := dk_172 (dk_at dksX0_cost_1 4 rfl rfl)
theorem dX0_cost_29 : decode cX0_cost 29 = .ok (.aload_n 0, 1) := dk_42 (dk_at dksX0_cost_1 5 rfl rfl)
theorem dX0_cost_30 : decode cX0_cost 30 = .ok (.iload_n 1, 1) := dk_27 (dk_at dksX0_cost_1 6 rfl rfl)
theorem dX0_cost_31 : decode cX0_cost 31 = .ok (.iload_n 2, 1) := dk_28 (dk_at dksX0_cost_1 7 rfl rfl)
theorem dX0_cost_32 : decode cX0_cost 32 = .ok (.invokevirtual 125, 3) := dk_182 0 125 (dk_at dksX0_cost_1 8 rfl rfl)
theorem dX0_cost_35 : decode cX0_cost 35 = .ok (.istore_n 3, 1) := dk_62 (dk_at dksX0_cost_1 11 rfl rfl)
theorem dX0_cost_36 : decode cX0_cost 36 = .ok (.iload_n 3, 1) := dk_29 (dk_at dksX0_cost_1 12 rfl rfl)
theorem dX0_cost_37 : decode cX0_cost 37 = .ok (.ldc 129, 2) := dk_18 129 (dk_at dksX0_cost_1 13 rfl rfl)
theorem dX0_cost_39 : decode cX0_cost 39 = .ok (.if_icmp .ge 7, 3) := dk_162 0 7 (dk_at dksX0_cost_1 15 rfl rfl)
theorem dX0_cost_42 : decode cX0_cost 42 = .ok (.iload_n 3, 1) := dk_29 (dk_at dksX0_cost_1 18 rfl rfl)
theorem dX0_cost_43 : decode cX0_cost 43 = .ok (.goto 4, 3) := dk_167 0 4 (dk_at dksX0_cost_1 19 rfl rfl)
theorem dX0_cost_46 : decode cX0_cost 46 = .ok (.iconst (-1), 1) := dk_2 (dk_at dksX0_cost_1 22 rfl rfl)
theorem dX0_cost_47 : decode cX0_cost 47 = .ok (.ireturn, 1) := dk_172 (dk_at dksX0_cost_1 23 rfl rfl)
abbrev cX0_costOf : ByteArray := prog_1_method_11_code
def yX0_costOf : MethodName := ⟨RX0, "costOf", "(II)I"⟩
def dkwX0_costOf_1 : List UInt8 := [181, 0, 112, 42, 180, 0, 10, 180, 0, 122, 3, 50, 16, 25, 27, 104, 28, 96, 46, 172]
abbrev dktX0_costOf_1 : List UInt8 := dkwX0_costOf_1 ++ []
def dkwX0_costOf_0 : List UInt8 := [42, 180, 0, 112, 154, 0, 22, 42, 180, 0, 82, 42, 180, 0, 10, 3, 185, 0, 116, 3, 0, 42, 4]
abbrev dktX0_costOf_0 : List UInt8 := dkwX0_costOf_0 ++ dktX0_costOf_1
theorem dksX0_costOf_0 : cX0_costOf.data.toList.drop 0 = dktX0_costOf_0 := by decide +kernel
theorem dksX0_costOf_1 : cX0_costOf.data.toList.drop 23 = dktX0_costOf_1 := dk_seg dksX0_costOf_0 23 rfl rfl
theorem dX0_costOf_0 : decode cX0_costOf 0 = .ok (.aload_n 0, 1) := dk_42 (dk_at dksX0_costOf_0 0 rfl rfl)
theorem dX0_costOf_1 : decode cX0_costOf 1 = .ok (.getfield 112, 3) := dk_180 0 112 (dk_at dksX0_costOf_0 1 rfl rfl)
theorem dX0_costOf_4 : decode cX0_costOf 4 = .ok (.ifCond .ne 22, 3) := dk_154 0 22 (dk_at dksX0_costOf_0 4 rfl rfl)
theorem dX0_costOf_7 : decode cX0_costOf 7 = .ok (.aload_n 0, 1) := dk_42 (dk_at dksX0_costOf_0 7 rfl rfl)
theorem dX0_costOf_8 : decode cX0_costOf 8 = .ok (.getfield 82, 3) := dk_180 0 82 (dk_at dksX0_costOf_0 8 rfl rfl)
theorem dX0_costOf_11 : decode cX0_costOf 11 = .ok (.aload_n 0, 1) := dk_42 (dk_at dksX0_costOf_0 11 rfl rfl)
theorem dX0_costOf_12 : decode cX0_costOf 12 = .ok (.getfield 10, 3) := dk_180 0 10 (dk_at dksX0_costOf_0 12 rfl rfl)
theorem dX0_costOf_15 : decode cX0_costOf 15 = .ok (.iconst 0, 1) := dk_3 (dk_at dksX0_costOf_0 15 rfl rfl)
theorem dX0_costOf_16 : decode cX0_costOf 16 = .ok (.invokeinterface 116 3, 5) := by decide +kernel
theorem dX0_costOf_21 : decode cX0_costOf 21 = .ok (.aload_n 0, 1) := dk_42 (dk_at dksX0_costOf_0 21 rfl rfl)
theorem dX0_costOf_22 : decode cX0_costOf 22 = .ok (.iconst 1, 1) := dk_4 (dk_at dksX0_costOf_0 22 rfl rfl)
theorem dX0_costOf_23 : decode cX0_costOf 23 = .ok (.putfield 112, 3) := dk_181 0 112 (dk_at dksX0_costOf_1 0 rfl rfl)
theorem dX0_costOf_26 : decode cX0_costOf 26 = .ok (.aload_n 0, 1) := dk_42 (dk_at dksX0_costOf_1 3 rfl rfl)
theorem dX0_costOf_27 : decode cX0_costOf 27 = .ok (.getfield 10, 3) := dk_180 0 10 (dk_at dksX0_costOf_1 4 rfl rfl)
theorem dX0_costOf_30 : decode cX0_costOf 30 = .ok (.getfield 122, 3) := dk_180 0 122 (dk_at dksX0_costOf_1 7 rfl rfl)
theorem dX0_costOf_33 : decode cX0_costOf 33 = .ok (.iconst 0, 1) := dk_3 (dk_at dksX0_costOf_1 10 rfl rfl)
theorem dX0_costOf_34 : decode cX0_costOf 34 = .ok (.aaload, 1) := dk_50 (dk_at dksX0_costOf_1 11 rfl rfl)
theorem dX0_costOf_35 : decode cX0_costOf 35 = .ok (.bipush 25, 2) := dk_16 25 (dk_at dksX0_costOf_1 12 rfl rfl)
theorem dX0_costOf_37 : decode cX0_costOf 37 = .ok (.iload_n 1, 1) := dk_27 (dk_at dksX0_costOf_1 14 rfl rfl)
theorem dX0_costOf_38 : decode cX0_costOf 38 = .ok (.imul, 1) := dk_104 (dk_at dksX0_costOf_1 15 rfl rfl)
theorem dX0_costOf_39 : decode cX0_costOf 39 = .ok (.iload_n 2, 1) := dk_28 (dk_at dksX0_costOf_1 16 rfl rfl)
theorem dX0_costOf_40 : decode cX0_costOf 40 = .ok (.iadd, 1) := dk_96 (dk_at dksX0_costOf_1 17 rfl rfl)
theorem dX0_costOf_41 : decode cX0_costOf 41 = .ok (.iaload, 1) := dk_46 (dk_at dksX0_costOf_1 18 rfl rfl)
theorem dX0_costOf_42 : decode cX0_costOf 42 = .ok (.ireturn, 1) := dk_172 (dk_at dksX0_costOf_1 19 rfl rfl)
abbrev cX0_find : ByteArray := prog_1_method_13_code
def yX0_find : MethodName := ⟨RX0, "find", "(Z)I"⟩
def dkwX0_find_4 : List UInt8 := [181, 0, 133, 132, 4, 255, 167, 255, 213, 132, 3, 1, 167, 255, 169, 42, 180, 0, 23, 172]
abbrev dktX0_find_4 : List UInt8 := dkwX0_find_4 ++ []
def dkwX0_find_3 : List UInt8 := [21, 5, 28, 162, 0, 22, 21, 5, 61, 42, 28, 181, 0, 23, 42, 29, 181, 0, 130, 42, 21, 4]
abbrev dktX0_find_3 : List UInt8 := dkwX0_find_3 ++ dktX0_find_4
def dkwX0_find_2 : List UInt8 := [180, 0, 10, 180, 0, 108, 54, 4, 21, 4, 29, 161, 0, 43, 42, 29, 21, 4, 182, 0, 125, 54, 5]
abbrev dktX0_find_2 : List UInt8 := dkwX0_find_2 ++ dktX0_find_3
def dkwX0_find_1 : List UInt8 := [163, 0, 82, 42, 180, 0, 82, 198, 0, 75, 27, 154, 0, 10, 42, 180, 0, 23, 156, 0, 64, 42]
abbrev dktX0_find_1 : List UInt8 := dkwX0_find_1 ++ dktX0_find_2
def dkwX0_find_0 : List UInt8 := [42, 2, 181, 0, 23, 42, 180, 0, 105, 4, 96, 61, 3, 62, 29, 42, 180, 0, 10, 180, 0, 108]
abbrev dktX0_find_0 : List UInt8 := dkwX0_find_0 ++ dktX0_find_1
theorem dksX0_find_0 : cX0_find.data.toList.drop 0 = dktX0_find_0 := by decide +kernel
theorem dksX0_find_1 : cX0_find.data.toList.drop 22 = dktX0_find_1 := dk_seg dksX0_find_0 22 rfl rfl
theorem dksX0_find_2 : cX0_find.data.toList.drop 44 = dktX0_find_2 := dk_seg dksX0_find_1 22 rfl rfl
theorem dksX0_find_3 : cX0_find.data.toList.drop 67 = dktX0_find_3 := dk_seg dksX0_find_2 23 rfl rfl
theorem dksX0_find_4 : cX0_find.data.toList.drop 89 = dktX0_find_4 := dk_seg dksX0_find_3 22 rfl rfl
theorem dX0_find_0 : decode cX0_find 0 = .ok (.aload_n 0, 1) := dk_42 (dk_at dksX0_find_0 0 rfl rfl)
theorem dX0_find_1 : decode cX0_find 1 = .ok (.iconst (-1), 1) := dk_2 (dk_at dksX0_find_0 1 rfl rfl)
theorem dX0_find_2 : decode cX0_find 2 = .ok (.putfield 23, 3) := dk_181 0 23 (dk_at dksX0_find_0 2 rfl rfl)
theorem dX0_find_5 : decode cX0_find 5 = .ok (.aload_n 0, 1) := dk_42 (dk_at dksX0_find_0 5 rfl rfl)
theorem dX0_find_6 : decode cX0_find 6 = .ok (.getfield 105, 3) := dk_180 0 105 (dk_at dksX0_find_0 6 rfl rfl)
theorem dX0_find_9 : decode cX0_find 9 = .ok (.iconst 1, 1) := dk_4 (dk_at dksX0_find_0 9 rfl rfl)
theorem dX0_find_10 : decode cX0_find 10 = .ok (.iadd, 1) := dk_96 (dk_at dksX0_find_0 10 rfl rfl)
theorem dX0_find_11 : decode cX0_find 11 = .ok (.istore_n 2, 1) := dk_61 (dk_at dksX0_find_0 11 rfl rfl)
theorem dX0_find_12 : decode cX0_find 12 = .ok (.iconst 0, 1) := dk_3 (dk_at dksX0_find_0 12 rfl rfl)
theorem dX0_find_13 : decode cX0_find 13 = .ok (.istore_n 3, 1) := dk_62 (dk_at dksX0_find_0 13 rfl rfl)
theorem dX0_find_14 : decode cX0_find 14 = .ok (.iload_n 3, 1) := dk_29 (dk_at dksX0_find_0 14 rfl rfl)
theorem dX0_find_15 : decode cX0_find 15 = .ok (.aload_n 0, 1) := dk_42 (dk_at dksX0_find_0 15 rfl rfl)
theorem dX0_find_16 : decode cX0_find 16 = .ok (.getfield 10, 3) := dk_180 0 10 (dk_at dksX0_find_0 16 rfl rfl)
theorem dX0_find_19 : decode cX0_find 19 = .ok (.getfield 108, 3) := dk_180 0 108 (dk_at dksX0_find_0 19 rfl rfl)
theorem dX0_find_22 : decode cX0_find 22 = .ok (.if_icmp .gt 82, 3) := dk_163 0 82 (dk_at dksX0_find_1 0 rfl rfl)
theorem dX0_find_25 : decode cX0_find 25 = .ok (.aload_n 0, 1) := dk_42 (dk_at dksX0_find_1 3 rfl rfl)
theorem dX0_find_26 : decode cX0_find 26 = .ok (.getfield 82, 3) := dk_180 0 82 (dk_at dksX0_find_1 4 rfl rfl)
theorem dX0_find_29 : decode cX0_find 29 = .ok (.ifnull 75, 3) := dk_198 0 75 (dk_at dksX0_find_1 7 rfl rfl)
theorem dX0_find_32 : decode cX0_find 32 = .ok (.iload_n 1, 1) := dk_27 (dk_at dksX0_find_1 10 rfl rfl)
theorem dX0_find_33 : decode cX0_find 33 = .ok (.ifCond .ne 10, 3) := dk_154 0 10 (dk_at dksX0_find_1 11 rfl rfl)
theorem dX0_find_36 : decode cX0_find 36 = .ok (.aload_n 0, 1) := dk_42 (dk_at dksX0_find_1 14 rfl rfl)
theorem dX0_find_37 : decode cX0_find 37 = .ok (.getfield 23, 3) := dk_180 0 23 (dk_at dksX0_find_1 15 rfl rfl)
theorem dX0_find_40 : decode cX0_find 40 = .ok (.ifCond .ge 64, 3) := dk_156 0 64 (dk_at dksX0_find_1 18 rfl rfl)
theorem dX0_find_43 : decode cX0_find 43 = .ok (.aload_n 0, 1) := dk_42 (dk_at dksX0_find_1 21 rfl rfl)
theorem dX0_find_44 : decode cX0_find 44 = .ok (.getfield 10, 3) := dk_180 0 10 (dk_at dksX0_find_2 0 rfl rfl)
theorem dX0_find_47 : decode cX0_find 47 = .ok (.getfield 108, 3) := dk_180 0 108 (dk_at dksX0_find_2 3 rfl rfl)
theorem dX0_find_50 : decode cX0_find 50 = .ok (.istore 4, 2) := dk_54 4 (dk_at dksX0_find_2 6 rfl rfl)
theorem dX0_find_52 : decode cX0_find 52 = .ok (.iload 4, 2) := dk_21 4 (dk_at dksX0_find_2 8 rfl rfl)
theorem dX0_find_54 : decode cX0_find 54 = .ok (.iload_n 3, 1) := dk_29 (dk_at dksX0_find_2 10 rfl rfl)
theorem dX0_find_55 : decode cX0_find 55 = .ok (.if_icmp .lt 43, 3) := dk_161 0 43 (dk_at dksX0_find_2 11 rfl rfl)
theorem dX0_find_58 : decode cX0_find 58 = .ok (.aload_n 0, 1) := dk_42 (dk_at dksX0_find_2 14 rfl rfl)
theorem dX0_find_59 : decode cX0_find 59 = .ok (.iload_n 3, 1) := dk_29 (dk_at dksX0_find_2 15 rfl rfl)
theorem dX0_find_60 : decode cX0_find 60 = .ok (.iload 4, 2) := dk_21 4 (dk_at dksX0_find_2 16 rfl rfl)
theorem dX0_find_62 : decode cX0_find 62 = .ok (.invokevirtual 125, 3) := dk_182 0 125 (dk_at dksX0_find_2 18 rfl rfl)
theorem dX0_find_65 : decode cX0_find 65 = .ok (.istore 5, 2) := dk_54 5 (dk_at dksX0_find_2 21 rfl rfl)
theorem dX0_find_67 : decode cX0_find 67 = .ok (.iload 5, 2) := dk_21 5 (dk_at dksX0_find_3 0 rfl rfl)
theorem dX0_find_69 : decode cX0_find 69 = .ok (.iload_n 2, 1) := dk_28 (dk_at dksX0_find_3 2 rfl rfl)
theorem dX0_find_70 : decode cX0_find 70 = .ok (.if_icmp .ge 22, 3) := dk_162 0 22 (dk_at dksX0_find_3 3 rfl rfl)
theorem dX0_find_73 : decode cX0_find 73 = .ok (.iload 5, 2) := dk_21 5 (dk_at dksX0_find_3 6 rfl rfl)
theorem dX0_find_75 : decode cX0_find 75 = .ok (.istore_n 2, 1) := dk_61 (dk_at dksX0_find_3 8 rfl rfl)
theorem dX0_find_76 : decode cX0_find 76 = .ok (.aload_n 0, 1) := dk_42 (dk_at dksX0_find_3 9 rfl rfl)
theorem dX0_find_77 : decode cX0_find 77 = .ok (.iload_n 2, 1) := dk_28 (dk_at dksX0_find_3 10 rfl rfl)
theorem dX0_find_78 : decode cX0_find 78 = .ok (.putfield 23, 3) := dk_181 0 23 (dk_at dksX0_find_3 11 rfl rfl)
theorem dX0_find_81 : decode cX0_find 81 = .ok (.aload_n 0, 1) := dk_42 (dk_at dksX0_find_3 14 rfl rfl)
theorem dX0_find_82 : decode cX0_find 82 = .ok (.iload_n 3, 1) := dk_29 (dk_at dksX0_find_3 15 rfl rfl)
theorem dX0_find_83 : decode cX0_find 83 = .ok (.putfield 130, 3) := dk_181 0 130 (dk_at dksX0_find_3 16 rfl rfl)
theorem dX0_find_86 : decode cX0_find 86 = .ok (.aload_n 0, 1) := dk_42 (dk_at dksX0_find_3 19 rfl rfl)
theorem dX0_find_87 : decode cX0_find 87 = .ok (.iload 4, 2) := dk_21 4 (dk_at dksX0_find_3 20 rfl rfl)
theorem dX0_find_89 : decode cX0_find 89 = .ok (.putfield 133, 3) := dk_181 0 133 (dk_at dksX0_find_4 0 rfl rfl)
theorem dX0_find_92 : decode cX0_find 92 = .ok (.iinc 4 (-1), 3) := dk_132 4 255 (dk_at dksX0_find_4 3 rfl rfl)
theorem dX0_find_95 : decode cX0_find 95 = .ok (.goto (-43), 3) := dk_167 255 213 (dk_at dksX0_find_4 6 rfl rfl)
theorem dX0_find_98 : decode cX0_find 98 = .ok (.iinc 3 1, 3) := dk_132 3 1 (dk_at dksX0_find_4 9 rfl rfl)
theorem dX0_find_101 : decode cX0_find 101 = .ok (.goto (-87), 3) := dk_167 255 169 (dk_at dksX0_find_4 12 rfl rfl)
theorem dX0_find_104 : decode cX0_find 104 = .ok (.aload_n 0, 1) := dk_42 (dk_at dksX0_find_4 15 rfl rfl)
theorem dX0_find_105 : decode cX0_find 105 = .ok (.getfield 23, 3) := dk_180 0 23 (dk_at dksX0_find_4 16 rfl rfl)
theorem dX0_find_108 : decode cX0_find 108 = .ok (.ireturn, 1) := dk_172 (dk_at dksX0_find_4 19 rfl rfl)
abbrev cX0_from : ByteArray := prog_1_method_14_code
def yX0_from : MethodName := ⟨RX0, "from", "()I"⟩
def dkwX0_from_0 : List UInt8 := [42, 180, 0, 23, 156, 0, 7, 2, 167, 0, 7, 42, 180, 0, 130, 172]
abbrev dktX0_from_0 : List UInt8 := dkwX0_from_0 ++ []
theorem dksX0_from_0 : cX0_from.data.toList.drop 0 = dktX0_from_0 := by decide +kernel
theorem dX0_from_0 : decode cX0_from 0 = .ok (.aload_n 0, 1) := dk_42 (dk_at dksX0_from_0 0 rfl rfl)
theorem dX0_from_1 : decode cX0_from 1 = .ok (.getfield 23, 3) := dk_180 0 23 (dk_at dksX0_from_0 1 rfl rfl)
theorem dX0_from_4 : decode cX0_from 4 = .ok (.ifCond .ge 7, 3) := dk_156 0 7 (dk_at dksX0_from_0 4 rfl rfl)
theorem dX0_from_7 : decode cX0_from 7 = .ok (.iconst (-1), 1) := dk_2 (dk_at dksX0_from_0 7 rfl rfl)
theorem dX0_from_8 : decode cX0_from 8 = .ok (.goto 7, 3) := dk_167 0 7 (dk_at dksX0_from_0 8 rfl rfl)
theorem dX0_from_11 : decode cX0_from 11 = .ok (.aload_n 0, 1) := dk_42 (dk_at dksX0_from_0 11 rfl rfl)
theorem dX0_from_12 : decode cX0_from 12 = .ok (.getfield 130, 3) := dk_180 0 130 (dk_at dksX0_from_0 12 rfl rfl)
theorem dX0_from_15 : decode cX0_from 15 = .ok (.ireturn, 1) := dk_172 (dk_at dksX0_from_0 15 rfl rfl)
abbrev cX0_to : ByteArray := prog_1_method_15_code
def yX0_to : MethodName := ⟨RX0, "to", "()I"⟩
def dkwX0_to_0 : List UInt8 := [42, 180, 0, 23, 156, 0, 7, 2, 167, 0, 7, 42, 180, 0, 133, 172]
abbrev dktX0_to_0 : List UInt8 := dkwX0_to_0 ++ []
theorem dksX0_to_0 : cX0_to.data.toList.drop 0 = dktX0_to_0 := by decide +kernel
theorem dX0_to_0 : decode cX0_to 0 = .ok (.aload_n 0, 1) := dk_42 (dk_at dksX0_to_0 0 rfl rfl)
theorem dX0_to_1 : decode cX0_to 1 = .ok (.getfield 23, 3) := dk_180 0 23 (dk_at dksX0_to_0 1 rfl rfl)
theorem dX0_to_4 : decode cX0_to 4 = .ok (.ifCond .ge 7, 3) := dk_156 0 7 (dk_at dksX0_to_0 4 rfl rfl)
theorem dX0_to_7 : decode cX0_to 7 = .ok (.iconst (-1), 1) := dk_2 (dk_at dksX0_to_0 7 rfl rfl)
theorem dX0_to_8 : decode cX0_to 8 = .ok (.goto 7, 3) := dk_167 0 7 (dk_at dksX0_to_0 8 rfl rfl)
theorem dX0_to_11 : decode cX0_to 11 = .ok (.aload_n 0, 1) := dk_42 (dk_at dksX0_to_0 11 rfl rfl)
theorem dX0_to_12 : decode cX0_to 12 = .ok (.getfield 133, 3) := dk_180 0 133 (dk_at dksX0_to_0 12 rfl rfl)
theorem dX0_to_15 : decode cX0_to 15 = .ok (.ireturn, 1) := dk_172 (dk_at dksX0_to_0 15 rfl rfl)
abbrev cX0_ends : ByteArray := prog_1_method_16_code
def yX0_ends : MethodName := ⟨RX0, "ends", "()I"⟩
def dkwX0_ends_2 : List UInt8 := [167, 0, 4, 3, 128, 60, 132, 3, 1, 167, 255, 225, 132, 2, 1, 167, 255, 206, 27, 172]
abbrev dktX0_ends_2 : List UInt8 := dkwX0_ends_2 ++ []
def dkwX0_ends_1 : List UInt8 := [3, 62, 29, 28, 163, 0, 32, 27, 42, 29, 28, 182, 0, 125, 42, 180, 0, 105, 163, 0, 9, 4, 28, 120]
abbrev dktX0_ends_1 : List UInt8 := dkwX0_ends_1 ++ dktX0_ends_2
def dkwX0_ends_0 : List UInt8 := [42, 180, 0, 82, 199, 0, 5, 3, 172, 3, 60, 3, 61, 28, 42, 180, 0, 10, 180, 0, 108, 163, 0, 45]
abbrev dktX0_ends_0 : List UInt8 := dkwX0_ends_0 ++ dktX0_ends_1
theorem dksX0_ends_0 : cX0_ends.data.toList.drop 0 = dktX0_ends_0 := by decide +kernel
theorem dksX0_ends_1 : cX0_ends.data.toList.drop 24 = dktX0_ends_1 := dk_seg dksX0_ends_0 24 rfl rfl
theorem dksX0_ends_2 : cX0_ends.data.toList.drop 48 = dktX0_ends_2 := dk_seg dksX0_ends_1 24 rfl rfl
theorem dX0_ends_0 : decode cX0_ends 0 = .ok (.aload_n 0, 1) := dk_42 (dk_at dksX0_ends_0 0 rfl rfl)
theorem dX0_ends_1 : decode cX0_ends 1 = .ok (.getfield 82, 3) := dk_180 0 82 (dk_at dksX0_ends_0 1 rfl rfl)
theorem dX0_ends_4 : decode cX0_ends 4 = .ok (.ifnonnull 5, 3) := dk_199 0 5 (dk_at dksX0_ends_0 4 rfl rfl)
theorem dX0_ends_7 : decode cX0_ends 7 = .ok (.iconst 0, 1) := dk_3 (dk_at dksX0_ends_0 7 rfl rfl)
theorem dX0_ends_8 : decode cX0_ends 8 = .ok (.ireturn, 1) := dk_172 (dk_at dksX0_ends_0 8 rfl rfl)
theorem dX0_ends_9 : decode cX0_ends 9 = .ok (.iconst 0, 1) := dk_3 (dk_at dksX0_ends_0 9 rfl rfl)
theorem dX0_ends_10 : decode cX0_ends 10 = .ok (.istore_n 1, 1) := dk_60 (dk_at dksX0_ends_0 10 rfl rfl)
theorem dX0_ends_11 : decode cX0_ends 11 = .ok (.iconst 0, 1) := dk_3 (dk_at dksX0_ends_0 11 rfl rfl)
theorem dX0_ends_12 : decode cX0_ends 12 = .ok (.istore_n 2, 1) := dk_61 (dk_at dksX0_ends_0 12 rfl rfl)
theorem dX0_ends_13 : decode cX0_ends 13 = .ok (.iload_n 2, 1) := dk_28 (dk_at dksX0_ends_0 13 rfl rfl)
theorem dX0_ends_14 : decode cX0_ends 14 = .ok (.aload_n 0, 1) := dk_42 (dk_at dksX0_ends_0 14 rfl rfl)
theorem dX0_ends_15 : decode cX0_ends 15 = .ok (.getfield 10, 3) := dk_180 0 10 (dk_at dksX0_ends_0 15 rfl rfl)
theorem dX0_ends_18 : decode cX0_ends 18 = .ok (.getfield 108, 3) := dk_180 0 108 (dk_at dksX0_ends_0 18 rfl rfl)
theorem dX0_ends_21 : decode cX0_ends 21 = .ok (.if_icmp .gt 45, 3) := dk_163 0 45 (dk_at dksX0_ends_0 21 rfl rfl)
theorem dX0_ends_24 : decode cX0_ends 24 = .ok (.iconst 0, 1) := dk_3 (dk_at dksX0_ends_1 0 rfl rfl)
theorem dX0_ends_25 : decode cX0_ends 25 = .ok (.istore_n 3, 1) := dk_62 (dk_at dksX0_ends_1 1 rfl rfl)
theorem dX0_ends_26 : decode cX0_ends 26 = .ok (.iload_n 3, 1) := dk_29 (dk_at dksX0_ends_1 2 rfl rfl)
theorem dX0_ends_27 : decode cX0_ends 27 = .ok (.iload_n 2, 1) := dk_28 (dk_at dksX0_ends_1 3 rfl rfl)
theorem dX0_ends_28 : decode cX0_ends 28 = .ok (.if_icmp .gt 32, 3) := dk_163 0 32 (dk_at dksX0_ends_1 4 rfl rfl)
theorem dX0_ends_31 : decode cX0_ends 31 = .ok (.iload_n 1, 1) := dk_27 (dk_at dksX0_ends_1 7 rfl rfl)
theorem dX0_ends_32 : decode cX0_ends 32 = .ok (.aload_n 0, 1) := dk_42 (dk_at dksX0_ends_1 8 rfl rfl)
theorem dX0_ends_33 : decode cX0_ends 33 = .ok (.iload_n 3, 1) := dk_29 (dk_at dksX0_ends_1 9 rfl rfl)
theorem dX0_ends_34 : decode cX0_ends 34 = .ok (.iload_n 2, 1) := dk_28 (dk_at dksX0_ends_1 10 rfl rfl)
theorem dX0_ends_35 : decode cX0_ends 35 = .ok (.invokevirtual 125, 3) := dk_182 0 125 (dk_at dksX0_ends_1 11 rfl rfl)
theorem dX0_ends_38 : decode cX0_ends 38 = .ok (.aload_n 0, 1) := dk_42 (dk_at dksX0_ends_1 14 rfl rfl)
theorem dX0_ends_39 : decode cX0_ends 39 = .ok (.getfield 105, 3) := dk_180 0 105 (dk_at dksX0_ends_1 15 rfl rfl)
theorem dX0_ends_42 : decode cX0_ends 42 = .ok (.if_icmp .gt 9, 3) := dk_163 0 9 (dk_at dksX0_ends_1 18 rfl rfl)
theorem dX0_ends_45 : decode cX0_ends 45 = .ok (.iconst 1, 1) := dk_4 (dk_at dksX0_ends_1 21 rfl rfl)
theorem dX0_ends_46 : decode cX0_ends 46 = .ok (.iload_n 2, 1) := dk_28 (dk_at dksX0_ends_1 22 rfl rfl)
theorem dX0_ends_47 : decode cX0_ends 47 = .ok (.ishl, 1) := dk_120 (dk_at dksX0_ends_1 23 rfl rfl)
theorem dX0_ends_48 : decode cX0_ends 48 = .ok (.goto 4, 3) := dk_167 0 4 (dk_at dksX0_ends_2 0 rfl rfl)
theorem dX0_ends_51 : decode cX0_ends 51 = .ok (.iconst 0, 1) := dk_3 (dk_at dksX0_ends_2 3 rfl rfl)
theorem dX0_ends_52 : decode cX0_ends 52 = .ok (.ior, 1) := dk_128 (dk_at dksX0_ends_2 4 rfl rfl)
theorem dX0_ends_53 : decode cX0_ends 53 = .ok (.istore_n 1, 1) := dk_60 (dk_at dksX0_ends_2 5 rfl rfl)
theorem dX0_ends_54 : decode cX0_ends 54 = .ok (.iinc 3 1, 3) := dk_132 3 1 (dk_at dksX0_ends_2 6 rfl rfl)
theorem dX0_ends_57 : decode cX0_ends 57 = .ok (.goto (-31), 3) := dk_167 255 225 (dk_at dksX0_ends_2 9 rfl rfl)
theorem dX0_ends_60 : decode cX0_ends 60 = .ok (.iinc 2 1, 3) := dk_132 2 1 (dk_at dksX0_ends_2 12 rfl rfl)
theorem dX0_ends_63 : decode cX0_ends 63 = .ok (.goto (-50), 3) := dk_167 255 206 (dk_at dksX0_ends_2 15 rfl rfl)
theorem dX0_ends_66 : decode cX0_ends 66 = .ok (.iload_n 1, 1) := dk_27 (dk_at dksX0_ends_2 18 rfl rfl)
theorem dX0_ends_67 : decode cX0_ends 67 = .ok (.ireturn, 1) := dk_172 (dk_at dksX0_ends_2 19 rfl rfl)
abbrev cX0_add : ByteArray := prog_1_method_17_code
def yX0_add : MethodName := ⟨RX0, "add", "()I"⟩
def dkwX0_add_4 : List UInt8 := [180, 0, 136, 90, 4, 96, 181, 0, 136, 172]
abbrev dktX0_add_4 : List UInt8 := dkwX0_add_4 ++ []
def dkwX0_add_3 : List UInt8 := [167, 255, 228, 43, 180, 0, 143, 155, 0, 5, 2, 172, 43, 42, 180, 0, 136, 181, 0, 143, 42, 89]
abbrev dktX0_add_3 : List UInt8 := dkwX0_add_3 ++ dktX0_add_4
def dkwX0_add_2 : List UInt8 := [180, 0, 108, 162, 0, 23, 43, 42, 180, 0, 10, 180, 0, 110, 28, 46, 182, 0, 139, 76, 132, 2, 1]
abbrev dktX0_add_2 : List UInt8 := dkwX0_add_2 ++ dktX0_add_3
def dkwX0_add_1 : List UInt8 := [180, 0, 136, 16, 20, 160, 0, 5, 2, 172, 42, 180, 0, 32, 76, 3, 61, 28, 42, 180, 0, 10]
abbrev dktX0_add_1 : List UInt8 := dkwX0_add_1 ++ dktX0_add_2
def dkwX0_add_0 : List UInt8 := [42, 180, 0, 10, 180, 0, 108, 153, 0, 24, 42, 180, 0, 10, 180, 0, 108, 16, 12, 163, 0, 12, 42]
abbrev dktX0_add_0 : List UInt8 := dkwX0_add_0 ++ dktX0_add_1
theorem dksX0_add_0 : cX0_add.data.toList.drop 0 = dktX0_add_0 := by decide +kernel
theorem dksX0_add_1 : cX0_add.data.toList.drop 23 = dktX0_add_1 := dk_seg dksX0_add_0 23 rfl rfl
theorem dksX0_add_2 : cX0_add.data.toList.drop 45 = dktX0_add_2 := dk_seg dksX0_add_1 22 rfl rfl
theorem dksX0_add_3 : cX0_add.data.toList.drop 68 = dktX0_add_3 := dk_seg dksX0_add_2 23 rfl rfl
theorem dksX0_add_4 : cX0_add.data.toList.drop 90 = dktX0_add_4 := dk_seg dksX0_add_3 22 rfl rfl
theorem dX0_add_0 : decode cX0_add 0 = .ok (.aload_n 0, 1) := dk_42 (dk_at dksX0_add_0 0 rfl rfl)
theorem dX0_add_1 : decode cX0_add 1 = .ok (.getfield 10, 3) := dk_180 0 10 (dk_at dksX0_add_0 1 rfl rfl)
theorem dX0_add_4 : decode cX0_add 4 = .ok (.getfield 108, 3) := dk_180 0 108 (dk_at dksX0_add_0 4 rfl rfl)
theorem dX0_add_7 : decode cX0_add 7 = .ok (.ifCond .eq 24, 3) := dk_153 0 24 (dk_at dksX0_add_0 7 rfl rfl)
theorem dX0_add_10 : decode cX0_add 10 = .ok (.aload_n 0, 1) := dk_42 (dk_at dksX0_add_0 10 rfl rfl)
theorem dX0_add_11 : decode cX0_add 11 = .ok (.getfield 10, 3) := dk_180 0 10 (dk_at dksX0_add_0 11 rfl rfl)
theorem dX0_add_14 : decode cX0_add 14 = .ok (.getfield 108, 3) := dk_180 0 108 (dk_at dksX0_add_0 14 rfl rfl)
theorem dX0_add_17 : decode cX0_add 17 = .ok (.bipush 12, 2) := dk_16 12 (dk_at dksX0_add_0 17 rfl rfl)
theorem dX0_add_19 : decode cX0_add 19 = .ok (.if_icmp .gt 12, 3) := dk_163 0 12 (dk_at dksX0_add_0 19 rfl rfl)
theorem dX0_add_22 : decode cX0_add 22 = .ok (.aload_n 0, 1) := dk_42 (dk_at dksX0_add_0 22 rfl rfl)
theorem dX0_add_23 : decode cX0_add 23 = .ok (.getfield 136, 3) := dk_180 0 136 (dk_at dksX0_add_1 0 rfl rfl)
theorem dX0_add_26 : decode cX0_add 26 = .ok (.bipush 20, 2) := dk_16 20 (dk_at dksX0_add_1 3 rfl rfl)
theorem dX0_add_28 : decode cX0_add 28 = .ok (.if_icmp .ne 5, 3) := dk_160 0 5 (dk_at dksX0_add_1 5 rfl rfl)
theorem dX0_add_31 : decode cX0_add 31 = .ok (.iconst (-1), 1) := dk_2 (dk_at dksX0_add_1 8 rfl rfl)
theorem dX0_add_32 : decode cX0_add 32 = .ok (.ireturn, 1) := dk_172 (dk_at dksX0_add_1 9 rfl rfl)
theorem dX0_add_33 : decode cX0_add 33 = .ok (.aload_n 0, 1) := dk_42 (dk_at dksX0_add_1 10 rfl rfl)
theorem dX0_add_34 : decode cX0_add 34 = .ok (.getfield 32, 3) := dk_180 0 32 (dk_at dksX0_add_1 11 rfl rfl)
theorem dX0_add_37 : decode cX0_add 37 = .ok (.astore_n 1, 1) := dk_76 (dk_at dksX0_add_1 14 rfl rfl)
theorem dX0_add_38 : decode cX0_add 38 = .ok (.iconst 0, 1) := dk_3 (dk_at dksX0_add_1 15 rfl rfl)
theorem dX0_add_39 : decode cX0_add 39 = .ok (.istore_n 2, 1) := dk_61 (dk_at dksX0_add_1 16 rfl rfl)
theorem dX0_add_40 : decode cX0_add 40 = .ok (.iload_n 2, 1) := dk_28 (dk_at dksX0_add_1 17 rfl rfl)
theorem dX0_add_41 : decode cX0_add 41 = .ok (.aload_n 0, 1) := dk_42 (dk_at dksX0_add_1 18 rfl rfl)
theorem dX0_add_42 : decode cX0_add 42 = .ok (.getfield 10, 3) := dk_180 0 10 (dk_at dksX0_add_1 19 rfl rfl)
theorem dX0_add_45 : decode cX0_add 45 = .ok (.getfield 108, 3) := dk_180 0 108 (dk_at dksX0_add_2 0 rfl rfl)
theorem dX0_add_48 : decode cX0_add 48 = .ok (.if_icmp .ge 23, 3) := dk_162 0 23 (dk_at dksX0_add_2 3 rfl rfl)
theorem dX0_add_51 : decode cX0_add 51 = .ok (.aload_n 1, 1) := dk_43 (dk_at dksX0_add_2 6 rfl rfl)
theorem dX0_add_52 : decode cX0_add 52 = .ok (.aload_n 0, 1) := dk_42 (dk_at dksX0_add_2 7 rfl rfl)
theorem dX0_add_53 : decode cX0_add 53 = .ok (.getfield 10, 3) := dk_180 0 10 (dk_at dksX0_add_2 8 rfl rfl)
theorem dX0_add_56 : decode cX0_add 56 = .ok (.getfield 110, 3) := dk_180 0 110 (dk_at dksX0_add_2 11 rfl rfl)
theorem dX0_add_59 : decode cX0_add 59 = .ok (.iload_n 2, 1) := dk_28 (dk_at dksX0_add_2 14 rfl rfl)
theorem dX0_add_60 : decode cX0_add 60 = .ok (.iaload, 1) := dk_46 (dk_at dksX0_add_2 15 rfl rfl)
theorem dX0_add_61 : decode cX0_add 61 = .ok (.invokevirtual 139, 3) := dk_182 0 139 (dk_at dksX0_add_2 16 rfl rfl)
theorem dX0_add_64 : decode cX0_add 64 = .ok (.astore_n 1, 1) := dk_76 (dk_at dksX0_add_2 19 rfl rfl)
theorem dX0_add_65 : decode cX0_add 65 = .ok (.iinc 2 1, 3) := dk_132 2 1 (dk_at dksX0_add_2 20 rfl rfl)
theorem dX0_add_68 : decode cX0_add 68 = .ok (.goto (-28), 3) := dk_167 255 228 (dk_at dksX0_add_3 0 rfl rfl)
theorem dX0_add_71 : decode cX0_add 71 = .ok (.aload_n 1, 1) := dk_43 (dk_at dksX0_add_3 3 rfl rfl)
theorem dX0_add_72 : decode cX0_add 72 = .ok (.getfield 143, 3) := dk_180 0 143 (dk_at dksX0_add_3 4 rfl rfl)
theorem dX0_add_75 : decode cX0_add 75 = .ok (.ifCond .lt 5, 3) := dk_155 0 5 (dk_at dksX0_add_3 7 rfl rfl)
theorem dX0_add_78 : decode cX0_add 78 = .ok (.iconst (-1), 1) := dk_2 (dk_at dksX0_add_3 10 rfl rfl)
theorem dX0_add_79 : decode cX0_add 79 = .ok (.ireturn, 1) := dk_172 (dk_at dksX0_add_3 11 rfl rfl)
theorem dX0_add_80 : decode cX0_add 80 = .ok (.aload_n 1, 1) := dk_43 (dk_at dksX0_add_3 12 rfl rfl)
theorem dX0_add_81 : decode cX0_add 81 = .ok (.aload_n 0, 1) := dk_42 (dk_at dksX0_add_3 13 rfl rfl)
theorem dX0_add_82 : decode cX0_add 82 = .ok (.getfield 136, 3) := dk_180 0 136 (dk_at dksX0_add_3 14 rfl rfl)
theorem dX0_add_85 : decode cX0_add 85 = .ok (.putfield 143, 3) := dk_181 0 143 (dk_at dksX0_add_3 17 rfl rfl)
theorem dX0_add_88 : decode cX0_add 88 = .ok (.aload_n 0, 1) := dk_42 (dk_at dksX0_add_3 20 rfl rfl)
theorem dX0_add_89 : decode cX0_add 89 = .ok (.dup, 1) := dk_89 (dk_at dksX0_add_3 21 rfl rfl)
theorem dX0_add_90 : decode cX0_add 90 = .ok (.getfield 136, 3) := dk_180 0 136 (dk_at dksX0_add_4 0 rfl rfl)
theorem dX0_add_93 : decode cX0_add 93 = .ok (.dup_x1, 1) := dk_90 (dk_at dksX0_add_4 3 rfl rfl)
theorem dX0_add_94 : decode cX0_add 94 = .ok (.iconst 1, 1) := dk_4 (dk_at dksX0_add_4 4 rfl rfl)
theorem dX0_add_95 : decode cX0_add 95 = .ok (.iadd, 1) := dk_96 (dk_at dksX0_add_4 5 rfl rfl)
theorem dX0_add_96 : decode cX0_add 96 = .ok (.putfield 136, 3) := dk_181 0 136 (dk_at dksX0_add_4 6 rfl rfl)
theorem dX0_add_99 : decode cX0_add 99 = .ok (.ireturn, 1) := dk_172 (dk_at dksX0_add_4 9 rfl rfl)
abbrev cX0_words : ByteArray := prog_1_method_18_code
def yX0_words : MethodName := ⟨RX0, "words", "()I"⟩
theorem dX0_words_0 : decode cX0_words 0 = .ok (.aload_n 0, 1) := by decide +kernel
theorem dX0_words_1 : decode cX0_words 1 = .ok (.getfield 136, 3) := by decide +kernel
theorem dX0_words_4 : decode cX0_words 4 = .ok (.ireturn, 1) := by decide +kernel
abbrev cX0_distance : ByteArray := prog_1_method_22_code
def yX0_distance : MethodName := ⟨RX0, "distance", "(IZ)I"⟩
def dkwX0_distance_2 : List UInt8 := [132, 3, 1, 167, 255, 213, 2, 172]
abbrev dktX0_distance_2 : List UInt8 := dkwX0_distance_2 ++ []
def dkwX0_distance_1 : List UInt8 := [182, 0, 187, 192, 0, 154, 182, 0, 191, 54, 4, 21, 4, 27, 160, 0, 10, 42, 180, 0, 52, 29, 46, 172]
abbrev dktX0_distance_1 : List UInt8 := dkwX0_distance_1 ++ dktX0_distance_2
def dkwX0_distance_0 : List UInt8 := [42, 28, 182, 0, 183, 3, 62, 29, 42, 180, 0, 48, 182, 0, 151, 162, 0, 38, 42, 180, 0, 48, 29]
abbrev dktX0_distance_0 : List UInt8 := dkwX0_distance_0 ++ dktX0_distance_1
theorem dksX0_distance_0 : cX0_distance.data.toList.drop 0 = dktX0_distance_0 := by decide +kernel
theorem dksX0_distance_1 : cX0_distance.data.toList.drop 23 = dktX0_distance_1 := dk_seg dksX0_distance_0 23 rfl rfl
theorem dksX0_distance_2 : cX0_distance.data.toList.drop 47 = dktX0_distance_2 := dk_seg dksX0_distance_1 24 rfl rfl
theorem dX0_distance_0 : decode cX0_distance 0 = .ok (.aload_n 0, 1) := dk_42 (dk_at dksX0_distance_0 0 rfl rfl)
theorem dX0_distance_1 : decode cX0_distance 1 = .ok (.iload_n 2, 1) := dk_28 (dk_at dksX0_distance_0 1 rfl rfl)
theorem dX0_distance_2 : decode cX0_distance 2 = .ok (.invokevirtual 183, 3) := dk_182 0 183 (dk_at dksX0_distance_0 2 rfl rfl)
theorem dX0_distance_5 : decode cX0_distance 5 = .ok (.iconst 0, 1) := dk_3 (dk_at dksX0_distance_0 5 rfl rfl)
theorem dX0_distance_6 : decode cX0_distance 6 = .ok (.istore_n 3, 1) := dk_62 (dk_at dksX0_distance_0 6 rfl rfl)
theorem dX0_distance_7 : decode cX0_distance 7 = .ok (.iload_n 3, 1) := dk_29 (dk_at dksX0_distance_0 7 rfl rfl)
theorem dX0_distance_8 : decode cX0_distance 8 = .ok (.aload_n 0, 1) := dk_42 (dk_at dksX0_distance_0 8 rfl rfl)
theorem dX0_distance_9 : decode cX0_distance 9 = .ok (.getfield 48, 3) := dk_180 0 48 (dk_at dksX0_distance_0 9 rfl rfl)
theorem dX0_distance_12 : decode cX0_distance 12 = .ok (.invokevirtual 151, 3) := dk_182 0 151 (dk_at dksX0_distance_0 12 rfl rfl)
theorem dX0_distance_15 : decode cX0_distance 15 = .ok (.if_icmp .ge 38, 3) := dk_162 0 38 (dk_at dksX0_distance_0 15 rfl rfl)
theorem dX0_distance_18 : decode cX0_distance 18 = .ok (.aload_n 0, 1) := dk_42 (dk_at dksX0_distance_0 18 rfl rfl)
theorem dX0_distance_19 : decode cX0_distance 19 = .ok (.getfield 48, 3) := dk_180 0 48 (dk_at dksX0_distance_0 19 rfl rfl)
theorem dX0_distance_22 : decode cX0_distance 22 = .ok (.iload_n 3, 1) := dk_29 (dk_at dksX0_distance_0 22 rfl rfl)
theorem dX0_distance_23 : decode cX0_distance 23 = .ok (.invokevirtual 187, 3) := dk_182 0 187 (dk_at dksX0_distance_1 0 rfl rfl)
theorem dX0_distance_26 : decode cX0_distance 26 = .ok (.checkcast 154, 3) := dk_192 0 154 (dk_at dksX0_distance_1 3 rfl rfl)
theorem dX0_distance_29 : decode cX0_distance 29 = .ok (.invokevirtual 191, 3) := dk_182 0 191 (dk_at dksX0_distance_1 6 rfl rfl)
theorem dX0_distance_32 : decode cX0_distance 32 = .ok (.istore 4, 2) := dk_54 4 (dk_at dksX0_distance_1 9 rfl rfl)
theorem dX0_distance_34 : decode cX0_distance 34 = .ok (.iload 4, 2) := dk_21 4 (dk_at dksX0_distance_1 11 rfl rfl)
theorem dX0_distance_36 : decode cX0_distance 36 = .ok (.iload_n 1, 1) := dk_27 (dk_at dksX0_distance_1 13 rfl rfl)
theorem dX0_distance_37 : decode cX0_distance 37 = .ok (.if_icmp .ne 10, 3) := dk_160 0 10 (dk_at dksX0_distance_1 14 rfl rfl)
theorem dX0_distance_40 : decode cX0_distance 40 = .ok (.aload_n 0, 1) := dk_42 (dk_at dksX0_distance_1 17 rfl rfl)
theorem dX0_distance_41 : decode cX0_distance 41 = .ok (.getfield 52, 3) := dk_180 0 52 (dk_at dksX0_distance_1 18 rfl rfl)
theorem dX0_distance_44 : decode cX0_distance 44 = .ok (.iload_n 3, 1) := dk_29 (dk_at dksX0_distance_1 21 rfl rfl)
theorem dX0_distance_45 : decode cX0_distance 45 = .ok (.iaload, 1) := dk_46 (dk_at dksX0_distance_1 22 rfl rfl)
theorem dX0_distance_46 : decode cX0_distance 46 = .ok (.ireturn, 1) := dk_172 (dk_at dksX0_distance_1 23 rfl rfl)
theorem dX0_distance_47 : decode cX0_distance 47 = .ok (.iinc 3 1, 3) := dk_132 3 1 (dk_at dksX0_distance_2 0 rfl rfl)
theorem dX0_distance_50 : decode cX0_distance 50 = .ok (.goto (-43), 3) := dk_167 255 213 (dk_at dksX0_distance_2 3 rfl rfl)
theorem dX0_distance_53 : decode cX0_distance 53 = .ok (.iconst (-1), 1) := dk_2 (dk_at dksX0_distance_2 6 rfl rfl)
theorem dX0_distance_54 : decode cX0_distance 54 = .ok (.ireturn, 1) := dk_172 (dk_at dksX0_distance_2 7 rfl rfl)
abbrev cX0_measure : ByteArray := prog_1_method_21_code
def yX0_measure : MethodName := ⟨RX0, "measure", "(Z)V"⟩
def dkwX0_measure_1 : List UInt8 := [3, 50, 28, 28, 79, 132, 2, 1, 167, 255, 233, 42, 42, 180, 0, 32, 3, 27, 184, 0, 173, 177]
abbrev dktX0_measure_1 : List UInt8 := dkwX0_measure_1 ++ []
def dkwX0_measure_0 : List UInt8 := [42, 180, 0, 48, 182, 0, 180, 3, 61, 28, 42, 180, 0, 10, 180, 0, 108, 163, 0, 18, 42, 180, 0, 42]
abbrev dktX0_measure_0 : List UInt8 := dkwX0_measure_0 ++ dktX0_measure_1
theorem dksX0_measure_0 : cX0_measure.data.toList.drop 0 = dktX0_measure_0 := by decide +kernel
theorem dksX0_measure_1 : cX0_measure.data.toList.drop 24 = dktX0_measure_1 := dk_seg dksX0_measure_0 24 rfl rfl
theorem dX0_measure_0 : decode cX0_measure 0 = .ok (.aload_n 0, 1) := dk_42 (dk_at dksX0_measure_0 0 rfl rfl)
theorem dX0_measure_1 : decode cX0_measure 1 = .ok (.getfield 48, 3) := dk_180 0 48 (dk_at dksX0_measure_0 1 rfl rfl)
theorem dX0_measure_4 : decode cX0_measure 4 = .ok (.invokevirtual 180, 3) := dk_182 0 180 (dk_at dksX0_measure_0 4 rfl rfl)
theorem dX0_measure_7 : decode cX0_measure 7 = .ok (.iconst 0, 1) := dk_3 (dk_at dksX0_measure_0 7 rfl rfl)
theorem dX0_measure_8 : decode cX0_measure 8 = .ok (.istore_n 2, 1) := dk_61 (dk_at dksX0_measure_0 8 rfl rfl)
theorem dX0_measure_9 : decode cX0_measure 9 = .ok (.iload_n 2, 1) := dk_28 (dk_at dksX0_measure_0 9 rfl rfl)
theorem dX0_measure_10 : decode cX0_measure 10 = .ok (.aload_n 0, 1) := dk_42 (dk_at dksX0_measure_0 10 rfl rfl)
theorem dX0_measure_11 : decode cX0_measure 11 = .ok (.getfield 10, 3) := dk_180 0 10 (dk_at dksX0_measure_0 11 rfl rfl)
theorem dX0_measure_14 : decode cX0_measure 14 = .ok (.getfield 108, 3) := dk_180 0 108 (dk_at dksX0_measure_0 14 rfl rfl)
theorem dX0_measure_17 : decode cX0_measure 17 = .ok (.if_icmp .gt 18, 3) := dk_163 0 18 (dk_at dksX0_measure_0 17 rfl rfl)
theorem dX0_measure_20 : decode cX0_measure 20 = .ok (.aload_n 0, 1) := dk_42 (dk_at dksX0_measure_0 20 rfl rfl)
theorem dX0_measure_21 : decode cX0_measure 21 = .ok (.getfield 42, 3) := dk_180 0 42 (dk_at dksX0_measure_0 21 rfl rfl)
theorem dX0_measure_24 : decode cX0_measure 24 = .ok (.iconst 0, 1) := dk_3 (dk_at dksX0_measure_1 0 rfl rfl)
theorem dX0_measure_25 : decode cX0_measure 25 = .ok (.aaload, 1) := dk_50 (dk_at dksX0_measure_1 1 rfl rfl)
theorem dX0_measure_26 : decode cX0_measure 26 = .ok (.iload_n 2, 1) := dk_28 (dk_at dksX0_measure_1 2 rfl rfl)
theorem dX0_measure_27 : decode cX0_measure 27 = .ok (.iload_n 2, 1) := dk_28 (dk_at dksX0_measure_1 3 rfl rfl)
theorem dX0_measure_28 : decode cX0_measure 28 = .ok (.iastore, 1) := dk_79 (dk_at dksX0_measure_1 4 rfl rfl)
theorem dX0_measure_29 : decode cX0_measure 29 = .ok (.iinc 2 1, 3) := dk_132 2 1 (dk_at dksX0_measure_1 5 rfl rfl)
theorem dX0_measure_32 : decode cX0_measure 32 = .ok (.goto (-23), 3) := dk_167 255 233 (dk_at dksX0_measure_1 8 rfl rfl)
theorem dX0_measure_35 : decode cX0_measure 35 = .ok (.aload_n 0, 1) := dk_42 (dk_at dksX0_measure_1 11 rfl rfl)
theorem dX0_measure_36 : decode cX0_measure 36 = .ok (.aload_n 0, 1) := dk_42 (dk_at dksX0_measure_1 12 rfl rfl)
theorem dX0_measure_37 : decode cX0_measure 37 = .ok (.getfield 32, 3) := dk_180 0 32 (dk_at dksX0_measure_1 13 rfl rfl)
theorem dX0_measure_40 : decode cX0_measure 40 = .ok (.iconst 0, 1) := dk_3 (dk_at dksX0_measure_1 16 rfl rfl)
theorem dX0_measure_41 : decode cX0_measure 41 = .ok (.iload_n 1, 1) := dk_27 (dk_at dksX0_measure_1 17 rfl rfl)
theorem dX0_measure_42 : decode cX0_measure 42 = .ok (.invokestatic 173, 3) := dk_184 0 173 (dk_at dksX0_measure_1 18 rfl rfl)
theorem dX0_measure_45 : decode cX0_measure 45 = .ok (.return_, 1) := dk_177 (dk_at dksX0_measure_1 21 rfl rfl)
abbrev cX0_walk : ByteArray := prog_1_method_20_code
def yX0_walk : MethodName := ⟨RX0, "walk", "(LFuzzyFinder;LFuzzyFinder$Branch;IZ)V"⟩
def dkwX0_walk_4 : List UInt8 := [180, 0, 177, 58, 4, 167, 255, 209, 177]
abbrev dktX0_walk_4 : List UInt8 := dkwX0_walk_4 ++ []
def dkwX0_walk_3 : List UInt8 := [180, 0, 166, 79, 42, 28, 4, 96, 29, 182, 0, 169, 42, 25, 4, 28, 4, 96, 29, 184, 0, 173, 25, 4]
abbrev dktX0_walk_3 : List UInt8 := dkwX0_walk_3 ++ dktX0_walk_4
def dkwX0_walk_2 : List UInt8 := [43, 180, 0, 163, 58, 4, 25, 4, 198, 0, 48, 28, 16, 12, 162, 0, 42, 42, 180, 0, 36, 28, 25, 4]
abbrev dktX0_walk_2 : List UInt8 := dkwX0_walk_2 ++ dktX0_walk_3
def dkwX0_walk_1 : List UInt8 := [42, 180, 0, 10, 180, 0, 108, 46, 79, 42, 180, 0, 48, 43, 180, 0, 143, 184, 0, 153, 182, 0, 159, 87]
abbrev dktX0_walk_1 : List UInt8 := dkwX0_walk_1 ++ dktX0_walk_2
def dkwX0_walk_0 : List UInt8 := [43, 180, 0, 143, 155, 0, 44, 42, 180, 0, 52, 42, 180, 0, 48, 182, 0, 151, 42, 180, 0, 42, 28, 50]
abbrev dktX0_walk_0 : List UInt8 := dkwX0_walk_0 ++ dktX0_walk_1
theorem dksX0_walk_0 : cX0_walk.data.toList.drop 0 = dktX0_walk_0 := by decide +kernel
theorem dksX0_walk_1 : cX0_walk.data.toList.drop 24 = dktX0_walk_1 := dk_seg dksX0_walk_0 24 rfl rfl
theorem dksX0_walk_2 : cX0_walk.data.toList.drop 48 = dktX0_walk_2 := dk_seg dksX0_walk_1 24 rfl rfl
theorem dksX0_walk_3 : cX0_walk.data.toList.drop 72 = dktX0_walk_3 := dk_seg dksX0_walk_2 24 rfl rfl
theorem dksX0_walk_4 : cX0_walk.data.toList.drop 96 = dktX0_walk_4 := dk_seg dksX0_walk_3 24 rfl rfl
theorem dX0_walk_0 : decode cX0_walk 0 = .ok (.aload_n 1, 1) := dk_43 (dk_at dksX0_walk_0 0 rfl rfl)
theorem dX0_walk_1 : decode cX0_walk 1 = .ok (.getfield 143, 3) := dk_180 0 143 (dk_at dksX0_walk_0 1 rfl rfl)
theorem dX0_walk_4 : decode cX0_walk 4 = .ok (.ifCond .lt 44, 3) := dk_155 0 44 (dk_at dksX0_walk_0 4 rfl rfl)
theorem dX0_walk_7 : decode cX0_walk 7 = .ok (.aload_n 0, 1) := dk_42 (dk_at dksX0_walk_0 7 rfl rfl)
theorem dX0_walk_8 : decode cX0_walk 8 = .ok (.getfield 52, 3) := dk_180 0 52 (dk_at dksX0_walk_0 8 rfl rfl)
theorem dX0_walk_11 : decode cX0_walk 11 = .ok (.aload_n 0, 1) := dk_42 (dk_at dksX0_walk_0 11 rfl rfl)
theorem dX0_walk_12 : decode cX0_walk 12 = .ok (.getfield 48, 3) := dk_180 0 48 (dk_at dksX0_walk_0 12 rfl rfl)
theorem dX0_walk_15 : decode cX0_walk 15 = .ok (.invokevirtual 151, 3) := dk_182 0 151 (dk_at dksX0_walk_0 15 rfl rfl)
theorem dX0_walk_18 : decode cX0_walk 18 = .ok (.aload_n 0, 1) := dk_42 (dk_at dksX0_walk_0 18 rfl rfl)
theorem dX0_walk_19 : decode cX0_walk 19 = .ok (.getfield 42, 3) := dk_180 0 42 (dk_at dksX0_walk_0 19 rfl rfl)
theorem dX0_walk_22 : decode cX0_walk 22 = .ok (.iload_n 2, 1) := dk_28 (dk_at dksX0_walk_0 22 rfl rfl)
theorem dX0_walk_23 : decode cX0_walk 23 = .ok (.aaload, 1) := dk_50 (dk_at dksX0_walk_0 23 rfl rfl)
theorem dX0_walk_24 : decode cX0_walk 24 = .ok (.aload_n 0, 1) := dk_42 (dk_at dksX0_walk_1 0 rfl rfl)
theorem dX0_walk_25 : decode cX0_walk 25 = .ok (.getfield 10, 3) := dk_180 0 10 (dk_at dksX0_walk_1 1 rfl rfl)
theorem dX0_walk_28 : decode cX0_walk 28 = .ok (.getfield 108, 3) := dk_180 0 108 (dk_at dksX0_walk_1 4 rfl rfl)
theorem dX0_walk_31 : decode cX0_walk 31 = .ok (.iaload, 1) := dk_46 (dk_at dksX0_walk_1 7 rfl rfl)
theorem dX0_walk_32 : decode cX0_walk 32 = .ok (.iastore, 1) := dk_79 (dk_at dksX0_walk_1 8 rfl rfl)
theorem dX0_walk_33 : decode cX0_walk 33 = .ok (.aload_n 0, 1) := dk_42 (dk_at dksX0_walk_1 9 rfl rfl)
theorem dX0_walk_34 : decode cX0_walk 34 = .ok (.getfield 48, 3) := dk_180 0 48 (dk_at dksX0_walk_1 10 rfl rfl)
theorem dX0_walk_37 : decode cX0_walk 37 = .ok (.aload_n 1, 1) := dk_43 (dk_at dksX0_walk_1 13 rfl rfl)
theorem dX0_walk_38 : decode cX0_walk 38 = .ok (.getfield 143, 3) := dk_180 0 143 (dk_at dksX0_walk_1 14 rfl rfl)
theorem dX0_walk_41 : decode cX0_walk 41 = .ok (.invokestatic 153, 3) := dk_184 0 153 (dk_at dksX0_walk_1 17 rfl rfl)
theorem dX0_walk_44 : decode cX0_walk 44 = .ok (.invokevirtual 159, 3) := dk_182 0 159 (dk_at dksX0_walk_1 20 rfl rfl)
theorem dX0_walk_47 : decode cX0_walk 47 = .ok (.pop, 1) := dk_87 (dk_at dksX0_walk_1 23 rfl rfl)
theorem dX0_walk_48 : decode cX0_walk 48 = .ok (.aload_n 1, 1) := dk_43 (dk_at dksX0_walk_2 0 rfl rfl)
theorem dX0_walk_49 : decode cX0_walk 49 = .ok (.getfield 163, 3) := dk_180 0 163 (dk_at dksX0_walk_2 1 rfl rfl)
theorem dX0_walk_52 : decode cX0_walk 52 = .ok (.astore 4, 2) := dk_58 4 (dk_at dksX0_walk_2 4 rfl rfl)
theorem dX0_walk_54 : decode cX0_walk 54 = .ok (.aload 4, 2) := dk_25 4 (dk_at dksX0_walk_2 6 rfl rfl)
theorem dX0_walk_56 : decode cX0_walk 56 = .ok (.ifnull 48, 3) := dk_198 0 48 (dk_at dksX0_walk_2 8 rfl rfl)
theorem dX0_walk_59 : decode cX0_walk 59 = .ok (.iload_n 2, 1) := dk_28 (dk_at dksX0_walk_2 11 rfl rfl)
theorem dX0_walk_60 : decode cX0_walk 60 = .ok (.bipush 12, 2) := dk_16 12 (dk_at dksX0_walk_2 12 rfl rfl)
theorem dX0_walk_62 : decode cX0_walk 62 = .ok (.if_icmp .ge 42, 3) := dk_162 0 42 (dk_at dksX0_walk_2 14 rfl rfl)
theorem dX0_walk_65 : decode cX0_walk 65 = .ok (.aload_n 0, 1) := dk_42 (dk_at dksX0_walk_2 17 rfl rfl)
theorem dX0_walk_66 : decode cX0_walk 66 = .ok (.getfield 36, 3) := dk_180 0 36 (dk_at dksX0_walk_2 18 rfl rfl)
theorem dX0_walk_69 : decode cX0_walk 69 = .ok (.iload_n 2, 1) := dk_28 (dk_at dksX0_walk_2 21 rfl rfl)
theorem dX0_walk_70 : decode cX0_walk 70 = .ok (.aload 4, 2) := dk_25 4 (dk_at dksX0_walk_2 22 rfl rfl)
theorem dX0_walk_72 : decode cX0_walk 72 = .ok (.getfield 166, 3) := dk_180 0 166 (dk_at dksX0_walk_3 0 rfl rfl)
theorem dX0_walk_75 : decode cX0_walk 75 = .ok (.iastore, 1) := dk_79 (dk_at dksX0_walk_3 3 rfl rfl)
theorem dX0_walk_76 : decode cX0_walk 76 = .ok (.aload_n 0, 1) := dk_42 (dk_at dksX0_walk_3 4 rfl rfl)
theorem dX0_walk_77 : decode cX0_walk 77 = .ok (.iload_n 2, 1) := dk_28 (dk_at dksX0_walk_3 5 rfl rfl)
theorem dX0_walk_78 : decode cX0_walk 78 = .ok (.iconst 1, 1) := dk_4 (dk_at dksX0_walk_3 6 rfl rfl)
theorem dX0_walk_79 : decode cX0_walk 79 = .ok (.iadd, 1) := dk_96 (dk_at dksX0_walk_3 7 rfl rfl)
theorem dX0_walk_80 : decode cX0_walk 80 = .ok (.iload_n 3, 1) := dk_29 (dk_at dksX0_walk_3 8 rfl rfl)
theorem dX0_walk_81 : decode cX0_walk 81 = .ok (.invokevirtual 169, 3) := dk_182 0 169 (dk_at dksX0_walk_3 9 rfl rfl)
theorem dX0_walk_84 : decode cX0_walk 84 = .ok (.aload_n 0, 1) := dk_42 (dk_at dksX0_walk_3 12 rfl rfl)
theorem dX0_walk_85 : decode cX0_walk 85 = .ok (.aload 4, 2) := dk_25 4 (dk_at dksX0_walk_3 13 rfl rfl)
theorem dX0_walk_87 : decode cX0_walk 87 = .ok (.iload_n 2, 1) := dk_28 (dk_at dksX0_walk_3 15 rfl rfl)
theorem dX0_walk_88 : decode cX0_walk 88 = .ok (.iconst 1, 1) := dk_4 (dk_at dksX0_walk_3 16 rfl rfl)
theorem dX0_walk_89 : decode cX0_walk 89 = .ok (.iadd, 1) := dk_96 (dk_at dksX0_walk_3 17 rfl rfl)
theorem dX0_walk_90 : decode cX0_walk 90 = .ok (.iload_n 3, 1) := dk_29 (dk_at dksX0_walk_3 18 rfl rfl)
theorem dX0_walk_91 : decode cX0_walk 91 = .ok (.invokestatic 173, 3) := dk_184 0 173 (dk_at dksX0_walk_3 19 rfl rfl)
theorem dX0_walk_94 : decode cX0_walk 94 = .ok (.aload 4, 2) := dk_25 4 (dk_at dksX0_walk_3 22 rfl rfl)
theorem dX0_walk_96 : decode cX0_walk 96 = .ok (.getfield 177, 3) := dk_180 0 177 (dk_at dksX0_walk_4 0 rfl rfl)
theorem dX0_walk_99 : decode cX0_walk 99 = .ok (.astore 4, 2) := dk_58 4 (dk_at dksX0_walk_4 3 rfl rfl)
theorem dX0_walk_101 : decode cX0_walk 101 = .ok (.goto (-47), 3) := dk_167 255 209 (dk_at dksX0_walk_4 5 rfl rfl)
theorem dX0_walk_104 : decode cX0_walk 104 = .ok (.return_, 1) := dk_177 (dk_at dksX0_walk_4 8 rfl rfl)
abbrev cX0_step : ByteArray := prog_1_method_19_code
def yX0_step : MethodName := ⟨RX0, "step", "(IZ)V"⟩
def dkwX0_step_7 : List UInt8 := [5, 100, 46, 4, 96, 184, 0, 146, 54, 7, 45, 21, 5, 21, 7, 79, 132, 5, 1, 167, 255, 97, 177]
abbrev dktX0_step_7 : List UInt8 := dkwX0_step_7 ++ []
def dkwX0_step_6 : List UInt8 := [180, 0, 36, 27, 5, 100, 46, 21, 6, 160, 0, 25, 21, 7, 42, 180, 0, 42, 27, 5, 100, 50, 21, 5]
abbrev dktX0_step_6 : List UInt8 := dkwX0_step_6 ++ dktX0_step_7
def dkwX0_step_5 : List UInt8 := [180, 0, 36, 27, 4, 100, 46, 42, 180, 0, 10, 180, 0, 110, 21, 5, 5, 100, 46, 160, 0, 38, 42]
abbrev dktX0_step_5 : List UInt8 := dkwX0_step_5 ++ dktX0_step_6
def dkwX0_step_4 : List UInt8 := [96, 184, 0, 146, 54, 7, 28, 153, 0, 72, 27, 4, 164, 0, 67, 21, 5, 4, 164, 0, 61, 42]
abbrev dktX0_step_4 : List UInt8 := dkwX0_step_4 ++ dktX0_step_5
def dkwX0_step_3 : List UInt8 := [167, 0, 4, 4, 96, 54, 7, 21, 7, 25, 4, 21, 5, 46, 45, 21, 5, 4, 100, 46, 184, 0, 146, 4]
abbrev dktX0_step_3 : List UInt8 := dkwX0_step_3 ++ dktX0_step_4
def dkwX0_step_2 : List UInt8 := [54, 6, 25, 4, 21, 5, 4, 100, 46, 42, 180, 0, 36, 27, 4, 100, 46, 21, 6, 160, 0, 7, 3]
abbrev dktX0_step_2 : List UInt8 := dkwX0_step_2 ++ dktX0_step_3
def dkwX0_step_1 : List UInt8 := [21, 5, 42, 180, 0, 10, 180, 0, 108, 163, 0, 153, 42, 180, 0, 10, 180, 0, 110, 21, 5, 4, 100, 46]
abbrev dktX0_step_1 : List UInt8 := dkwX0_step_1 ++ dktX0_step_2
def dkwX0_step_0 : List UInt8 := [42, 180, 0, 42, 27, 50, 78, 42, 180, 0, 42, 27, 4, 100, 50, 58, 4, 45, 3, 27, 79, 4, 54, 5]
abbrev dktX0_step_0 : List UInt8 := dkwX0_step_0 ++ dktX0_step_1
theorem dksX0_step_0 : cX0_step.data.toList.drop 0 = dktX0_step_0 := by decide +kernel
theorem dksX0_step_1 : cX0_step.data.toList.drop 24 = dktX0_step_1 := dk_seg dksX0_step_0 24 rfl rfl
theorem dksX0_step_2 : cX0_step.data.toList.drop 48 = dktX0_step_2 := dk_seg dksX0_step_1 24 rfl rfl
theorem dksX0_step_3 : cX0_step.data.toList.drop 71 = dktX0_step_3 := dk_seg dksX0_step_2 23 rfl rfl
theorem dksX0_step_4 : cX0_step.data.toList.drop 95 = dktX0_step_4 := dk_seg dksX0_step_3 24 rfl rfl
theorem dksX0_step_5 : cX0_step.data.toList.drop 117 = dktX0_step_5 := dk_seg dksX0_step_4 22 rfl rfl
theorem dksX0_step_6 : cX0_step.data.toList.drop 140 = dktX0_step_6 := dk_seg dksX0_step_5 23 rfl rfl
theorem dksX0_step_7 : cX0_step.data.toList.drop 164 = dktX0_step_7 := dk_seg dksX0_step_6 24 rfl rfl
theorem dX0_step_0 : decode cX0_step 0 = .ok (.aload_n 0, 1) := dk_42 (dk_at dksX0_step_0 0 rfl rfl)
theorem dX0_step_1 : decode cX0_step 1 = .ok (.getfield 42, 3) := dk_180 0 42 (dk_at dksX0_step_0 1 rfl rfl)
theorem dX0_step_4 : decode cX0_step 4 = .ok (.iload_n 1, 1) := dk_27 (dk_at dksX0_step_0 4 rfl rfl)
theorem dX0_step_5 : decode cX0_step 5 = .ok (.aaload, 1) := dk_50 (dk_at dksX0_step_0 5 rfl rfl)
theorem dX0_step_6 : decode cX0_step 6 = .ok (.astore_n 3, 1) := dk_78 (dk_at dksX0_step_0 6 rfl rfl)
theorem dX0_step_7 : decode cX0_step 7 = .ok (.aload_n 0, 1) := dk_42 (dk_at dksX0_step_0 7 rfl rfl)
theorem dX0_step_8 : decode cX0_step 8 = .ok (.getfield 42, 3) := dk_180 0 42 (dk_at dksX0_step_0 8 rfl rfl)
theorem dX0_step_11 : decode cX0_step 11 = .ok (.iload_n 1, 1) := dk_27 (dk_at dksX0_step_0 11 rfl rfl)
theorem dX0_step_12 : decode cX0_step 12 = .ok (.iconst 1, 1) := dk_4 (dk_at dksX0_step_0 12 rfl rfl)
theorem dX0_step_13 : decode cX0_step 13 = .ok (.isub, 1) := dk_100 (dk_at dksX0_step_0 13 rfl rfl)
theorem dX0_step_14 : decode cX0_step 14 = .ok (.aaload, 1) := dk_50 (dk_at dksX0_step_0 14 rfl rfl)
theorem dX0_step_15 : decode cX0_step 15 = .ok (.astore 4, 2) := dk_58 4 (dk_at dksX0_step_0 15 rfl rfl)
theorem dX0_step_17 : decode cX0_step 17 = .ok (.aload_n 3, 1) := dk_45 (dk_at dksX0_step_0 17 rfl rfl)
theorem dX0_step_18 : decode cX0_step 18 = .ok (.iconst 0, 1) := dk_3 (dk_at dksX0_step_0 18 rfl rfl)
theorem dX0_step_19 : decode cX0_step 19 = .ok (.iload_n 1, 1) := dk_27 (dk_at dksX0_step_0 19 rfl rfl)
theorem dX0_step_20 : decode cX0_step 20 = .ok (.iastore, 1) := dk_79 (dk_at dksX0_step_0 20 rfl rfl)
theorem dX0_step_21 : decode cX0_step 21 = .ok (.iconst 1, 1) := dk_4 (dk_at dksX0_step_0 21 rfl rfl)
theorem dX0_step_22 : decode cX0_step 22 = .ok (.istore 5, 2) := dk_54 5 (dk_at dksX0_step_0 22 rfl rfl)
theorem dX0_step_24 : decode cX0_step 24 = .ok (.iload 5, 2) := dk_21 5 (dk_at dksX0_step_1 0 rfl rfl)
theorem dX0_step_26 : decode cX0_step 26 = .ok (.aload_n 0, 1) := dk_42 (dk_at dksX0_step_1 2 rfl rfl)
theorem dX0_step_27 : decode cX0_step 27 = .ok (.getfield 10, 3) := dk_180 0 10 (dk_at dksX0_step_1 3 rfl rfl)
theorem dX0_step_30 : decode cX0_step 30 = .ok (.getfield 108, 3) := dk_180 0 108 (dk_at dksX0_step_1 6 rfl rfl)
theorem dX0_step_33 : decode cX0_step 33 = .ok (.if_icmp .gt 153, 3) := dk_163 0 153 (dk_at dksX0_step_1 9 rfl rfl)
theorem dX0_step_36 : decode cX0_step 36 = .ok (.aload_n 0, 1) := dk_42 (dk_at dksX0_step_1 12 rfl rfl)
theorem dX0_step_37 : decode cX0_step 37 = .ok (.getfield 10, 3) := dk_180 0 10 (dk_at dksX0_step_1 13 rfl rfl)
theorem dX0_step_40 : decode cX0_step 40 = .ok (.getfield 110, 3) := dk_180 0 110 (dk_at dksX0_step_1 16 rfl rfl)
theorem dX0_step_43 : decode cX0_step 43 = .ok (.iload 5, 2) := dk_21 5 (dk_at dksX0_step_1 19 rfl rfl)
theorem dX0_step_45 : decode cX0_step 45 = .ok (.iconst 1, 1) := dk_4 (dk_at dksX0_step_1 21 rfl rfl)
theorem dX0_step_46 : decode cX0_step 46 = .ok (.isub, 1) := dk_100 (dk_at dksX0_step_1 22 rfl rfl)
theorem dX0_step_47 : decode cX0_step 47 = .ok (.iaload, 1) := dk_46 (dk_at dksX0_step_1 23 rfl rfl)
theorem dX0_step_48 : decode cX0_step 48 = .ok (.istore 6, 2) := dk_54 6 (dk_at dksX0_step_2 0 rfl rfl)
theorem dX0_step_50 : decode cX0_step 50 = .ok (.aload 4, 2) := dk_25 4 (dk_at dksX0_step_2 2 rfl rfl)
theorem dX0_step_52 : decode cX0_step 52 = .ok (.iload 5, 2) := dk_21 5 (dk_at dksX0_step_2 4 rfl rfl)
theorem dX0_step_54 : decode cX0_step 54 = .ok (.iconst 1, 1) := dk_4 (dk_at dksX0_step_2 6 rfl rfl)
theorem dX0_step_55 : decode cX0_step 55 = .ok (.isub, 1) := dk_100 (dk_at dksX0_step_2 7 rfl rfl)
theorem dX0_step_56 : decode cX0_step 56 = .ok (.iaload, 1) := dk_46 (dk_at dksX0_step_2 8 rfl rfl)
theorem dX0_step_57 : decode cX0_step 57 = .ok (.aload_n 0, 1) := dk_42 (dk_at dksX0_step_2 9 rfl rfl)
theorem dX0_step_58 : decode cX0_step 58 = .ok (.getfield 36, 3) := dk_180 0 36 (dk_at dksX0_step_2 10 rfl rfl)
theorem dX0_step_61 : decode cX0_step 61 = .ok (.iload_n 1, 1) := dk_27 (dk_at dksX0_step_2 13 rfl rfl)
theorem dX0_step_62 : decode cX0_step 62 = .ok (.iconst 1, 1) := dk_4 (dk_at dksX0_step_2 14 rfl rfl)
theorem dX0_step_63 : decode cX0_step 63 = .ok (.isub, 1) := dk_100 (dk_at dksX0_step_2 15 rfl rfl)
theorem dX0_step_64 : decode cX0_step 64 = .ok (.iaload, 1) := dk_46 (dk_at dksX0_step_2 16 rfl rfl)
theorem dX0_step_65 : decode cX0_step 65 = .ok (.iload 6, 2) := dk_21 6 (dk_at dksX0_step_2 17 rfl rfl)
theorem dX0_step_67 : decode cX0_step 67 = .ok (.if_icmp .ne 7, 3) := dk_160 0 7 (dk_at dksX0_step_2 19 rfl rfl)
theorem dX0_step_70 : decode cX0_step 70 = .ok (.iconst 0, 1) := dk_3 (dk_at dksX0_step_2 22 rfl rfl)
theorem dX0_step_71 : decode cX0_step 71 = .ok (.goto 4, 3) := dk_167 0 4 (dk_at dksX0_step_3 0 rfl rfl)
theorem dX0_step_74 : decode cX0_step 74 = .ok (.iconst 1, 1) := dk_4 (dk_at dksX0_step_3 3 rfl rfl)
theorem dX0_step_75 : decode cX0_step 75 = .ok (.iadd, 1) := dk_96 (dk_at dksX0_step_3 4 rfl rfl)
theorem dX0_step_76 : decode cX0_step 76 = .ok (.istore 7, 2) := dk_54 7 (dk_at dksX0_step_3 5 rfl rfl)
theorem dX0_step_78 : decode cX0_step 78 = .ok (.iload 7, 2) := dk_21 7 (dk_at dksX0_step_3 7 rfl rfl)
theorem dX0_step_80 : decode cX0_step 80 = .ok (.aload 4, 2) := dk_25 4 (dk_at dksX0_step_3 9 rfl rfl)
theorem dX0_step_82 : decode cX0_step 82 = .ok (.iload 5, 2) := dk_21 5 (dk_at dksX0_step_3 11 rfl rfl)
theorem dX0_step_84 : decode cX0_step 84 = .ok (.iaload, 1) := dk_46 (dk_at dksX0_step_3 13 rfl rfl)
theorem dX0_step_85 : decode cX0_step 85 = .ok (.aload_n 3, 1) := dk_45 (dk_at dksX0_step_3 14 rfl rfl)
theorem dX0_step_86 : decode cX0_step 86 = .ok (.iload 5, 2) := dk_21 5 (dk_at dksX0_step_3 15 rfl rfl)
theorem dX0_step_88 : decode cX0_step 88 = .ok (.iconst 1, 1) := dk_4 (dk_at dksX0_step_3 17 rfl rfl)
theorem dX0_step_89 : decode cX0_step 89 = .ok (.isub, 1) := dk_100 (dk_at dksX0_step_3 18 rfl rfl)
theorem dX0_step_90 : decode cX0_step 90 = .ok (.iaload, 1) := dk_46 (dk_at dksX0_step_3 19 rfl rfl)
theorem dX0_step_91 : decode cX0_step 91 = .ok (.invokestatic 146, 3) := dk_184 0 146 (dk_at dksX0_step_3 20 rfl rfl)
theorem dX0_step_94 : decode cX0_step 94 = .ok (.iconst 1, 1) := dk_4 (dk_at dksX0_step_3 23 rfl rfl)
theorem dX0_step_95 : decode cX0_step 95 = .ok (.iadd, 1) := dk_96 (dk_at dksX0_step_4 0 rfl rfl)
theorem dX0_step_96 : decode cX0_step 96 = .ok (.invokestatic 146, 3) := dk_184 0 146 (dk_at dksX0_step_4 1 rfl rfl)
theorem dX0_step_99 : decode cX0_step 99 = .ok (.istore 7, 2) := dk_54 7 (dk_at dksX0_step_4 4 rfl rfl)
theorem dX0_step_101 : decode cX0_step 101 = .ok (.iload_n 2, 1) := dk_28 (dk_at dksX0_step_4 6 rfl rfl)
theorem dX0_step_102 : decode cX0_step 102 = .ok (.ifCond .eq 72, 3) := dk_153 0 72 (dk_at dksX0_step_4 7 rfl rfl)
theorem dX0_step_105 : decode cX0_step 105 = .ok (.iload_n 1, 1) := dk_27 (dk_at dksX0_step_4 10 rfl rfl)
theorem dX0_step_106 : decode cX0_step 106 = .ok (.iconst 1, 1) := dk_4 (dk_at dksX0_step_4 11 rfl rfl)
theorem dX0_step_107 : decode cX0_step 107 = .ok (.if_icmp .le 67, 3) := dk_164 0 67 (dk_at dksX0_step_4 12 rfl rfl)
theorem dX0_step_110 : decode cX0_step 110 = .ok (.iload 5, 2) := dk_21 5 (dk_at dksX0_step_4 15 rfl rfl)
theorem dX0_step_112 : decode cX0_step 112 = .ok (.iconst 1, 1) := dk_4 (dk_at dksX0_step_4 17 rfl rfl)
theorem dX0_step_113 : decode cX0_step 113 = .ok (.if_icmp .le 61, 3) := dk_164 0 61 (dk_at dksX0_step_4 18 rfl rfl)
theorem dX0_step_116 : decode cX0_step 116 = .ok (.aload_n 0, 1) := dk_42 (dk_at dksX0_step_4 21 rfl rfl)
theorem dX0_step_117 : decode cX0_step 117 = .ok (.getfield 36, 3) := dk_180 0 36 (dk_at dksX0_step_5 0 rfl rfl)
theorem dX0_step_120 : decode cX0_step 120 = .ok (.iload_n 1, 1) := dk_27 (dk_at dksX0_step_5 3 rfl rfl)
theorem dX0_step_121 : decode cX0_step 121 = .ok (.iconst 1, 1) := dk_4 (dk_at dksX0_step_5 4 rfl rfl)
theorem dX0_step_122 : decode cX0_step 122 = .ok (.isub, 1) := dk_100 (dk_at dksX0_step_5 5 rfl rfl)
theorem dX0_step_123 : decode cX0_step 123 = .ok (.iaload, 1) := dk_46 (dk_at dksX0_step_5 6 rfl rfl)
theorem dX0_step_124 : decode cX0_step 124 = .ok (.aload_n 0, 1) := dk_42 (dk_at dksX0_step_5 7 rfl rfl)
theorem dX0_step_125 : decode cX0_step 125 = .ok (.getfield 10, 3) := dk_180 0 10 (dk_at dksX0_step_5 8 rfl rfl)
theorem dX0_step_128 : decode cX0_step 128 = .ok (.getfield 110, 3) := dk_180 0 110 (dk_at dksX0_step_5 11 rfl rfl)
theorem dX0_step_131 : decode cX0_step 131 = .ok (.iload 5, 2) := dk_21 5 (dk_at dksX0_step_5 14 rfl rfl)
theorem dX0_step_133 : decode cX0_step 133 = .ok (.iconst 2, 1) := dk_5 (dk_at dksX0_step_5 16 rfl rfl)
theorem dX0_step_134 : decode cX0_step 134 = .ok (.isub, 1) := dk_100 (dk_at dksX0_step_5 17 rfl rfl)
theorem dX0_step_135 : decode cX0_step 135 = .ok (.iaload, 1) := dk_46 (dk_at dksX0_step_5 18 rfl rfl)
theorem dX0_step_136 : decode cX0_step 136 = .ok (.if_icmp .ne 38, 3) := dk_160 0 38 (dk_at dksX0_step_5 19 rfl rfl)
theorem dX0_step_139 : decode cX0_step 139 = .ok (.aload_n 0, 1) := dk_42 (dk_at dksX0_step_5 22 rfl rfl)
theorem dX0_step_140 : decode cX0_step 140 = .ok (.getfield 36, 3) := dk_180 0 36 (dk_at dksX0_step_6 0 rfl rfl)
theorem dX0_step_143 : decode cX0_step 143 = .ok (.iload_n 1, 1) := dk_27 (dk_at dksX0_step_6 3 rfl rfl)
theorem dX0_step_144 : decode cX0_step 144 = .ok (.iconst 2, 1) := dk_5 (dk_at dksX0_step_6 4 rfl rfl)
theorem dX0_step_145 : decode cX0_step 145 = .ok (.isub, 1) := dk_100 (dk_at dksX0_step_6 5 rfl rfl)
theorem dX0_step_146 : decode cX0_step 146 = .ok (.iaload, 1) := dk_46 (dk_at dksX0_step_6 6 rfl rfl)
theorem dX0_step_147 : decode cX0_step 147 = .ok (.iload 6, 2) := dk_21 6 (dk_at dksX0_step_6 7 rfl rfl)
theorem dX0_step_149 : decode cX0_step 149 = .ok (.if_icmp .ne 25, 3) := dk_160 0 25 (dk_at dksX0_step_6 9 rfl rfl)
theorem dX0_step_152 : decode cX0_step 152 = .ok (.iload 7, 2) := dk_21 7 (dk_at dksX0_step_6 12 rfl rfl)
theorem dX0_step_154 : decode cX0_step 154 = .ok (.aload_n 0, 1) := dk_42 (dk_at dksX0_step_6 14 rfl rfl)
theorem dX0_step_155 : decode cX0_step 155 = .ok (.getfield 42, 3) := dk_180 0 42 (dk_at dksX0_step_6 15 rfl rfl)
theorem dX0_step_158 : decode cX0_step 158 = .ok (.iload_n 1, 1) := dk_27 (dk_at dksX0_step_6 18 rfl rfl)
theorem dX0_step_159 : decode cX0_step 159 = .ok (.iconst 2, 1) := dk_5 (dk_at dksX0_step_6 19 rfl rfl)
theorem dX0_step_160 : decode cX0_step 160 = .ok (.isub, 1) := dk_100 (dk_at dksX0_step_6 20 rfl rfl)
theorem dX0_step_161 : decode cX0_step 161 = .ok (.aaload, 1) := dk_50 (dk_at dksX0_step_6 21 rfl rfl)
theorem dX0_step_162 : decode cX0_step 162 = .ok (.iload 5, 2) := dk_21 5 (dk_at dksX0_step_6 22 rfl rfl)
theorem dX0_step_164 : decode cX0_step 164 = .ok (.iconst 2, 1) := dk_5 (dk_at dksX0_step_7 0 rfl rfl)
theorem dX0_step_165 : decode cX0_step 165 = .ok (.isub, 1) := dk_100 (dk_at dksX0_step_7 1 rfl rfl)
theorem dX0_step_166 : decode cX0_step 166 = .ok (.iaload, 1) := dk_46 (dk_at dksX0_step_7 2 rfl rfl)
theorem dX0_step_167 : decode cX0_step 167 = .ok (.iconst 1, 1) := dk_4 (dk_at dksX0_step_7 3 rfl rfl)
theorem dX0_step_168 : decode cX0_step 168 = .ok (.iadd, 1) := dk_96 (dk_at dksX0_step_7 4 rfl rfl)
theorem dX0_step_169 : decode cX0_step 169 = .ok (.invokestatic 146, 3) := dk_184 0 146 (dk_at dksX0_step_7 5 rfl rfl)
theorem dX0_step_172 : decode cX0_step 172 = .ok (.istore 7, 2) := dk_54 7 (dk_at dksX0_step_7 8 rfl rfl)
theorem dX0_step_174 : decode cX0_step 174 = .ok (.aload_n 3, 1) := dk_45 (dk_at dksX0_step_7 10 rfl rfl)
theorem dX0_step_175 : decode cX0_step 175 = .ok (.iload 5, 2) := dk_21 5 (dk_at dksX0_step_7 11 rfl rfl)
theorem dX0_step_177 : decode cX0_step 177 = .ok (.iload 7, 2) := dk_21 7 (dk_at dksX0_step_7 13 rfl rfl)
theorem dX0_step_179 : decode cX0_step 179 = .ok (.iastore, 1) := dk_79 (dk_at dksX0_step_7 15 rfl rfl)
theorem dX0_step_180 : decode cX0_step 180 = .ok (.iinc 5 1, 3) := dk_132 5 1 (dk_at dksX0_step_7 16 rfl rfl)
theorem dX0_step_183 : decode cX0_step 183 = .ok (.goto (-159), 3) := dk_167 255 97 (dk_at dksX0_step_7 19 rfl rfl)
theorem dX0_step_186 : decode cX0_step 186 = .ok (.return_, 1) := dk_177 (dk_at dksX0_step_7 22 rfl rfl)
abbrev cX0_near : ByteArray := prog_1_method_23_code
def yX0_near : MethodName := ⟨RX0, "near", "(IZ)I"⟩
def dkwX0_near_2 : List UInt8 := [172]
abbrev dktX0_near_2 : List UInt8 := dkwX0_near_2 ++ []
def dkwX0_near_1 : List UInt8 := [180, 0, 52, 21, 4, 46, 27, 163, 0, 7, 4, 167, 0, 4, 3, 96, 62, 132, 4, 1, 167, 255, 222, 29]
abbrev dktX0_near_1 : List UInt8 := dkwX0_near_1 ++ dktX0_near_2
def dkwX0_near_0 : List UInt8 := [42, 28, 182, 0, 183, 3, 62, 3, 54, 4, 21, 4, 42, 180, 0, 48, 182, 0, 151, 162, 0, 28, 29, 42]
abbrev dktX0_near_0 : List UInt8 := dkwX0_near_0 ++ dktX0_near_1
theorem dksX0_near_0 : cX0_near.data.toList.drop 0 = dktX0_near_0 := by decide +kernel
theorem dksX0_near_1 : cX0_near.data.toList.drop 24 = dktX0_near_1 := dk_seg dksX0_near_0 24 rfl rfl
theorem dksX0_near_2 : cX0_near.data.toList.drop 48 = dktX0_near_2 := dk_seg dksX0_near_1 24 rfl rfl
theorem dX0_near_0 : decode cX0_near 0 = .ok (.aload_n 0, 1) := dk_42 (dk_at dksX0_near_0 0 rfl rfl)
theorem dX0_near_1 : decode cX0_near 1 = .ok (.iload_n 2, 1) := dk_28 (dk_at dksX0_near_0 1 rfl rfl)
theorem dX0_near_2 : decode cX0_near 2 = .ok (.invokevirtual 183, 3) := dk_182 0 183 (dk_at dksX0_near_0 2 rfl rfl)
theorem dX0_near_5 : decode cX0_near 5 = .ok (.iconst 0, 1) := dk_3 (dk_at dksX0_near_0 5 rfl rfl)
theorem dX0_near_6 : decode cX0_near 6 = .ok (.istore_n 3, 1) := dk_62 (dk_at dksX0_near_0 6 rfl rfl)
theorem dX0_near_7 : decode cX0_near 7 = .ok (.iconst 0, 1) := dk_3 (dk_at dksX0_near_0 7 rfl rfl)
theorem dX0_near_8 : decode cX0_near 8 = .ok (.istore 4, 2) := dk_54 4 (dk_at dksX0_near_0 8 rfl rfl)
theorem dX0_near_10 : decode cX0_near 10 = .ok (.iload 4, 2) := dk_21 4 (dk_at dksX0_near_0 10 rfl rfl)
theorem dX0_near_12 : decode cX0_near 12 = .ok (.aload_n 0, 1) := dk_42 (dk_at dksX0_near_0 12 rfl rfl)
theorem dX0_near_13 : decode cX0_near 13 = .ok (.getfield 48, 3) := dk_180 0 48 (dk_at dksX0_near_0 13 rfl rfl)
theorem dX0_near_16 : decode cX0_near 16 = .ok (.invokevirtual 151, 3) := dk_182 0 151 (dk_at dksX0_near_0 16 rfl rfl)
theorem dX0_near_19 : decode cX0_near 19 = .ok (.if_icmp .ge 28, 3) := dk_162 0 28 (dk_at dksX0_near_0 19 rfl rfl)
theorem dX0_near_22 : decode cX0_near 22 = .ok (.iload_n 3, 1) := dk_29 (dk_at dksX0_near_0 22 rfl rfl)
theorem dX0_near_23 : decode cX0_near 23 = .ok (.aload_n 0, 1) := dk_42 (dk_at dksX0_near_0 23 rfl rfl)
theorem dX0_near_24 : decode cX0_near 24 = .ok (.getfield 52, 3) := dk_180 0 52 (dk_at dksX0_near_1 0 rfl rfl)
theorem dX0_near_27 : decode cX0_near 27 = .ok (.iload 4, 2) := dk_21 4 (dk_at dksX0_near_1 3 rfl rfl)
theorem dX0_near_29 : decode cX0_near 29 = .ok (.iaload, 1) := dk_46 (dk_at dksX0_near_1 5 rfl rfl)
theorem dX0_near_30 : decode cX0_near 30 = .ok (.iload_n 1, 1) := dk_27 (dk_at dksX0_near_1 6 rfl rfl)
theorem dX0_near_31 : decode cX0_near 31 = .ok (.if_icmp .gt 7, 3) := dk_163 0 7 (dk_at dksX0_near_1 7 rfl rfl)
theorem dX0_near_34 : decode cX0_near 34 = .ok (.iconst 1, 1) := dk_4 (dk_at dksX0_near_1 10 rfl rfl)
theorem dX0_near_35 : decode cX0_near 35 = .ok (.goto 4, 3) := dk_167 0 4 (dk_at dksX0_near_1 11 rfl rfl)
theorem dX0_near_38 : decode cX0_near 38 = .ok (.iconst 0, 1) := dk_3 (dk_at dksX0_near_1 14 rfl rfl)
theorem dX0_near_39 : decode cX0_near 39 = .ok (.iadd, 1) := dk_96 (dk_at dksX0_near_1 15 rfl rfl)
theorem dX0_near_40 : decode cX0_near 40 = .ok (.istore_n 3, 1) := dk_62 (dk_at dksX0_near_1 16 rfl rfl)
theorem dX0_near_41 : decode cX0_near 41 = .ok (.iinc 4 1, 3) := dk_132 4 1 (dk_at dksX0_near_1 17 rfl rfl)
theorem dX0_near_44 : decode cX0_near 44 = .ok (.goto (-34), 3) := dk_167 255 222 (dk_at dksX0_near_1 20 rfl rfl)
theorem dX0_near_47 : decode cX0_near 47 = .ok (.iload_n 3, 1) := dk_29 (dk_at dksX0_near_1 23 rfl rfl)
theorem dX0_near_48 : decode cX0_near 48 = .ok (.ireturn, 1) := dk_172 (dk_at dksX0_near_2 0 rfl rfl)
abbrev cX0_rank : ByteArray := prog_1_method_24_code
def yX0_rank : MethodName := ⟨RX0, "rank", "(IZ)I"⟩
def dkwX0_rank_3 : List UInt8 := [132, 5, 1, 167, 255, 206, 132, 4, 1, 167, 255, 186, 2, 172]
abbrev dktX0_rank_3 : List UInt8 := dkwX0_rank_3 ++ []
def dkwX0_rank_2 : List UInt8 := [29, 132, 3, 255, 154, 0, 19, 42, 180, 0, 48, 21, 5, 182, 0, 187, 192, 0, 154, 182, 0, 191, 172]
abbrev dktX0_rank_2 : List UInt8 := dkwX0_rank_2 ++ dktX0_rank_3
def dkwX0_rank_1 : List UInt8 := [21, 5, 42, 180, 0, 48, 182, 0, 151, 162, 0, 44, 42, 180, 0, 52, 21, 5, 46, 21, 4, 160, 0, 26]
abbrev dktX0_rank_1 : List UInt8 := dkwX0_rank_1 ++ dktX0_rank_2
def dkwX0_rank_0 : List UInt8 := [42, 28, 182, 0, 183, 27, 62, 3, 54, 4, 21, 4, 16, 24, 163, 0, 69, 29, 155, 0, 65, 3, 54, 5]
abbrev dktX0_rank_0 : List UInt8 := dkwX0_rank_0 ++ dktX0_rank_1
theorem dksX0_rank_0 : cX0_rank.data.toList.drop 0 = dktX0_rank_0 := by decide +kernel
theorem dksX0_rank_1 : cX0_rank.data.toList.drop 24 = dktX0_rank_1 := dk_seg dksX0_rank_0 24 rfl rfl
theorem dksX0_rank_2 : cX0_rank.data.toList.drop 48 = dktX0_rank_2 := dk_seg dksX0_rank_1 24 rfl rfl
theorem dksX0_rank_3 : cX0_rank.data.toList.drop 71 = dktX0_rank_3 := dk_seg dksX0_rank_2 23 rfl rfl
theorem dX0_rank_0 : decode cX0_rank 0 = .ok (.aload_n 0, 1) := dk_42 (dk_at dksX0_rank_0 0 rfl rfl)
theorem dX0_rank_1 : decode cX0_rank 1 = .ok (.iload_n 2, 1) := dk_28 (dk_at dksX0_rank_0 1 rfl rfl)
theorem dX0_rank_2 : decode cX0_rank 2 = .ok (.invokevirtual 183, 3) := dk_182 0 183 (dk_at dksX0_rank_0 2 rfl rfl)
theorem dX0_rank_5 : decode cX0_rank 5 = .ok (.iload_n 1, 1) := dk_27 (dk_at dksX0_rank_0 5 rfl rfl)
theorem dX0_rank_6 : decode cX0_rank 6 = .ok (.istore_n 3, 1) := dk_62 (dk_at dksX0_rank_0 6 rfl rfl)
theorem dX0_rank_7 : decode cX0_rank 7 = .ok (.iconst 0, 1) := dk_3 (dk_at dksX0_rank_0 7 rfl rfl)
theorem dX0_rank_8 : decode cX0_rank 8 = .ok (.istore 4, 2) := dk_54 4 (dk_at dksX0_rank_0 8 rfl rfl)
theorem dX0_rank_10 : decode cX0_rank 10 = .ok (.iload 4, 2) := dk_21 4 (dk_at dksX0_rank_0 10 rfl rfl)
theorem dX0_rank_12 : decode cX0_rank 12 = .ok (.bipush 24, 2) := dk_16 24 (dk_at dksX0_rank_0 12 rfl rfl)
theorem dX0_rank_14 : decode cX0_rank 14 = .ok (.if_icmp .gt 69, 3) := dk_163 0 69 (dk_at dksX0_rank_0 14 rfl rfl)
theorem dX0_rank_17 : decode cX0_rank 17 = .ok (.iload_n 3, 1) := dk_29 (dk_at dksX0_rank_0 17 rfl rfl)
theorem dX0_rank_18 : decode cX0_rank 18 = .ok (.ifCond .lt 65, 3) := dk_155 0 65 (dk_at dksX0_rank_0 18 rfl rfl)
theorem dX0_rank_21 : decode cX0_rank 21 = .ok (.iconst 0, 1) := dk_3 (dk_at dksX0_rank_0 21 rfl rfl)
theorem dX0_rank_22 : decode cX0_rank 22 = .ok (.istore 5, 2) := dk_54 5 (dk_at dksX0_rank_0 22 rfl rfl)
theorem dX0_rank_24 : decode cX0_rank 24 = .ok (.iload 5, 2) := dk_21 5 (dk_at dksX0_rank_1 0 rfl rfl)
theorem dX0_rank_26 : decode cX0_rank 26 = .ok (.aload_n 0, 1) := dk_42 (dk_at dksX0_rank_1 2 rfl rfl)
theorem dX0_rank_27 : decode cX0_rank 27 = .ok (.getfield 48, 3) := dk_180 0 48 (dk_at dksX0_rank_1 3 rfl rfl)
theorem dX0_rank_30 : decode cX0_rank 30 = .ok (.invokevirtual 151, 3) := dk_182 0 151 (dk_at dksX0_rank_1 6 rfl rfl)
theorem dX0_rank_33 : decode cX0_rank 33 = .ok (.if_icmp .ge 44, 3) := dk_162 0 44 (dk_at dksX0_rank_1 9 rfl rfl)
theorem dX0_rank_36 : decode cX0_rank 36 = .ok (.aload_n 0, 1) := dk_42 (dk_at dksX0_rank_1 12 rfl rfl)
theorem dX0_rank_37 : decode cX0_rank 37 = .ok (.getfield 52, 3) := dk_180 0 52 (dk_at dksX0_rank_1 13 rfl rfl)
theorem dX0_rank_40 : decode cX0_rank 40 = .ok (.iload 5, 2) := dk_21 5 (dk_at dksX0_rank_1 16 rfl rfl)
theorem dX0_rank_42 : decode cX0_rank 42 = .ok (.iaload, 1) := dk_46 (dk_at dksX0_rank_1 18 rfl rfl)
theorem dX0_rank_43 : decode cX0_rank 43 = .ok (.iload 4, 2) := dk_21 4 (dk_at dksX0_rank_1 19 rfl rfl)
theorem dX0_rank_45 : decode cX0_rank 45 = .ok (.if_icmp .ne 26, 3) := dk_160 0 26 (dk_at dksX0_rank_1 21 rfl rfl)
theorem dX0_rank_48 : decode cX0_rank 48 = .ok (.iload_n 3, 1) := dk_29 (dk_at dksX0_rank_2 0 rfl rfl)
theorem dX0_rank_49 : decode cX0_rank 49 = .ok (.iinc 3 (-1), 3) := dk_132 3 255 (dk_at dksX0_rank_2 1 rfl rfl)
theorem dX0_rank_52 : decode cX0_rank 52 = .ok (.ifCond .ne 19, 3) := dk_154 0 19 (dk_at dksX0_rank_2 4 rfl rfl)
theorem dX0_rank_55 : decode cX0_rank 55 = .ok (.aload_n 0, 1) := dk_42 (dk_at dksX0_rank_2 7 rfl rfl)
theorem dX0_rank_56 : decode cX0_rank 56 = .ok (.getfield 48, 3) := dk_180 0 48 (dk_at dksX0_rank_2 8 rfl rfl)
theorem dX0_rank_59 : decode cX0_rank 59 = .ok (.iload 5, 2) := dk_21 5 (dk_at dksX0_rank_2 11 rfl rfl)
theorem dX0_rank_61 : decode cX0_rank 61 = .ok (.invokevirtual 187, 3) := dk_182 0 187 (dk_at dksX0_rank_2 13 rfl rfl)
theorem dX0_rank_64 : decode cX0_rank 64 = .ok (.checkcast 154, 3) := dk_192 0 154 (dk_at dksX0_rank_2 16 rfl rfl)
theorem dX0_rank_67 : decode cX0_rank 67 = .ok (.invokevirtual 191, 3) := dk_182 0 191 (dk_at dksX0_rank_2 19 rfl rfl)
theorem dX0_rank_70 : decode cX0_rank 70 = .ok (.ireturn, 1) := dk_172 (dk_at dksX0_rank_2 22 rfl rfl)
theorem dX0_rank_71 : decode cX0_rank 71 = .ok (.iinc 5 1, 3) := dk_132 5 1 (dk_at dksX0_rank_3 0 rfl rfl)
theorem dX0_rank_74 : decode cX0_rank 74 = .ok (.goto (-50), 3) := dk_167 255 206 (dk_at dksX0_rank_3 3 rfl rfl)
theorem dX0_rank_77 : decode cX0_rank 77 = .ok (.iinc 4 1, 3) := dk_132 4 1 (dk_at dksX0_rank_3 6 rfl rfl)
theorem dX0_rank_80 : decode cX0_rank 80 = .ok (.goto (-70), 3) := dk_167 255 186 (dk_at dksX0_rank_3 9 rfl rfl)
theorem dX0_rank_83 : decode cX0_rank 83 = .ok (.iconst (-1), 1) := dk_2 (dk_at dksX0_rank_3 12 rfl rfl)
theorem dX0_rank_84 : decode cX0_rank 84 = .ok (.ireturn, 1) := dk_172 (dk_at dksX0_rank_3 13 rfl rfl)
theorem q35 : (Jvm.Cond.initialized "FuzzyFinder") ∈ lw_all := lw_g (lw_at lw_m1 1 rfl) rfl
theorem q66 : (Jvm.Cond.instantiable "FuzzyFinder" (15 : Nat)) ∈ lw_all := lw_g (lw_at lw_m1 32 rfl) rfl
theorem q68 : (Jvm.Cond.instanceMethod ({ cls := "FuzzyFinder", name := "<init>", desc := "()V" } : Jvm.MethodName)) ∈ lw_all := lw_g (lw_at lw_m1 34 rfl) rfl
theorem q69 : (Jvm.Cond.code ({ cls := "FuzzyFinder", name := "<init>", desc := "()V" } : Jvm.MethodName) prog_1_method_1_code (1 : Nat) (Option.none : Option Jvm.ClassFile.FieldType)) ∈ lw_all := lw_g (lw_at lw_m1 35 rfl) rfl
theorem q70 : (Jvm.Cond.methodLink "FuzzyFinder" (1 : Nat) ({ cls := "java/lang/Object", name := "<init>", desc := "()V" } : Jvm.MethodName)) ∈ lw_all := lw_g (lw_at lw_m1 36 rfl) rfl
theorem q73 : (Jvm.Cond.classLink "FuzzyFinder" (7 : Nat) "FuzzyFinder$Bench") ∈ lw_all := lw_g (lw_at lw_m1 39 rfl) rfl
theorem q75 : (Jvm.Cond.methodLinkNest "FuzzyFinder" (9 : Nat) ({ cls := "FuzzyFinder$Bench", name := "<init>", desc := "()V" } : Jvm.MethodName) "FuzzyFinder") ∈ lw_tbl := lw_at lw_m1 41 rfl
theorem q82 : (Jvm.Cond.fieldLinkNest "FuzzyFinder" (110 : Nat) "FuzzyFinder$Bench" "text" "[I" "FuzzyFinder") ∈ lw_tbl := lw_at lw_m1 48 rfl
theorem q84 : (Jvm.Cond.fieldLinkNest "FuzzyFinder" (108 : Nat) "FuzzyFinder$Bench" "length" "I" "FuzzyFinder") ∈ lw_tbl := lw_at lw_m1 50 rfl
theorem q86 : (Jvm.Cond.fieldLinkNest "FuzzyFinder" (96 : Nat) "FuzzyFinder$Bench" "added" "I" "FuzzyFinder") ∈ lw_tbl := lw_at lw_m1 52 rfl
theorem q88 : (Jvm.Cond.fieldLinkNest "FuzzyFinder" (99 : Nat) "FuzzyFinder$Bench" "missing" "I" "FuzzyFinder") ∈ lw_tbl := lw_at lw_m1 54 rfl
theorem q90 : (Jvm.Cond.fieldLinkNest "FuzzyFinder" (102 : Nat) "FuzzyFinder$Bench" "wrong" "I" "FuzzyFinder") ∈ lw_tbl := lw_at lw_m1 56 rfl
theorem q92 : (Jvm.Cond.fieldLinkNest "FuzzyFinder" (122 : Nat) "FuzzyFinder$Bench" "tables" "[[I" "FuzzyFinder") ∈ lw_tbl := lw_at lw_m1 58 rfl
theorem q107 : (Jvm.Cond.classLink "FuzzyFinder" (16 : Nat) "FuzzyFinder$Reader") ∈ lw_all := lw_g (lw_at lw_m1 73 rfl) rfl
theorem q109 : (Jvm.Cond.methodLinkNest "FuzzyFinder" (18 : Nat) ({ cls := "FuzzyFinder$Reader", name := "<init>", desc := "()V" } : Jvm.MethodName) "FuzzyFinder") ∈ lw_tbl := lw_at lw_m1 75 rfl
theorem q160 : (Jvm.Cond.fieldLinkNest "FuzzyFinder" (55 : Nat) "FuzzyFinder$Reader" "text" "Ljava/lang/StringBuilder;" "FuzzyFinder") ∈ lw_tbl := lw_at lw_m1 126 rfl
theorem q162 : (Jvm.Cond.fieldLinkNest "FuzzyFinder" (76 : Nat) "FuzzyFinder$Reader" "at" "I" "FuzzyFinder") ∈ lw_tbl := lw_at lw_m1 128 rfl
theorem q164 : (Jvm.Cond.fieldLinkNest "FuzzyFinder" (79 : Nat) "FuzzyFinder$Reader" "nodes" "I" "FuzzyFinder") ∈ lw_tbl := lw_at lw_m1 130 rfl
theorem q178 : (Jvm.Cond.classLink "FuzzyFinder" (27 : Nat) "FuzzyFinder$Branch") ∈ lw_all := lw_g (lw_at lw_m1 144 rfl) rfl
theorem q180 : (Jvm.Cond.methodLink "FuzzyFinder" (29 : Nat) ({ cls := "FuzzyFinder$Branch", name := "<init>", desc := "(I)V" } : Jvm.MethodName)) ∈ lw_all := lw_g (lw_at lw_m1 146 rfl) rfl
theorem q185 : (Jvm.Cond.fieldLinkNest "FuzzyFinder" (166 : Nat) "FuzzyFinder$Branch" "letter" "I" "FuzzyFinder") ∈ lw_tbl := lw_at lw_m1 151 rfl
theorem q187 : (Jvm.Cond.fieldLinkNest "FuzzyFinder" (143 : Nat) "FuzzyFinder$Branch" "word" "I" "FuzzyFinder") ∈ lw_tbl := lw_at lw_m1 153 rfl
theorem q189 : (Jvm.Cond.fieldLinkNest "FuzzyFinder" (163 : Nat) "FuzzyFinder$Branch" "child" "LFuzzyFinder$Branch;" "FuzzyFinder") ∈ lw_tbl := lw_at lw_m1 155 rfl
theorem q191 : (Jvm.Cond.fieldLinkNest "FuzzyFinder" (177 : Nat) "FuzzyFinder$Branch" "next" "LFuzzyFinder$Branch;" "FuzzyFinder") ∈ lw_tbl := lw_at lw_m1 157 rfl
theorem q201 : (Jvm.Cond.classLink "FuzzyFinder" (40 : Nat) "[[I") ∈ lw_all := lw_g (lw_at lw_m1 167 rfl) rfl
theorem q202 : (Jvm.Cond.classLink "FuzzyFinder" (45 : Nat) "java/util/ArrayList") ∈ lw_all := lw_g (lw_at lw_m1 168 rfl) rfl
theorem q204 : (Jvm.Cond.methodLink "FuzzyFinder" (47 : Nat) ({ cls := "java/util/ArrayList", name := "<init>", desc := "()V" } : Jvm.MethodName)) ∈ lw_all := lw_g (lw_at lw_m1 170 rfl) rfl
theorem q228 : (Jvm.Cond.fieldLink "FuzzyFinder" (10 : Nat) "FuzzyFinder" "bench" "LFuzzyFinder$Bench;") ∈ lw_all := lw_g (lw_at lw_m1 194 rfl) rfl
theorem q229 : (Jvm.Cond.fieldLink "FuzzyFinder" (19 : Nat) "FuzzyFinder" "reader" "LFuzzyFinder$Reader;") ∈ lw_all := lw_g (lw_at lw_m1 195 rfl) rfl
theorem q230 : (Jvm.Cond.fieldLink "FuzzyFinder" (82 : Nat) "FuzzyFinder" "pattern" "LFuzzyFinder$Node;") ∈ lw_all := lw_g (lw_at lw_m1 196 rfl) rfl
theorem q231 : (Jvm.Cond.fieldLink "FuzzyFinder" (86 : Nat) "FuzzyFinder" "size" "I") ∈ lw_all := lw_g (lw_at lw_m1 197 rfl) rfl
theorem q232 : (Jvm.Cond.fieldLink "FuzzyFinder" (105 : Nat) "FuzzyFinder" "most" "I") ∈ lw_all := lw_g (lw_at lw_m1 198 rfl) rfl
theorem q233 : (Jvm.Cond.fieldLink "FuzzyFinder" (112 : Nat) "FuzzyFinder" "made" "Z") ∈ lw_all := lw_g (lw_at lw_m1 199 rfl) rfl
theorem q234 : (Jvm.Cond.fieldLink "FuzzyFinder" (23 : Nat) "FuzzyFinder" "found" "I") ∈ lw_all := lw_g (lw_at lw_m1 200 rfl) rfl
theorem q235 : (Jvm.Cond.fieldLink "FuzzyFinder" (130 : Nat) "FuzzyFinder" "start" "I") ∈ lw_all := lw_g (lw_at lw_m1 201 rfl) rfl
theorem q236 : (Jvm.Cond.fieldLink "FuzzyFinder" (133 : Nat) "FuzzyFinder" "end" "I") ∈ lw_all := lw_g (lw_at lw_m1 202 rfl) rfl
theorem q237 : (Jvm.Cond.fieldLink "FuzzyFinder" (32 : Nat) "FuzzyFinder" "root" "LFuzzyFinder$Branch;") ∈ lw_all := lw_g (lw_at lw_m1 203 rfl) rfl
theorem q238 : (Jvm.Cond.fieldLink "FuzzyFinder" (136 : Nat) "FuzzyFinder" "words" "I") ∈ lw_all := lw_g (lw_at lw_m1 204 rfl) rfl
theorem q239 : (Jvm.Cond.fieldLink "FuzzyFinder" (36 : Nat) "FuzzyFinder" "path" "[I") ∈ lw_all := lw_g (lw_at lw_m1 205 rfl) rfl
theorem q240 : (Jvm.Cond.fieldLink "FuzzyFinder" (42 : Nat) "FuzzyFinder" "distances" "[[I") ∈ lw_all := lw_g (lw_at lw_m1 206 rfl) rfl
theorem q241 : (Jvm.Cond.fieldLink "FuzzyFinder" (48 : Nat) "FuzzyFinder" "order" "Ljava/util/ArrayList;") ∈ lw_all := lw_g (lw_at lw_m1 207 rfl) rfl
theorem q242 : (Jvm.Cond.fieldLink "FuzzyFinder" (52 : Nat) "FuzzyFinder" "far" "[I") ∈ lw_all := lw_g (lw_at lw_m1 208 rfl) rfl
theorem q243 : (Jvm.Cond.laysFinal "FuzzyFinder" "FuzzyFinder" "bench" "LFuzzyFinder$Bench;") ∈ lw_all := lw_g (lw_at lw_m1 209 rfl) rfl
theorem q244 : (Jvm.Cond.soleField "FuzzyFinder" "bench") ∈ lw_all := lw_g (lw_at lw_m1 210 rfl) rfl
theorem q245 : (Jvm.Cond.laysFinal "FuzzyFinder" "FuzzyFinder" "reader" "LFuzzyFinder$Reader;") ∈ lw_all := lw_g (lw_at lw_m1 211 rfl) rfl
theorem q246 : (Jvm.Cond.soleField "FuzzyFinder" "reader") ∈ lw_all := lw_g (lw_at lw_m1 212 rfl) rfl
theorem q247 : (Jvm.Cond.lays "FuzzyFinder" "FuzzyFinder" "pattern" "LFuzzyFinder$Node;") ∈ lw_all := lw_g (lw_at lw_m1 213 rfl) rfl
theorem q248 : (Jvm.Cond.soleField "FuzzyFinder" "pattern") ∈ lw_all := lw_g (lw_at lw_m1 214 rfl) rfl
theorem q249 : (Jvm.Cond.lays "FuzzyFinder" "FuzzyFinder" "size" "I") ∈ lw_all := lw_g (lw_at lw_m1 215 rfl) rfl
theorem q250 : (Jvm.Cond.soleField "FuzzyFinder" "size") ∈ lw_all := lw_g (lw_at lw_m1 216 rfl) rfl
theorem q251 : (Jvm.Cond.lays "FuzzyFinder" "FuzzyFinder" "most" "I") ∈ lw_all := lw_g (lw_at lw_m1 217 rfl) rfl
theorem q252 : (Jvm.Cond.soleField "FuzzyFinder" "most") ∈ lw_all := lw_g (lw_at lw_m1 218 rfl) rfl
theorem q253 : (Jvm.Cond.lays "FuzzyFinder" "FuzzyFinder" "made" "Z") ∈ lw_all := lw_g (lw_at lw_m1 219 rfl) rfl
theorem q254 : (Jvm.Cond.soleField "FuzzyFinder" "made") ∈ lw_all := lw_g (lw_at lw_m1 220 rfl) rfl
theorem q255 : (Jvm.Cond.lays "FuzzyFinder" "FuzzyFinder" "found" "I") ∈ lw_all := lw_g (lw_at lw_m1 221 rfl) rfl
theorem q256 : (Jvm.Cond.soleField "FuzzyFinder" "found") ∈ lw_all := lw_g (lw_at lw_m1 222 rfl) rfl
theorem q257 : (Jvm.Cond.lays "FuzzyFinder" "FuzzyFinder" "start" "I") ∈ lw_all := lw_g (lw_at lw_m1 223 rfl) rfl
theorem q258 : (Jvm.Cond.soleField "FuzzyFinder" "start") ∈ lw_all := lw_g (lw_at lw_m1 224 rfl) rfl
theorem q259 : (Jvm.Cond.lays "FuzzyFinder" "FuzzyFinder" "end" "I") ∈ lw_all := lw_g (lw_at lw_m1 225 rfl) rfl
theorem q260 : (Jvm.Cond.soleField "FuzzyFinder" "end") ∈ lw_all := lw_g (lw_at lw_m1 226 rfl) rfl
theorem q261 : (Jvm.Cond.laysFinal "FuzzyFinder" "FuzzyFinder" "root" "LFuzzyFinder$Branch;") ∈ lw_all := lw_g (lw_at lw_m1 227 rfl) rfl
theorem q262 : (Jvm.Cond.soleField "FuzzyFinder" "root") ∈ lw_all := lw_g (lw_at lw_m1 228 rfl) rfl
theorem q263 : (Jvm.Cond.lays "FuzzyFinder" "FuzzyFinder" "words" "I") ∈ lw_all := lw_g (lw_at lw_m1 229 rfl) rfl
theorem q264 : (Jvm.Cond.soleField "FuzzyFinder" "words") ∈ lw_all := lw_g (lw_at lw_m1 230 rfl) rfl
theorem q265 : (Jvm.Cond.laysFinal "FuzzyFinder" "FuzzyFinder" "path" "[I") ∈ lw_all := lw_g (lw_at lw_m1 231 rfl) rfl
theorem q266 : (Jvm.Cond.soleField "FuzzyFinder" "path") ∈ lw_all := lw_g (lw_at lw_m1 232 rfl) rfl
theorem q267 : (Jvm.Cond.laysFinal "FuzzyFinder" "FuzzyFinder" "distances" "[[I") ∈ lw_all := lw_g (lw_at lw_m1 233 rfl) rfl
theorem q268 : (Jvm.Cond.soleField "FuzzyFinder" "distances") ∈ lw_all := lw_g (lw_at lw_m1 234 rfl) rfl
theorem q269 : (Jvm.Cond.laysFinal "FuzzyFinder" "FuzzyFinder" "order" "Ljava/util/ArrayList;") ∈ lw_all := lw_g (lw_at lw_m1 235 rfl) rfl
theorem q270 : (Jvm.Cond.soleField "FuzzyFinder" "order") ∈ lw_all := lw_g (lw_at lw_m1 236 rfl) rfl
theorem q271 : (Jvm.Cond.laysFinal "FuzzyFinder" "FuzzyFinder" "far" "[I") ∈ lw_all := lw_g (lw_at lw_m1 237 rfl) rfl
theorem q272 : (Jvm.Cond.soleField "FuzzyFinder" "far") ∈ lw_all := lw_g (lw_at lw_m1 238 rfl) rfl
theorem q273 : (Jvm.Cond.superclass "FuzzyFinder" "java/lang/Object") ∈ lw_all := lw_g (lw_at lw_m1 239 rfl) rfl
theorem q275 : (Jvm.Cond.instanceMethod ({ cls := "FuzzyFinder", name := "type", desc := "(C)Z" } : Jvm.MethodName)) ∈ lw_all := lw_g (lw_at lw_m2 1 rfl) rfl
theorem q276 : (Jvm.Cond.selects "FuzzyFinder" ({ cls := "FuzzyFinder", name := "type", desc := "(C)Z" } : Jvm.MethodName) ({ cls := "FuzzyFinder", name := "type", desc := "(C)Z" } : Jvm.MethodName)) ∈ lw_all := lw_g (lw_at lw_m2 2 rfl) rfl
theorem q277 : (Jvm.Cond.code ({ cls := "FuzzyFinder", name := "type", desc := "(C)Z" } : Jvm.MethodName) prog_1_method_2_code (2 : Nat) (Option.some Jvm.ClassFile.FieldType.boolean)) ∈ lw_all := lw_g (lw_at lw_m2 3 rfl) rfl
theorem q278 : (Jvm.Cond.methodLink "FuzzyFinder" (59 : Nat) ({ cls := "java/lang/StringBuilder", name := "length", desc := "()I" } : Jvm.MethodName)) ∈ lw_all := lw_g (lw_at lw_m2 4 rfl) rfl
theorem q285 : (Jvm.Cond.methodLink "FuzzyFinder" (65 : Nat) ({ cls := "java/lang/StringBuilder", name := "append", desc := "(C)Ljava/lang/StringBuilder;" } : Jvm.MethodName)) ∈ lw_all := lw_g (lw_at lw_m2 11 rfl) rfl
theorem q381 : (Jvm.Cond.instanceMethod ({ cls := "FuzzyFinder", name := "compile", desc := "()I" } : Jvm.MethodName)) ∈ lw_all := lw_g (lw_at lw_m2 107 rfl) rfl
theorem q382 : (Jvm.Cond.selects "FuzzyFinder" ({ cls := "FuzzyFinder", name := "compile", desc := "()I" } : Jvm.MethodName) ({ cls := "FuzzyFinder", name := "compile", desc := "()I" } : Jvm.MethodName)) ∈ lw_all := lw_g (lw_at lw_m2 108 rfl) rfl
theorem q383 : (Jvm.Cond.code ({ cls := "FuzzyFinder", name := "compile", desc := "()I" } : Jvm.MethodName) prog_1_method_3_code (2 : Nat) (Option.some Jvm.ClassFile.FieldType.int)) ∈ lw_all := lw_g (lw_at lw_m2 109 rfl) rfl
theorem q384 : (Jvm.Cond.methodLink "FuzzyFinder" (69 : Nat) ({ cls := "FuzzyFinder$Reader", name := "read", desc := "()LFuzzyFinder$Node;" } : Jvm.MethodName)) ∈ lw_all := lw_g (lw_at lw_m2 110 rfl) rfl
theorem q509 : (Jvm.Cond.methodLink "FuzzyFinder" (73 : Nat) ({ cls := "java/lang/StringBuilder", name := "setLength", desc := "(I)V" } : Jvm.MethodName)) ∈ lw_all := lw_g (lw_at lw_m2 235 rfl) rfl
theorem q529 : (Jvm.Cond.methodLink "FuzzyFinder" (89 : Nat) ({ cls := "FuzzyFinder", name := "changed", desc := "()V" } : Jvm.MethodName)) ∈ lw_all := lw_g (lw_at lw_m3 15 rfl) rfl
theorem q530 : (Jvm.Cond.privateMethod ({ cls := "FuzzyFinder", name := "changed", desc := "()V" } : Jvm.MethodName)) ∈ lw_tbl := lw_at lw_m3 16 rfl
theorem q531 : (Jvm.Cond.instanceMethod ({ cls := "FuzzyFinder", name := "changed", desc := "()V" } : Jvm.MethodName)) ∈ lw_all := lw_g (lw_at lw_m3 17 rfl) rfl
theorem q532 : (Jvm.Cond.code ({ cls := "FuzzyFinder", name := "changed", desc := "()V" } : Jvm.MethodName) prog_1_method_10_code (1 : Nat) (Option.none : Option Jvm.ClassFile.FieldType)) ∈ lw_all := lw_g (lw_at lw_m3 18 rfl) rfl
theorem q534 : (Jvm.Cond.instanceMethod ({ cls := "FuzzyFinder", name := "nodes", desc := "()I" } : Jvm.MethodName)) ∈ lw_all := lw_g (lw_at lw_m3 20 rfl) rfl
theorem q535 : (Jvm.Cond.selects "FuzzyFinder" ({ cls := "FuzzyFinder", name := "nodes", desc := "()I" } : Jvm.MethodName) ({ cls := "FuzzyFinder", name := "nodes", desc := "()I" } : Jvm.MethodName)) ∈ lw_all := lw_g (lw_at lw_m3 21 rfl) rfl
theorem q536 : (Jvm.Cond.code ({ cls := "FuzzyFinder", name := "nodes", desc := "()I" } : Jvm.MethodName) prog_1_method_4_code (1 : Nat) (Option.some Jvm.ClassFile.FieldType.int)) ∈ lw_all := lw_g (lw_at lw_m3 22 rfl) rfl
theorem q538 : (Jvm.Cond.instanceMethod ({ cls := "FuzzyFinder", name := "weights", desc := "(III)Z" } : Jvm.MethodName)) ∈ lw_all := lw_g (lw_at lw_m3 24 rfl) rfl
theorem q539 : (Jvm.Cond.selects "FuzzyFinder" ({ cls := "FuzzyFinder", name := "weights", desc := "(III)Z" } : Jvm.MethodName) ({ cls := "FuzzyFinder", name := "weights", desc := "(III)Z" } : Jvm.MethodName)) ∈ lw_all := lw_g (lw_at lw_m3 25 rfl) rfl
theorem q540 : (Jvm.Cond.code ({ cls := "FuzzyFinder", name := "weights", desc := "(III)Z" } : Jvm.MethodName) prog_1_method_6_code (4 : Nat) (Option.some Jvm.ClassFile.FieldType.boolean)) ∈ lw_all := lw_g (lw_at lw_m3 26 rfl) rfl
theorem q541 : (Jvm.Cond.methodLink "FuzzyFinder" (92 : Nat) ({ cls := "FuzzyFinder", name := "digit", desc := "(I)Z" } : Jvm.MethodName)) ∈ lw_all := lw_g (lw_at lw_m3 27 rfl) rfl
theorem q542 : (Jvm.Cond.static ({ cls := "FuzzyFinder", name := "digit", desc := "(I)Z" } : Jvm.MethodName)) ∈ lw_all := lw_g (lw_at lw_m3 28 rfl) rfl
theorem q543 : (Jvm.Cond.code ({ cls := "FuzzyFinder", name := "digit", desc := "(I)Z" } : Jvm.MethodName) prog_1_method_5_code (1 : Nat) (Option.some Jvm.ClassFile.FieldType.boolean)) ∈ lw_all := lw_g (lw_at lw_m3 29 rfl) rfl
theorem q545 : (Jvm.Cond.instanceMethod ({ cls := "FuzzyFinder", name := "bound", desc := "(I)Z" } : Jvm.MethodName)) ∈ lw_all := lw_g (lw_at lw_m3 31 rfl) rfl
theorem q546 : (Jvm.Cond.selects "FuzzyFinder" ({ cls := "FuzzyFinder", name := "bound", desc := "(I)Z" } : Jvm.MethodName) ({ cls := "FuzzyFinder", name := "bound", desc := "(I)Z" } : Jvm.MethodName)) ∈ lw_all := lw_g (lw_at lw_m3 32 rfl) rfl
theorem q547 : (Jvm.Cond.code ({ cls := "FuzzyFinder", name := "bound", desc := "(I)Z" } : Jvm.MethodName) prog_1_method_7_code (2 : Nat) (Option.some Jvm.ClassFile.FieldType.boolean)) ∈ lw_all := lw_g (lw_at lw_m3 33 rfl) rfl
theorem q549 : (Jvm.Cond.instanceMethod ({ cls := "FuzzyFinder", name := "write", desc := "(C)Z" } : Jvm.MethodName)) ∈ lw_all := lw_g (lw_at lw_m3 35 rfl) rfl
theorem q550 : (Jvm.Cond.selects "FuzzyFinder" ({ cls := "FuzzyFinder", name := "write", desc := "(C)Z" } : Jvm.MethodName) ({ cls := "FuzzyFinder", name := "write", desc := "(C)Z" } : Jvm.MethodName)) ∈ lw_all := lw_g (lw_at lw_m3 36 rfl) rfl
theorem q551 : (Jvm.Cond.code ({ cls := "FuzzyFinder", name := "write", desc := "(C)Z" } : Jvm.MethodName) prog_1_method_8_code (2 : Nat) (Option.some Jvm.ClassFile.FieldType.boolean)) ∈ lw_all := lw_g (lw_at lw_m3 37 rfl) rfl
theorem q553 : (Jvm.Cond.instanceMethod ({ cls := "FuzzyFinder", name := "erase", desc := "()V" } : Jvm.MethodName)) ∈ lw_all := lw_g (lw_at lw_m3 39 rfl) rfl
theorem q554 : (Jvm.Cond.selects "FuzzyFinder" ({ cls := "FuzzyFinder", name := "erase", desc := "()V" } : Jvm.MethodName) ({ cls := "FuzzyFinder", name := "erase", desc := "()V" } : Jvm.MethodName)) ∈ lw_all := lw_g (lw_at lw_m3 40 rfl) rfl
theorem q555 : (Jvm.Cond.code ({ cls := "FuzzyFinder", name := "erase", desc := "()V" } : Jvm.MethodName) prog_1_method_9_code (1 : Nat) (Option.none : Option Jvm.ClassFile.FieldType)) ∈ lw_all := lw_g (lw_at lw_m3 41 rfl) rfl
theorem q557 : (Jvm.Cond.instanceMethod ({ cls := "FuzzyFinder", name := "cost", desc := "(II)I" } : Jvm.MethodName)) ∈ lw_all := lw_g (lw_at lw_m3 43 rfl) rfl
theorem q558 : (Jvm.Cond.selects "FuzzyFinder" ({ cls := "FuzzyFinder", name := "cost", desc := "(II)I" } : Jvm.MethodName) ({ cls := "FuzzyFinder", name := "cost", desc := "(II)I" } : Jvm.MethodName)) ∈ lw_all := lw_g (lw_at lw_m3 44 rfl) rfl
theorem q559 : (Jvm.Cond.code ({ cls := "FuzzyFinder", name := "cost", desc := "(II)I" } : Jvm.MethodName) prog_1_method_12_code (4 : Nat) (Option.some Jvm.ClassFile.FieldType.int)) ∈ lw_all := lw_g (lw_at lw_m3 45 rfl) rfl
theorem q560 : (Jvm.Cond.methodLink "FuzzyFinder" (125 : Nat) ({ cls := "FuzzyFinder", name := "costOf", desc := "(II)I" } : Jvm.MethodName)) ∈ lw_all := lw_g (lw_at lw_m3 46 rfl) rfl
theorem q561 : (Jvm.Cond.privateMethod ({ cls := "FuzzyFinder", name := "costOf", desc := "(II)I" } : Jvm.MethodName)) ∈ lw_tbl := lw_at lw_m3 47 rfl
theorem q562 : (Jvm.Cond.instanceMethod ({ cls := "FuzzyFinder", name := "costOf", desc := "(II)I" } : Jvm.MethodName)) ∈ lw_all := lw_g (lw_at lw_m3 48 rfl) rfl
theorem q563 : (Jvm.Cond.code ({ cls := "FuzzyFinder", name := "costOf", desc := "(II)I" } : Jvm.MethodName) prog_1_method_11_code (3 : Nat) (Option.some Jvm.ClassFile.FieldType.int)) ∈ lw_all := lw_g (lw_at lw_m3 49 rfl) rfl
theorem q564 : (Jvm.Cond.interfaceEntry "FuzzyFinder" (116 : Nat)) ∈ lw_tbl := lw_at lw_m3 50 rfl
theorem q565 : (Jvm.Cond.methodLink "FuzzyFinder" (116 : Nat) ({ cls := "FuzzyFinder$Node", name := "fill", desc := "(LFuzzyFinder$Bench;I)V" } : Jvm.MethodName)) ∈ lw_all := lw_g (lw_at lw_m3 51 rfl) rfl
theorem q632 : (Jvm.Cond.constant "FuzzyFinder" (129 : Nat) (16777216 : Int32)) ∈ lw_all := lw_g (lw_at lw_m3 118 rfl) rfl
theorem q634 : (Jvm.Cond.instanceMethod ({ cls := "FuzzyFinder", name := "find", desc := "(Z)I" } : Jvm.MethodName)) ∈ lw_all := lw_g (lw_at lw_m3 120 rfl) rfl
theorem q635 : (Jvm.Cond.selects "FuzzyFinder" ({ cls := "FuzzyFinder", name := "find", desc := "(Z)I" } : Jvm.MethodName) ({ cls := "FuzzyFinder", name := "find", desc := "(Z)I" } : Jvm.MethodName)) ∈ lw_all := lw_g (lw_at lw_m3 121 rfl) rfl
theorem q636 : (Jvm.Cond.code ({ cls := "FuzzyFinder", name := "find", desc := "(Z)I" } : Jvm.MethodName) prog_1_method_13_code (6 : Nat) (Option.some Jvm.ClassFile.FieldType.int)) ∈ lw_all := lw_g (lw_at lw_m3 122 rfl) rfl
theorem q638 : (Jvm.Cond.instanceMethod ({ cls := "FuzzyFinder", name := "from", desc := "()I" } : Jvm.MethodName)) ∈ lw_all := lw_g (lw_at lw_m3 124 rfl) rfl
theorem q639 : (Jvm.Cond.selects "FuzzyFinder" ({ cls := "FuzzyFinder", name := "from", desc := "()I" } : Jvm.MethodName) ({ cls := "FuzzyFinder", name := "from", desc := "()I" } : Jvm.MethodName)) ∈ lw_all := lw_g (lw_at lw_m3 125 rfl) rfl
theorem q640 : (Jvm.Cond.code ({ cls := "FuzzyFinder", name := "from", desc := "()I" } : Jvm.MethodName) prog_1_method_14_code (1 : Nat) (Option.some Jvm.ClassFile.FieldType.int)) ∈ lw_all := lw_g (lw_at lw_m3 126 rfl) rfl
theorem q642 : (Jvm.Cond.instanceMethod ({ cls := "FuzzyFinder", name := "to", desc := "()I" } : Jvm.MethodName)) ∈ lw_all := lw_g (lw_at lw_m3 128 rfl) rfl
theorem q643 : (Jvm.Cond.selects "FuzzyFinder" ({ cls := "FuzzyFinder", name := "to", desc := "()I" } : Jvm.MethodName) ({ cls := "FuzzyFinder", name := "to", desc := "()I" } : Jvm.MethodName)) ∈ lw_all := lw_g (lw_at lw_m3 129 rfl) rfl
theorem q644 : (Jvm.Cond.code ({ cls := "FuzzyFinder", name := "to", desc := "()I" } : Jvm.MethodName) prog_1_method_15_code (1 : Nat) (Option.some Jvm.ClassFile.FieldType.int)) ∈ lw_all := lw_g (lw_at lw_m3 130 rfl) rfl
theorem q646 : (Jvm.Cond.instanceMethod ({ cls := "FuzzyFinder", name := "ends", desc := "()I" } : Jvm.MethodName)) ∈ lw_all := lw_g (lw_at lw_m3 132 rfl) rfl
theorem q647 : (Jvm.Cond.selects "FuzzyFinder" ({ cls := "FuzzyFinder", name := "ends", desc := "()I" } : Jvm.MethodName) ({ cls := "FuzzyFinder", name := "ends", desc := "()I" } : Jvm.MethodName)) ∈ lw_all := lw_g (lw_at lw_m3 133 rfl) rfl
theorem q648 : (Jvm.Cond.code ({ cls := "FuzzyFinder", name := "ends", desc := "()I" } : Jvm.MethodName) prog_1_method_16_code (4 : Nat) (Option.some Jvm.ClassFile.FieldType.int)) ∈ lw_all := lw_g (lw_at lw_m3 134 rfl) rfl
theorem q650 : (Jvm.Cond.instanceMethod ({ cls := "FuzzyFinder", name := "add", desc := "()I" } : Jvm.MethodName)) ∈ lw_all := lw_g (lw_at lw_m3 136 rfl) rfl
theorem q651 : (Jvm.Cond.selects "FuzzyFinder" ({ cls := "FuzzyFinder", name := "add", desc := "()I" } : Jvm.MethodName) ({ cls := "FuzzyFinder", name := "add", desc := "()I" } : Jvm.MethodName)) ∈ lw_all := lw_g (lw_at lw_m3 137 rfl) rfl
theorem q652 : (Jvm.Cond.code ({ cls := "FuzzyFinder", name := "add", desc := "()I" } : Jvm.MethodName) prog_1_method_17_code (3 : Nat) (Option.some Jvm.ClassFile.FieldType.int)) ∈ lw_all := lw_g (lw_at lw_m3 138 rfl) rfl
theorem q653 : (Jvm.Cond.methodLink "FuzzyFinder" (139 : Nat) ({ cls := "FuzzyFinder$Branch", name := "grow", desc := "(I)LFuzzyFinder$Branch;" } : Jvm.MethodName)) ∈ lw_all := lw_g (lw_at lw_m3 139 rfl) rfl
theorem q660 : (Jvm.Cond.instanceMethod ({ cls := "FuzzyFinder", name := "words", desc := "()I" } : Jvm.MethodName)) ∈ lw_all := lw_g (lw_at lw_m3 146 rfl) rfl
theorem q661 : (Jvm.Cond.selects "FuzzyFinder" ({ cls := "FuzzyFinder", name := "words", desc := "()I" } : Jvm.MethodName) ({ cls := "FuzzyFinder", name := "words", desc := "()I" } : Jvm.MethodName)) ∈ lw_all := lw_g (lw_at lw_m3 147 rfl) rfl
theorem q662 : (Jvm.Cond.code ({ cls := "FuzzyFinder", name := "words", desc := "()I" } : Jvm.MethodName) prog_1_method_18_code (1 : Nat) (Option.some Jvm.ClassFile.FieldType.int)) ∈ lw_all := lw_g (lw_at lw_m3 148 rfl) rfl
theorem q664 : (Jvm.Cond.instanceMethod ({ cls := "FuzzyFinder", name := "distance", desc := "(IZ)I" } : Jvm.MethodName)) ∈ lw_all := lw_g (lw_at lw_m3 150 rfl) rfl
theorem q665 : (Jvm.Cond.selects "FuzzyFinder" ({ cls := "FuzzyFinder", name := "distance", desc := "(IZ)I" } : Jvm.MethodName) ({ cls := "FuzzyFinder", name := "distance", desc := "(IZ)I" } : Jvm.MethodName)) ∈ lw_all := lw_g (lw_at lw_m3 151 rfl) rfl
theorem q666 : (Jvm.Cond.code ({ cls := "FuzzyFinder", name := "distance", desc := "(IZ)I" } : Jvm.MethodName) prog_1_method_22_code (5 : Nat) (Option.some Jvm.ClassFile.FieldType.int)) ∈ lw_all := lw_g (lw_at lw_m3 152 rfl) rfl
theorem q667 : (Jvm.Cond.methodLink "FuzzyFinder" (183 : Nat) ({ cls := "FuzzyFinder", name := "measure", desc := "(Z)V" } : Jvm.MethodName)) ∈ lw_all := lw_g (lw_at lw_m3 153 rfl) rfl
theorem q668 : (Jvm.Cond.privateMethod ({ cls := "FuzzyFinder", name := "measure", desc := "(Z)V" } : Jvm.MethodName)) ∈ lw_tbl := lw_at lw_m3 154 rfl
theorem q669 : (Jvm.Cond.instanceMethod ({ cls := "FuzzyFinder", name := "measure", desc := "(Z)V" } : Jvm.MethodName)) ∈ lw_all := lw_g (lw_at lw_m3 155 rfl) rfl
theorem q670 : (Jvm.Cond.code ({ cls := "FuzzyFinder", name := "measure", desc := "(Z)V" } : Jvm.MethodName) prog_1_method_21_code (3 : Nat) (Option.none : Option Jvm.ClassFile.FieldType)) ∈ lw_all := lw_g (lw_at lw_m3 156 rfl) rfl
theorem q671 : (Jvm.Cond.methodLink "FuzzyFinder" (180 : Nat) ({ cls := "java/util/ArrayList", name := "clear", desc := "()V" } : Jvm.MethodName)) ∈ lw_all := lw_g (lw_at lw_m3 157 rfl) rfl
theorem q675 : (Jvm.Cond.methodLink "FuzzyFinder" (173 : Nat) ({ cls := "FuzzyFinder", name := "walk", desc := "(LFuzzyFinder;LFuzzyFinder$Branch;IZ)V" } : Jvm.MethodName)) ∈ lw_all := lw_g (lw_at lw_m3 161 rfl) rfl
theorem q676 : (Jvm.Cond.static ({ cls := "FuzzyFinder", name := "walk", desc := "(LFuzzyFinder;LFuzzyFinder$Branch;IZ)V" } : Jvm.MethodName)) ∈ lw_all := lw_g (lw_at lw_m3 162 rfl) rfl
theorem q677 : (Jvm.Cond.code ({ cls := "FuzzyFinder", name := "walk", desc := "(LFuzzyFinder;LFuzzyFinder$Branch;IZ)V" } : Jvm.MethodName) prog_1_method_20_code (5 : Nat) (Option.none : Option Jvm.ClassFile.FieldType)) ∈ lw_all := lw_g (lw_at lw_m3 163 rfl) rfl
theorem q678 : (Jvm.Cond.methodLink "FuzzyFinder" (151 : Nat) ({ cls := "java/util/ArrayList", name := "size", desc := "()I" } : Jvm.MethodName)) ∈ lw_all := lw_g (lw_at lw_m3 164 rfl) rfl
theorem q682 : (Jvm.Cond.methodLink "FuzzyFinder" (153 : Nat) ({ cls := "java/lang/Integer", name := "valueOf", desc := "(I)Ljava/lang/Integer;" } : Jvm.MethodName)) ∈ lw_all := lw_g (lw_at lw_m3 168 rfl) rfl
theorem q702 : (Jvm.Cond.methodLink "FuzzyFinder" (159 : Nat) ({ cls := "java/util/ArrayList", name := "add", desc := "(Ljava/lang/Object;)Z" } : Jvm.MethodName)) ∈ lw_all := lw_g (lw_at lw_m3 188 rfl) rfl
theorem q725 : (Jvm.Cond.selects "FuzzyFinder" ({ cls := "java/lang/Object", name := "getClass", desc := "()Ljava/lang/Class;" } : Jvm.MethodName) ({ cls := "java/lang/Object", name := "getClass", desc := "()Ljava/lang/Class;" } : Jvm.MethodName)) ∈ lw_all := lw_g (lw_at lw_m3 211 rfl) rfl
theorem q748 : (Jvm.Cond.methodLink "FuzzyFinder" (169 : Nat) ({ cls := "FuzzyFinder", name := "step", desc := "(IZ)V" } : Jvm.MethodName)) ∈ lw_all := lw_g (lw_at lw_m3 234 rfl) rfl
theorem q749 : (Jvm.Cond.privateMethod ({ cls := "FuzzyFinder", name := "step", desc := "(IZ)V" } : Jvm.MethodName)) ∈ lw_tbl := lw_at lw_m3 235 rfl
theorem q750 : (Jvm.Cond.instanceMethod ({ cls := "FuzzyFinder", name := "step", desc := "(IZ)V" } : Jvm.MethodName)) ∈ lw_all := lw_g (lw_at lw_m3 236 rfl) rfl
theorem q751 : (Jvm.Cond.code ({ cls := "FuzzyFinder", name := "step", desc := "(IZ)V" } : Jvm.MethodName) prog_1_method_19_code (8 : Nat) (Option.none : Option Jvm.ClassFile.FieldType)) ∈ lw_all := lw_g (lw_at lw_m3 237 rfl) rfl
theorem q752 : (Jvm.Cond.methodLink "FuzzyFinder" (146 : Nat) ({ cls := "java/lang/Math", name := "min", desc := "(II)I" } : Jvm.MethodName)) ∈ lw_all := lw_g (lw_at lw_m3 238 rfl) rfl
theorem q753 : (Jvm.Cond.methodLink "FuzzyFinder" (187 : Nat) ({ cls := "java/util/ArrayList", name := "get", desc := "(I)Ljava/lang/Object;" } : Jvm.MethodName)) ∈ lw_all := lw_g (lw_at lw_m3 239 rfl) rfl
theorem q765 : (Jvm.Cond.classLink "FuzzyFinder" (154 : Nat) "java/lang/Integer") ∈ lw_all := lw_g (lw_at lw_m4 11 rfl) rfl
theorem q766 : (Jvm.Cond.methodLink "FuzzyFinder" (191 : Nat) ({ cls := "java/lang/Integer", name := "intValue", desc := "()I" } : Jvm.MethodName)) ∈ lw_all := lw_g (lw_at lw_m4 12 rfl) rfl
theorem q771 : (Jvm.Cond.instanceMethod ({ cls := "FuzzyFinder", name := "near", desc := "(IZ)I" } : Jvm.MethodName)) ∈ lw_all := lw_g (lw_at lw_m4 17 rfl) rfl
theorem q772 : (Jvm.Cond.selects "FuzzyFinder" ({ cls := "FuzzyFinder", name := "near", desc := "(IZ)I" } : Jvm.MethodName) ({ cls := "FuzzyFinder", name := "near", desc := "(IZ)I" } : Jvm.MethodName)) ∈ lw_all := lw_g (lw_at lw_m4 18 rfl) rfl
theorem q773 : (Jvm.Cond.code ({ cls := "FuzzyFinder", name := "near", desc := "(IZ)I" } : Jvm.MethodName) prog_1_method_23_code (5 : Nat) (Option.some Jvm.ClassFile.FieldType.int)) ∈ lw_all := lw_g (lw_at lw_m4 19 rfl) rfl
theorem q775 : (Jvm.Cond.instanceMethod ({ cls := "FuzzyFinder", name := "rank", desc := "(IZ)I" } : Jvm.MethodName)) ∈ lw_all := lw_g (lw_at lw_m4 21 rfl) rfl
theorem q776 : (Jvm.Cond.selects "FuzzyFinder" ({ cls := "FuzzyFinder", name := "rank", desc := "(IZ)I" } : Jvm.MethodName) ({ cls := "FuzzyFinder", name := "rank", desc := "(IZ)I" } : Jvm.MethodName)) ∈ lw_all := lw_g (lw_at lw_m4 22 rfl) rfl
theorem q777 : (Jvm.Cond.code ({ cls := "FuzzyFinder", name := "rank", desc := "(IZ)I" } : Jvm.MethodName) prog_1_method_24_code (6 : Nat) (Option.some Jvm.ClassFile.FieldType.int)) ∈ lw_all := lw_g (lw_at lw_m4 23 rfl) rfl
theorem q1037 : (Jvm.Cond.castable "FuzzyFinder" "java/lang/Object") ∈ lw_tbl := lw_at lw_m5 43 rfl
theorem in_X0 : ∀ w ∈ wsX00, w ∈ lw_all := lw_in wsX00 [243, 245, 247, 249, 251, 253, 255, 257, 259, 261, 263, 265, 267, 269, 271] (by decide +kernel) (by decide +kernel)
/-! FuzzyFinder$Bench -/
set_option maxRecDepth 100000
def RX1 : String := "FuzzyFinder$Bench"
def TX1 : u_T := fun k => match k with
  | 0 => ("FuzzyFinder$Bench", "text", "[I", true)
  | 1 => ("FuzzyFinder$Bench", "length", "I", false)
  | 2 => ("FuzzyFinder$Bench", "added", "I", false)
  | 3 => ("FuzzyFinder$Bench", "missing", "I", false)
  | 4 => ("FuzzyFinder$Bench", "wrong", "I", false)
  | _ => ("FuzzyFinder$Bench", "tables", "[[I", true)
def tyX1 : Nat → FieldType := fun k => match k with
  | 0 => .array .int
  | 1 => .int
  | 2 => .int
  | 3 => .int
  | 4 => .int
  | _ => .array (.array .int)
abbrev wsX10 : List Cond := u_ws RX1 TX1 6
theorem nmX1 : ∀ a, a < 6 → ∀ b, b < 6 → a ≠ b → (TX1 a).2.1 ≠ (TX1 b).2.1 := by decide +kernel
theorem tyX1_ok : ∀ k, k < 6 → parseFieldDescriptor (TX1 k).2.2.1 = some (tyX1 k) := by decide +kernel
abbrev cX1_init : ByteArray := prog_2_method_1_code
def yX1_init : MethodName := ⟨RX1, "<init>", "()V"⟩
def dkwX1_init_1 : List UInt8 := [181, 0, 22, 42, 16, 16, 17, 2, 113, 197, 0, 25, 2, 181, 0, 27, 177]
abbrev dktX1_init_1 : List UInt8 := dkwX1_init_1 ++ []
def dkwX1_init_0 : List UInt8 := [42, 183, 0, 3, 42, 16, 24, 188, 10, 181, 0, 9, 42, 4, 181, 0, 15, 42, 4, 181, 0, 19, 42, 4]
abbrev dktX1_init_0 : List UInt8 := dkwX1_init_0 ++ dktX1_init_1
theorem dksX1_init_0 : cX1_init.data.toList.drop 0 = dktX1_init_0 := by decide +kernel
theorem dksX1_init_1 : cX1_init.data.toList.drop 24 = dktX1_init_1 := dk_seg dksX1_init_0 24 rfl rfl
theorem dX1_init_0 : decode cX1_init 0 = .ok (.aload_n 0, 1) := dk_42 (dk_at dksX1_init_0 0 rfl rfl)
theorem dX1_init_1 : decode cX1_init 1 = .ok (.invokespecial 3, 3) := dk_183 0 3 (dk_at dksX1_init_0 1 rfl rfl)
theorem dX1_init_4 : decode cX1_init 4 = .ok (.aload_n 0, 1) := dk_42 (dk_at dksX1_init_0 4 rfl rfl)
theorem dX1_init_5 : decode cX1_init 5 = .ok (.bipush 24, 2) := dk_16 24 (dk_at dksX1_init_0 5 rfl rfl)
theorem dX1_init_7 : decode cX1_init 7 = .ok (.newarray .int, 2) := dk_188_10 (dk_at dksX1_init_0 7 rfl rfl)
theorem dX1_init_9 : decode cX1_init 9 = .ok (.putfield 9, 3) := dk_181 0 9 (dk_at dksX1_init_0 9 rfl rfl)
theorem dX1_init_12 : decode cX1_init 12 = .ok (.aload_n 0, 1) := dk_42 (dk_at dksX1_init_0 12 rfl rfl)
theorem dX1_init_13 : decode cX1_init 13 = .ok (.iconst 1, 1) := dk_4 (dk_at dksX1_init_0 13 rfl rfl)
theorem dX1_init_14 : decode cX1_init 14 = .ok (.putfield 15, 3) := dk_181 0 15 (dk_at dksX1_init_0 14 rfl rfl)
theorem dX1_init_17 : decode cX1_init 17 = .ok (.aload_n 0, 1) := dk_42 (dk_at dksX1_init_0 17 rfl rfl)
theorem dX1_init_18 : decode cX1_init 18 = .ok (.iconst 1, 1) := dk_4 (dk_at dksX1_init_0 18 rfl rfl)
theorem dX1_init_19 : decode cX1_init 19 = .ok (.putfield 19, 3) := dk_181 0 19 (dk_at dksX1_init_0 19 rfl rfl)
theorem dX1_init_22 : decode cX1_init 22 = .ok (.aload_n 0, 1) := dk_42 (dk_at dksX1_init_0 22 rfl rfl)
theorem dX1_init_23 : decode cX1_init 23 = .ok (.iconst 1, 1) := dk_4 (dk_at dksX1_init_0 23 rfl rfl)
theorem dX1_init_24 : decode cX1_init 24 = .ok (.putfield 22, 3) := dk_181 0 22 (dk_at dksX1_init_1 0 rfl rfl)
theorem dX1_init_27 : decode cX1_init 27 = .ok (.aload_n 0, 1) := dk_42 (dk_at dksX1_init_1 3 rfl rfl)
theorem dX1_init_28 : decode cX1_init 28 = .ok (.bipush 16, 2) := dk_16 16 (dk_at dksX1_init_1 4 rfl rfl)
theorem dX1_init_30 : decode cX1_init 30 = .ok (.sipush 625, 3) := dk_17 2 113 (dk_at dksX1_init_1 6 rfl rfl)
theorem dX1_init_33 : decode cX1_init 33 = .ok (.multianewarray 25 2, 4) := by decide +kernel
theorem dX1_init_37 : decode cX1_init 37 = .ok (.putfield 27, 3) := dk_181 0 27 (dk_at dksX1_init_1 13 rfl rfl)
theorem dX1_init_40 : decode cX1_init 40 = .ok (.return_, 1) := dk_177 (dk_at dksX1_init_1 16 rfl rfl)
abbrev cX1_letter : ByteArray := prog_2_method_7_code
def yX1_letter : MethodName := ⟨RX1, "letter", "(II)V"⟩
def dkwX1_letter_5 : List UInt8 := [180, 0, 15, 104, 21, 5, 96, 184, 0, 34, 79, 132, 6, 1, 167, 255, 169, 132, 4, 1, 167, 255, 130, 177]
abbrev dktX1_letter_5 : List UInt8 := dkwX1_letter_5 ++ []
def dkwX1_letter_4 : List UInt8 := [96, 21, 6, 21, 4, 100, 42, 180, 0, 15, 104, 42, 180, 0, 19, 96, 21, 6, 21, 4, 100, 4, 100, 42]
abbrev dktX1_letter_4 : List UInt8 := dkwX1_letter_4 ++ dktX1_letter_5
def dkwX1_letter_3 : List UInt8 := [160, 0, 7, 3, 167, 0, 7, 42, 180, 0, 22, 184, 0, 34, 54, 5, 45, 16, 25, 21, 4, 104, 21, 6]
abbrev dktX1_letter_3 : List UInt8 := dkwX1_letter_3 ++ dktX1_letter_4
def dkwX1_letter_2 : List UInt8 := [180, 0, 30, 163, 0, 84, 21, 5, 28, 42, 180, 0, 9, 21, 6, 4, 100, 46, 122, 4, 126, 4]
abbrev dktX1_letter_2 : List UInt8 := dkwX1_letter_2 ++ dktX1_letter_3
def dkwX1_letter_1 : List UInt8 := [104, 21, 4, 96, 42, 180, 0, 19, 79, 18, 33, 54, 5, 21, 4, 4, 96, 54, 6, 21, 6, 42]
abbrev dktX1_letter_1 : List UInt8 := dkwX1_letter_1 ++ dktX1_letter_2
def dkwX1_letter_0 : List UInt8 := [42, 180, 0, 27, 27, 50, 78, 3, 54, 4, 21, 4, 42, 180, 0, 30, 163, 0, 123, 45, 16, 25, 21, 4]
abbrev dktX1_letter_0 : List UInt8 := dkwX1_letter_0 ++ dktX1_letter_1
theorem dksX1_letter_0 : cX1_letter.data.toList.drop 0 = dktX1_letter_0 := by decide +kernel
theorem dksX1_letter_1 : cX1_letter.data.toList.drop 24 = dktX1_letter_1 := dk_seg dksX1_letter_0 24 rfl rfl
theorem dksX1_letter_2 : cX1_letter.data.toList.drop 46 = dktX1_letter_2 := dk_seg dksX1_letter_1 22 rfl rfl
theorem dksX1_letter_3 : cX1_letter.data.toList.drop 68 = dktX1_letter_3 := dk_seg dksX1_letter_2 22 rfl rfl
theorem dksX1_letter_4 : cX1_letter.data.toList.drop 92 = dktX1_letter_4 := dk_seg dksX1_letter_3 24 rfl rfl
theorem dksX1_letter_5 : cX1_letter.data.toList.drop 116 = dktX1_letter_5 := dk_seg dksX1_letter_4 24 rfl rfl
theorem dX1_letter_0 : decode cX1_letter 0 = .ok (.aload_n 0, 1) := dk_42 (dk_at dksX1_letter_0 0 rfl rfl)
theorem dX1_letter_1 : decode cX1_letter 1 = .ok (.getfield 27, 3) := dk_180 0 27 (dk_at dksX1_letter_0 1 rfl rfl)
theorem dX1_letter_4 : decode cX1_letter 4 = .ok (.iload_n 1, 1) := dk_27 (dk_at dksX1_letter_0 4 rfl rfl)
theorem dX1_letter_5 : decode cX1_letter 5 = .ok (.aaload, 1) := dk_50 (dk_at dksX1_letter_0 5 rfl rfl)
theorem dX1_letter_6 : decode cX1_letter 6 = .ok (.astore_n 3, 1) := dk_78 (dk_at dksX1_letter_0 6 rfl rfl)
theorem dX1_letter_7 : decode cX1_letter 7 = .ok (.iconst 0, 1) := dk_3 (dk_at dksX1_letter_0 7 rfl rfl)
theorem dX1_letter_8 : decode cX1_letter 8 = .ok (.istore 4, 2) := dk_54 4 (dk_at dksX1_letter_0 8 rfl rfl)
theorem dX1_letter_10 : decode cX1_letter 10 = .ok (.iload 4, 2) := dk_21 4 (dk_at dksX1_letter_0 10 rfl rfl)
theorem dX1_letter_12 : decode cX1_letter 12 = .ok (.aload_n 0, 1) := dk_42 (dk_at dksX1_letter_0 12 rfl rfl)
theorem dX1_letter_13 : decode cX1_letter 13 = .ok (.getfield 30, 3) := dk_180 0 30 (dk_at dksX1_letter_0 13 rfl rfl)
theorem dX1_letter_16 : decode cX1_letter 16 = .ok (.if_icmp .gt 123, 3) := dk_163 0 123 (dk_at dksX1_letter_0 16 rfl rfl)
theorem dX1_letter_19 : decode cX1_letter 19 = .ok (.aload_n 3, 1) := dk_45 (dk_at dksX1_letter_0 19 rfl rfl)
theorem dX1_letter_20 : decode cX1_letter 20 = .ok (.bipush 25, 2) := dk_16 25 (dk_at dksX1_letter_0 20 rfl rfl)
theorem dX1_letter_22 : decode cX1_letter 22 = .ok (.iload 4, 2) := dk_21 4 (dk_at dksX1_letter_0 22 rfl rfl)
theorem dX1_letter_24 : decode cX1_letter 24 = .ok (.imul, 1) := dk_104 (dk_at dksX1_letter_1 0 rfl rfl)
theorem dX1_letter_25 : decode cX1_letter 25 = .ok (.iload 4, 2) := dk_21 4 (dk_at dksX1_letter_1 1 rfl rfl)
theorem dX1_letter_27 : decode cX1_letter 27 = .ok (.iadd, 1) := dk_96 (dk_at dksX1_letter_1 3 rfl rfl)
theorem dX1_letter_28 : decode cX1_letter 28 = .ok (.aload_n 0, 1) := dk_42 (dk_at dksX1_letter_1 4 rfl rfl)
theorem dX1_letter_29 : decode cX1_letter 29 = .ok (.getfield 19, 3) := dk_180 0 19 (dk_at dksX1_letter_1 5 rfl rfl)
theorem dX1_letter_32 : decode cX1_letter 32 = .ok (.iastore, 1) := dk_79 (dk_at dksX1_letter_1 8 rfl rfl)
theorem dX1_letter_33 : decode cX1_letter 33 = .ok (.ldc 33, 2) := dk_18 33 (dk_at dksX1_letter_1 9 rfl rfl)
theorem dX1_letter_35 : decode cX1_letter 35 = .ok (.istore 5, 2) := dk_54 5 (dk_at dksX1_letter_1 11 rfl rfl)
theorem dX1_letter_37 : decode cX1_letter 37 = .ok (.iload 4, 2) := dk_21 4 (dk_at dksX1_letter_1 13 rfl rfl)
theorem dX1_letter_39 : decode cX1_letter 39 = .ok (.iconst 1, 1) := dk_4 (dk_at dksX1_letter_1 15 rfl rfl)
theorem dX1_letter_40 : decode cX1_letter 40 = .ok (.iadd, 1) := dk_96 (dk_at dksX1_letter_1 16 rfl rfl)
theorem dX1_letter_41 : decode cX1_letter 41 = .ok (.istore 6, 2) := dk_54 6 (dk_at dksX1_letter_1 17 rfl rfl)
theorem dX1_letter_43 : decode cX1_letter 43 = .ok (.iload 6, 2) := dk_21 6 (dk_at dksX1_letter_1 19 rfl rfl)
theorem dX1_letter_45 : decode cX1_letter 45 = .ok (.aload_n 0, 1) := dk_42 (dk_at dksX1_letter_1 21 rfl rfl)
theorem dX1_letter_46 : decode cX1_letter 46 = .ok (.getfield 30, 3) := dk_180 0 30 (dk_at dksX1_letter_2 0 rfl rfl)
theorem dX1_letter_49 : decode cX1_letter 49 = .ok (.if_icmp .gt 84, 3) := dk_163 0 84 (dk_at dksX1_letter_2 3 rfl rfl)
theorem dX1_letter_52 : decode cX1_letter 52 = .ok (.iload 5, 2) := dk_21 5 (dk_at dksX1_letter_2 6 rfl rfl)
theorem dX1_letter_54 : decode cX1_letter 54 = .ok (.iload_n 2, 1) := dk_28 (dk_at dksX1_letter_2 8 rfl rfl)
theorem dX1_letter_55 : decode cX1_letter 55 = .ok (.aload_n 0, 1) := dk_42 (dk_at dksX1_letter_2 9 rfl rfl)
theorem dX1_letter_56 : decode cX1_letter 56 = .ok (.getfield 9, 3) := dk_180 0 9 (dk_at dksX1_letter_2 10 rfl rfl)
theorem dX1_letter_59 : decode cX1_letter 59 = .ok (.iload 6, 2) := dk_21 6 (dk_at dksX1_letter_2 13 rfl rfl)
theorem dX1_letter_61 : decode cX1_letter 61 = .ok (.iconst 1, 1) := dk_4 (dk_at dksX1_letter_2 15 rfl rfl)
theorem dX1_letter_62 : decode cX1_letter 62 = .ok (.isub, 1) := dk_100 (dk_at dksX1_letter_2 16 rfl rfl)
theorem dX1_letter_63 : decode cX1_letter 63 = .ok (.iaload, 1) := dk_46 (dk_at dksX1_letter_2 17 rfl rfl)
theorem dX1_letter_64 : decode cX1_letter 64 = .ok (.ishr, 1) := dk_122 (dk_at dksX1_letter_2 18 rfl rfl)
theorem dX1_letter_65 : decode cX1_letter 65 = .ok (.iconst 1, 1) := dk_4 (dk_at dksX1_letter_2 19 rfl rfl)
theorem dX1_letter_66 : decode cX1_letter 66 = .ok (.iand, 1) := dk_126 (dk_at dksX1_letter_2 20 rfl rfl)
theorem dX1_letter_67 : decode cX1_letter 67 = .ok (.iconst 1, 1) := dk_4 (dk_at dksX1_letter_2 21 rfl rfl)
theorem dX1_letter_68 : decode cX1_letter 68 = .ok (.if_icmp .ne 7, 3) := dk_160 0 7 (dk_at dksX1_letter_3 0 rfl rfl)
theorem dX1_letter_71 : decode cX1_letter 71 = .ok (.iconst 0, 1) := dk_3 (dk_at dksX1_letter_3 3 rfl rfl)
theorem dX1_letter_72 : decode cX1_letter 72 = .ok (.goto 7, 3) := dk_167 0 7 (dk_at dksX1_letter_3 4 rfl rfl)
theorem dX1_letter_75 : decode cX1_letter 75 = .ok (.aload_n 0, 1) := dk_42 (dk_at dksX1_letter_3 7 rfl rfl)
theorem dX1_letter_76 : decode cX1_letter 76 = .ok (.getfield 22, 3) := dk_180 0 22 (dk_at dksX1_letter_3 8 rfl rfl)
theorem dX1_letter_79 : decode cX1_letter 79 = .ok (.invokestatic 34, 3) := dk_184 0 34 (dk_at dksX1_letter_3 11 rfl rfl)
theorem dX1_letter_82 : decode cX1_letter 82 = .ok (.istore 5, 2) := dk_54 5 (dk_at dksX1_letter_3 14 rfl rfl)
theorem dX1_letter_84 : decode cX1_letter 84 = .ok (.aload_n 3, 1) := dk_45 (dk_at dksX1_letter_3 16 rfl rfl)
theorem dX1_letter_85 : decode cX1_letter 85 = .ok (.bipush 25, 2) := dk_16 25 (dk_at dksX1_letter_3 17 rfl rfl)
theorem dX1_letter_87 : decode cX1_letter 87 = .ok (.iload 4, 2) := dk_21 4 (dk_at dksX1_letter_3 19 rfl rfl)
theorem dX1_letter_89 : decode cX1_letter 89 = .ok (.imul, 1) := dk_104 (dk_at dksX1_letter_3 21 rfl rfl)
theorem dX1_letter_90 : decode cX1_letter 90 = .ok (.iload 6, 2) := dk_21 6 (dk_at dksX1_letter_3 22 rfl rfl)
theorem dX1_letter_92 : decode cX1_letter 92 = .ok (.iadd, 1) := dk_96 (dk_at dksX1_letter_4 0 rfl rfl)
theorem dX1_letter_93 : decode cX1_letter 93 = .ok (.iload 6, 2) := dk_21 6 (dk_at dksX1_letter_4 1 rfl rfl)
theorem dX1_letter_95 : decode cX1_letter 95 = .ok (.iload 4, 2) := dk_21 4 (dk_at dksX1_letter_4 3 rfl rfl)
theorem dX1_letter_97 : decode cX1_letter 97 = .ok (.isub, 1) := dk_100 (dk_at dksX1_letter_4 5 rfl rfl)
theorem dX1_letter_98 : decode cX1_letter 98 = .ok (.aload_n 0, 1) := dk_42 (dk_at dksX1_letter_4 6 rfl rfl)
theorem dX1_letter_99 : decode cX1_letter 99 = .ok (.getfield 15, 3) := dk_180 0 15 (dk_at dksX1_letter_4 7 rfl rfl)
theorem dX1_letter_102 : decode cX1_letter 102 = .ok (.imul, 1) := dk_104 (dk_at dksX1_letter_4 10 rfl rfl)
theorem dX1_letter_103 : decode cX1_letter 103 = .ok (.aload_n 0, 1) := dk_42 (dk_at dksX1_letter_4 11 rfl rfl)
theorem dX1_letter_104 : decode cX1_letter 104 = .ok (.getfield 19, 3) := dk_180 0 19 (dk_at dksX1_letter_4 12 rfl rfl)
theorem dX1_letter_107 : decode cX1_letter 107 = .ok (.iadd, 1) := dk_96 (dk_at dksX1_letter_4 15 rfl rfl)
theorem dX1_letter_108 : decode cX1_letter 108 = .ok (.iload 6, 2) := dk_21 6 (dk_at dksX1_letter_4 16 rfl rfl)
theorem dX1_letter_110 : decode cX1_letter 110 = .ok (.iload 4, 2) := dk_21 4 (dk_at dksX1_letter_4 18 rfl rfl)
theorem dX1_letter_112 : decode cX1_letter 112 = .ok (.isub, 1) := dk_100 (dk_at dksX1_letter_4 20 rfl rfl)
theorem dX1_letter_113 : decode cX1_letter 113 = .ok (.iconst 1, 1) := dk_4 (dk_at dksX1_letter_4 21 rfl rfl)
theorem dX1_letter_114 : decode cX1_letter 114 = .ok (.isub, 1) := dk_100 (dk_at dksX1_letter_4 22 rfl rfl)
theorem dX1_letter_115 : decode cX1_letter 115 = .ok (.aload_n 0, 1) := dk_42 (dk_at dksX1_letter_4 23 rfl rfl)
theorem dX1_letter_116 : decode cX1_letter 116 = .ok (.getfield 15, 3) := dk_180 0 15 (dk_at dksX1_letter_5 0 rfl rfl)
theorem dX1_letter_119 : decode cX1_letter 119 = .ok (.imul, 1) := dk_104 (dk_at dksX1_letter_5 3 rfl rfl)
theorem dX1_letter_120 : decode cX1_letter 120 = .ok (.iload 5, 2) := dk_21 5 (dk_at dksX1_letter_5 4 rfl rfl)
theorem dX1_letter_122 : decode cX1_letter 122 = .ok (.iadd, 1) := dk_96 (dk_at dksX1_letter_5 6 rfl rfl)
theorem dX1_letter_123 : decode cX1_letter 123 = .ok (.invokestatic 34, 3) := dk_184 0 34 (dk_at dksX1_letter_5 7 rfl rfl)
theorem dX1_letter_126 : decode cX1_letter 126 = .ok (.iastore, 1) := dk_79 (dk_at dksX1_letter_5 10 rfl rfl)
theorem dX1_letter_127 : decode cX1_letter 127 = .ok (.iinc 6 1, 3) := dk_132 6 1 (dk_at dksX1_letter_5 11 rfl rfl)
theorem dX1_letter_130 : decode cX1_letter 130 = .ok (.goto (-87), 3) := dk_167 255 169 (dk_at dksX1_letter_5 14 rfl rfl)
theorem dX1_letter_133 : decode cX1_letter 133 = .ok (.iinc 4 1, 3) := dk_132 4 1 (dk_at dksX1_letter_5 17 rfl rfl)
theorem dX1_letter_136 : decode cX1_letter 136 = .ok (.goto (-126), 3) := dk_167 255 130 (dk_at dksX1_letter_5 20 rfl rfl)
theorem dX1_letter_139 : decode cX1_letter 139 = .ok (.return_, 1) := dk_177 (dk_at dksX1_letter_5 23 rfl rfl)
abbrev cX1_chain : ByteArray := prog_2_method_2_code
def yX1_chain : MethodName := ⟨RX1, "chain", "(I)V"⟩
def dkwX1_chain_4 : List UInt8 := [21, 4, 104, 21, 5, 96, 21, 6, 79, 132, 5, 255, 167, 255, 185, 132, 4, 1, 167, 255, 164, 177]
abbrev dktX1_chain_4 : List UInt8 := dkwX1_chain_4 ++ []
def dkwX1_chain_3 : List UInt8 := [16, 25, 21, 7, 104, 21, 5, 96, 46, 96, 184, 0, 34, 54, 6, 132, 7, 1, 167, 255, 218, 44, 16, 25]
abbrev dktX1_chain_3 : List UInt8 := dkwX1_chain_3 ++ dktX1_chain_4
def dkwX1_chain_2 : List UInt8 := [21, 4, 54, 7, 21, 7, 21, 5, 163, 0, 37, 21, 6, 44, 16, 25, 21, 4, 104, 21, 7, 96, 46, 45]
abbrev dktX1_chain_2 : List UInt8 := dkwX1_chain_2 ++ dktX1_chain_3
def dkwX1_chain_1 : List UInt8 := [180, 0, 30, 163, 0, 89, 42, 180, 0, 30, 54, 5, 21, 5, 21, 4, 161, 0, 70, 18, 33, 54, 6]
abbrev dktX1_chain_1 : List UInt8 := dkwX1_chain_1 ++ dktX1_chain_2
def dkwX1_chain_0 : List UInt8 := [42, 180, 0, 27, 27, 50, 77, 42, 180, 0, 27, 27, 4, 96, 50, 78, 3, 54, 4, 21, 4, 42]
abbrev dktX1_chain_0 : List UInt8 := dkwX1_chain_0 ++ dktX1_chain_1
theorem dksX1_chain_0 : cX1_chain.data.toList.drop 0 = dktX1_chain_0 := by decide +kernel
theorem dksX1_chain_1 : cX1_chain.data.toList.drop 22 = dktX1_chain_1 := dk_seg dksX1_chain_0 22 rfl rfl
theorem dksX1_chain_2 : cX1_chain.data.toList.drop 45 = dktX1_chain_2 := dk_seg dksX1_chain_1 23 rfl rfl
theorem dksX1_chain_3 : cX1_chain.data.toList.drop 69 = dktX1_chain_3 := dk_seg dksX1_chain_2 24 rfl rfl
theorem dksX1_chain_4 : cX1_chain.data.toList.drop 93 = dktX1_chain_4 := dk_seg dksX1_chain_3 24 rfl rfl
theorem dX1_chain_0 : decode cX1_chain 0 = .ok (.aload_n 0, 1) := dk_42 (dk_at dksX1_chain_0 0 rfl rfl)
theorem dX1_chain_1 : decode cX1_chain 1 = .ok (.getfield 27, 3) := dk_180 0 27 (dk_at dksX1_chain_0 1 rfl rfl)
theorem dX1_chain_4 : decode cX1_chain 4 = .ok (.iload_n 1, 1) := dk_27 (dk_at dksX1_chain_0 4 rfl rfl)
theorem dX1_chain_5 : decode cX1_chain 5 = .ok (.aaload, 1) := dk_50 (dk_at dksX1_chain_0 5 rfl rfl)
theorem dX1_chain_6 : decode cX1_chain 6 = .ok (.astore_n 2, 1) := dk_77 (dk_at dksX1_chain_0 6 rfl rfl)
theorem dX1_chain_7 : decode cX1_chain 7 = .ok (.aload_n 0, 1) := dk_42 (dk_at dksX1_chain_0 7 rfl rfl)
theorem dX1_chain_8 : decode cX1_chain 8 = .ok (.getfield 27, 3) := dk_180 0 27 (dk_at dksX1_chain_0 8 rfl rfl)
theorem dX1_chain_11 : decode cX1_chain 11 = .ok (.iload_n 1, 1) := dk_27 (dk_at dksX1_chain_0 11 rfl rfl)
theorem dX1_chain_12 : decode cX1_chain 12 = .ok (.iconst 1, 1) := dk_4 (dk_at dksX1_chain_0 12 rfl rfl)
theorem dX1_chain_13 : decode cX1_chain 13 = .ok (.iadd, 1) := dk_96 (dk_at dksX1_chain_0 13 rfl rfl)
theorem dX1_chain_14 : decode cX1_chain 14 = .ok (.aaload, 1) := dk_50 (dk_at dksX1_chain_0 14 rfl rfl)
theorem dX1_chain_15 : decode cX1_chain 15 = .ok (.astore_n 3, 1) := dk_78 (dk_at dksX1_chain_0 15 rfl rfl)
theorem dX1_chain_16 : decode cX1_chain 16 = .ok (.iconst 0, 1) := dk_3 (dk_at dksX1_chain_0 16 rfl rfl)
theorem dX1_chain_17 : decode cX1_chain 17 = .ok (.istore 4, 2) := dk_54 4 (dk_at dksX1_chain_0 17 rfl rfl)
theorem dX1_chain_19 : decode cX1_chain 19 = .ok (.iload 4, 2) := dk_21 4 (dk_at dksX1_chain_0 19 rfl rfl)
theorem dX1_chain_21 : decode cX1_chain 21 = .ok (.aload_n 0, 1) := dk_42 (dk_at dksX1_chain_0 21 rfl rfl)
theorem dX1_chain_22 : decode cX1_chain 22 = .ok (.getfield 30, 3) := dk_180 0 30 (dk_at dksX1_chain_1 0 rfl rfl)
theorem dX1_chain_25 : decode cX1_chain 25 = .ok (.if_icmp .gt 89, 3) := dk_163 0 89 (dk_at dksX1_chain_1 3 rfl rfl)
theorem dX1_chain_28 : decode cX1_chain 28 = .ok (.aload_n 0, 1) := dk_42 (dk_at dksX1_chain_1 6 rfl rfl)
theorem dX1_chain_29 : decode cX1_chain 29 = .ok (.getfield 30, 3) := dk_180 0 30 (dk_at dksX1_chain_1 7 rfl rfl)
theorem dX1_chain_32 : decode cX1_chain 32 = .ok (.istore 5, 2) := dk_54 5 (dk_at dksX1_chain_1 10 rfl rfl)
theorem dX1_chain_34 : decode cX1_chain 34 = .ok (.iload 5, 2) := dk_21 5 (dk_at dksX1_chain_1 12 rfl rfl)
theorem dX1_chain_36 : decode cX1_chain 36 = .ok (.iload 4, 2) := dk_21 4 (dk_at dksX1_chain_1 14 rfl rfl)
theorem dX1_chain_38 : decode cX1_chain 38 = .ok (.if_icmp .lt 70, 3) := dk_161 0 70 (dk_at dksX1_chain_1 16 rfl rfl)
theorem dX1_chain_41 : decode cX1_chain 41 = .ok (.ldc 33, 2) := dk_18 33 (dk_at dksX1_chain_1 19 rfl rfl)
theorem dX1_chain_43 : decode cX1_chain 43 = .ok (.istore 6, 2) := dk_54 6 (dk_at dksX1_chain_1 21 rfl rfl)
theorem dX1_chain_45 : decode cX1_chain 45 = .ok (.iload 4, 2) := dk_21 4 (dk_at dksX1_chain_2 0 rfl rfl)
theorem dX1_chain_47 : decode cX1_chain 47 = .ok (.istore 7, 2) := dk_54 7 (dk_at dksX1_chain_2 2 rfl rfl)
theorem dX1_chain_49 : decode cX1_chain 49 = .ok (.iload 7, 2) := dk_21 7 (dk_at dksX1_chain_2 4 rfl rfl)
theorem dX1_chain_51 : decode cX1_chain 51 = .ok (.iload 5, 2) := dk_21 5 (dk_at dksX1_chain_2 6 rfl rfl)
theorem dX1_chain_53 : decode cX1_chain 53 = .ok (.if_icmp .gt 37, 3) := dk_163 0 37 (dk_at dksX1_chain_2 8 rfl rfl)
theorem dX1_chain_56 : decode cX1_chain 56 = .ok (.iload 6, 2) := dk_21 6 (dk_at dksX1_chain_2 11 rfl rfl)
theorem dX1_chain_58 : decode cX1_chain 58 = .ok (.aload_n 2, 1) := dk_44 (dk_at dksX1_chain_2 13 rfl rfl)
theorem dX1_chain_59 : decode cX1_chain 59 = .ok (.bipush 25, 2) := dk_16 25 (dk_at dksX1_chain_2 14 rfl rfl)
theorem dX1_chain_61 : decode cX1_chain 61 = .ok (.iload 4, 2) := dk_21 4 (dk_at dksX1_chain_2 16 rfl rfl)
theorem dX1_chain_63 : decode cX1_chain 63 = .ok (.imul, 1) := dk_104 (dk_at dksX1_chain_2 18 rfl rfl)
theorem dX1_chain_64 : decode cX1_chain 64 = .ok (.iload 7, 2) := dk_21 7 (dk_at dksX1_chain_2 19 rfl rfl)
theorem dX1_chain_66 : decode cX1_chain 66 = .ok (.iadd, 1) := dk_96 (dk_at dksX1_chain_2 21 rfl rfl)
theorem dX1_chain_67 : decode cX1_chain 67 = .ok (.iaload, 1) := dk_46 (dk_at dksX1_chain_2 22 rfl rfl)
theorem dX1_chain_68 : decode cX1_chain 68 = .ok (.aload_n 3, 1) := dk_45 (dk_at dksX1_chain_2 23 rfl rfl)
theorem dX1_chain_69 : decode cX1_chain 69 = .ok (.bipush 25, 2) := dk_16 25 (dk_at dksX1_chain_3 0 rfl rfl)
theorem dX1_chain_71 : decode cX1_chain 71 = .ok (.iload 7, 2) := dk_21 7 (dk_at dksX1_chain_3 2 rfl rfl)
theorem dX1_chain_73 : decode cX1_chain 73 = .ok (.imul, 1) := dk_104 (dk_at dksX1_chain_3 4 rfl rfl)
theorem dX1_chain_74 : decode cX1_chain 74 = .ok (.iload 5, 2) := dk_21 5 (dk_at dksX1_chain_3 5 rfl rfl)
theorem dX1_chain_76 : decode cX1_chain 76 = .ok (.iadd, 1) := dk_96 (dk_at dksX1_chain_3 7 rfl rfl)
theorem dX1_chain_77 : decode cX1_chain 77 = .ok (.iaload, 1) := dk_46 (dk_at dksX1_chain_3 8 rfl rfl)
theorem dX1_chain_78 : decode cX1_chain 78 = .ok (.iadd, 1) := dk_96 (dk_at dksX1_chain_3 9 rfl rfl)
theorem dX1_chain_79 : decode cX1_chain 79 = .ok (.invokestatic 34, 3) := dk_184 0 34 (dk_at dksX1_chain_3 10 rfl rfl)
theorem dX1_chain_82 : decode cX1_chain 82 = .ok (.istore 6, 2) := dk_54 6 (dk_at dksX1_chain_3 13 rfl rfl)
theorem dX1_chain_84 : decode cX1_chain 84 = .ok (.iinc 7 1, 3) := dk_132 7 1 (dk_at dksX1_chain_3 15 rfl rfl)
theorem dX1_chain_87 : decode cX1_chain 87 = .ok (.goto (-38), 3) := dk_167 255 218 (dk_at dksX1_chain_3 18 rfl rfl)
theorem dX1_chain_90 : decode cX1_chain 90 = .ok (.aload_n 2, 1) := dk_44 (dk_at dksX1_chain_3 21 rfl rfl)
theorem dX1_chain_91 : decode cX1_chain 91 = .ok (.bipush 25, 2) := dk_16 25 (dk_at dksX1_chain_3 22 rfl rfl)
theorem dX1_chain_93 : decode cX1_chain 93 = .ok (.iload 4, 2) := dk_21 4 (dk_at dksX1_chain_4 0 rfl rfl)
theorem dX1_chain_95 : decode cX1_chain 95 = .ok (.imul, 1) := dk_104 (dk_at dksX1_chain_4 2 rfl rfl)
theorem dX1_chain_96 : decode cX1_chain 96 = .ok (.iload 5, 2) := dk_21 5 (dk_at dksX1_chain_4 3 rfl rfl)
theorem dX1_chain_98 : decode cX1_chain 98 = .ok (.iadd, 1) := dk_96 (dk_at dksX1_chain_4 5 rfl rfl)
theorem dX1_chain_99 : decode cX1_chain 99 = .ok (.iload 6, 2) := dk_21 6 (dk_at dksX1_chain_4 6 rfl rfl)
theorem dX1_chain_101 : decode cX1_chain 101 = .ok (.iastore, 1) := dk_79 (dk_at dksX1_chain_4 8 rfl rfl)
theorem dX1_chain_102 : decode cX1_chain 102 = .ok (.iinc 5 (-1), 3) := dk_132 5 255 (dk_at dksX1_chain_4 9 rfl rfl)
theorem dX1_chain_105 : decode cX1_chain 105 = .ok (.goto (-71), 3) := dk_167 255 185 (dk_at dksX1_chain_4 12 rfl rfl)
theorem dX1_chain_108 : decode cX1_chain 108 = .ok (.iinc 4 1, 3) := dk_132 4 1 (dk_at dksX1_chain_4 15 rfl rfl)
theorem dX1_chain_111 : decode cX1_chain 111 = .ok (.goto (-92), 3) := dk_167 255 164 (dk_at dksX1_chain_4 18 rfl rfl)
theorem dX1_chain_114 : decode cX1_chain 114 = .ok (.return_, 1) := dk_177 (dk_at dksX1_chain_4 21 rfl rfl)
abbrev cX1_close : ByteArray := prog_2_method_4_code
def yX1_close : MethodName := ⟨RX1, "close", "(I)V"⟩
def dkwX1_close_4 : List UInt8 := [79, 132, 4, 1, 167, 255, 177, 132, 3, 1, 167, 255, 160, 177]
abbrev dktX1_close_4 : List UInt8 := dkwX1_close_4 ++ []
def dkwX1_close_3 : List UInt8 := [96, 46, 96, 184, 0, 34, 54, 5, 132, 6, 1, 167, 255, 219, 44, 16, 25, 29, 104, 21, 4, 96, 21, 5]
abbrev dktX1_close_3 : List UInt8 := dkwX1_close_3 ++ dktX1_close_4
def dkwX1_close_2 : List UInt8 := [21, 4, 162, 0, 36, 21, 5, 44, 16, 25, 29, 104, 21, 6, 96, 46, 44, 16, 25, 21, 6, 104, 21, 4]
abbrev dktX1_close_2 : List UInt8 := dkwX1_close_2 ++ dktX1_close_3
def dkwX1_close_1 : List UInt8 := [180, 0, 30, 163, 0, 76, 44, 16, 25, 29, 104, 21, 4, 96, 46, 54, 5, 29, 4, 96, 54, 6, 21, 6]
abbrev dktX1_close_1 : List UInt8 := dkwX1_close_1 ++ dktX1_close_2
def dkwX1_close_0 : List UInt8 := [42, 180, 0, 27, 27, 50, 77, 3, 62, 29, 42, 180, 0, 30, 163, 0, 94, 29, 54, 4, 21, 4, 42]
abbrev dktX1_close_0 : List UInt8 := dkwX1_close_0 ++ dktX1_close_1
theorem dksX1_close_0 : cX1_close.data.toList.drop 0 = dktX1_close_0 := by decide +kernel
theorem dksX1_close_1 : cX1_close.data.toList.drop 23 = dktX1_close_1 := dk_seg dksX1_close_0 23 rfl rfl
theorem dksX1_close_2 : cX1_close.data.toList.drop 47 = dktX1_close_2 := dk_seg dksX1_close_1 24 rfl rfl
theorem dksX1_close_3 : cX1_close.data.toList.drop 71 = dktX1_close_3 := dk_seg dksX1_close_2 24 rfl rfl
theorem dksX1_close_4 : cX1_close.data.toList.drop 95 = dktX1_close_4 := dk_seg dksX1_close_3 24 rfl rfl
theorem dX1_close_0 : decode cX1_close 0 = .ok (.aload_n 0, 1) := dk_42 (dk_at dksX1_close_0 0 rfl rfl)
theorem dX1_close_1 : decode cX1_close 1 = .ok (.getfield 27, 3) := dk_180 0 27 (dk_at dksX1_close_0 1 rfl rfl)
theorem dX1_close_4 : decode cX1_close 4 = .ok (.iload_n 1, 1) := dk_27 (dk_at dksX1_close_0 4 rfl rfl)
theorem dX1_close_5 : decode cX1_close 5 = .ok (.aaload, 1) := dk_50 (dk_at dksX1_close_0 5 rfl rfl)
theorem dX1_close_6 : decode cX1_close 6 = .ok (.astore_n 2, 1) := dk_77 (dk_at dksX1_close_0 6 rfl rfl)
theorem dX1_close_7 : decode cX1_close 7 = .ok (.iconst 0, 1) := dk_3 (dk_at dksX1_close_0 7 rfl rfl)
theorem dX1_close_8 : decode cX1_close 8 = .ok (.istore_n 3, 1) := dk_62 (dk_at dksX1_close_0 8 rfl rfl)
theorem dX1_close_9 : decode cX1_close 9 = .ok (.iload_n 3, 1) := dk_29 (dk_at dksX1_close_0 9 rfl rfl)
theorem dX1_close_10 : decode cX1_close 10 = .ok (.aload_n 0, 1) := dk_42 (dk_at dksX1_close_0 10 rfl rfl)
theorem dX1_close_11 : decode cX1_close 11 = .ok (.getfield 30, 3) := dk_180 0 30 (dk_at dksX1_close_0 11 rfl rfl)
theorem dX1_close_14 : decode cX1_close 14 = .ok (.if_icmp .gt 94, 3) := dk_163 0 94 (dk_at dksX1_close_0 14 rfl rfl)
theorem dX1_close_17 : decode cX1_close 17 = .ok (.iload_n 3, 1) := dk_29 (dk_at dksX1_close_0 17 rfl rfl)
theorem dX1_close_18 : decode cX1_close 18 = .ok (.istore 4, 2) := dk_54 4 (dk_at dksX1_close_0 18 rfl rfl)
theorem dX1_close_20 : decode cX1_close 20 = .ok (.iload 4, 2) := dk_21 4 (dk_at dksX1_close_0 20 rfl rfl)
theorem dX1_close_22 : decode cX1_close 22 = .ok (.aload_n 0, 1) := dk_42 (dk_at dksX1_close_0 22 rfl rfl)
theorem dX1_close_23 : decode cX1_close 23 = .ok (.getfield 30, 3) := dk_180 0 30 (dk_at dksX1_close_1 0 rfl rfl)
theorem dX1_close_26 : decode cX1_close 26 = .ok (.if_icmp .gt 76, 3) := dk_163 0 76 (dk_at dksX1_close_1 3 rfl rfl)
theorem dX1_close_29 : decode cX1_close 29 = .ok (.aload_n 2, 1) := dk_44 (dk_at dksX1_close_1 6 rfl rfl)
theorem dX1_close_30 : decode cX1_close 30 = .ok (.bipush 25, 2) := dk_16 25 (dk_at dksX1_close_1 7 rfl rfl)
theorem dX1_close_32 : decode cX1_close 32 = .ok (.iload_n 3, 1) := dk_29 (dk_at dksX1_close_1 9 rfl rfl)
theorem dX1_close_33 : decode cX1_close 33 = .ok (.imul, 1) := dk_104 (dk_at dksX1_close_1 10 rfl rfl)
theorem dX1_close_34 : decode cX1_close 34 = .ok (.iload 4, 2) := dk_21 4 (dk_at dksX1_close_1 11 rfl rfl)
theorem dX1_close_36 : decode cX1_close 36 = .ok (.iadd, 1) := dk_96 (dk_at dksX1_close_1 13 rfl rfl)
theorem dX1_close_37 : decode cX1_close 37 = .ok (.iaload, 1) := dk_46 (dk_at dksX1_close_1 14 rfl rfl)
theorem dX1_close_38 : decode cX1_close 38 = .ok (.istore 5, 2) := dk_54 5 (dk_at dksX1_close_1 15 rfl rfl)
theorem dX1_close_40 : decode cX1_close 40 = .ok (.iload_n 3, 1) := dk_29 (dk_at dksX1_close_1 17 rfl rfl)
theorem dX1_close_41 : decode cX1_close 41 = .ok (.iconst 1, 1) := dk_4 (dk_at dksX1_close_1 18 rfl rfl)
theorem dX1_close_42 : decode cX1_close 42 = .ok (.iadd, 1) := dk_96 (dk_at dksX1_close_1 19 rfl rfl)
theorem dX1_close_43 : decode cX1_close 43 = .ok (.istore 6, 2) := dk_54 6 (dk_at dksX1_close_1 20 rfl rfl)
theorem dX1_close_45 : decode cX1_close 45 = .ok (.iload 6, 2) := dk_21 6 (dk_at dksX1_close_1 22 rfl rfl)
theorem dX1_close_47 : decode cX1_close 47 = .ok (.iload 4, 2) := dk_21 4 (dk_at dksX1_close_2 0 rfl rfl)
theorem dX1_close_49 : decode cX1_close 49 = .ok (.if_icmp .ge 36, 3) := dk_162 0 36 (dk_at dksX1_close_2 2 rfl rfl)
theorem dX1_close_52 : decode cX1_close 52 = .ok (.iload 5, 2) := dk_21 5 (dk_at dksX1_close_2 5 rfl rfl)
theorem dX1_close_54 : decode cX1_close 54 = .ok (.aload_n 2, 1) := dk_44 (dk_at dksX1_close_2 7 rfl rfl)
theorem dX1_close_55 : decode cX1_close 55 = .ok (.bipush 25, 2) := dk_16 25 (dk_at dksX1_close_2 8 rfl rfl)
theorem dX1_close_57 : decode cX1_close 57 = .ok (.iload_n 3, 1) := dk_29 (dk_at dksX1_close_2 10 rfl rfl)
theorem dX1_close_58 : decode cX1_close 58 = .ok (.imul, 1) := dk_104 (dk_at dksX1_close_2 11 rfl rfl)
theorem dX1_close_59 : decode cX1_close 59 = .ok (.iload 6, 2) := dk_21 6 (dk_at dksX1_close_2 12 rfl rfl)
theorem dX1_close_61 : decode cX1_close 61 = .ok (.iadd, 1) := dk_96 (dk_at dksX1_close_2 14 rfl rfl)
theorem dX1_close_62 : decode cX1_close 62 = .ok (.iaload, 1) := dk_46 (dk_at dksX1_close_2 15 rfl rfl)
theorem dX1_close_63 : decode cX1_close 63 = .ok (.aload_n 2, 1) := dk_44 (dk_at dksX1_close_2 16 rfl rfl)
theorem dX1_close_64 : decode cX1_close 64 = .ok (.bipush 25, 2) := dk_16 25 (dk_at dksX1_close_2 17 rfl rfl)
theorem dX1_close_66 : decode cX1_close 66 = .ok (.iload 6, 2) := dk_21 6 (dk_at dksX1_close_2 19 rfl rfl)
theorem dX1_close_68 : decode cX1_close 68 = .ok (.imul, 1) := dk_104 (dk_at dksX1_close_2 21 rfl rfl)
theorem dX1_close_69 : decode cX1_close 69 = .ok (.iload 4, 2) := dk_21 4 (dk_at dksX1_close_2 22 rfl rfl)
theorem dX1_close_71 : decode cX1_close 71 = .ok (.iadd, 1) := dk_96 (dk_at dksX1_close_3 0 rfl rfl)
theorem dX1_close_72 : decode cX1_close 72 = .ok (.iaload, 1) := dk_46 (dk_at dksX1_close_3 1 rfl rfl)
theorem dX1_close_73 : decode cX1_close 73 = .ok (.iadd, 1) := dk_96 (dk_at dksX1_close_3 2 rfl rfl)
theorem dX1_close_74 : decode cX1_close 74 = .ok (.invokestatic 34, 3) := dk_184 0 34 (dk_at dksX1_close_3 3 rfl rfl)
theorem dX1_close_77 : decode cX1_close 77 = .ok (.istore 5, 2) := dk_54 5 (dk_at dksX1_close_3 6 rfl rfl)
theorem dX1_close_79 : decode cX1_close 79 = .ok (.iinc 6 1, 3) := dk_132 6 1 (dk_at dksX1_close_3 8 rfl rfl)
theorem dX1_close_82 : decode cX1_close 82 = .ok (.goto (-37), 3) := dk_167 255 219 (dk_at dksX1_close_3 11 rfl rfl)
theorem dX1_close_85 : decode cX1_close 85 = .ok (.aload_n 2, 1) := dk_44 (dk_at dksX1_close_3 14 rfl rfl)
theorem dX1_close_86 : decode cX1_close 86 = .ok (.bipush 25, 2) := dk_16 25 (dk_at dksX1_close_3 15 rfl rfl)
theorem dX1_close_88 : decode cX1_close 88 = .ok (.iload_n 3, 1) := dk_29 (dk_at dksX1_close_3 17 rfl rfl)
theorem dX1_close_89 : decode cX1_close 89 = .ok (.imul, 1) := dk_104 (dk_at dksX1_close_3 18 rfl rfl)
theorem dX1_close_90 : decode cX1_close 90 = .ok (.iload 4, 2) := dk_21 4 (dk_at dksX1_close_3 19 rfl rfl)
theorem dX1_close_92 : decode cX1_close 92 = .ok (.iadd, 1) := dk_96 (dk_at dksX1_close_3 21 rfl rfl)
theorem dX1_close_93 : decode cX1_close 93 = .ok (.iload 5, 2) := dk_21 5 (dk_at dksX1_close_3 22 rfl rfl)
theorem dX1_close_95 : decode cX1_close 95 = .ok (.iastore, 1) := dk_79 (dk_at dksX1_close_4 0 rfl rfl)
theorem dX1_close_96 : decode cX1_close 96 = .ok (.iinc 4 1, 3) := dk_132 4 1 (dk_at dksX1_close_4 1 rfl rfl)
theorem dX1_close_99 : decode cX1_close 99 = .ok (.goto (-79), 3) := dk_167 255 177 (dk_at dksX1_close_4 4 rfl rfl)
theorem dX1_close_102 : decode cX1_close 102 = .ok (.iinc 3 1, 3) := dk_132 3 1 (dk_at dksX1_close_4 7 rfl rfl)
theorem dX1_close_105 : decode cX1_close 105 = .ok (.goto (-96), 3) := dk_167 255 160 (dk_at dksX1_close_4 10 rfl rfl)
theorem dX1_close_108 : decode cX1_close 108 = .ok (.return_, 1) := dk_177 (dk_at dksX1_close_4 13 rfl rfl)
abbrev cX1_leave : ByteArray := prog_2_method_5_code
def yX1_leave : MethodName := ⟨RX1, "leave", "(I)V"⟩
def dkwX1_leave_3 : List UInt8 := [167, 255, 197, 177]
abbrev dktX1_leave_3 : List UInt8 := dkwX1_leave_3 ++ []
def dkwX1_leave_2 : List UInt8 := [21, 4, 29, 100, 42, 180, 0, 15, 104, 184, 0, 34, 79, 132, 4, 1, 167, 255, 214, 132, 3, 1]
abbrev dktX1_leave_2 : List UInt8 := dkwX1_leave_2 ++ dktX1_leave_3
def dkwX1_leave_1 : List UInt8 := [180, 0, 30, 163, 0, 39, 44, 16, 25, 29, 104, 21, 4, 96, 44, 16, 25, 29, 104, 21, 4, 96, 46]
abbrev dktX1_leave_1 : List UInt8 := dkwX1_leave_1 ++ dktX1_leave_2
def dkwX1_leave_0 : List UInt8 := [42, 180, 0, 27, 27, 50, 77, 3, 62, 29, 42, 180, 0, 30, 163, 0, 57, 29, 54, 4, 21, 4, 42]
abbrev dktX1_leave_0 : List UInt8 := dkwX1_leave_0 ++ dktX1_leave_1
theorem dksX1_leave_0 : cX1_leave.data.toList.drop 0 = dktX1_leave_0 := by decide +kernel
theorem dksX1_leave_1 : cX1_leave.data.toList.drop 23 = dktX1_leave_1 := dk_seg dksX1_leave_0 23 rfl rfl
theorem dksX1_leave_2 : cX1_leave.data.toList.drop 46 = dktX1_leave_2 := dk_seg dksX1_leave_1 23 rfl rfl
theorem dksX1_leave_3 : cX1_leave.data.toList.drop 68 = dktX1_leave_3 := dk_seg dksX1_leave_2 22 rfl rfl
theorem dX1_leave_0 : decode cX1_leave 0 = .ok (.aload_n 0, 1) := dk_42 (dk_at dksX1_leave_0 0 rfl rfl)
theorem dX1_leave_1 : decode cX1_leave 1 = .ok (.getfield 27, 3) := dk_180 0 27 (dk_at dksX1_leave_0 1 rfl rfl)
theorem dX1_leave_4 : decode cX1_leave 4 = .ok (.iload_n 1, 1) := dk_27 (dk_at dksX1_leave_0 4 rfl rfl)
theorem dX1_leave_5 : decode cX1_leave 5 = .ok (.aaload, 1) := dk_50 (dk_at dksX1_leave_0 5 rfl rfl)
theorem dX1_leave_6 : decode cX1_leave 6 = .ok (.astore_n 2, 1) := dk_77 (dk_at dksX1_leave_0 6 rfl rfl)
theorem dX1_leave_7 : decode cX1_leave 7 = .ok (.iconst 0, 1) := dk_3 (dk_at dksX1_leave_0 7 rfl rfl)
theorem dX1_leave_8 : decode cX1_leave 8 = .ok (.istore_n 3, 1) := dk_62 (dk_at dksX1_leave_0 8 rfl rfl)
theorem dX1_leave_9 : decode cX1_leave 9 = .ok (.iload_n 3, 1) := dk_29 (dk_at dksX1_leave_0 9 rfl rfl)
theorem dX1_leave_10 : decode cX1_leave 10 = .ok (.aload_n 0, 1) := dk_42 (dk_at dksX1_leave_0 10 rfl rfl)
theorem dX1_leave_11 : decode cX1_leave 11 = .ok (.getfield 30, 3) := dk_180 0 30 (dk_at dksX1_leave_0 11 rfl rfl)
theorem dX1_leave_14 : decode cX1_leave 14 = .ok (.if_icmp .gt 57, 3) := dk_163 0 57 (dk_at dksX1_leave_0 14 rfl rfl)
theorem dX1_leave_17 : decode cX1_leave 17 = .ok (.iload_n 3, 1) := dk_29 (dk_at dksX1_leave_0 17 rfl rfl)
theorem dX1_leave_18 : decode cX1_leave 18 = .ok (.istore 4, 2) := dk_54 4 (dk_at dksX1_leave_0 18 rfl rfl)
theorem dX1_leave_20 : decode cX1_leave 20 = .ok (.iload 4, 2) := dk_21 4 (dk_at dksX1_leave_0 20 rfl rfl)
theorem dX1_leave_22 : decode cX1_leave 22 = .ok (.aload_n 0, 1) := dk_42 (dk_at dksX1_leave_0 22 rfl rfl)
theorem dX1_leave_23 : decode cX1_leave 23 = .ok (.getfield 30, 3) := dk_180 0 30 (dk_at dksX1_leave_1 0 rfl rfl)
theorem dX1_leave_26 : decode cX1_leave 26 = .ok (.if_icmp .gt 39, 3) := dk_163 0 39 (dk_at dksX1_leave_1 3 rfl rfl)
theorem dX1_leave_29 : decode cX1_leave 29 = .ok (.aload_n 2, 1) := dk_44 (dk_at dksX1_leave_1 6 rfl rfl)
theorem dX1_leave_30 : decode cX1_leave 30 = .ok (.bipush 25, 2) := dk_16 25 (dk_at dksX1_leave_1 7 rfl rfl)
theorem dX1_leave_32 : decode cX1_leave 32 = .ok (.iload_n 3, 1) := dk_29 (dk_at dksX1_leave_1 9 rfl rfl)
theorem dX1_leave_33 : decode cX1_leave 33 = .ok (.imul, 1) := dk_104 (dk_at dksX1_leave_1 10 rfl rfl)
theorem dX1_leave_34 : decode cX1_leave 34 = .ok (.iload 4, 2) := dk_21 4 (dk_at dksX1_leave_1 11 rfl rfl)
theorem dX1_leave_36 : decode cX1_leave 36 = .ok (.iadd, 1) := dk_96 (dk_at dksX1_leave_1 13 rfl rfl)
theorem dX1_leave_37 : decode cX1_leave 37 = .ok (.aload_n 2, 1) := dk_44 (dk_at dksX1_leave_1 14 rfl rfl)
theorem dX1_leave_38 : decode cX1_leave 38 = .ok (.bipush 25, 2) := dk_16 25 (dk_at dksX1_leave_1 15 rfl rfl)
theorem dX1_leave_40 : decode cX1_leave 40 = .ok (.iload_n 3, 1) := dk_29 (dk_at dksX1_leave_1 17 rfl rfl)
theorem dX1_leave_41 : decode cX1_leave 41 = .ok (.imul, 1) := dk_104 (dk_at dksX1_leave_1 18 rfl rfl)
theorem dX1_leave_42 : decode cX1_leave 42 = .ok (.iload 4, 2) := dk_21 4 (dk_at dksX1_leave_1 19 rfl rfl)
theorem dX1_leave_44 : decode cX1_leave 44 = .ok (.iadd, 1) := dk_96 (dk_at dksX1_leave_1 21 rfl rfl)
theorem dX1_leave_45 : decode cX1_leave 45 = .ok (.iaload, 1) := dk_46 (dk_at dksX1_leave_1 22 rfl rfl)
theorem dX1_leave_46 : decode cX1_leave 46 = .ok (.iload 4, 2) := dk_21 4 (dk_at dksX1_leave_2 0 rfl rfl)
theorem dX1_leave_48 : decode cX1_leave 48 = .ok (.iload_n 3, 1) := dk_29 (dk_at dksX1_leave_2 2 rfl rfl)
theorem dX1_leave_49 : decode cX1_leave 49 = .ok (.isub, 1) := dk_100 (dk_at dksX1_leave_2 3 rfl rfl)
theorem dX1_leave_50 : decode cX1_leave 50 = .ok (.aload_n 0, 1) := dk_42 (dk_at dksX1_leave_2 4 rfl rfl)
theorem dX1_leave_51 : decode cX1_leave 51 = .ok (.getfield 15, 3) := dk_180 0 15 (dk_at dksX1_leave_2 5 rfl rfl)
theorem dX1_leave_54 : decode cX1_leave 54 = .ok (.imul, 1) := dk_104 (dk_at dksX1_leave_2 8 rfl rfl)
theorem dX1_leave_55 : decode cX1_leave 55 = .ok (.invokestatic 34, 3) := dk_184 0 34 (dk_at dksX1_leave_2 9 rfl rfl)
theorem dX1_leave_58 : decode cX1_leave 58 = .ok (.iastore, 1) := dk_79 (dk_at dksX1_leave_2 12 rfl rfl)
theorem dX1_leave_59 : decode cX1_leave 59 = .ok (.iinc 4 1, 3) := dk_132 4 1 (dk_at dksX1_leave_2 13 rfl rfl)
theorem dX1_leave_62 : decode cX1_leave 62 = .ok (.goto (-42), 3) := dk_167 255 214 (dk_at dksX1_leave_2 16 rfl rfl)
theorem dX1_leave_65 : decode cX1_leave 65 = .ok (.iinc 3 1, 3) := dk_132 3 1 (dk_at dksX1_leave_2 19 rfl rfl)
theorem dX1_leave_68 : decode cX1_leave 68 = .ok (.goto (-59), 3) := dk_167 255 197 (dk_at dksX1_leave_3 0 rfl rfl)
theorem dX1_leave_71 : decode cX1_leave 71 = .ok (.return_, 1) := dk_177 (dk_at dksX1_leave_3 3 rfl rfl)
abbrev cX1_limit : ByteArray := prog_2_method_6_code
def yX1_limit : MethodName := ⟨RX1, "limit", "(II)V"⟩
def dkwX1_limit_1 : List UInt8 := [28, 163, 0, 10, 45, 21, 4, 46, 167, 0, 5, 18, 33, 79, 132, 4, 1, 167, 255, 225, 177]
abbrev dktX1_limit_1 : List UInt8 := dkwX1_limit_1 ++ []
def dkwX1_limit_0 : List UInt8 := [42, 180, 0, 27, 27, 50, 78, 3, 54, 4, 21, 4, 45, 190, 162, 0, 30, 45, 21, 4, 45, 21, 4, 46]
abbrev dktX1_limit_0 : List UInt8 := dkwX1_limit_0 ++ dktX1_limit_1
theorem dksX1_limit_0 : cX1_limit.data.toList.drop 0 = dktX1_limit_0 := by decide +kernel
theorem dksX1_limit_1 : cX1_limit.data.toList.drop 24 = dktX1_limit_1 := dk_seg dksX1_limit_0 24 rfl rfl
theorem dX1_limit_0 : decode cX1_limit 0 = .ok (.aload_n 0, 1) := dk_42 (dk_at dksX1_limit_0 0 rfl rfl)
theorem dX1_limit_1 : decode cX1_limit 1 = .ok (.getfield 27, 3) := dk_180 0 27 (dk_at dksX1_limit_0 1 rfl rfl)
theorem dX1_limit_4 : decode cX1_limit 4 = .ok (.iload_n 1, 1) := dk_27 (dk_at dksX1_limit_0 4 rfl rfl)
theorem dX1_limit_5 : decode cX1_limit 5 = .ok (.aaload, 1) := dk_50 (dk_at dksX1_limit_0 5 rfl rfl)
theorem dX1_limit_6 : decode cX1_limit 6 = .ok (.astore_n 3, 1) := dk_78 (dk_at dksX1_limit_0 6 rfl rfl)
theorem dX1_limit_7 : decode cX1_limit 7 = .ok (.iconst 0, 1) := dk_3 (dk_at dksX1_limit_0 7 rfl rfl)
theorem dX1_limit_8 : decode cX1_limit 8 = .ok (.istore 4, 2) := dk_54 4 (dk_at dksX1_limit_0 8 rfl rfl)
theorem dX1_limit_10 : decode cX1_limit 10 = .ok (.iload 4, 2) := dk_21 4 (dk_at dksX1_limit_0 10 rfl rfl)
theorem dX1_limit_12 : decode cX1_limit 12 = .ok (.aload_n 3, 1) := dk_45 (dk_at dksX1_limit_0 12 rfl rfl)
theorem dX1_limit_13 : decode cX1_limit 13 = .ok (.arraylength, 1) := dk_190 (dk_at dksX1_limit_0 13 rfl rfl)
theorem dX1_limit_14 : decode cX1_limit 14 = .ok (.if_icmp .ge 30, 3) := dk_162 0 30 (dk_at dksX1_limit_0 14 rfl rfl)
theorem dX1_limit_17 : decode cX1_limit 17 = .ok (.aload_n 3, 1) := dk_45 (dk_at dksX1_limit_0 17 rfl rfl)
theorem dX1_limit_18 : decode cX1_limit 18 = .ok (.iload 4, 2) := dk_21 4 (dk_at dksX1_limit_0 18 rfl rfl)
theorem dX1_limit_20 : decode cX1_limit 20 = .ok (.aload_n 3, 1) := dk_45 (dk_at dksX1_limit_0 20 rfl rfl)
theorem dX1_limit_21 : decode cX1_limit 21 = .ok (.iload 4, 2) := dk_21 4 (dk_at dksX1_limit_0 21 rfl rfl)
theorem dX1_limit_23 : decode cX1_limit 23 = .ok (.iaload, 1) := dk_46 (dk_at dksX1_limit_0 23 rfl rfl)
theorem dX1_limit_24 : decode cX1_limit 24 = .ok (.iload_n 2, 1) := dk_28 (dk_at dksX1_limit_1 0 rfl rfl)
theorem dX1_limit_25 : decode cX1_limit 25 = .ok (.if_icmp .gt 10, 3) := dk_163 0 10 (dk_at dksX1_limit_1 1 rfl rfl)
theorem dX1_limit_28 : decode cX1_limit 28 = .ok (.aload_n 3, 1) := dk_45 (dk_at dksX1_limit_1 4 rfl rfl)
theorem dX1_limit_29 : decode cX1_limit 29 = .ok (.iload 4, 2) := dk_21 4 (dk_at dksX1_limit_1 5 rfl rfl)
theorem dX1_limit_31 : decode cX1_limit 31 = .ok (.iaload, 1) := dk_46 (dk_at dksX1_limit_1 7 rfl rfl)
theorem dX1_limit_32 : decode cX1_limit 32 = .ok (.goto 5, 3) := dk_167 0 5 (dk_at dksX1_limit_1 8 rfl rfl)
theorem dX1_limit_35 : decode cX1_limit 35 = .ok (.ldc 33, 2) := dk_18 33 (dk_at dksX1_limit_1 11 rfl rfl)
theorem dX1_limit_37 : decode cX1_limit 37 = .ok (.iastore, 1) := dk_79 (dk_at dksX1_limit_1 13 rfl rfl)
theorem dX1_limit_38 : decode cX1_limit 38 = .ok (.iinc 4 1, 3) := dk_132 4 1 (dk_at dksX1_limit_1 14 rfl rfl)
theorem dX1_limit_41 : decode cX1_limit 41 = .ok (.goto (-31), 3) := dk_167 255 225 (dk_at dksX1_limit_1 17 rfl rfl)
theorem dX1_limit_44 : decode cX1_limit 44 = .ok (.return_, 1) := dk_177 (dk_at dksX1_limit_1 20 rfl rfl)
abbrev cX1_lower : ByteArray := prog_2_method_3_code
def yX1_lower : MethodName := ⟨RX1, "lower", "(I)V"⟩
def dkwX1_lower_2 : List UInt8 := [177]
abbrev dktX1_lower_2 : List UInt8 := dkwX1_lower_2 ++ []
def dkwX1_lower_1 : List UInt8 := [162, 0, 24, 44, 21, 4, 44, 21, 4, 46, 45, 21, 4, 46, 184, 0, 34, 79, 132, 4, 1, 167, 255, 231]
abbrev dktX1_lower_1 : List UInt8 := dkwX1_lower_1 ++ dktX1_lower_2
def dkwX1_lower_0 : List UInt8 := [42, 180, 0, 27, 27, 50, 77, 42, 180, 0, 27, 27, 4, 96, 50, 78, 3, 54, 4, 21, 4, 44, 190]
abbrev dktX1_lower_0 : List UInt8 := dkwX1_lower_0 ++ dktX1_lower_1
theorem dksX1_lower_0 : cX1_lower.data.toList.drop 0 = dktX1_lower_0 := by decide +kernel
theorem dksX1_lower_1 : cX1_lower.data.toList.drop 23 = dktX1_lower_1 := dk_seg dksX1_lower_0 23 rfl rfl
theorem dksX1_lower_2 : cX1_lower.data.toList.drop 47 = dktX1_lower_2 := dk_seg dksX1_lower_1 24 rfl rfl
theorem dX1_lower_0 : decode cX1_lower 0 = .ok (.aload_n 0, 1) := dk_42 (dk_at dksX1_lower_0 0 rfl rfl)
theorem dX1_lower_1 : decode cX1_lower 1 = .ok (.getfield 27, 3) := dk_180 0 27 (dk_at dksX1_lower_0 1 rfl rfl)
theorem dX1_lower_4 : decode cX1_lower 4 = .ok (.iload_n 1, 1) := dk_27 (dk_at dksX1_lower_0 4 rfl rfl)
theorem dX1_lower_5 : decode cX1_lower 5 = .ok (.aaload, 1) := dk_50 (dk_at dksX1_lower_0 5 rfl rfl)
theorem dX1_lower_6 : decode cX1_lower 6 = .ok (.astore_n 2, 1) := dk_77 (dk_at dksX1_lower_0 6 rfl rfl)
theorem dX1_lower_7 : decode cX1_lower 7 = .ok (.aload_n 0, 1) := dk_42 (dk_at dksX1_lower_0 7 rfl rfl)
theorem dX1_lower_8 : decode cX1_lower 8 = .ok (.getfield 27, 3) := dk_180 0 27 (dk_at dksX1_lower_0 8 rfl rfl)
theorem dX1_lower_11 : decode cX1_lower 11 = .ok (.iload_n 1, 1) := dk_27 (dk_at dksX1_lower_0 11 rfl rfl)
theorem dX1_lower_12 : decode cX1_lower 12 = .ok (.iconst 1, 1) := dk_4 (dk_at dksX1_lower_0 12 rfl rfl)
theorem dX1_lower_13 : decode cX1_lower 13 = .ok (.iadd, 1) := dk_96 (dk_at dksX1_lower_0 13 rfl rfl)
theorem dX1_lower_14 : decode cX1_lower 14 = .ok (.aaload, 1) := dk_50 (dk_at dksX1_lower_0 14 rfl rfl)
theorem dX1_lower_15 : decode cX1_lower 15 = .ok (.astore_n 3, 1) := dk_78 (dk_at dksX1_lower_0 15 rfl rfl)
theorem dX1_lower_16 : decode cX1_lower 16 = .ok (.iconst 0, 1) := dk_3 (dk_at dksX1_lower_0 16 rfl rfl)
theorem dX1_lower_17 : decode cX1_lower 17 = .ok (.istore 4, 2) := dk_54 4 (dk_at dksX1_lower_0 17 rfl rfl)
theorem dX1_lower_19 : decode cX1_lower 19 = .ok (.iload 4, 2) := dk_21 4 (dk_at dksX1_lower_0 19 rfl rfl)
theorem dX1_lower_21 : decode cX1_lower 21 = .ok (.aload_n 2, 1) := dk_44 (dk_at dksX1_lower_0 21 rfl rfl)
theorem dX1_lower_22 : decode cX1_lower 22 = .ok (.arraylength, 1) := dk_190 (dk_at dksX1_lower_0 22 rfl rfl)
theorem dX1_lower_23 : decode cX1_lower 23 = .ok (.if_icmp .ge 24, 3) := dk_162 0 24 (dk_at dksX1_lower_1 0 rfl rfl)
theorem dX1_lower_26 : decode cX1_lower 26 = .ok (.aload_n 2, 1) := dk_44 (dk_at dksX1_lower_1 3 rfl rfl)
theorem dX1_lower_27 : decode cX1_lower 27 = .ok (.iload 4, 2) := dk_21 4 (dk_at dksX1_lower_1 4 rfl rfl)
theorem dX1_lower_29 : decode cX1_lower 29 = .ok (.aload_n 2, 1) := dk_44 (dk_at dksX1_lower_1 6 rfl rfl)
theorem dX1_lower_30 : decode cX1_lower 30 = .ok (.iload 4, 2) := dk_21 4 (dk_at dksX1_lower_1 7 rfl rfl)
theorem dX1_lower_32 : decode cX1_lower 32 = .ok (.iaload, 1) := dk_46 (dk_at dksX1_lower_1 9 rfl rfl)
theorem dX1_lower_33 : decode cX1_lower 33 = .ok (.aload_n 3, 1) := dk_45 (dk_at dksX1_lower_1 10 rfl rfl)
theorem dX1_lower_34 : decode cX1_lower 34 = .ok (.iload 4, 2) := dk_21 4 (dk_at dksX1_lower_1 11 rfl rfl)
theorem dX1_lower_36 : decode cX1_lower 36 = .ok (.iaload, 1) := dk_46 (dk_at dksX1_lower_1 13 rfl rfl)
theorem dX1_lower_37 : decode cX1_lower 37 = .ok (.invokestatic 34, 3) := dk_184 0 34 (dk_at dksX1_lower_1 14 rfl rfl)
theorem dX1_lower_40 : decode cX1_lower 40 = .ok (.iastore, 1) := dk_79 (dk_at dksX1_lower_1 17 rfl rfl)
theorem dX1_lower_41 : decode cX1_lower 41 = .ok (.iinc 4 1, 3) := dk_132 4 1 (dk_at dksX1_lower_1 18 rfl rfl)
theorem dX1_lower_44 : decode cX1_lower 44 = .ok (.goto (-25), 3) := dk_167 255 231 (dk_at dksX1_lower_1 21 rfl rfl)
theorem dX1_lower_47 : decode cX1_lower 47 = .ok (.return_, 1) := dk_177 (dk_at dksX1_lower_2 0 rfl rfl)
theorem q36 : (Jvm.Cond.initialized "FuzzyFinder$Bench") ∈ lw_all := lw_g (lw_at lw_m1 2 rfl) rfl
theorem q74 : (Jvm.Cond.instantiable "FuzzyFinder$Bench" (6 : Nat)) ∈ lw_all := lw_g (lw_at lw_m1 40 rfl) rfl
theorem q76 : (Jvm.Cond.instanceMethod ({ cls := "FuzzyFinder$Bench", name := "<init>", desc := "()V" } : Jvm.MethodName)) ∈ lw_all := lw_g (lw_at lw_m1 42 rfl) rfl
theorem q77 : (Jvm.Cond.code ({ cls := "FuzzyFinder$Bench", name := "<init>", desc := "()V" } : Jvm.MethodName) prog_2_method_1_code (1 : Nat) (Option.none : Option Jvm.ClassFile.FieldType)) ∈ lw_all := lw_g (lw_at lw_m1 43 rfl) rfl
theorem q78 : (Jvm.Cond.methodLink "FuzzyFinder$Bench" (3 : Nat) ({ cls := "java/lang/Object", name := "<init>", desc := "()V" } : Jvm.MethodName)) ∈ lw_all := lw_g (lw_at lw_m1 44 rfl) rfl
theorem q79 : (Jvm.Cond.classLink "FuzzyFinder$Bench" (25 : Nat) "[[I") ∈ lw_all := lw_g (lw_at lw_m1 45 rfl) rfl
theorem q81 : (Jvm.Cond.fieldLink "FuzzyFinder$Bench" (9 : Nat) "FuzzyFinder$Bench" "text" "[I") ∈ lw_all := lw_g (lw_at lw_m1 47 rfl) rfl
theorem q83 : (Jvm.Cond.fieldLink "FuzzyFinder$Bench" (30 : Nat) "FuzzyFinder$Bench" "length" "I") ∈ lw_all := lw_g (lw_at lw_m1 49 rfl) rfl
theorem q85 : (Jvm.Cond.fieldLink "FuzzyFinder$Bench" (15 : Nat) "FuzzyFinder$Bench" "added" "I") ∈ lw_all := lw_g (lw_at lw_m1 51 rfl) rfl
theorem q87 : (Jvm.Cond.fieldLink "FuzzyFinder$Bench" (19 : Nat) "FuzzyFinder$Bench" "missing" "I") ∈ lw_all := lw_g (lw_at lw_m1 53 rfl) rfl
theorem q89 : (Jvm.Cond.fieldLink "FuzzyFinder$Bench" (22 : Nat) "FuzzyFinder$Bench" "wrong" "I") ∈ lw_all := lw_g (lw_at lw_m1 55 rfl) rfl
theorem q91 : (Jvm.Cond.fieldLink "FuzzyFinder$Bench" (27 : Nat) "FuzzyFinder$Bench" "tables" "[[I") ∈ lw_all := lw_g (lw_at lw_m1 57 rfl) rfl
theorem q93 : (Jvm.Cond.laysFinal "FuzzyFinder$Bench" "FuzzyFinder$Bench" "text" "[I") ∈ lw_all := lw_g (lw_at lw_m1 59 rfl) rfl
theorem q94 : (Jvm.Cond.soleField "FuzzyFinder$Bench" "text") ∈ lw_all := lw_g (lw_at lw_m1 60 rfl) rfl
theorem q95 : (Jvm.Cond.lays "FuzzyFinder$Bench" "FuzzyFinder$Bench" "length" "I") ∈ lw_all := lw_g (lw_at lw_m1 61 rfl) rfl
theorem q96 : (Jvm.Cond.soleField "FuzzyFinder$Bench" "length") ∈ lw_all := lw_g (lw_at lw_m1 62 rfl) rfl
theorem q97 : (Jvm.Cond.lays "FuzzyFinder$Bench" "FuzzyFinder$Bench" "added" "I") ∈ lw_all := lw_g (lw_at lw_m1 63 rfl) rfl
theorem q98 : (Jvm.Cond.soleField "FuzzyFinder$Bench" "added") ∈ lw_all := lw_g (lw_at lw_m1 64 rfl) rfl
theorem q99 : (Jvm.Cond.lays "FuzzyFinder$Bench" "FuzzyFinder$Bench" "missing" "I") ∈ lw_all := lw_g (lw_at lw_m1 65 rfl) rfl
theorem q100 : (Jvm.Cond.soleField "FuzzyFinder$Bench" "missing") ∈ lw_all := lw_g (lw_at lw_m1 66 rfl) rfl
theorem q101 : (Jvm.Cond.lays "FuzzyFinder$Bench" "FuzzyFinder$Bench" "wrong" "I") ∈ lw_all := lw_g (lw_at lw_m1 67 rfl) rfl
theorem q102 : (Jvm.Cond.soleField "FuzzyFinder$Bench" "wrong") ∈ lw_all := lw_g (lw_at lw_m1 68 rfl) rfl
theorem q103 : (Jvm.Cond.laysFinal "FuzzyFinder$Bench" "FuzzyFinder$Bench" "tables" "[[I") ∈ lw_all := lw_g (lw_at lw_m1 69 rfl) rfl
theorem q104 : (Jvm.Cond.soleField "FuzzyFinder$Bench" "tables") ∈ lw_all := lw_g (lw_at lw_m1 70 rfl) rfl
theorem q105 : (Jvm.Cond.superclass "FuzzyFinder$Bench" "java/lang/Object") ∈ lw_all := lw_g (lw_at lw_m1 71 rfl) rfl
theorem q583 : (Jvm.Cond.instanceMethod ({ cls := "FuzzyFinder$Bench", name := "letter", desc := "(II)V" } : Jvm.MethodName)) ∈ lw_all := lw_g (lw_at lw_m3 69 rfl) rfl
theorem q584 : (Jvm.Cond.selects "FuzzyFinder$Bench" ({ cls := "FuzzyFinder$Bench", name := "letter", desc := "(II)V" } : Jvm.MethodName) ({ cls := "FuzzyFinder$Bench", name := "letter", desc := "(II)V" } : Jvm.MethodName)) ∈ lw_all := lw_g (lw_at lw_m3 70 rfl) rfl
theorem q585 : (Jvm.Cond.code ({ cls := "FuzzyFinder$Bench", name := "letter", desc := "(II)V" } : Jvm.MethodName) prog_2_method_7_code (7 : Nat) (Option.none : Option Jvm.ClassFile.FieldType)) ∈ lw_all := lw_g (lw_at lw_m3 71 rfl) rfl
theorem q586 : (Jvm.Cond.constant "FuzzyFinder$Bench" (33 : Nat) (16777216 : Int32)) ∈ lw_all := lw_g (lw_at lw_m3 72 rfl) rfl
theorem q587 : (Jvm.Cond.methodLink "FuzzyFinder$Bench" (34 : Nat) ({ cls := "java/lang/Math", name := "min", desc := "(II)I" } : Jvm.MethodName)) ∈ lw_all := lw_g (lw_at lw_m3 73 rfl) rfl
theorem q613 : (Jvm.Cond.instanceMethod ({ cls := "FuzzyFinder$Bench", name := "chain", desc := "(I)V" } : Jvm.MethodName)) ∈ lw_all := lw_g (lw_at lw_m3 99 rfl) rfl
theorem q614 : (Jvm.Cond.selects "FuzzyFinder$Bench" ({ cls := "FuzzyFinder$Bench", name := "chain", desc := "(I)V" } : Jvm.MethodName) ({ cls := "FuzzyFinder$Bench", name := "chain", desc := "(I)V" } : Jvm.MethodName)) ∈ lw_all := lw_g (lw_at lw_m3 100 rfl) rfl
theorem q615 : (Jvm.Cond.code ({ cls := "FuzzyFinder$Bench", name := "chain", desc := "(I)V" } : Jvm.MethodName) prog_2_method_2_code (8 : Nat) (Option.none : Option Jvm.ClassFile.FieldType)) ∈ lw_all := lw_g (lw_at lw_m3 101 rfl) rfl
theorem q617 : (Jvm.Cond.instanceMethod ({ cls := "FuzzyFinder$Bench", name := "close", desc := "(I)V" } : Jvm.MethodName)) ∈ lw_all := lw_g (lw_at lw_m3 103 rfl) rfl
theorem q618 : (Jvm.Cond.selects "FuzzyFinder$Bench" ({ cls := "FuzzyFinder$Bench", name := "close", desc := "(I)V" } : Jvm.MethodName) ({ cls := "FuzzyFinder$Bench", name := "close", desc := "(I)V" } : Jvm.MethodName)) ∈ lw_all := lw_g (lw_at lw_m3 104 rfl) rfl
theorem q619 : (Jvm.Cond.code ({ cls := "FuzzyFinder$Bench", name := "close", desc := "(I)V" } : Jvm.MethodName) prog_2_method_4_code (7 : Nat) (Option.none : Option Jvm.ClassFile.FieldType)) ∈ lw_all := lw_g (lw_at lw_m3 105 rfl) rfl
theorem q621 : (Jvm.Cond.instanceMethod ({ cls := "FuzzyFinder$Bench", name := "leave", desc := "(I)V" } : Jvm.MethodName)) ∈ lw_all := lw_g (lw_at lw_m3 107 rfl) rfl
theorem q622 : (Jvm.Cond.selects "FuzzyFinder$Bench" ({ cls := "FuzzyFinder$Bench", name := "leave", desc := "(I)V" } : Jvm.MethodName) ({ cls := "FuzzyFinder$Bench", name := "leave", desc := "(I)V" } : Jvm.MethodName)) ∈ lw_all := lw_g (lw_at lw_m3 108 rfl) rfl
theorem q623 : (Jvm.Cond.code ({ cls := "FuzzyFinder$Bench", name := "leave", desc := "(I)V" } : Jvm.MethodName) prog_2_method_5_code (5 : Nat) (Option.none : Option Jvm.ClassFile.FieldType)) ∈ lw_all := lw_g (lw_at lw_m3 109 rfl) rfl
theorem q625 : (Jvm.Cond.instanceMethod ({ cls := "FuzzyFinder$Bench", name := "limit", desc := "(II)V" } : Jvm.MethodName)) ∈ lw_all := lw_g (lw_at lw_m3 111 rfl) rfl
theorem q626 : (Jvm.Cond.selects "FuzzyFinder$Bench" ({ cls := "FuzzyFinder$Bench", name := "limit", desc := "(II)V" } : Jvm.MethodName) ({ cls := "FuzzyFinder$Bench", name := "limit", desc := "(II)V" } : Jvm.MethodName)) ∈ lw_all := lw_g (lw_at lw_m3 112 rfl) rfl
theorem q627 : (Jvm.Cond.code ({ cls := "FuzzyFinder$Bench", name := "limit", desc := "(II)V" } : Jvm.MethodName) prog_2_method_6_code (5 : Nat) (Option.none : Option Jvm.ClassFile.FieldType)) ∈ lw_all := lw_g (lw_at lw_m3 113 rfl) rfl
theorem q629 : (Jvm.Cond.instanceMethod ({ cls := "FuzzyFinder$Bench", name := "lower", desc := "(I)V" } : Jvm.MethodName)) ∈ lw_all := lw_g (lw_at lw_m3 115 rfl) rfl
theorem q630 : (Jvm.Cond.selects "FuzzyFinder$Bench" ({ cls := "FuzzyFinder$Bench", name := "lower", desc := "(I)V" } : Jvm.MethodName) ({ cls := "FuzzyFinder$Bench", name := "lower", desc := "(I)V" } : Jvm.MethodName)) ∈ lw_all := lw_g (lw_at lw_m3 116 rfl) rfl
theorem q631 : (Jvm.Cond.code ({ cls := "FuzzyFinder$Bench", name := "lower", desc := "(I)V" } : Jvm.MethodName) prog_2_method_3_code (5 : Nat) (Option.none : Option Jvm.ClassFile.FieldType)) ∈ lw_all := lw_g (lw_at lw_m3 117 rfl) rfl
theorem q726 : (Jvm.Cond.selects "FuzzyFinder$Bench" ({ cls := "java/lang/Object", name := "getClass", desc := "()Ljava/lang/Class;" } : Jvm.MethodName) ({ cls := "java/lang/Object", name := "getClass", desc := "()Ljava/lang/Class;" } : Jvm.MethodName)) ∈ lw_all := lw_g (lw_at lw_m3 212 rfl) rfl
theorem q1038 : (Jvm.Cond.castable "FuzzyFinder$Bench" "java/lang/Object") ∈ lw_tbl := lw_at lw_m5 44 rfl
theorem in_X1 : ∀ w ∈ wsX10, w ∈ lw_all := lw_in wsX10 [93, 95, 97, 99, 101, 103] (by decide +kernel) (by decide +kernel)
/-! FuzzyFinder$Reader -/
set_option maxRecDepth 100000
def RX2 : String := "FuzzyFinder$Reader"
def TX2 : u_T := fun k => match k with
  | 0 => ("FuzzyFinder$Reader", "text", "Ljava/lang/StringBuilder;", true)
  | 1 => ("FuzzyFinder$Reader", "at", "I", false)
  | 2 => ("FuzzyFinder$Reader", "nodes", "I", false)
  | 3 => ("FuzzyFinder$Reader", "broken", "Z", false)
  | _ => ("FuzzyFinder$Reader", "rest", "LFuzzyFinder$Node;", true)
def tyX2 : Nat → FieldType := fun k => match k with
  | 0 => .object "java/lang/StringBuilder"
  | 1 => .int
  | 2 => .int
  | 3 => .boolean
  | _ => .object "FuzzyFinder$Node"
abbrev wsX20 : List Cond := u_ws RX2 TX2 5
theorem nmX2 : ∀ a, a < 5 → ∀ b, b < 5 → a ≠ b → (TX2 a).2.1 ≠ (TX2 b).2.1 := by decide +kernel
theorem tyX2_ok : ∀ k, k < 5 → parseFieldDescriptor (TX2 k).2.2.1 = some (tyX2 k) := by decide +kernel
abbrev cX2_init : ByteArray := prog_8_method_1_code
def yX2_init : MethodName := ⟨RX2, "<init>", "()V"⟩
def dkwX2_init_1 : List UInt8 := [183, 0, 21, 181, 0, 24, 177]
abbrev dktX2_init_1 : List UInt8 := dkwX2_init_1 ++ []
def dkwX2_init_0 : List UInt8 := [42, 183, 0, 3, 42, 187, 0, 9, 89, 183, 0, 11, 181, 0, 12, 42, 187, 0, 18, 89, 18, 20]
abbrev dktX2_init_0 : List UInt8 := dkwX2_init_0 ++ dktX2_init_1
theorem dksX2_init_0 : cX2_init.data.toList.drop 0 = dktX2_init_0 := by decide +kernel
theorem dksX2_init_1 : cX2_init.data.toList.drop 22 = dktX2_init_1 := dk_seg dksX2_init_0 22 rfl rfl
theorem dX2_init_0 : decode cX2_init 0 = .ok (.aload_n 0, 1) := dk_42 (dk_at dksX2_init_0 0 rfl rfl)
theorem dX2_init_1 : decode cX2_init 1 = .ok (.invokespecial 3, 3) := dk_183 0 3 (dk_at dksX2_init_0 1 rfl rfl)
theorem dX2_init_4 : decode cX2_init 4 = .ok (.aload_n 0, 1) := dk_42 (dk_at dksX2_init_0 4 rfl rfl)
theorem dX2_init_5 : decode cX2_init 5 = .ok (.new 9, 3) := dk_187 0 9 (dk_at dksX2_init_0 5 rfl rfl)
theorem dX2_init_8 : decode cX2_init 8 = .ok (.dup, 1) := dk_89 (dk_at dksX2_init_0 8 rfl rfl)
theorem dX2_init_9 : decode cX2_init 9 = .ok (.invokespecial 11, 3) := dk_183 0 11 (dk_at dksX2_init_0 9 rfl rfl)
theorem dX2_init_12 : decode cX2_init 12 = .ok (.putfield 12, 3) := dk_181 0 12 (dk_at dksX2_init_0 12 rfl rfl)
theorem dX2_init_15 : decode cX2_init 15 = .ok (.aload_n 0, 1) := dk_42 (dk_at dksX2_init_0 15 rfl rfl)
theorem dX2_init_16 : decode cX2_init 16 = .ok (.new 18, 3) := dk_187 0 18 (dk_at dksX2_init_0 16 rfl rfl)
theorem dX2_init_19 : decode cX2_init 19 = .ok (.dup, 1) := dk_89 (dk_at dksX2_init_0 19 rfl rfl)
theorem dX2_init_20 : decode cX2_init 20 = .ok (.ldc 20, 2) := dk_18 20 (dk_at dksX2_init_0 20 rfl rfl)
theorem dX2_init_22 : decode cX2_init 22 = .ok (.invokespecial 21, 3) := dk_183 0 21 (dk_at dksX2_init_1 0 rfl rfl)
theorem dX2_init_25 : decode cX2_init 25 = .ok (.putfield 24, 3) := dk_181 0 24 (dk_at dksX2_init_1 3 rfl rfl)
theorem dX2_init_28 : decode cX2_init 28 = .ok (.return_, 1) := dk_177 (dk_at dksX2_init_1 6 rfl rfl)
abbrev cX2_read : ByteArray := prog_8_method_8_code
def yX2_read : MethodName := ⟨RX2, "read", "()LFuzzyFinder$Node;"⟩
def dkwX2_read_2 : List UInt8 := [43, 176]
abbrev dktX2_read_2 : List UInt8 := dkwX2_read_2 ++ []
def dkwX2_read_1 : List UInt8 := [180, 0, 51, 154, 0, 17, 42, 180, 0, 32, 42, 180, 0, 12, 182, 0, 35, 162, 0, 7, 1, 167, 0, 4]
abbrev dktX2_read_1 : List UInt8 := dkwX2_read_1 ++ dktX2_read_2
def dkwX2_read_0 : List UInt8 := [42, 3, 181, 0, 32, 42, 3, 181, 0, 28, 42, 3, 181, 0, 51, 42, 3, 184, 0, 55, 76, 42]
abbrev dktX2_read_0 : List UInt8 := dkwX2_read_0 ++ dktX2_read_1
theorem dksX2_read_0 : cX2_read.data.toList.drop 0 = dktX2_read_0 := by decide +kernel
theorem dksX2_read_1 : cX2_read.data.toList.drop 22 = dktX2_read_1 := dk_seg dksX2_read_0 22 rfl rfl
theorem dksX2_read_2 : cX2_read.data.toList.drop 46 = dktX2_read_2 := dk_seg dksX2_read_1 24 rfl rfl
theorem dX2_read_0 : decode cX2_read 0 = .ok (.aload_n 0, 1) := dk_42 (dk_at dksX2_read_0 0 rfl rfl)
theorem dX2_read_1 : decode cX2_read 1 = .ok (.iconst 0, 1) := dk_3 (dk_at dksX2_read_0 1 rfl rfl)
theorem dX2_read_2 : decode cX2_read 2 = .ok (.putfield 32, 3) := dk_181 0 32 (dk_at dksX2_read_0 2 rfl rfl)
theorem dX2_read_5 : decode cX2_read 5 = .ok (.aload_n 0, 1) := dk_42 (dk_at dksX2_read_0 5 rfl rfl)
theorem dX2_read_6 : decode cX2_read 6 = .ok (.iconst 0, 1) := dk_3 (dk_at dksX2_read_0 6 rfl rfl)
theorem dX2_read_7 : decode cX2_read 7 = .ok (.putfield 28, 3) := dk_181 0 28 (dk_at dksX2_read_0 7 rfl rfl)
theorem dX2_read_10 : decode cX2_read 10 = .ok (.aload_n 0, 1) := dk_42 (dk_at dksX2_read_0 10 rfl rfl)
theorem dX2_read_11 : decode cX2_read 11 = .ok (.iconst 0, 1) := dk_3 (dk_at dksX2_read_0 11 rfl rfl)
theorem dX2_read_12 : decode cX2_read 12 = .ok (.putfield 51, 3) := dk_181 0 51 (dk_at dksX2_read_0 12 rfl rfl)
theorem dX2_read_15 : decode cX2_read 15 = .ok (.aload_n 0, 1) := dk_42 (dk_at dksX2_read_0 15 rfl rfl)
theorem dX2_read_16 : decode cX2_read 16 = .ok (.iconst 0, 1) := dk_3 (dk_at dksX2_read_0 16 rfl rfl)
theorem dX2_read_17 : decode cX2_read 17 = .ok (.invokestatic 55, 3) := dk_184 0 55 (dk_at dksX2_read_0 17 rfl rfl)
theorem dX2_read_20 : decode cX2_read 20 = .ok (.astore_n 1, 1) := dk_76 (dk_at dksX2_read_0 20 rfl rfl)
theorem dX2_read_21 : decode cX2_read 21 = .ok (.aload_n 0, 1) := dk_42 (dk_at dksX2_read_0 21 rfl rfl)
theorem dX2_read_22 : decode cX2_read 22 = .ok (.getfield 51, 3) := dk_180 0 51 (dk_at dksX2_read_1 0 rfl rfl)
theorem dX2_read_25 : decode cX2_read 25 = .ok (.ifCond .ne 17, 3) := dk_154 0 17 (dk_at dksX2_read_1 3 rfl rfl)
theorem dX2_read_28 : decode cX2_read 28 = .ok (.aload_n 0, 1) := dk_42 (dk_at dksX2_read_1 6 rfl rfl)
theorem dX2_read_29 : decode cX2_read 29 = .ok (.getfield 32, 3) := dk_180 0 32 (dk_at dksX2_read_1 7 rfl rfl)
theorem dX2_read_32 : decode cX2_read 32 = .ok (.aload_n 0, 1) := dk_42 (dk_at dksX2_read_1 10 rfl rfl)
theorem dX2_read_33 : decode cX2_read 33 = .ok (.getfield 12, 3) := dk_180 0 12 (dk_at dksX2_read_1 11 rfl rfl)
theorem dX2_read_36 : decode cX2_read 36 = .ok (.invokevirtual 35, 3) := dk_182 0 35 (dk_at dksX2_read_1 14 rfl rfl)
theorem dX2_read_39 : decode cX2_read 39 = .ok (.if_icmp .ge 7, 3) := dk_162 0 7 (dk_at dksX2_read_1 17 rfl rfl)
theorem dX2_read_42 : decode cX2_read 42 = .ok (.aconst_null, 1) := dk_1 (dk_at dksX2_read_1 20 rfl rfl)
theorem dX2_read_43 : decode cX2_read 43 = .ok (.goto 4, 3) := dk_167 0 4 (dk_at dksX2_read_1 21 rfl rfl)
theorem dX2_read_46 : decode cX2_read 46 = .ok (.aload_n 1, 1) := dk_43 (dk_at dksX2_read_2 0 rfl rfl)
theorem dX2_read_47 : decode cX2_read 47 = .ok (.areturn, 1) := dk_176 (dk_at dksX2_read_2 1 rfl rfl)
abbrev cX2_expression : ByteArray := prog_8_method_9_code
def yX2_expression : MethodName := ⟨RX2, "expression", "(LFuzzyFinder$Reader;I)LFuzzyFinder$Node;"⟩
def dkwX2_expression_3 : List UInt8 := [176]
abbrev dktX2_expression_3 : List UInt8 := dkwX2_expression_3 ++ []
def dkwX2_expression_2 : List UInt8 := [182, 0, 65, 153, 0, 7, 44, 167, 0, 12, 187, 0, 69, 89, 44, 45, 183, 0, 71, 77, 167, 255, 196, 44]
abbrev dktX2_expression_2 : List UInt8 := dkwX2_expression_2 ++ dktX2_expression_3
def dkwX2_expression_1 : List UInt8 := [180, 0, 28, 4, 96, 181, 0, 28, 42, 27, 184, 0, 59, 78, 42, 180, 0, 51, 154, 0, 10, 42]
abbrev dktX2_expression_1 : List UInt8 := dkwX2_expression_1 ++ dktX2_expression_2
def dkwX2_expression_0 : List UInt8 := [42, 27, 184, 0, 59, 77, 42, 180, 0, 51, 154, 0, 59, 42, 16, 124, 182, 0, 62, 153, 0, 50, 42, 89]
abbrev dktX2_expression_0 : List UInt8 := dkwX2_expression_0 ++ dktX2_expression_1
theorem dksX2_expression_0 : cX2_expression.data.toList.drop 0 = dktX2_expression_0 := by decide +kernel
theorem dksX2_expression_1 : cX2_expression.data.toList.drop 24 = dktX2_expression_1 := dk_seg dksX2_expression_0 24 rfl rfl
theorem dksX2_expression_2 : cX2_expression.data.toList.drop 46 = dktX2_expression_2 := dk_seg dksX2_expression_1 22 rfl rfl
theorem dksX2_expression_3 : cX2_expression.data.toList.drop 70 = dktX2_expression_3 := dk_seg dksX2_expression_2 24 rfl rfl
theorem dX2_expression_0 : decode cX2_expression 0 = .ok (.aload_n 0, 1) := dk_42 (dk_at dksX2_expression_0 0 rfl rfl)
theorem dX2_expression_1 : decode cX2_expression 1 = .ok (.iload_n 1, 1) := dk_27 (dk_at dksX2_expression_0 1 rfl rfl)
theorem dX2_expression_2 : decode cX2_expression 2 = .ok (.invokestatic 59, 3) := dk_184 0 59 (dk_at dksX2_expression_0 2 rfl rfl)
theorem dX2_expression_5 : decode cX2_expression 5 = .ok (.astore_n 2, 1) := dk_77 (dk_at dksX2_expression_0 5 rfl rfl)
theorem dX2_expression_6 : decode cX2_expression 6 = .ok (.aload_n 0, 1) := dk_42 (dk_at dksX2_expression_0 6 rfl rfl)
theorem dX2_expression_7 : decode cX2_expression 7 = .ok (.getfield 51, 3) := dk_180 0 51 (dk_at dksX2_expression_0 7 rfl rfl)
theorem dX2_expression_10 : decode cX2_expression 10 = .ok (.ifCond .ne 59, 3) := dk_154 0 59 (dk_at dksX2_expression_0 10 rfl rfl)
theorem dX2_expression_13 : decode cX2_expression 13 = .ok (.aload_n 0, 1) := dk_42 (dk_at dksX2_expression_0 13 rfl rfl)
theorem dX2_expression_14 : decode cX2_expression 14 = .ok (.bipush 124, 2) := dk_16 124 (dk_at dksX2_expression_0 14 rfl rfl)
theorem dX2_expression_16 : decode cX2_expression 16 = .ok (.invokevirtual 62, 3) := dk_182 0 62 (dk_at dksX2_expression_0 16 rfl rfl)
theorem dX2_expression_19 : decode cX2_expression 19 = .ok (.ifCond .eq 50, 3) := dk_153 0 50 (dk_at dksX2_expression_0 19 rfl rfl)
theorem dX2_expression_22 : decode cX2_expression 22 = .ok (.aload_n 0, 1) := dk_42 (dk_at dksX2_expression_0 22 rfl rfl)
theorem dX2_expression_23 : decode cX2_expression 23 = .ok (.dup, 1) := dk_89 (dk_at dksX2_expression_0 23 rfl rfl)
theorem dX2_expression_24 : decode cX2_expression 24 = .ok (.getfield 28, 3) := dk_180 0 28 (dk_at dksX2_expression_1 0 rfl rfl)
theorem dX2_expression_27 : decode cX2_expression 27 = .ok (.iconst 1, 1) := dk_4 (dk_at dksX2_expression_1 3 rfl rfl)
theorem dX2_expression_28 : decode cX2_expression 28 = .ok (.iadd, 1) := dk_96 (dk_at dksX2_expression_1 4 rfl rfl)
theorem dX2_expression_29 : decode cX2_expression 29 = .ok (.putfield 28, 3) := dk_181 0 28 (dk_at dksX2_expression_1 5 rfl rfl)
theorem dX2_expression_32 : decode cX2_expression 32 = .ok (.aload_n 0, 1) := dk_42 (dk_at dksX2_expression_1 8 rfl rfl)
theorem dX2_expression_33 : decode cX2_expression 33 = .ok (.iload_n 1, 1) := dk_27 (dk_at dksX2_expression_1 9 rfl rfl)
theorem dX2_expression_34 : decode cX2_expression 34 = .ok (.invokestatic 59, 3) := dk_184 0 59 (dk_at dksX2_expression_1 10 rfl rfl)
theorem dX2_expression_37 : decode cX2_expression 37 = .ok (.astore_n 3, 1) := dk_78 (dk_at dksX2_expression_1 13 rfl rfl)
theorem dX2_expression_38 : decode cX2_expression 38 = .ok (.aload_n 0, 1) := dk_42 (dk_at dksX2_expression_1 14 rfl rfl)
theorem dX2_expression_39 : decode cX2_expression 39 = .ok (.getfield 51, 3) := dk_180 0 51 (dk_at dksX2_expression_1 15 rfl rfl)
theorem dX2_expression_42 : decode cX2_expression 42 = .ok (.ifCond .ne 10, 3) := dk_154 0 10 (dk_at dksX2_expression_1 18 rfl rfl)
theorem dX2_expression_45 : decode cX2_expression 45 = .ok (.aload_n 0, 1) := dk_42 (dk_at dksX2_expression_1 21 rfl rfl)
theorem dX2_expression_46 : decode cX2_expression 46 = .ok (.invokevirtual 65, 3) := dk_182 0 65 (dk_at dksX2_expression_2 0 rfl rfl)
theorem dX2_expression_49 : decode cX2_expression 49 = .ok (.ifCond .eq 7, 3) := dk_153 0 7 (dk_at dksX2_expression_2 3 rfl rfl)
theorem dX2_expression_52 : decode cX2_expression 52 = .ok (.aload_n 2, 1) := dk_44 (dk_at dksX2_expression_2 6 rfl rfl)
theorem dX2_expression_53 : decode cX2_expression 53 = .ok (.goto 12, 3) := dk_167 0 12 (dk_at dksX2_expression_2 7 rfl rfl)
theorem dX2_expression_56 : decode cX2_expression 56 = .ok (.new 69, 3) := dk_187 0 69 (dk_at dksX2_expression_2 10 rfl rfl)
theorem dX2_expression_59 : decode cX2_expression 59 = .ok (.dup, 1) := dk_89 (dk_at dksX2_expression_2 13 rfl rfl)
theorem dX2_expression_60 : decode cX2_expression 60 = .ok (.aload_n 2, 1) := dk_44 (dk_at dksX2_expression_2 14 rfl rfl)
theorem dX2_expression_61 : decode cX2_expression 61 = .ok (.aload_n 3, 1) := dk_45 (dk_at dksX2_expression_2 15 rfl rfl)
theorem dX2_expression_62 : decode cX2_expression 62 = .ok (.invokespecial 71, 3) := dk_183 0 71 (dk_at dksX2_expression_2 16 rfl rfl)
theorem dX2_expression_65 : decode cX2_expression 65 = .ok (.astore_n 2, 1) := dk_77 (dk_at dksX2_expression_2 19 rfl rfl)
theorem dX2_expression_66 : decode cX2_expression 66 = .ok (.goto (-60), 3) := dk_167 255 196 (dk_at dksX2_expression_2 20 rfl rfl)
theorem dX2_expression_69 : decode cX2_expression 69 = .ok (.aload_n 2, 1) := dk_44 (dk_at dksX2_expression_2 23 rfl rfl)
theorem dX2_expression_70 : decode cX2_expression 70 = .ok (.areturn, 1) := dk_176 (dk_at dksX2_expression_3 0 rfl rfl)
abbrev cX2_row : ByteArray := prog_8_method_10_code
def yX2_row : MethodName := ⟨RX2, "row", "(LFuzzyFinder$Reader;I)LFuzzyFinder$Node;"⟩
def dkwX2_row_3 : List UInt8 := [176]
abbrev dktX2_row_3 : List UInt8 := dkwX2_row_3 ++ []
def dkwX2_row_2 : List UInt8 := [182, 0, 65, 153, 0, 7, 44, 167, 0, 12, 187, 0, 80, 89, 44, 45, 183, 0, 82, 77, 167, 255, 195, 44]
abbrev dktX2_row_2 : List UInt8 := dkwX2_row_2 ++ dktX2_row_3
def dkwX2_row_1 : List UInt8 := [89, 180, 0, 28, 4, 96, 181, 0, 28, 42, 27, 184, 0, 74, 78, 42, 180, 0, 51, 154, 0, 10, 42]
abbrev dktX2_row_1 : List UInt8 := dkwX2_row_1 ++ dktX2_row_2
def dkwX2_row_0 : List UInt8 := [42, 27, 184, 0, 74, 77, 42, 180, 0, 51, 154, 0, 60, 42, 182, 0, 43, 184, 0, 77, 153, 0, 50, 42]
abbrev dktX2_row_0 : List UInt8 := dkwX2_row_0 ++ dktX2_row_1
theorem dksX2_row_0 : cX2_row.data.toList.drop 0 = dktX2_row_0 := by decide +kernel
theorem dksX2_row_1 : cX2_row.data.toList.drop 24 = dktX2_row_1 := dk_seg dksX2_row_0 24 rfl rfl
theorem dksX2_row_2 : cX2_row.data.toList.drop 47 = dktX2_row_2 := dk_seg dksX2_row_1 23 rfl rfl
theorem dksX2_row_3 : cX2_row.data.toList.drop 71 = dktX2_row_3 := dk_seg dksX2_row_2 24 rfl rfl
theorem dX2_row_0 : decode cX2_row 0 = .ok (.aload_n 0, 1) := dk_42 (dk_at dksX2_row_0 0 rfl rfl)
theorem dX2_row_1 : decode cX2_row 1 = .ok (.iload_n 1, 1) := dk_27 (dk_at dksX2_row_0 1 rfl rfl)
theorem dX2_row_2 : decode cX2_row 2 = .ok (.invokestatic 74, 3) := dk_184 0 74 (dk_at dksX2_row_0 2 rfl rfl)
theorem dX2_row_5 : decode cX2_row 5 = .ok (.astore_n 2, 1) := dk_77 (dk_at dksX2_row_0 5 rfl rfl)
theorem dX2_row_6 : decode cX2_row 6 = .ok (.aload_n 0, 1) := dk_42 (dk_at dksX2_row_0 6 rfl rfl)
theorem dX2_row_7 : decode cX2_row 7 = .ok (.getfield 51, 3) := dk_180 0 51 (dk_at dksX2_row_0 7 rfl rfl)
theorem dX2_row_10 : decode cX2_row 10 = .ok (.ifCond .ne 60, 3) := dk_154 0 60 (dk_at dksX2_row_0 10 rfl rfl)
theorem dX2_row_13 : decode cX2_row 13 = .ok (.aload_n 0, 1) := dk_42 (dk_at dksX2_row_0 13 rfl rfl)
theorem dX2_row_14 : decode cX2_row 14 = .ok (.invokevirtual 43, 3) := dk_182 0 43 (dk_at dksX2_row_0 14 rfl rfl)
theorem dX2_row_17 : decode cX2_row 17 = .ok (.invokestatic 77, 3) := dk_184 0 77 (dk_at dksX2_row_0 17 rfl rfl)
theorem dX2_row_20 : decode cX2_row 20 = .ok (.ifCond .eq 50, 3) := dk_153 0 50 (dk_at dksX2_row_0 20 rfl rfl)
theorem dX2_row_23 : decode cX2_row 23 = .ok (.aload_n 0, 1) := dk_42 (dk_at dksX2_row_0 23 rfl rfl)
theorem dX2_row_24 : decode cX2_row 24 = .ok (.dup, 1) := dk_89 (dk_at dksX2_row_1 0 rfl rfl)
theorem dX2_row_25 : decode cX2_row 25 = .ok (.getfield 28, 3) := dk_180 0 28 (dk_at dksX2_row_1 1 rfl rfl)
theorem dX2_row_28 : decode cX2_row 28 = .ok (.iconst 1, 1) := dk_4 (dk_at dksX2_row_1 4 rfl rfl)
theorem dX2_row_29 : decode cX2_row 29 = .ok (.iadd, 1) := dk_96 (dk_at dksX2_row_1 5 rfl rfl)
theorem dX2_row_30 : decode cX2_row 30 = .ok (.putfield 28, 3) := dk_181 0 28 (dk_at dksX2_row_1 6 rfl rfl)
theorem dX2_row_33 : decode cX2_row 33 = .ok (.aload_n 0, 1) := dk_42 (dk_at dksX2_row_1 9 rfl rfl)
theorem dX2_row_34 : decode cX2_row 34 = .ok (.iload_n 1, 1) := dk_27 (dk_at dksX2_row_1 10 rfl rfl)
theorem dX2_row_35 : decode cX2_row 35 = .ok (.invokestatic 74, 3) := dk_184 0 74 (dk_at dksX2_row_1 11 rfl rfl)
theorem dX2_row_38 : decode cX2_row 38 = .ok (.astore_n 3, 1) := dk_78 (dk_at dksX2_row_1 14 rfl rfl)
theorem dX2_row_39 : decode cX2_row 39 = .ok (.aload_n 0, 1) := dk_42 (dk_at dksX2_row_1 15 rfl rfl)
theorem dX2_row_40 : decode cX2_row 40 = .ok (.getfield 51, 3) := dk_180 0 51 (dk_at dksX2_row_1 16 rfl rfl)
theorem dX2_row_43 : decode cX2_row 43 = .ok (.ifCond .ne 10, 3) := dk_154 0 10 (dk_at dksX2_row_1 19 rfl rfl)
theorem dX2_row_46 : decode cX2_row 46 = .ok (.aload_n 0, 1) := dk_42 (dk_at dksX2_row_1 22 rfl rfl)
theorem dX2_row_47 : decode cX2_row 47 = .ok (.invokevirtual 65, 3) := dk_182 0 65 (dk_at dksX2_row_2 0 rfl rfl)
theorem dX2_row_50 : decode cX2_row 50 = .ok (.ifCond .eq 7, 3) := dk_153 0 7 (dk_at dksX2_row_2 3 rfl rfl)
theorem dX2_row_53 : decode cX2_row 53 = .ok (.aload_n 2, 1) := dk_44 (dk_at dksX2_row_2 6 rfl rfl)
theorem dX2_row_54 : decode cX2_row 54 = .ok (.goto 12, 3) := dk_167 0 12 (dk_at dksX2_row_2 7 rfl rfl)
theorem dX2_row_57 : decode cX2_row 57 = .ok (.new 80, 3) := dk_187 0 80 (dk_at dksX2_row_2 10 rfl rfl)
theorem dX2_row_60 : decode cX2_row 60 = .ok (.dup, 1) := dk_89 (dk_at dksX2_row_2 13 rfl rfl)
theorem dX2_row_61 : decode cX2_row 61 = .ok (.aload_n 2, 1) := dk_44 (dk_at dksX2_row_2 14 rfl rfl)
theorem dX2_row_62 : decode cX2_row 62 = .ok (.aload_n 3, 1) := dk_45 (dk_at dksX2_row_2 15 rfl rfl)
theorem dX2_row_63 : decode cX2_row 63 = .ok (.invokespecial 82, 3) := dk_183 0 82 (dk_at dksX2_row_2 16 rfl rfl)
theorem dX2_row_66 : decode cX2_row 66 = .ok (.astore_n 2, 1) := dk_77 (dk_at dksX2_row_2 19 rfl rfl)
theorem dX2_row_67 : decode cX2_row 67 = .ok (.goto (-61), 3) := dk_167 255 195 (dk_at dksX2_row_2 20 rfl rfl)
theorem dX2_row_70 : decode cX2_row 70 = .ok (.aload_n 2, 1) := dk_44 (dk_at dksX2_row_2 23 rfl rfl)
theorem dX2_row_71 : decode cX2_row 71 = .ok (.areturn, 1) := dk_176 (dk_at dksX2_row_3 0 rfl rfl)
abbrev cX2_item : ByteArray := prog_8_method_11_code
def yX2_item : MethodName := ⟨RX2, "item", "(LFuzzyFinder$Reader;I)LFuzzyFinder$Node;"⟩
def dkwX2_item_5 : List UInt8 := [181, 0, 32, 167, 255, 129, 1, 176]
abbrev dktX2_item_5 : List UInt8 := dkwX2_item_5 ++ []
def dkwX2_item_4 : List UInt8 := [153, 0, 7, 1, 176, 44, 176, 42, 89, 180, 0, 28, 4, 96, 181, 0, 28, 42, 89, 180, 0, 32, 4, 96]
abbrev dktX2_item_4 : List UInt8 := dkwX2_item_4 ++ dktX2_item_5
def dkwX2_item_3 : List UInt8 := [42, 44, 178, 0, 99, 182, 0, 92, 77, 167, 0, 20, 42, 44, 182, 0, 102, 77, 42, 180, 0, 51]
abbrev dktX2_item_3 : List UInt8 := dkwX2_item_3 ++ dktX2_item_4
def dkwX2_item_2 : List UInt8 := [42, 44, 178, 0, 86, 182, 0, 92, 77, 167, 0, 44, 42, 44, 178, 0, 96, 182, 0, 92, 77, 167, 0, 32]
abbrev dktX2_item_2 : List UInt8 := dkwX2_item_2 ++ dktX2_item_3
def dkwX2_item_1 : List UInt8 := [171, 0, 0, 0, 0, 0, 94, 0, 0, 0, 4, 0, 0, 0, 42, 0, 0, 0, 43, 0, 0, 0, 43, 0, 0, 0, 55, 0, 0, 0, 60, 0, 0, 0, 79, 0, 0, 0, 63, 0, 0, 0, 67]
abbrev dktX2_item_1 : List UInt8 := dkwX2_item_1 ++ dktX2_item_2
def dkwX2_item_0 : List UInt8 := [42, 27, 184, 0, 83, 77, 42, 180, 0, 51, 154, 0, 126, 42, 182, 0, 43]
abbrev dktX2_item_0 : List UInt8 := dkwX2_item_0 ++ dktX2_item_1
theorem dksX2_item_0 : cX2_item.data.toList.drop 0 = dktX2_item_0 := by decide +kernel
theorem dksX2_item_1 : cX2_item.data.toList.drop 17 = dktX2_item_1 := dk_seg dksX2_item_0 17 rfl rfl
theorem dksX2_item_2 : cX2_item.data.toList.drop 60 = dktX2_item_2 := dk_seg dksX2_item_1 43 rfl rfl
theorem dksX2_item_3 : cX2_item.data.toList.drop 84 = dktX2_item_3 := dk_seg dksX2_item_2 24 rfl rfl
theorem dksX2_item_4 : cX2_item.data.toList.drop 106 = dktX2_item_4 := dk_seg dksX2_item_3 22 rfl rfl
theorem dksX2_item_5 : cX2_item.data.toList.drop 130 = dktX2_item_5 := dk_seg dksX2_item_4 24 rfl rfl
theorem dX2_item_0 : decode cX2_item 0 = .ok (.aload_n 0, 1) := dk_42 (dk_at dksX2_item_0 0 rfl rfl)
theorem dX2_item_1 : decode cX2_item 1 = .ok (.iload_n 1, 1) := dk_27 (dk_at dksX2_item_0 1 rfl rfl)
theorem dX2_item_2 : decode cX2_item 2 = .ok (.invokestatic 83, 3) := dk_184 0 83 (dk_at dksX2_item_0 2 rfl rfl)
theorem dX2_item_5 : decode cX2_item 5 = .ok (.astore_n 2, 1) := dk_77 (dk_at dksX2_item_0 5 rfl rfl)
theorem dX2_item_6 : decode cX2_item 6 = .ok (.aload_n 0, 1) := dk_42 (dk_at dksX2_item_0 6 rfl rfl)
theorem dX2_item_7 : decode cX2_item 7 = .ok (.getfield 51, 3) := dk_180 0 51 (dk_at dksX2_item_0 7 rfl rfl)
theorem dX2_item_10 : decode cX2_item 10 = .ok (.ifCond .ne 126, 3) := dk_154 0 126 (dk_at dksX2_item_0 10 rfl rfl)
theorem dX2_item_13 : decode cX2_item 13 = .ok (.aload_n 0, 1) := dk_42 (dk_at dksX2_item_0 13 rfl rfl)
theorem dX2_item_14 : decode cX2_item 14 = .ok (.invokevirtual 43, 3) := dk_182 0 43 (dk_at dksX2_item_0 14 rfl rfl)
theorem dX2_item_17 : decode cX2_item 17 = .ok (.lookupswitch 94 #[(42, 43), (43, 55), (60, 79), (63, 67)], 43) := by decide +kernel
theorem dX2_item_60 : decode cX2_item 60 = .ok (.aload_n 0, 1) := dk_42 (dk_at dksX2_item_2 0 rfl rfl)
theorem dX2_item_61 : decode cX2_item 61 = .ok (.aload_n 2, 1) := dk_44 (dk_at dksX2_item_2 1 rfl rfl)
theorem dX2_item_62 : decode cX2_item 62 = .ok (.getstatic 86, 3) := dk_178 0 86 (dk_at dksX2_item_2 2 rfl rfl)
theorem dX2_item_65 : decode cX2_item 65 = .ok (.invokevirtual 92, 3) := dk_182 0 92 (dk_at dksX2_item_2 5 rfl rfl)
theorem dX2_item_68 : decode cX2_item 68 = .ok (.astore_n 2, 1) := dk_77 (dk_at dksX2_item_2 8 rfl rfl)
theorem dX2_item_69 : decode cX2_item 69 = .ok (.goto 44, 3) := dk_167 0 44 (dk_at dksX2_item_2 9 rfl rfl)
theorem dX2_item_72 : decode cX2_item 72 = .ok (.aload_n 0, 1) := dk_42 (dk_at dksX2_item_2 12 rfl rfl)
theorem dX2_item_73 : decode cX2_item 73 = .ok (.aload_n 2, 1) := dk_44 (dk_at dksX2_item_2 13 rfl rfl)
theorem dX2_item_74 : decode cX2_item 74 = .ok (.getstatic 96, 3) := dk_178 0 96 (dk_at dksX2_item_2 14 rfl rfl)
theorem dX2_item_77 : decode cX2_item 77 = .ok (.invokevirtual 92, 3) := dk_182 0 92 (dk_at dksX2_item_2 17 rfl rfl)
theorem dX2_item_80 : decode cX2_item 80 = .ok (.astore_n 2, 1) := dk_77 (dk_at dksX2_item_2 20 rfl rfl)
theorem dX2_item_81 : decode cX2_item 81 = .ok (.goto 32, 3) := dk_167 0 32 (dk_at dksX2_item_2 21 rfl rfl)
theorem dX2_item_84 : decode cX2_item 84 = .ok (.aload_n 0, 1) := dk_42 (dk_at dksX2_item_3 0 rfl rfl)
theorem dX2_item_85 : decode cX2_item 85 = .ok (.aload_n 2, 1) := dk_44 (dk_at dksX2_item_3 1 rfl rfl)
theorem dX2_item_86 : decode cX2_item 86 = .ok (.getstatic 99, 3) := dk_178 0 99 (dk_at dksX2_item_3 2 rfl rfl)
theorem dX2_item_89 : decode cX2_item 89 = .ok (.invokevirtual 92, 3) := dk_182 0 92 (dk_at dksX2_item_3 5 rfl rfl)
theorem dX2_item_92 : decode cX2_item 92 = .ok (.astore_n 2, 1) := dk_77 (dk_at dksX2_item_3 8 rfl rfl)
theorem dX2_item_93 : decode cX2_item 93 = .ok (.goto 20, 3) := dk_167 0 20 (dk_at dksX2_item_3 9 rfl rfl)
theorem dX2_item_96 : decode cX2_item 96 = .ok (.aload_n 0, 1) := dk_42 (dk_at dksX2_item_3 12 rfl rfl)
theorem dX2_item_97 : decode cX2_item 97 = .ok (.aload_n 2, 1) := dk_44 (dk_at dksX2_item_3 13 rfl rfl)
theorem dX2_item_98 : decode cX2_item 98 = .ok (.invokevirtual 102, 3) := dk_182 0 102 (dk_at dksX2_item_3 14 rfl rfl)
theorem dX2_item_101 : decode cX2_item 101 = .ok (.astore_n 2, 1) := dk_77 (dk_at dksX2_item_3 17 rfl rfl)
theorem dX2_item_102 : decode cX2_item 102 = .ok (.aload_n 0, 1) := dk_42 (dk_at dksX2_item_3 18 rfl rfl)
theorem dX2_item_103 : decode cX2_item 103 = .ok (.getfield 51, 3) := dk_180 0 51 (dk_at dksX2_item_3 19 rfl rfl)
theorem dX2_item_106 : decode cX2_item 106 = .ok (.ifCond .eq 7, 3) := dk_153 0 7 (dk_at dksX2_item_4 0 rfl rfl)
theorem dX2_item_109 : decode cX2_item 109 = .ok (.aconst_null, 1) := dk_1 (dk_at dksX2_item_4 3 rfl rfl)
theorem dX2_item_110 : decode cX2_item 110 = .ok (.areturn, 1) := dk_176 (dk_at dksX2_item_4 4 rfl rfl)
theorem dX2_item_111 : decode cX2_item 111 = .ok (.aload_n 2, 1) := dk_44 (dk_at dksX2_item_4 5 rfl rfl)
theorem dX2_item_112 : decode cX2_item 112 = .ok (.areturn, 1) := dk_176 (dk_at dksX2_item_4 6 rfl rfl)
theorem dX2_item_113 : decode cX2_item 113 = .ok (.aload_n 0, 1) := dk_42 (dk_at dksX2_item_4 7 rfl rfl)
theorem dX2_item_114 : decode cX2_item 114 = .ok (.dup, 1) := dk_89 (dk_at dksX2_item_4 8 rfl rfl)
theorem dX2_item_115 : decode cX2_item 115 = .ok (.getfield 28, 3) := dk_180 0 28 (dk_at dksX2_item_4 9 rfl rfl)
theorem dX2_item_118 : decode cX2_item 118 = .ok (.iconst 1, 1) := dk_4 (dk_at dksX2_item_4 12 rfl rfl)
theorem dX2_item_119 : decode cX2_item 119 = .ok (.iadd, 1) := dk_96 (dk_at dksX2_item_4 13 rfl rfl)
theorem dX2_item_120 : decode cX2_item 120 = .ok (.putfield 28, 3) := dk_181 0 28 (dk_at dksX2_item_4 14 rfl rfl)
theorem dX2_item_123 : decode cX2_item 123 = .ok (.aload_n 0, 1) := dk_42 (dk_at dksX2_item_4 17 rfl rfl)
theorem dX2_item_124 : decode cX2_item 124 = .ok (.dup, 1) := dk_89 (dk_at dksX2_item_4 18 rfl rfl)
theorem dX2_item_125 : decode cX2_item 125 = .ok (.getfield 32, 3) := dk_180 0 32 (dk_at dksX2_item_4 19 rfl rfl)
theorem dX2_item_128 : decode cX2_item 128 = .ok (.iconst 1, 1) := dk_4 (dk_at dksX2_item_4 22 rfl rfl)
theorem dX2_item_129 : decode cX2_item 129 = .ok (.iadd, 1) := dk_96 (dk_at dksX2_item_4 23 rfl rfl)
theorem dX2_item_130 : decode cX2_item 130 = .ok (.putfield 32, 3) := dk_181 0 32 (dk_at dksX2_item_5 0 rfl rfl)
theorem dX2_item_133 : decode cX2_item 133 = .ok (.goto (-127), 3) := dk_167 255 129 (dk_at dksX2_item_5 3 rfl rfl)
theorem dX2_item_136 : decode cX2_item 136 = .ok (.aconst_null, 1) := dk_1 (dk_at dksX2_item_5 6 rfl rfl)
theorem dX2_item_137 : decode cX2_item 137 = .ok (.areturn, 1) := dk_176 (dk_at dksX2_item_5 7 rfl rfl)
abbrev cX2_atom : ByteArray := prog_8_method_14_code
def yX2_atom : MethodName := ⟨RX2, "atom", "(LFuzzyFinder$Reader;I)LFuzzyFinder$Node;"⟩
def dkwX2_atom_5 : List UInt8 := [176]
abbrev dktX2_atom_5 : List UInt8 := dkwX2_atom_5 ++ []
def dkwX2_atom_4 : List UInt8 := [187, 0, 18, 89, 28, 16, 46, 160, 0, 8, 18, 20, 167, 0, 9, 4, 28, 16, 97, 100, 120, 183, 0, 21]
abbrev dktX2_atom_4 : List UInt8 := dkwX2_atom_4 ++ dktX2_atom_5
def dkwX2_atom_3 : List UInt8 := [180, 0, 28, 4, 96, 181, 0, 28, 42, 182, 0, 65, 153, 0, 10, 42, 180, 0, 24, 167, 0, 27]
abbrev dktX2_atom_3 : List UInt8 := dkwX2_atom_3 ++ dktX2_atom_4
def dkwX2_atom_2 : List UInt8 := [28, 16, 46, 159, 0, 8, 42, 182, 0, 111, 176, 42, 89, 180, 0, 32, 4, 96, 181, 0, 32, 42, 89]
abbrev dktX2_atom_2 : List UInt8 := dkwX2_atom_2 ++ dktX2_atom_3
def dkwX2_atom_1 : List UInt8 := [42, 27, 182, 0, 120, 176, 28, 16, 91, 160, 0, 8, 42, 182, 0, 124, 176, 28, 184, 0, 47, 154, 0, 14]
abbrev dktX2_atom_1 : List UInt8 := dkwX2_atom_1 ++ dktX2_atom_2
def dkwX2_atom_0 : List UInt8 := [42, 182, 0, 43, 61, 28, 16, 40, 160, 0, 22, 27, 16, 6, 160, 0, 10, 42, 182, 0, 111, 167, 0, 8]
abbrev dktX2_atom_0 : List UInt8 := dkwX2_atom_0 ++ dktX2_atom_1
theorem dksX2_atom_0 : cX2_atom.data.toList.drop 0 = dktX2_atom_0 := by decide +kernel
theorem dksX2_atom_1 : cX2_atom.data.toList.drop 24 = dktX2_atom_1 := dk_seg dksX2_atom_0 24 rfl rfl
theorem dksX2_atom_2 : cX2_atom.data.toList.drop 48 = dktX2_atom_2 := dk_seg dksX2_atom_1 24 rfl rfl
theorem dksX2_atom_3 : cX2_atom.data.toList.drop 71 = dktX2_atom_3 := dk_seg dksX2_atom_2 23 rfl rfl
theorem dksX2_atom_4 : cX2_atom.data.toList.drop 93 = dktX2_atom_4 := dk_seg dksX2_atom_3 22 rfl rfl
theorem dksX2_atom_5 : cX2_atom.data.toList.drop 117 = dktX2_atom_5 := dk_seg dksX2_atom_4 24 rfl rfl
theorem dX2_atom_0 : decode cX2_atom 0 = .ok (.aload_n 0, 1) := dk_42 (dk_at dksX2_atom_0 0 rfl rfl)
theorem dX2_atom_1 : decode cX2_atom 1 = .ok (.invokevirtual 43, 3) := dk_182 0 43 (dk_at dksX2_atom_0 1 rfl rfl)
theorem dX2_atom_4 : decode cX2_atom 4 = .ok (.istore_n 2, 1) := dk_61 (dk_at dksX2_atom_0 4 rfl rfl)
theorem dX2_atom_5 : decode cX2_atom 5 = .ok (.iload_n 2, 1) := dk_28 (dk_at dksX2_atom_0 5 rfl rfl)
theorem dX2_atom_6 : decode cX2_atom 6 = .ok (.bipush 40, 2) := dk_16 40 (dk_at dksX2_atom_0 6 rfl rfl)
theorem dX2_atom_8 : decode cX2_atom 8 = .ok (.if_icmp .ne 22, 3) := dk_160 0 22 (dk_at dksX2_atom_0 8 rfl rfl)
theorem dX2_atom_11 : decode cX2_atom 11 = .ok (.iload_n 1, 1) := dk_27 (dk_at dksX2_atom_0 11 rfl rfl)
theorem dX2_atom_12 : decode cX2_atom 12 = .ok (.bipush 6, 2) := dk_16 6 (dk_at dksX2_atom_0 12 rfl rfl)
theorem dX2_atom_14 : decode cX2_atom 14 = .ok (.if_icmp .ne 10, 3) := dk_160 0 10 (dk_at dksX2_atom_0 14 rfl rfl)
theorem dX2_atom_17 : decode cX2_atom 17 = .ok (.aload_n 0, 1) := dk_42 (dk_at dksX2_atom_0 17 rfl rfl)
theorem dX2_atom_18 : decode cX2_atom 18 = .ok (.invokevirtual 111, 3) := dk_182 0 111 (dk_at dksX2_atom_0 18 rfl rfl)
theorem dX2_atom_21 : decode cX2_atom 21 = .ok (.goto 8, 3) := dk_167 0 8 (dk_at dksX2_atom_0 21 rfl rfl)
theorem dX2_atom_24 : decode cX2_atom 24 = .ok (.aload_n 0, 1) := dk_42 (dk_at dksX2_atom_1 0 rfl rfl)
theorem dX2_atom_25 : decode cX2_atom 25 = .ok (.iload_n 1, 1) := dk_27 (dk_at dksX2_atom_1 1 rfl rfl)
theorem dX2_atom_26 : decode cX2_atom 26 = .ok (.invokevirtual 120, 3) := dk_182 0 120 (dk_at dksX2_atom_1 2 rfl rfl)
theorem dX2_atom_29 : decode cX2_atom 29 = .ok (.areturn, 1) := dk_176 (dk_at dksX2_atom_1 5 rfl rfl)
theorem dX2_atom_30 : decode cX2_atom 30 = .ok (.iload_n 2, 1) := dk_28 (dk_at dksX2_atom_1 6 rfl rfl)
theorem dX2_atom_31 : decode cX2_atom 31 = .ok (.bipush 91, 2) := dk_16 91 (dk_at dksX2_atom_1 7 rfl rfl)
theorem dX2_atom_33 : decode cX2_atom 33 = .ok (.if_icmp .ne 8, 3) := dk_160 0 8 (dk_at dksX2_atom_1 9 rfl rfl)
theorem dX2_atom_36 : decode cX2_atom 36 = .ok (.aload_n 0, 1) := dk_42 (dk_at dksX2_atom_1 12 rfl rfl)
theorem dX2_atom_37 : decode cX2_atom 37 = .ok (.invokevirtual 124, 3) := dk_182 0 124 (dk_at dksX2_atom_1 13 rfl rfl)
theorem dX2_atom_40 : decode cX2_atom 40 = .ok (.areturn, 1) := dk_176 (dk_at dksX2_atom_1 16 rfl rfl)
theorem dX2_atom_41 : decode cX2_atom 41 = .ok (.iload_n 2, 1) := dk_28 (dk_at dksX2_atom_1 17 rfl rfl)
theorem dX2_atom_42 : decode cX2_atom 42 = .ok (.invokestatic 47, 3) := dk_184 0 47 (dk_at dksX2_atom_1 18 rfl rfl)
theorem dX2_atom_45 : decode cX2_atom 45 = .ok (.ifCond .ne 14, 3) := dk_154 0 14 (dk_at dksX2_atom_1 21 rfl rfl)
theorem dX2_atom_48 : decode cX2_atom 48 = .ok (.iload_n 2, 1) := dk_28 (dk_at dksX2_atom_2 0 rfl rfl)
theorem dX2_atom_49 : decode cX2_atom 49 = .ok (.bipush 46, 2) := dk_16 46 (dk_at dksX2_atom_2 1 rfl rfl)
theorem dX2_atom_51 : decode cX2_atom 51 = .ok (.if_icmp .eq 8, 3) := dk_159 0 8 (dk_at dksX2_atom_2 3 rfl rfl)
theorem dX2_atom_54 : decode cX2_atom 54 = .ok (.aload_n 0, 1) := dk_42 (dk_at dksX2_atom_2 6 rfl rfl)
theorem dX2_atom_55 : decode cX2_atom 55 = .ok (.invokevirtual 111, 3) := dk_182 0 111 (dk_at dksX2_atom_2 7 rfl rfl)
theorem dX2_atom_58 : decode cX2_atom 58 = .ok (.areturn, 1) := dk_176 (dk_at dksX2_atom_2 10 rfl rfl)
theorem dX2_atom_59 : decode cX2_atom 59 = .ok (.aload_n 0, 1) := dk_42 (dk_at dksX2_atom_2 11 rfl rfl)
theorem dX2_atom_60 : decode cX2_atom 60 = .ok (.dup, 1) := dk_89 (dk_at dksX2_atom_2 12 rfl rfl)
theorem dX2_atom_61 : decode cX2_atom 61 = .ok (.getfield 32, 3) := dk_180 0 32 (dk_at dksX2_atom_2 13 rfl rfl)
theorem dX2_atom_64 : decode cX2_atom 64 = .ok (.iconst 1, 1) := dk_4 (dk_at dksX2_atom_2 16 rfl rfl)
theorem dX2_atom_65 : decode cX2_atom 65 = .ok (.iadd, 1) := dk_96 (dk_at dksX2_atom_2 17 rfl rfl)
theorem dX2_atom_66 : decode cX2_atom 66 = .ok (.putfield 32, 3) := dk_181 0 32 (dk_at dksX2_atom_2 18 rfl rfl)
theorem dX2_atom_69 : decode cX2_atom 69 = .ok (.aload_n 0, 1) := dk_42 (dk_at dksX2_atom_2 21 rfl rfl)
theorem dX2_atom_70 : decode cX2_atom 70 = .ok (.dup, 1) := dk_89 (dk_at dksX2_atom_2 22 rfl rfl)
theorem dX2_atom_71 : decode cX2_atom 71 = .ok (.getfield 28, 3) := dk_180 0 28 (dk_at dksX2_atom_3 0 rfl rfl)
theorem dX2_atom_74 : decode cX2_atom 74 = .ok (.iconst 1, 1) := dk_4 (dk_at dksX2_atom_3 3 rfl rfl)
theorem dX2_atom_75 : decode cX2_atom 75 = .ok (.iadd, 1) := dk_96 (dk_at dksX2_atom_3 4 rfl rfl)
theorem dX2_atom_76 : decode cX2_atom 76 = .ok (.putfield 28, 3) := dk_181 0 28 (dk_at dksX2_atom_3 5 rfl rfl)
theorem dX2_atom_79 : decode cX2_atom 79 = .ok (.aload_n 0, 1) := dk_42 (dk_at dksX2_atom_3 8 rfl rfl)
theorem dX2_atom_80 : decode cX2_atom 80 = .ok (.invokevirtual 65, 3) := dk_182 0 65 (dk_at dksX2_atom_3 9 rfl rfl)
theorem dX2_atom_83 : decode cX2_atom 83 = .ok (.ifCond .eq 10, 3) := dk_153 0 10 (dk_at dksX2_atom_3 12 rfl rfl)
theorem dX2_atom_86 : decode cX2_atom 86 = .ok (.aload_n 0, 1) := dk_42 (dk_at dksX2_atom_3 15 rfl rfl)
theorem dX2_atom_87 : decode cX2_atom 87 = .ok (.getfield 24, 3) := dk_180 0 24 (dk_at dksX2_atom_3 16 rfl rfl)
theorem dX2_atom_90 : decode cX2_atom 90 = .ok (.goto 27, 3) := dk_167 0 27 (dk_at dksX2_atom_3 19 rfl rfl)
theorem dX2_atom_93 : decode cX2_atom 93 = .ok (.new 18, 3) := dk_187 0 18 (dk_at dksX2_atom_4 0 rfl rfl)
theorem dX2_atom_96 : decode cX2_atom 96 = .ok (.dup, 1) := dk_89 (dk_at dksX2_atom_4 3 rfl rfl)
theorem dX2_atom_97 : decode cX2_atom 97 = .ok (.iload_n 2, 1) := dk_28 (dk_at dksX2_atom_4 4 rfl rfl)
theorem dX2_atom_98 : decode cX2_atom 98 = .ok (.bipush 46, 2) := dk_16 46 (dk_at dksX2_atom_4 5 rfl rfl)
theorem dX2_atom_100 : decode cX2_atom 100 = .ok (.if_icmp .ne 8, 3) := dk_160 0 8 (dk_at dksX2_atom_4 7 rfl rfl)
theorem dX2_atom_103 : decode cX2_atom 103 = .ok (.ldc 20, 2) := dk_18 20 (dk_at dksX2_atom_4 10 rfl rfl)
theorem dX2_atom_105 : decode cX2_atom 105 = .ok (.goto 9, 3) := dk_167 0 9 (dk_at dksX2_atom_4 12 rfl rfl)
theorem dX2_atom_108 : decode cX2_atom 108 = .ok (.iconst 1, 1) := dk_4 (dk_at dksX2_atom_4 15 rfl rfl)
theorem dX2_atom_109 : decode cX2_atom 109 = .ok (.iload_n 2, 1) := dk_28 (dk_at dksX2_atom_4 16 rfl rfl)
theorem dX2_atom_110 : decode cX2_atom 110 = .ok (.bipush 97, 2) := dk_16 97 (dk_at dksX2_atom_4 17 rfl rfl)
theorem dX2_atom_112 : decode cX2_atom 112 = .ok (.isub, 1) := dk_100 (dk_at dksX2_atom_4 19 rfl rfl)
theorem dX2_atom_113 : decode cX2_atom 113 = .ok (.ishl, 1) := dk_120 (dk_at dksX2_atom_4 20 rfl rfl)
theorem dX2_atom_114 : decode cX2_atom 114 = .ok (.invokespecial 21, 3) := dk_183 0 21 (dk_at dksX2_atom_4 21 rfl rfl)
theorem dX2_atom_117 : decode cX2_atom 117 = .ok (.areturn, 1) := dk_176 (dk_at dksX2_atom_5 0 rfl rfl)
abbrev cX2_next : ByteArray := prog_8_method_3_code
def yX2_next : MethodName := ⟨RX2, "next", "()C"⟩
def dkwX2_next_1 : List UInt8 := [182, 0, 39, 167, 0, 4, 3, 172]
abbrev dktX2_next_1 : List UInt8 := dkwX2_next_1 ++ []
def dkwX2_next_0 : List UInt8 := [42, 180, 0, 32, 42, 180, 0, 12, 182, 0, 35, 162, 0, 17, 42, 180, 0, 12, 42, 180, 0, 32]
abbrev dktX2_next_0 : List UInt8 := dkwX2_next_0 ++ dktX2_next_1
theorem dksX2_next_0 : cX2_next.data.toList.drop 0 = dktX2_next_0 := by decide +kernel
theorem dksX2_next_1 : cX2_next.data.toList.drop 22 = dktX2_next_1 := dk_seg dksX2_next_0 22 rfl rfl
theorem dX2_next_0 : decode cX2_next 0 = .ok (.aload_n 0, 1) := dk_42 (dk_at dksX2_next_0 0 rfl rfl)
theorem dX2_next_1 : decode cX2_next 1 = .ok (.getfield 32, 3) := dk_180 0 32 (dk_at dksX2_next_0 1 rfl rfl)
theorem dX2_next_4 : decode cX2_next 4 = .ok (.aload_n 0, 1) := dk_42 (dk_at dksX2_next_0 4 rfl rfl)
theorem dX2_next_5 : decode cX2_next 5 = .ok (.getfield 12, 3) := dk_180 0 12 (dk_at dksX2_next_0 5 rfl rfl)
theorem dX2_next_8 : decode cX2_next 8 = .ok (.invokevirtual 35, 3) := dk_182 0 35 (dk_at dksX2_next_0 8 rfl rfl)
theorem dX2_next_11 : decode cX2_next 11 = .ok (.if_icmp .ge 17, 3) := dk_162 0 17 (dk_at dksX2_next_0 11 rfl rfl)
theorem dX2_next_14 : decode cX2_next 14 = .ok (.aload_n 0, 1) := dk_42 (dk_at dksX2_next_0 14 rfl rfl)
theorem dX2_next_15 : decode cX2_next 15 = .ok (.getfield 12, 3) := dk_180 0 12 (dk_at dksX2_next_0 15 rfl rfl)
theorem dX2_next_18 : decode cX2_next 18 = .ok (.aload_n 0, 1) := dk_42 (dk_at dksX2_next_0 18 rfl rfl)
theorem dX2_next_19 : decode cX2_next 19 = .ok (.getfield 32, 3) := dk_180 0 32 (dk_at dksX2_next_0 19 rfl rfl)
theorem dX2_next_22 : decode cX2_next 22 = .ok (.invokevirtual 39, 3) := dk_182 0 39 (dk_at dksX2_next_1 0 rfl rfl)
theorem dX2_next_25 : decode cX2_next 25 = .ok (.goto 4, 3) := dk_167 0 4 (dk_at dksX2_next_1 3 rfl rfl)
theorem dX2_next_28 : decode cX2_next 28 = .ok (.iconst 0, 1) := dk_3 (dk_at dksX2_next_1 6 rfl rfl)
theorem dX2_next_29 : decode cX2_next 29 = .ok (.ireturn, 1) := dk_172 (dk_at dksX2_next_1 7 rfl rfl)
abbrev cX2_fail : ByteArray := prog_8_method_7_code
def yX2_fail : MethodName := ⟨RX2, "fail", "()LFuzzyFinder$Node;"⟩
def dkwX2_fail_0 : List UInt8 := [42, 4, 181, 0, 51, 1, 176]
abbrev dktX2_fail_0 : List UInt8 := dkwX2_fail_0 ++ []
theorem dksX2_fail_0 : cX2_fail.data.toList.drop 0 = dktX2_fail_0 := by decide +kernel
theorem dX2_fail_0 : decode cX2_fail 0 = .ok (.aload_n 0, 1) := dk_42 (dk_at dksX2_fail_0 0 rfl rfl)
theorem dX2_fail_1 : decode cX2_fail 1 = .ok (.iconst 1, 1) := dk_4 (dk_at dksX2_fail_0 1 rfl rfl)
theorem dX2_fail_2 : decode cX2_fail 2 = .ok (.putfield 51, 3) := dk_181 0 51 (dk_at dksX2_fail_0 2 rfl rfl)
theorem dX2_fail_5 : decode cX2_fail 5 = .ok (.aconst_null, 1) := dk_1 (dk_at dksX2_fail_0 5 rfl rfl)
theorem dX2_fail_6 : decode cX2_fail 6 = .ok (.areturn, 1) := dk_176 (dk_at dksX2_fail_0 6 rfl rfl)
abbrev cX2_bracket : ByteArray := prog_8_method_15_code
def yX2_bracket : MethodName := ⟨RX2, "bracket", "(I)LFuzzyFinder$Node;"⟩
def dkwX2_bracket_1 : List UInt8 := [154, 0, 12, 42, 16, 41, 182, 0, 62, 154, 0, 10, 42, 182, 0, 111, 167, 0, 4, 44, 176]
abbrev dktX2_bracket_1 : List UInt8 := dkwX2_bracket_1 ++ []
def dkwX2_bracket_0 : List UInt8 := [42, 89, 180, 0, 32, 4, 96, 181, 0, 32, 42, 27, 4, 96, 184, 0, 55, 77, 42, 180, 0, 51]
abbrev dktX2_bracket_0 : List UInt8 := dkwX2_bracket_0 ++ dktX2_bracket_1
theorem dksX2_bracket_0 : cX2_bracket.data.toList.drop 0 = dktX2_bracket_0 := by decide +kernel
theorem dksX2_bracket_1 : cX2_bracket.data.toList.drop 22 = dktX2_bracket_1 := dk_seg dksX2_bracket_0 22 rfl rfl
theorem dX2_bracket_0 : decode cX2_bracket 0 = .ok (.aload_n 0, 1) := dk_42 (dk_at dksX2_bracket_0 0 rfl rfl)
theorem dX2_bracket_1 : decode cX2_bracket 1 = .ok (.dup, 1) := dk_89 (dk_at dksX2_bracket_0 1 rfl rfl)
theorem dX2_bracket_2 : decode cX2_bracket 2 = .ok (.getfield 32, 3) := dk_180 0 32 (dk_at dksX2_bracket_0 2 rfl rfl)
theorem dX2_bracket_5 : decode cX2_bracket 5 = .ok (.iconst 1, 1) := dk_4 (dk_at dksX2_bracket_0 5 rfl rfl)
theorem dX2_bracket_6 : decode cX2_bracket 6 = .ok (.iadd, 1) := dk_96 (dk_at dksX2_bracket_0 6 rfl rfl)
theorem dX2_bracket_7 : decode cX2_bracket 7 = .ok (.putfield 32, 3) := dk_181 0 32 (dk_at dksX2_bracket_0 7 rfl rfl)
theorem dX2_bracket_10 : decode cX2_bracket 10 = .ok (.aload_n 0, 1) := dk_42 (dk_at dksX2_bracket_0 10 rfl rfl)
theorem dX2_bracket_11 : decode cX2_bracket 11 = .ok (.iload_n 1, 1) := dk_27 (dk_at dksX2_bracket_0 11 rfl rfl)
theorem dX2_bracket_12 : decode cX2_bracket 12 = .ok (.iconst 1, 1) := dk_4 (dk_at dksX2_bracket_0 12 rfl rfl)
theorem dX2_bracket_13 : decode cX2_bracket 13 = .ok (.iadd, 1) := dk_96 (dk_at dksX2_bracket_0 13 rfl rfl)
theorem dX2_bracket_14 : decode cX2_bracket 14 = .ok (.invokestatic 55, 3) := dk_184 0 55 (dk_at dksX2_bracket_0 14 rfl rfl)
theorem dX2_bracket_17 : decode cX2_bracket 17 = .ok (.astore_n 2, 1) := dk_77 (dk_at dksX2_bracket_0 17 rfl rfl)
theorem dX2_bracket_18 : decode cX2_bracket 18 = .ok (.aload_n 0, 1) := dk_42 (dk_at dksX2_bracket_0 18 rfl rfl)
theorem dX2_bracket_19 : decode cX2_bracket 19 = .ok (.getfield 51, 3) := dk_180 0 51 (dk_at dksX2_bracket_0 19 rfl rfl)
theorem dX2_bracket_22 : decode cX2_bracket 22 = .ok (.ifCond .ne 12, 3) := dk_154 0 12 (dk_at dksX2_bracket_1 0 rfl rfl)
theorem dX2_bracket_25 : decode cX2_bracket 25 = .ok (.aload_n 0, 1) := dk_42 (dk_at dksX2_bracket_1 3 rfl rfl)
theorem dX2_bracket_26 : decode cX2_bracket 26 = .ok (.bipush 41, 2) := dk_16 41 (dk_at dksX2_bracket_1 4 rfl rfl)
theorem dX2_bracket_28 : decode cX2_bracket 28 = .ok (.invokevirtual 62, 3) := dk_182 0 62 (dk_at dksX2_bracket_1 6 rfl rfl)
theorem dX2_bracket_31 : decode cX2_bracket 31 = .ok (.ifCond .ne 10, 3) := dk_154 0 10 (dk_at dksX2_bracket_1 9 rfl rfl)
theorem dX2_bracket_34 : decode cX2_bracket 34 = .ok (.aload_n 0, 1) := dk_42 (dk_at dksX2_bracket_1 12 rfl rfl)
theorem dX2_bracket_35 : decode cX2_bracket 35 = .ok (.invokevirtual 111, 3) := dk_182 0 111 (dk_at dksX2_bracket_1 13 rfl rfl)
theorem dX2_bracket_38 : decode cX2_bracket 38 = .ok (.goto 4, 3) := dk_167 0 4 (dk_at dksX2_bracket_1 16 rfl rfl)
theorem dX2_bracket_41 : decode cX2_bracket 41 = .ok (.aload_n 2, 1) := dk_44 (dk_at dksX2_bracket_1 19 rfl rfl)
theorem dX2_bracket_42 : decode cX2_bracket 42 = .ok (.areturn, 1) := dk_176 (dk_at dksX2_bracket_1 20 rfl rfl)
abbrev cX2_accept : ByteArray := prog_8_method_4_code
def yX2_accept : MethodName := ⟨RX2, "accept", "(C)Z"⟩
def dkwX2_accept_1 : List UInt8 := [167, 0, 4, 3, 96, 181, 0, 32, 28, 172]
abbrev dktX2_accept_1 : List UInt8 := dkwX2_accept_1 ++ []
def dkwX2_accept_0 : List UInt8 := [42, 182, 0, 43, 27, 160, 0, 7, 4, 167, 0, 4, 3, 61, 42, 89, 180, 0, 32, 28, 153, 0, 7, 4]
abbrev dktX2_accept_0 : List UInt8 := dkwX2_accept_0 ++ dktX2_accept_1
theorem dksX2_accept_0 : cX2_accept.data.toList.drop 0 = dktX2_accept_0 := by decide +kernel
theorem dksX2_accept_1 : cX2_accept.data.toList.drop 24 = dktX2_accept_1 := dk_seg dksX2_accept_0 24 rfl rfl
theorem dX2_accept_0 : decode cX2_accept 0 = .ok (.aload_n 0, 1) := dk_42 (dk_at dksX2_accept_0 0 rfl rfl)
theorem dX2_accept_1 : decode cX2_accept 1 = .ok (.invokevirtual 43, 3) := dk_182 0 43 (dk_at dksX2_accept_0 1 rfl rfl)
theorem dX2_accept_4 : decode cX2_accept 4 = .ok (.iload_n 1, 1) := dk_27 (dk_at dksX2_accept_0 4 rfl rfl)
theorem dX2_accept_5 : decode cX2_accept 5 = .ok (.if_icmp .ne 7, 3) := dk_160 0 7 (dk_at dksX2_accept_0 5 rfl rfl)
theorem dX2_accept_8 : decode cX2_accept 8 = .ok (.iconst 1, 1) := dk_4 (dk_at dksX2_accept_0 8 rfl rfl)
theorem dX2_accept_9 : decode cX2_accept 9 = .ok (.goto 4, 3) := dk_167 0 4 (dk_at dksX2_accept_0 9 rfl rfl)
theorem dX2_accept_12 : decode cX2_accept 12 = .ok (.iconst 0, 1) := dk_3 (dk_at dksX2_accept_0 12 rfl rfl)
theorem dX2_accept_13 : decode cX2_accept 13 = .ok (.istore_n 2, 1) := dk_61 (dk_at dksX2_accept_0 13 rfl rfl)
theorem dX2_accept_14 : decode cX2_accept 14 = .ok (.aload_n 0, 1) := dk_42 (dk_at dksX2_accept_0 14 rfl rfl)
theorem dX2_accept_15 : decode cX2_accept 15 = .ok (.dup, 1) := dk_89 (dk_at dksX2_accept_0 15 rfl rfl)
theorem dX2_accept_16 : decode cX2_accept 16 = .ok (.getfield 32, 3) := dk_180 0 32 (dk_at dksX2_accept_0 16 rfl rfl)
theorem dX2_accept_19 : decode cX2_accept 19 = .ok (.iload_n 2, 1) := dk_28 (dk_at dksX2_accept_0 19 rfl rfl)
theorem dX2_accept_20 : decode cX2_accept 20 = .ok (.ifCond .eq 7, 3) := dk_153 0 7 (dk_at dksX2_accept_0 20 rfl rfl)
theorem dX2_accept_23 : decode cX2_accept 23 = .ok (.iconst 1, 1) := dk_4 (dk_at dksX2_accept_0 23 rfl rfl)
theorem dX2_accept_24 : decode cX2_accept 24 = .ok (.goto 4, 3) := dk_167 0 4 (dk_at dksX2_accept_1 0 rfl rfl)
theorem dX2_accept_27 : decode cX2_accept 27 = .ok (.iconst 0, 1) := dk_3 (dk_at dksX2_accept_1 3 rfl rfl)
theorem dX2_accept_28 : decode cX2_accept 28 = .ok (.iadd, 1) := dk_96 (dk_at dksX2_accept_1 4 rfl rfl)
theorem dX2_accept_29 : decode cX2_accept 29 = .ok (.putfield 32, 3) := dk_181 0 32 (dk_at dksX2_accept_1 5 rfl rfl)
theorem dX2_accept_32 : decode cX2_accept 32 = .ok (.iload_n 2, 1) := dk_28 (dk_at dksX2_accept_1 8 rfl rfl)
theorem dX2_accept_33 : decode cX2_accept 33 = .ok (.ireturn, 1) := dk_172 (dk_at dksX2_accept_1 9 rfl rfl)
abbrev cX2_set : ByteArray := prog_8_method_16_code
def yX2_set : MethodName := ⟨RX2, "set", "()LFuzzyFinder$Node;"⟩
def dkwX2_set_6 : List UInt8 := [183, 0, 21, 176]
abbrev dktX2_set_6 : List UInt8 := dkwX2_set_6 ++ []
def dkwX2_set_5 : List UInt8 := [180, 0, 24, 167, 0, 24, 187, 0, 18, 89, 27, 153, 0, 12, 18, 20, 28, 2, 130, 126, 167, 0, 4, 28]
abbrev dktX2_set_5 : List UInt8 := dkwX2_set_5 ++ dktX2_set_6
def dkwX2_set_4 : List UInt8 := [182, 0, 111, 176, 42, 89, 180, 0, 28, 4, 96, 181, 0, 28, 42, 182, 0, 65, 153, 0, 10, 42]
abbrev dktX2_set_4 : List UInt8 := dkwX2_set_4 ++ dktX2_set_5
def dkwX2_set_3 : List UInt8 := [154, 255, 204, 42, 180, 0, 12, 42, 180, 0, 32, 4, 100, 182, 0, 39, 16, 93, 159, 0, 8, 42]
abbrev dktX2_set_3 : List UInt8 := dkwX2_set_3 ++ dktX2_set_4
def dkwX2_set_2 : List UInt8 := [180, 0, 32, 4, 96, 181, 0, 32, 42, 16, 93, 182, 0, 62, 154, 0, 13, 42, 182, 0, 43, 184, 0, 47]
abbrev dktX2_set_2 : List UInt8 := dkwX2_set_2 ++ dktX2_set_3
def dkwX2_set_1 : List UInt8 := [29, 184, 0, 47, 154, 0, 8, 42, 182, 0, 111, 176, 28, 4, 29, 16, 97, 100, 120, 128, 61, 42, 89]
abbrev dktX2_set_1 : List UInt8 := dkwX2_set_1 ++ dktX2_set_2
def dkwX2_set_0 : List UInt8 := [42, 89, 180, 0, 32, 4, 96, 181, 0, 32, 42, 16, 94, 182, 0, 62, 60, 3, 61, 42, 182, 0, 43, 62]
abbrev dktX2_set_0 : List UInt8 := dkwX2_set_0 ++ dktX2_set_1
theorem dksX2_set_0 : cX2_set.data.toList.drop 0 = dktX2_set_0 := by decide +kernel
theorem dksX2_set_1 : cX2_set.data.toList.drop 24 = dktX2_set_1 := dk_seg dksX2_set_0 24 rfl rfl
theorem dksX2_set_2 : cX2_set.data.toList.drop 47 = dktX2_set_2 := dk_seg dksX2_set_1 23 rfl rfl
theorem dksX2_set_3 : cX2_set.data.toList.drop 71 = dktX2_set_3 := dk_seg dksX2_set_2 24 rfl rfl
theorem dksX2_set_4 : cX2_set.data.toList.drop 93 = dktX2_set_4 := dk_seg dksX2_set_3 22 rfl rfl
theorem dksX2_set_5 : cX2_set.data.toList.drop 115 = dktX2_set_5 := dk_seg dksX2_set_4 22 rfl rfl
theorem dksX2_set_6 : cX2_set.data.toList.drop 139 = dktX2_set_6 := dk_seg dksX2_set_5 24 rfl rfl
theorem dX2_set_0 : decode cX2_set 0 = .ok (.aload_n 0, 1) := dk_42 (dk_at dksX2_set_0 0 rfl rfl)
theorem dX2_set_1 : decode cX2_set 1 = .ok (.dup, 1) := dk_89 (dk_at dksX2_set_0 1 rfl rfl)
theorem dX2_set_2 : decode cX2_set 2 = .ok (.getfield 32, 3) := dk_180 0 32 (dk_at dksX2_set_0 2 rfl rfl)
theorem dX2_set_5 : decode cX2_set 5 = .ok (.iconst 1, 1) := dk_4 (dk_at dksX2_set_0 5 rfl rfl)
theorem dX2_set_6 : decode cX2_set 6 = .ok (.iadd, 1) := dk_96 (dk_at dksX2_set_0 6 rfl rfl)
theorem dX2_set_7 : decode cX2_set 7 = .ok (.putfield 32, 3) := dk_181 0 32 (dk_at dksX2_set_0 7 rfl rfl)
theorem dX2_set_10 : decode cX2_set 10 = .ok (.aload_n 0, 1) := dk_42 (dk_at dksX2_set_0 10 rfl rfl)
theorem dX2_set_11 : decode cX2_set 11 = .ok (.bipush 94, 2) := dk_16 94 (dk_at dksX2_set_0 11 rfl rfl)
theorem dX2_set_13 : decode cX2_set 13 = .ok (.invokevirtual 62, 3) := dk_182 0 62 (dk_at dksX2_set_0 13 rfl rfl)
theorem dX2_set_16 : decode cX2_set 16 = .ok (.istore_n 1, 1) := dk_60 (dk_at dksX2_set_0 16 rfl rfl)
theorem dX2_set_17 : decode cX2_set 17 = .ok (.iconst 0, 1) := dk_3 (dk_at dksX2_set_0 17 rfl rfl)
theorem dX2_set_18 : decode cX2_set 18 = .ok (.istore_n 2, 1) := dk_61 (dk_at dksX2_set_0 18 rfl rfl)
theorem dX2_set_19 : decode cX2_set 19 = .ok (.aload_n 0, 1) := dk_42 (dk_at dksX2_set_0 19 rfl rfl)
theorem dX2_set_20 : decode cX2_set 20 = .ok (.invokevirtual 43, 3) := dk_182 0 43 (dk_at dksX2_set_0 20 rfl rfl)
theorem dX2_set_23 : decode cX2_set 23 = .ok (.istore_n 3, 1) := dk_62 (dk_at dksX2_set_0 23 rfl rfl)
theorem dX2_set_24 : decode cX2_set 24 = .ok (.iload_n 3, 1) := dk_29 (dk_at dksX2_set_1 0 rfl rfl)
theorem dX2_set_25 : decode cX2_set 25 = .ok (.invokestatic 47, 3) := dk_184 0 47 (dk_at dksX2_set_1 1 rfl rfl)
theorem dX2_set_28 : decode cX2_set 28 = .ok (.ifCond .ne 8, 3) := dk_154 0 8 (dk_at dksX2_set_1 4 rfl rfl)
theorem dX2_set_31 : decode cX2_set 31 = .ok (.aload_n 0, 1) := dk_42 (dk_at dksX2_set_1 7 rfl rfl)
theorem dX2_set_32 : decode cX2_set 32 = .ok (.invokevirtual 111, 3) := dk_182 0 111 (dk_at dksX2_set_1 8 rfl rfl)
theorem dX2_set_35 : decode cX2_set 35 = .ok (.areturn, 1) := dk_176 (dk_at dksX2_set_1 11 rfl rfl)
theorem dX2_set_36 : decode cX2_set 36 = .ok (.iload_n 2, 1) := dk_28 (dk_at dksX2_set_1 12 rfl rfl)
theorem dX2_set_37 : decode cX2_set 37 = .ok (.iconst 1, 1) := dk_4 (dk_at dksX2_set_1 13 rfl rfl)
theorem dX2_set_38 : decode cX2_set 38 = .ok (.iload_n 3, 1) := dk_29 (dk_at dksX2_set_1 14 rfl rfl)
theorem dX2_set_39 : decode cX2_set 39 = .ok (.bipush 97, 2) := dk_16 97 (dk_at dksX2_set_1 15 rfl rfl)
theorem dX2_set_41 : decode cX2_set 41 = .ok (.isub, 1) := dk_100 (dk_at dksX2_set_1 17 rfl rfl)
theorem dX2_set_42 : decode cX2_set 42 = .ok (.ishl, 1) := dk_120 (dk_at dksX2_set_1 18 rfl rfl)
theorem dX2_set_43 : decode cX2_set 43 = .ok (.ior, 1) := dk_128 (dk_at dksX2_set_1 19 rfl rfl)
theorem dX2_set_44 : decode cX2_set 44 = .ok (.istore_n 2, 1) := dk_61 (dk_at dksX2_set_1 20 rfl rfl)
theorem dX2_set_45 : decode cX2_set 45 = .ok (.aload_n 0, 1) := dk_42 (dk_at dksX2_set_1 21 rfl rfl)
theorem dX2_set_46 : decode cX2_set 46 = .ok (.dup, 1) := dk_89 (dk_at dksX2_set_1 22 rfl rfl)
theorem dX2_set_47 : decode cX2_set 47 = .ok (.getfield 32, 3) := dk_180 0 32 (dk_at dksX2_set_2 0 rfl rfl)
theorem dX2_set_50 : decode cX2_set 50 = .ok (.iconst 1, 1) := dk_4 (dk_at dksX2_set_2 3 rfl rfl)
theorem dX2_set_51 : decode cX2_set 51 = .ok (.iadd, 1) := dk_96 (dk_at dksX2_set_2 4 rfl rfl)
theorem dX2_set_52 : decode cX2_set 52 = .ok (.putfield 32, 3) := dk_181 0 32 (dk_at dksX2_set_2 5 rfl rfl)
theorem dX2_set_55 : decode cX2_set 55 = .ok (.aload_n 0, 1) := dk_42 (dk_at dksX2_set_2 8 rfl rfl)
theorem dX2_set_56 : decode cX2_set 56 = .ok (.bipush 93, 2) := dk_16 93 (dk_at dksX2_set_2 9 rfl rfl)
theorem dX2_set_58 : decode cX2_set 58 = .ok (.invokevirtual 62, 3) := dk_182 0 62 (dk_at dksX2_set_2 11 rfl rfl)
theorem dX2_set_61 : decode cX2_set 61 = .ok (.ifCond .ne 13, 3) := dk_154 0 13 (dk_at dksX2_set_2 14 rfl rfl)
theorem dX2_set_64 : decode cX2_set 64 = .ok (.aload_n 0, 1) := dk_42 (dk_at dksX2_set_2 17 rfl rfl)
theorem dX2_set_65 : decode cX2_set 65 = .ok (.invokevirtual 43, 3) := dk_182 0 43 (dk_at dksX2_set_2 18 rfl rfl)
theorem dX2_set_68 : decode cX2_set 68 = .ok (.invokestatic 47, 3) := dk_184 0 47 (dk_at dksX2_set_2 21 rfl rfl)
theorem dX2_set_71 : decode cX2_set 71 = .ok (.ifCond .ne (-52), 3) := dk_154 255 204 (dk_at dksX2_set_3 0 rfl rfl)
theorem dX2_set_74 : decode cX2_set 74 = .ok (.aload_n 0, 1) := dk_42 (dk_at dksX2_set_3 3 rfl rfl)
theorem dX2_set_75 : decode cX2_set 75 = .ok (.getfield 12, 3) := dk_180 0 12 (dk_at dksX2_set_3 4 rfl rfl)
theorem dX2_set_78 : decode cX2_set 78 = .ok (.aload_n 0, 1) := dk_42 (dk_at dksX2_set_3 7 rfl rfl)
theorem dX2_set_79 : decode cX2_set 79 = .ok (.getfield 32, 3) := dk_180 0 32 (dk_at dksX2_set_3 8 rfl rfl)
theorem dX2_set_82 : decode cX2_set 82 = .ok (.iconst 1, 1) := dk_4 (dk_at dksX2_set_3 11 rfl rfl)
theorem dX2_set_83 : decode cX2_set 83 = .ok (.isub, 1) := dk_100 (dk_at dksX2_set_3 12 rfl rfl)
theorem dX2_set_84 : decode cX2_set 84 = .ok (.invokevirtual 39, 3) := dk_182 0 39 (dk_at dksX2_set_3 13 rfl rfl)
theorem dX2_set_87 : decode cX2_set 87 = .ok (.bipush 93, 2) := dk_16 93 (dk_at dksX2_set_3 16 rfl rfl)
theorem dX2_set_89 : decode cX2_set 89 = .ok (.if_icmp .eq 8, 3) := dk_159 0 8 (dk_at dksX2_set_3 18 rfl rfl)
theorem dX2_set_92 : decode cX2_set 92 = .ok (.aload_n 0, 1) := dk_42 (dk_at dksX2_set_3 21 rfl rfl)
theorem dX2_set_93 : decode cX2_set 93 = .ok (.invokevirtual 111, 3) := dk_182 0 111 (dk_at dksX2_set_4 0 rfl rfl)
theorem dX2_set_96 : decode cX2_set 96 = .ok (.areturn, 1) := dk_176 (dk_at dksX2_set_4 3 rfl rfl)
theorem dX2_set_97 : decode cX2_set 97 = .ok (.aload_n 0, 1) := dk_42 (dk_at dksX2_set_4 4 rfl rfl)
theorem dX2_set_98 : decode cX2_set 98 = .ok (.dup, 1) := dk_89 (dk_at dksX2_set_4 5 rfl rfl)
theorem dX2_set_99 : decode cX2_set 99 = .ok (.getfield 28, 3) := dk_180 0 28 (dk_at dksX2_set_4 6 rfl rfl)
theorem dX2_set_102 : decode cX2_set 102 = .ok (.iconst 1, 1) := dk_4 (dk_at dksX2_set_4 9 rfl rfl)
theorem dX2_set_103 : decode cX2_set 103 = .ok (.iadd, 1) := dk_96 (dk_at dksX2_set_4 10 rfl rfl)
theorem dX2_set_104 : decode cX2_set 104 = .ok (.putfield 28, 3) := dk_181 0 28 (dk_at dksX2_set_4 11 rfl rfl)
theorem dX2_set_107 : decode cX2_set 107 = .ok (.aload_n 0, 1) := dk_42 (dk_at dksX2_set_4 14 rfl rfl)
theorem dX2_set_108 : decode cX2_set 108 = .ok (.invokevirtual 65, 3) := dk_182 0 65 (dk_at dksX2_set_4 15 rfl rfl)
theorem dX2_set_111 : decode cX2_set 111 = .ok (.ifCond .eq 10, 3) := dk_153 0 10 (dk_at dksX2_set_4 18 rfl rfl)
theorem dX2_set_114 : decode cX2_set 114 = .ok (.aload_n 0, 1) := dk_42 (dk_at dksX2_set_4 21 rfl rfl)
theorem dX2_set_115 : decode cX2_set 115 = .ok (.getfield 24, 3) := dk_180 0 24 (dk_at dksX2_set_5 0 rfl rfl)
theorem dX2_set_118 : decode cX2_set 118 = .ok (.goto 24, 3) := dk_167 0 24 (dk_at dksX2_set_5 3 rfl rfl)
theorem dX2_set_121 : decode cX2_set 121 = .ok (.new 18, 3) := dk_187 0 18 (dk_at dksX2_set_5 6 rfl rfl)
theorem dX2_set_124 : decode cX2_set 124 = .ok (.dup, 1) := dk_89 (dk_at dksX2_set_5 9 rfl rfl)
theorem dX2_set_125 : decode cX2_set 125 = .ok (.iload_n 1, 1) := dk_27 (dk_at dksX2_set_5 10 rfl rfl)
theorem dX2_set_126 : decode cX2_set 126 = .ok (.ifCond .eq 12, 3) := dk_153 0 12 (dk_at dksX2_set_5 11 rfl rfl)
theorem dX2_set_129 : decode cX2_set 129 = .ok (.ldc 20, 2) := dk_18 20 (dk_at dksX2_set_5 14 rfl rfl)
theorem dX2_set_131 : decode cX2_set 131 = .ok (.iload_n 2, 1) := dk_28 (dk_at dksX2_set_5 16 rfl rfl)
theorem dX2_set_132 : decode cX2_set 132 = .ok (.iconst (-1), 1) := dk_2 (dk_at dksX2_set_5 17 rfl rfl)
theorem dX2_set_133 : decode cX2_set 133 = .ok (.ixor, 1) := dk_130 (dk_at dksX2_set_5 18 rfl rfl)
theorem dX2_set_134 : decode cX2_set 134 = .ok (.iand, 1) := dk_126 (dk_at dksX2_set_5 19 rfl rfl)
theorem dX2_set_135 : decode cX2_set 135 = .ok (.goto 4, 3) := dk_167 0 4 (dk_at dksX2_set_5 20 rfl rfl)
theorem dX2_set_138 : decode cX2_set 138 = .ok (.iload_n 2, 1) := dk_28 (dk_at dksX2_set_5 23 rfl rfl)
theorem dX2_set_139 : decode cX2_set 139 = .ok (.invokespecial 21, 3) := dk_183 0 21 (dk_at dksX2_set_6 0 rfl rfl)
theorem dX2_set_142 : decode cX2_set 142 = .ok (.areturn, 1) := dk_176 (dk_at dksX2_set_6 3 rfl rfl)
abbrev cX2_small : ByteArray := prog_8_method_5_code
def yX2_small : MethodName := ⟨RX2, "small", "(C)Z"⟩
def dkwX2_small_0 : List UInt8 := [26, 16, 97, 161, 0, 13, 26, 16, 122, 163, 0, 7, 4, 167, 0, 4, 3, 172]
abbrev dktX2_small_0 : List UInt8 := dkwX2_small_0 ++ []
theorem dksX2_small_0 : cX2_small.data.toList.drop 0 = dktX2_small_0 := by decide +kernel
theorem dX2_small_0 : decode cX2_small 0 = .ok (.iload_n 0, 1) := dk_26 (dk_at dksX2_small_0 0 rfl rfl)
theorem dX2_small_1 : decode cX2_small 1 = .ok (.bipush 97, 2) := dk_16 97 (dk_at dksX2_small_0 1 rfl rfl)
theorem dX2_small_3 : decode cX2_small 3 = .ok (.if_icmp .lt 13, 3) := dk_161 0 13 (dk_at dksX2_small_0 3 rfl rfl)
theorem dX2_small_6 : decode cX2_small 6 = .ok (.iload_n 0, 1) := dk_26 (dk_at dksX2_small_0 6 rfl rfl)
theorem dX2_small_7 : decode cX2_small 7 = .ok (.bipush 122, 2) := dk_16 122 (dk_at dksX2_small_0 7 rfl rfl)
theorem dX2_small_9 : decode cX2_small 9 = .ok (.if_icmp .gt 7, 3) := dk_163 0 7 (dk_at dksX2_small_0 9 rfl rfl)
theorem dX2_small_12 : decode cX2_small 12 = .ok (.iconst 1, 1) := dk_4 (dk_at dksX2_small_0 12 rfl rfl)
theorem dX2_small_13 : decode cX2_small 13 = .ok (.goto 4, 3) := dk_167 0 4 (dk_at dksX2_small_0 13 rfl rfl)
theorem dX2_small_16 : decode cX2_small 16 = .ok (.iconst 0, 1) := dk_3 (dk_at dksX2_small_0 16 rfl rfl)
theorem dX2_small_17 : decode cX2_small 17 = .ok (.ireturn, 1) := dk_172 (dk_at dksX2_small_0 17 rfl rfl)
abbrev cX2_full : ByteArray := prog_8_method_2_code
def yX2_full : MethodName := ⟨RX2, "full", "()Z"⟩
def dkwX2_full_0 : List UInt8 := [42, 180, 0, 28, 16, 24, 164, 0, 7, 4, 167, 0, 4, 3, 172]
abbrev dktX2_full_0 : List UInt8 := dkwX2_full_0 ++ []
theorem dksX2_full_0 : cX2_full.data.toList.drop 0 = dktX2_full_0 := by decide +kernel
theorem dX2_full_0 : decode cX2_full 0 = .ok (.aload_n 0, 1) := dk_42 (dk_at dksX2_full_0 0 rfl rfl)
theorem dX2_full_1 : decode cX2_full 1 = .ok (.getfield 28, 3) := dk_180 0 28 (dk_at dksX2_full_0 1 rfl rfl)
theorem dX2_full_4 : decode cX2_full 4 = .ok (.bipush 24, 2) := dk_16 24 (dk_at dksX2_full_0 4 rfl rfl)
theorem dX2_full_6 : decode cX2_full 6 = .ok (.if_icmp .le 7, 3) := dk_164 0 7 (dk_at dksX2_full_0 6 rfl rfl)
theorem dX2_full_9 : decode cX2_full 9 = .ok (.iconst 1, 1) := dk_4 (dk_at dksX2_full_0 9 rfl rfl)
theorem dX2_full_10 : decode cX2_full 10 = .ok (.goto 4, 3) := dk_167 0 4 (dk_at dksX2_full_0 10 rfl rfl)
theorem dX2_full_13 : decode cX2_full 13 = .ok (.iconst 0, 1) := dk_3 (dk_at dksX2_full_0 13 rfl rfl)
theorem dX2_full_14 : decode cX2_full 14 = .ok (.ireturn, 1) := dk_172 (dk_at dksX2_full_0 14 rfl rfl)
abbrev cX2_repeat : ByteArray := prog_8_method_12_code
def yX2_repeat : MethodName := ⟨RX2, "repeat", "(LFuzzyFinder$Node;LFuzzyFinder$Times;)LFuzzyFinder$Node;"⟩
def dkwX2_repeat_0 : List UInt8 := [42, 182, 0, 65, 153, 0, 7, 43, 167, 0, 12, 187, 0, 106, 89, 43, 44, 183, 0, 108, 176]
abbrev dktX2_repeat_0 : List UInt8 := dkwX2_repeat_0 ++ []
theorem dksX2_repeat_0 : cX2_repeat.data.toList.drop 0 = dktX2_repeat_0 := by decide +kernel
theorem dX2_repeat_0 : decode cX2_repeat 0 = .ok (.aload_n 0, 1) := dk_42 (dk_at dksX2_repeat_0 0 rfl rfl)
theorem dX2_repeat_1 : decode cX2_repeat 1 = .ok (.invokevirtual 65, 3) := dk_182 0 65 (dk_at dksX2_repeat_0 1 rfl rfl)
theorem dX2_repeat_4 : decode cX2_repeat 4 = .ok (.ifCond .eq 7, 3) := dk_153 0 7 (dk_at dksX2_repeat_0 4 rfl rfl)
theorem dX2_repeat_7 : decode cX2_repeat 7 = .ok (.aload_n 1, 1) := dk_43 (dk_at dksX2_repeat_0 7 rfl rfl)
theorem dX2_repeat_8 : decode cX2_repeat 8 = .ok (.goto 12, 3) := dk_167 0 12 (dk_at dksX2_repeat_0 8 rfl rfl)
theorem dX2_repeat_11 : decode cX2_repeat 11 = .ok (.new 106, 3) := dk_187 0 106 (dk_at dksX2_repeat_0 11 rfl rfl)
theorem dX2_repeat_14 : decode cX2_repeat 14 = .ok (.dup, 1) := dk_89 (dk_at dksX2_repeat_0 14 rfl rfl)
theorem dX2_repeat_15 : decode cX2_repeat 15 = .ok (.aload_n 1, 1) := dk_43 (dk_at dksX2_repeat_0 15 rfl rfl)
theorem dX2_repeat_16 : decode cX2_repeat 16 = .ok (.aload_n 2, 1) := dk_44 (dk_at dksX2_repeat_0 16 rfl rfl)
theorem dX2_repeat_17 : decode cX2_repeat 17 = .ok (.invokespecial 108, 3) := dk_183 0 108 (dk_at dksX2_repeat_0 17 rfl rfl)
theorem dX2_repeat_20 : decode cX2_repeat 20 = .ok (.areturn, 1) := dk_176 (dk_at dksX2_repeat_0 20 rfl rfl)
abbrev cX2_limit : ByteArray := prog_8_method_13_code
def yX2_limit : MethodName := ⟨RX2, "limit", "(LFuzzyFinder$Node;)LFuzzyFinder$Node;"⟩
def dkwX2_limit_4 : List UInt8 := [29, 96, 61, 42, 182, 0, 65, 153, 0, 7, 43, 167, 0, 12, 187, 0, 115, 89, 43, 28, 183, 0, 117, 176]
abbrev dktX2_limit_4 : List UInt8 := dkwX2_limit_4 ++ []
def dkwX2_limit_3 : List UInt8 := [29, 155, 0, 26, 29, 16, 9, 163, 0, 20, 42, 89, 180, 0, 32, 4, 96, 181, 0, 32, 16, 10, 28, 104]
abbrev dktX2_limit_3 : List UInt8 := dkwX2_limit_3 ++ dktX2_limit_4
def dkwX2_limit_2 : List UInt8 := [162, 0, 22, 42, 180, 0, 12, 42, 180, 0, 32, 4, 96, 182, 0, 39, 16, 48, 100, 167, 0, 4, 2, 62]
abbrev dktX2_limit_2 : List UInt8 := dkwX2_limit_2 ++ dktX2_limit_3
def dkwX2_limit_1 : List UInt8 := [16, 9, 164, 0, 8, 42, 182, 0, 111, 176, 42, 180, 0, 32, 4, 96, 42, 180, 0, 12, 182, 0, 35]
abbrev dktX2_limit_1 : List UInt8 := dkwX2_limit_1 ++ dktX2_limit_2
def dkwX2_limit_0 : List UInt8 := [42, 89, 180, 0, 32, 4, 96, 181, 0, 32, 42, 182, 0, 43, 16, 48, 100, 61, 28, 155, 0, 9, 28]
abbrev dktX2_limit_0 : List UInt8 := dkwX2_limit_0 ++ dktX2_limit_1
theorem dksX2_limit_0 : cX2_limit.data.toList.drop 0 = dktX2_limit_0 := by decide +kernel
theorem dksX2_limit_1 : cX2_limit.data.toList.drop 23 = dktX2_limit_1 := dk_seg dksX2_limit_0 23 rfl rfl
theorem dksX2_limit_2 : cX2_limit.data.toList.drop 46 = dktX2_limit_2 := dk_seg dksX2_limit_1 23 rfl rfl
theorem dksX2_limit_3 : cX2_limit.data.toList.drop 70 = dktX2_limit_3 := dk_seg dksX2_limit_2 24 rfl rfl
theorem dksX2_limit_4 : cX2_limit.data.toList.drop 94 = dktX2_limit_4 := dk_seg dksX2_limit_3 24 rfl rfl
theorem dX2_limit_0 : decode cX2_limit 0 = .ok (.aload_n 0, 1) := dk_42 (dk_at dksX2_limit_0 0 rfl rfl)
theorem dX2_limit_1 : decode cX2_limit 1 = .ok (.dup, 1) := dk_89 (dk_at dksX2_limit_0 1 rfl rfl)
theorem dX2_limit_2 : decode cX2_limit 2 = .ok (.getfield 32, 3) := dk_180 0 32 (dk_at dksX2_limit_0 2 rfl rfl)
theorem dX2_limit_5 : decode cX2_limit 5 = .ok (.iconst 1, 1) := dk_4 (dk_at dksX2_limit_0 5 rfl rfl)
theorem dX2_limit_6 : decode cX2_limit 6 = .ok (.iadd, 1) := dk_96 (dk_at dksX2_limit_0 6 rfl rfl)
theorem dX2_limit_7 : decode cX2_limit 7 = .ok (.putfield 32, 3) := dk_181 0 32 (dk_at dksX2_limit_0 7 rfl rfl)
theorem dX2_limit_10 : decode cX2_limit 10 = .ok (.aload_n 0, 1) := dk_42 (dk_at dksX2_limit_0 10 rfl rfl)
theorem dX2_limit_11 : decode cX2_limit 11 = .ok (.invokevirtual 43, 3) := dk_182 0 43 (dk_at dksX2_limit_0 11 rfl rfl)
theorem dX2_limit_14 : decode cX2_limit 14 = .ok (.bipush 48, 2) := dk_16 48 (dk_at dksX2_limit_0 14 rfl rfl)
theorem dX2_limit_16 : decode cX2_limit 16 = .ok (.isub, 1) := dk_100 (dk_at dksX2_limit_0 16 rfl rfl)
theorem dX2_limit_17 : decode cX2_limit 17 = .ok (.istore_n 2, 1) := dk_61 (dk_at dksX2_limit_0 17 rfl rfl)
theorem dX2_limit_18 : decode cX2_limit 18 = .ok (.iload_n 2, 1) := dk_28 (dk_at dksX2_limit_0 18 rfl rfl)
theorem dX2_limit_19 : decode cX2_limit 19 = .ok (.ifCond .lt 9, 3) := dk_155 0 9 (dk_at dksX2_limit_0 19 rfl rfl)
theorem dX2_limit_22 : decode cX2_limit 22 = .ok (.iload_n 2, 1) := dk_28 (dk_at dksX2_limit_0 22 rfl rfl)
theorem dX2_limit_23 : decode cX2_limit 23 = .ok (.bipush 9, 2) := dk_16 9 (dk_at dksX2_limit_1 0 rfl rfl)
theorem dX2_limit_25 : decode cX2_limit 25 = .ok (.if_icmp .le 8, 3) := dk_164 0 8 (dk_at dksX2_limit_1 2 rfl rfl)
theorem dX2_limit_28 : decode cX2_limit 28 = .ok (.aload_n 0, 1) := dk_42 (dk_at dksX2_limit_1 5 rfl rfl)
theorem dX2_limit_29 : decode cX2_limit 29 = .ok (.invokevirtual 111, 3) := dk_182 0 111 (dk_at dksX2_limit_1 6 rfl rfl)
theorem dX2_limit_32 : decode cX2_limit 32 = .ok (.areturn, 1) := dk_176 (dk_at dksX2_limit_1 9 rfl rfl)
theorem dX2_limit_33 : decode cX2_limit 33 = .ok (.aload_n 0, 1) := dk_42 (dk_at dksX2_limit_1 10 rfl rfl)
theorem dX2_limit_34 : decode cX2_limit 34 = .ok (.getfield 32, 3) := dk_180 0 32 (dk_at dksX2_limit_1 11 rfl rfl)
theorem dX2_limit_37 : decode cX2_limit 37 = .ok (.iconst 1, 1) := dk_4 (dk_at dksX2_limit_1 14 rfl rfl)
theorem dX2_limit_38 : decode cX2_limit 38 = .ok (.iadd, 1) := dk_96 (dk_at dksX2_limit_1 15 rfl rfl)
theorem dX2_limit_39 : decode cX2_limit 39 = .ok (.aload_n 0, 1) := dk_42 (dk_at dksX2_limit_1 16 rfl rfl)
theorem dX2_limit_40 : decode cX2_limit 40 = .ok (.getfield 12, 3) := dk_180 0 12 (dk_at dksX2_limit_1 17 rfl rfl)
theorem dX2_limit_43 : decode cX2_limit 43 = .ok (.invokevirtual 35, 3) := dk_182 0 35 (dk_at dksX2_limit_1 20 rfl rfl)
theorem dX2_limit_46 : decode cX2_limit 46 = .ok (.if_icmp .ge 22, 3) := dk_162 0 22 (dk_at dksX2_limit_2 0 rfl rfl)
theorem dX2_limit_49 : decode cX2_limit 49 = .ok (.aload_n 0, 1) := dk_42 (dk_at dksX2_limit_2 3 rfl rfl)
theorem dX2_limit_50 : decode cX2_limit 50 = .ok (.getfield 12, 3) := dk_180 0 12 (dk_at dksX2_limit_2 4 rfl rfl)
theorem dX2_limit_53 : decode cX2_limit 53 = .ok (.aload_n 0, 1) := dk_42 (dk_at dksX2_limit_2 7 rfl rfl)
theorem dX2_limit_54 : decode cX2_limit 54 = .ok (.getfield 32, 3) := dk_180 0 32 (dk_at dksX2_limit_2 8 rfl rfl)
theorem dX2_limit_57 : decode cX2_limit 57 = .ok (.iconst 1, 1) := dk_4 (dk_at dksX2_limit_2 11 rfl rfl)
theorem dX2_limit_58 : decode cX2_limit 58 = .ok (.iadd, 1) := dk_96 (dk_at dksX2_limit_2 12 rfl rfl)
theorem dX2_limit_59 : decode cX2_limit 59 = .ok (.invokevirtual 39, 3) := dk_182 0 39 (dk_at dksX2_limit_2 13 rfl rfl)
theorem dX2_limit_62 : decode cX2_limit 62 = .ok (.bipush 48, 2) := dk_16 48 (dk_at dksX2_limit_2 16 rfl rfl)
theorem dX2_limit_64 : decode cX2_limit 64 = .ok (.isub, 1) := dk_100 (dk_at dksX2_limit_2 18 rfl rfl)
theorem dX2_limit_65 : decode cX2_limit 65 = .ok (.goto 4, 3) := dk_167 0 4 (dk_at dksX2_limit_2 19 rfl rfl)
theorem dX2_limit_68 : decode cX2_limit 68 = .ok (.iconst (-1), 1) := dk_2 (dk_at dksX2_limit_2 22 rfl rfl)
theorem dX2_limit_69 : decode cX2_limit 69 = .ok (.istore_n 3, 1) := dk_62 (dk_at dksX2_limit_2 23 rfl rfl)
theorem dX2_limit_70 : decode cX2_limit 70 = .ok (.iload_n 3, 1) := dk_29 (dk_at dksX2_limit_3 0 rfl rfl)
theorem dX2_limit_71 : decode cX2_limit 71 = .ok (.ifCond .lt 26, 3) := dk_155 0 26 (dk_at dksX2_limit_3 1 rfl rfl)
theorem dX2_limit_74 : decode cX2_limit 74 = .ok (.iload_n 3, 1) := dk_29 (dk_at dksX2_limit_3 4 rfl rfl)
theorem dX2_limit_75 : decode cX2_limit 75 = .ok (.bipush 9, 2) := dk_16 9 (dk_at dksX2_limit_3 5 rfl rfl)
theorem dX2_limit_77 : decode cX2_limit 77 = .ok (.if_icmp .gt 20, 3) := dk_163 0 20 (dk_at dksX2_limit_3 7 rfl rfl)
theorem dX2_limit_80 : decode cX2_limit 80 = .ok (.aload_n 0, 1) := dk_42 (dk_at dksX2_limit_3 10 rfl rfl)
theorem dX2_limit_81 : decode cX2_limit 81 = .ok (.dup, 1) := dk_89 (dk_at dksX2_limit_3 11 rfl rfl)
theorem dX2_limit_82 : decode cX2_limit 82 = .ok (.getfield 32, 3) := dk_180 0 32 (dk_at dksX2_limit_3 12 rfl rfl)
theorem dX2_limit_85 : decode cX2_limit 85 = .ok (.iconst 1, 1) := dk_4 (dk_at dksX2_limit_3 15 rfl rfl)
theorem dX2_limit_86 : decode cX2_limit 86 = .ok (.iadd, 1) := dk_96 (dk_at dksX2_limit_3 16 rfl rfl)
theorem dX2_limit_87 : decode cX2_limit 87 = .ok (.putfield 32, 3) := dk_181 0 32 (dk_at dksX2_limit_3 17 rfl rfl)
theorem dX2_limit_90 : decode cX2_limit 90 = .ok (.bipush 10, 2) := dk_16 10 (dk_at dksX2_limit_3 20 rfl rfl)
theorem dX2_limit_92 : decode cX2_limit 92 = .ok (.iload_n 2, 1) := dk_28 (dk_at dksX2_limit_3 22 rfl rfl)
theorem dX2_limit_93 : decode cX2_limit 93 = .ok (.imul, 1) := dk_104 (dk_at dksX2_limit_3 23 rfl rfl)
theorem dX2_limit_94 : decode cX2_limit 94 = .ok (.iload_n 3, 1) := dk_29 (dk_at dksX2_limit_4 0 rfl rfl)
theorem dX2_limit_95 : decode cX2_limit 95 = .ok (.iadd, 1) := dk_96 (dk_at dksX2_limit_4 1 rfl rfl)
theorem dX2_limit_96 : decode cX2_limit 96 = .ok (.istore_n 2, 1) := dk_61 (dk_at dksX2_limit_4 2 rfl rfl)
theorem dX2_limit_97 : decode cX2_limit 97 = .ok (.aload_n 0, 1) := dk_42 (dk_at dksX2_limit_4 3 rfl rfl)
theorem dX2_limit_98 : decode cX2_limit 98 = .ok (.invokevirtual 65, 3) := dk_182 0 65 (dk_at dksX2_limit_4 4 rfl rfl)
theorem dX2_limit_101 : decode cX2_limit 101 = .ok (.ifCond .eq 7, 3) := dk_153 0 7 (dk_at dksX2_limit_4 7 rfl rfl)
theorem dX2_limit_104 : decode cX2_limit 104 = .ok (.aload_n 1, 1) := dk_43 (dk_at dksX2_limit_4 10 rfl rfl)
theorem dX2_limit_105 : decode cX2_limit 105 = .ok (.goto 12, 3) := dk_167 0 12 (dk_at dksX2_limit_4 11 rfl rfl)
theorem dX2_limit_108 : decode cX2_limit 108 = .ok (.new 115, 3) := dk_187 0 115 (dk_at dksX2_limit_4 14 rfl rfl)
theorem dX2_limit_111 : decode cX2_limit 111 = .ok (.dup, 1) := dk_89 (dk_at dksX2_limit_4 17 rfl rfl)
theorem dX2_limit_112 : decode cX2_limit 112 = .ok (.aload_n 1, 1) := dk_43 (dk_at dksX2_limit_4 18 rfl rfl)
theorem dX2_limit_113 : decode cX2_limit 113 = .ok (.iload_n 2, 1) := dk_28 (dk_at dksX2_limit_4 19 rfl rfl)
theorem dX2_limit_114 : decode cX2_limit 114 = .ok (.invokespecial 117, 3) := dk_183 0 117 (dk_at dksX2_limit_4 20 rfl rfl)
theorem dX2_limit_117 : decode cX2_limit 117 = .ok (.areturn, 1) := dk_176 (dk_at dksX2_limit_4 23 rfl rfl)
abbrev cX2_begins : ByteArray := prog_8_method_6_code
def yX2_begins : MethodName := ⟨RX2, "begins", "(C)Z"⟩
def dkwX2_begins_1 : List UInt8 := [160, 0, 7, 4, 167, 0, 4, 3, 172]
abbrev dktX2_begins_1 : List UInt8 := dkwX2_begins_1 ++ []
def dkwX2_begins_0 : List UInt8 := [26, 184, 0, 47, 154, 0, 21, 26, 16, 46, 159, 0, 15, 26, 16, 91, 159, 0, 9, 26, 16, 40]
abbrev dktX2_begins_0 : List UInt8 := dkwX2_begins_0 ++ dktX2_begins_1
theorem dksX2_begins_0 : cX2_begins.data.toList.drop 0 = dktX2_begins_0 := by decide +kernel
theorem dksX2_begins_1 : cX2_begins.data.toList.drop 22 = dktX2_begins_1 := dk_seg dksX2_begins_0 22 rfl rfl
theorem dX2_begins_0 : decode cX2_begins 0 = .ok (.iload_n 0, 1) := dk_26 (dk_at dksX2_begins_0 0 rfl rfl)
theorem dX2_begins_1 : decode cX2_begins 1 = .ok (.invokestatic 47, 3) := dk_184 0 47 (dk_at dksX2_begins_0 1 rfl rfl)
theorem dX2_begins_4 : decode cX2_begins 4 = .ok (.ifCond .ne 21, 3) := dk_154 0 21 (dk_at dksX2_begins_0 4 rfl rfl)
theorem dX2_begins_7 : decode cX2_begins 7 = .ok (.iload_n 0, 1) := dk_26 (dk_at dksX2_begins_0 7 rfl rfl)
theorem dX2_begins_8 : decode cX2_begins 8 = .ok (.bipush 46, 2) := dk_16 46 (dk_at dksX2_begins_0 8 rfl rfl)
theorem dX2_begins_10 : decode cX2_begins 10 = .ok (.if_icmp .eq 15, 3) := dk_159 0 15 (dk_at dksX2_begins_0 10 rfl rfl)
theorem dX2_begins_13 : decode cX2_begins 13 = .ok (.iload_n 0, 1) := dk_26 (dk_at dksX2_begins_0 13 rfl rfl)
theorem dX2_begins_14 : decode cX2_begins 14 = .ok (.bipush 91, 2) := dk_16 91 (dk_at dksX2_begins_0 14 rfl rfl)
theorem dX2_begins_16 : decode cX2_begins 16 = .ok (.if_icmp .eq 9, 3) := dk_159 0 9 (dk_at dksX2_begins_0 16 rfl rfl)
theorem dX2_begins_19 : decode cX2_begins 19 = .ok (.iload_n 0, 1) := dk_26 (dk_at dksX2_begins_0 19 rfl rfl)
theorem dX2_begins_20 : decode cX2_begins 20 = .ok (.bipush 40, 2) := dk_16 40 (dk_at dksX2_begins_0 20 rfl rfl)
theorem dX2_begins_22 : decode cX2_begins 22 = .ok (.if_icmp .ne 7, 3) := dk_160 0 7 (dk_at dksX2_begins_1 0 rfl rfl)
theorem dX2_begins_25 : decode cX2_begins 25 = .ok (.iconst 1, 1) := dk_4 (dk_at dksX2_begins_1 3 rfl rfl)
theorem dX2_begins_26 : decode cX2_begins 26 = .ok (.goto 4, 3) := dk_167 0 4 (dk_at dksX2_begins_1 4 rfl rfl)
theorem dX2_begins_29 : decode cX2_begins 29 = .ok (.iconst 0, 1) := dk_3 (dk_at dksX2_begins_1 7 rfl rfl)
theorem dX2_begins_30 : decode cX2_begins 30 = .ok (.ireturn, 1) := dk_172 (dk_at dksX2_begins_1 8 rfl rfl)
theorem q37 : (Jvm.Cond.initialized "FuzzyFinder$Reader") ∈ lw_all := lw_g (lw_at lw_m1 3 rfl) rfl
theorem q108 : (Jvm.Cond.instantiable "FuzzyFinder$Reader" (5 : Nat)) ∈ lw_all := lw_g (lw_at lw_m1 74 rfl) rfl
theorem q110 : (Jvm.Cond.instanceMethod ({ cls := "FuzzyFinder$Reader", name := "<init>", desc := "()V" } : Jvm.MethodName)) ∈ lw_all := lw_g (lw_at lw_m1 76 rfl) rfl
theorem q111 : (Jvm.Cond.code ({ cls := "FuzzyFinder$Reader", name := "<init>", desc := "()V" } : Jvm.MethodName) prog_8_method_1_code (1 : Nat) (Option.none : Option Jvm.ClassFile.FieldType)) ∈ lw_all := lw_g (lw_at lw_m1 77 rfl) rfl
theorem q112 : (Jvm.Cond.methodLink "FuzzyFinder$Reader" (3 : Nat) ({ cls := "java/lang/Object", name := "<init>", desc := "()V" } : Jvm.MethodName)) ∈ lw_all := lw_g (lw_at lw_m1 78 rfl) rfl
theorem q113 : (Jvm.Cond.classLink "FuzzyFinder$Reader" (9 : Nat) "java/lang/StringBuilder") ∈ lw_all := lw_g (lw_at lw_m1 79 rfl) rfl
theorem q115 : (Jvm.Cond.methodLink "FuzzyFinder$Reader" (11 : Nat) ({ cls := "java/lang/StringBuilder", name := "<init>", desc := "()V" } : Jvm.MethodName)) ∈ lw_all := lw_g (lw_at lw_m1 81 rfl) rfl
theorem q145 : (Jvm.Cond.classLink "FuzzyFinder$Reader" (18 : Nat) "FuzzyFinder$Letters") ∈ lw_all := lw_g (lw_at lw_m1 111 rfl) rfl
theorem q147 : (Jvm.Cond.constant "FuzzyFinder$Reader" (20 : Nat) (67108863 : Int32)) ∈ lw_all := lw_g (lw_at lw_m1 113 rfl) rfl
theorem q148 : (Jvm.Cond.methodLinkNest "FuzzyFinder$Reader" (21 : Nat) ({ cls := "FuzzyFinder$Letters", name := "<init>", desc := "(I)V" } : Jvm.MethodName) "FuzzyFinder") ∈ lw_tbl := lw_at lw_m1 114 rfl
theorem q159 : (Jvm.Cond.fieldLink "FuzzyFinder$Reader" (12 : Nat) "FuzzyFinder$Reader" "text" "Ljava/lang/StringBuilder;") ∈ lw_all := lw_g (lw_at lw_m1 125 rfl) rfl
theorem q161 : (Jvm.Cond.fieldLink "FuzzyFinder$Reader" (32 : Nat) "FuzzyFinder$Reader" "at" "I") ∈ lw_all := lw_g (lw_at lw_m1 127 rfl) rfl
theorem q163 : (Jvm.Cond.fieldLink "FuzzyFinder$Reader" (28 : Nat) "FuzzyFinder$Reader" "nodes" "I") ∈ lw_all := lw_g (lw_at lw_m1 129 rfl) rfl
theorem q165 : (Jvm.Cond.fieldLink "FuzzyFinder$Reader" (51 : Nat) "FuzzyFinder$Reader" "broken" "Z") ∈ lw_all := lw_g (lw_at lw_m1 131 rfl) rfl
theorem q166 : (Jvm.Cond.fieldLink "FuzzyFinder$Reader" (24 : Nat) "FuzzyFinder$Reader" "rest" "LFuzzyFinder$Node;") ∈ lw_all := lw_g (lw_at lw_m1 132 rfl) rfl
theorem q167 : (Jvm.Cond.laysFinal "FuzzyFinder$Reader" "FuzzyFinder$Reader" "text" "Ljava/lang/StringBuilder;") ∈ lw_all := lw_g (lw_at lw_m1 133 rfl) rfl
theorem q168 : (Jvm.Cond.soleField "FuzzyFinder$Reader" "text") ∈ lw_all := lw_g (lw_at lw_m1 134 rfl) rfl
theorem q169 : (Jvm.Cond.lays "FuzzyFinder$Reader" "FuzzyFinder$Reader" "at" "I") ∈ lw_all := lw_g (lw_at lw_m1 135 rfl) rfl
theorem q170 : (Jvm.Cond.soleField "FuzzyFinder$Reader" "at") ∈ lw_all := lw_g (lw_at lw_m1 136 rfl) rfl
theorem q171 : (Jvm.Cond.lays "FuzzyFinder$Reader" "FuzzyFinder$Reader" "nodes" "I") ∈ lw_all := lw_g (lw_at lw_m1 137 rfl) rfl
theorem q172 : (Jvm.Cond.soleField "FuzzyFinder$Reader" "nodes") ∈ lw_all := lw_g (lw_at lw_m1 138 rfl) rfl
theorem q173 : (Jvm.Cond.lays "FuzzyFinder$Reader" "FuzzyFinder$Reader" "broken" "Z") ∈ lw_all := lw_g (lw_at lw_m1 139 rfl) rfl
theorem q174 : (Jvm.Cond.soleField "FuzzyFinder$Reader" "broken") ∈ lw_all := lw_g (lw_at lw_m1 140 rfl) rfl
theorem q175 : (Jvm.Cond.laysFinal "FuzzyFinder$Reader" "FuzzyFinder$Reader" "rest" "LFuzzyFinder$Node;") ∈ lw_all := lw_g (lw_at lw_m1 141 rfl) rfl
theorem q176 : (Jvm.Cond.soleField "FuzzyFinder$Reader" "rest") ∈ lw_all := lw_g (lw_at lw_m1 142 rfl) rfl
theorem q177 : (Jvm.Cond.superclass "FuzzyFinder$Reader" "java/lang/Object") ∈ lw_all := lw_g (lw_at lw_m1 143 rfl) rfl
theorem q385 : (Jvm.Cond.instanceMethod ({ cls := "FuzzyFinder$Reader", name := "read", desc := "()LFuzzyFinder$Node;" } : Jvm.MethodName)) ∈ lw_all := lw_g (lw_at lw_m2 111 rfl) rfl
theorem q386 : (Jvm.Cond.selects "FuzzyFinder$Reader" ({ cls := "FuzzyFinder$Reader", name := "read", desc := "()LFuzzyFinder$Node;" } : Jvm.MethodName) ({ cls := "FuzzyFinder$Reader", name := "read", desc := "()LFuzzyFinder$Node;" } : Jvm.MethodName)) ∈ lw_all := lw_g (lw_at lw_m2 112 rfl) rfl
theorem q387 : (Jvm.Cond.code ({ cls := "FuzzyFinder$Reader", name := "read", desc := "()LFuzzyFinder$Node;" } : Jvm.MethodName) prog_8_method_8_code (2 : Nat) (Option.some (Jvm.ClassFile.FieldType.object "FuzzyFinder$Node"))) ∈ lw_all := lw_g (lw_at lw_m2 113 rfl) rfl
theorem q388 : (Jvm.Cond.methodLink "FuzzyFinder$Reader" (55 : Nat) ({ cls := "FuzzyFinder$Reader", name := "expression", desc := "(LFuzzyFinder$Reader;I)LFuzzyFinder$Node;" } : Jvm.MethodName)) ∈ lw_all := lw_g (lw_at lw_m2 114 rfl) rfl
theorem q389 : (Jvm.Cond.static ({ cls := "FuzzyFinder$Reader", name := "expression", desc := "(LFuzzyFinder$Reader;I)LFuzzyFinder$Node;" } : Jvm.MethodName)) ∈ lw_all := lw_g (lw_at lw_m2 115 rfl) rfl
theorem q390 : (Jvm.Cond.code ({ cls := "FuzzyFinder$Reader", name := "expression", desc := "(LFuzzyFinder$Reader;I)LFuzzyFinder$Node;" } : Jvm.MethodName) prog_8_method_9_code (4 : Nat) (Option.some (Jvm.ClassFile.FieldType.object "FuzzyFinder$Node"))) ∈ lw_all := lw_g (lw_at lw_m2 116 rfl) rfl
theorem q391 : (Jvm.Cond.methodLink "FuzzyFinder$Reader" (59 : Nat) ({ cls := "FuzzyFinder$Reader", name := "row", desc := "(LFuzzyFinder$Reader;I)LFuzzyFinder$Node;" } : Jvm.MethodName)) ∈ lw_all := lw_g (lw_at lw_m2 117 rfl) rfl
theorem q392 : (Jvm.Cond.static ({ cls := "FuzzyFinder$Reader", name := "row", desc := "(LFuzzyFinder$Reader;I)LFuzzyFinder$Node;" } : Jvm.MethodName)) ∈ lw_all := lw_g (lw_at lw_m2 118 rfl) rfl
theorem q393 : (Jvm.Cond.code ({ cls := "FuzzyFinder$Reader", name := "row", desc := "(LFuzzyFinder$Reader;I)LFuzzyFinder$Node;" } : Jvm.MethodName) prog_8_method_10_code (4 : Nat) (Option.some (Jvm.ClassFile.FieldType.object "FuzzyFinder$Node"))) ∈ lw_all := lw_g (lw_at lw_m2 119 rfl) rfl
theorem q394 : (Jvm.Cond.methodLink "FuzzyFinder$Reader" (74 : Nat) ({ cls := "FuzzyFinder$Reader", name := "item", desc := "(LFuzzyFinder$Reader;I)LFuzzyFinder$Node;" } : Jvm.MethodName)) ∈ lw_all := lw_g (lw_at lw_m2 120 rfl) rfl
theorem q395 : (Jvm.Cond.static ({ cls := "FuzzyFinder$Reader", name := "item", desc := "(LFuzzyFinder$Reader;I)LFuzzyFinder$Node;" } : Jvm.MethodName)) ∈ lw_all := lw_g (lw_at lw_m2 121 rfl) rfl
theorem q396 : (Jvm.Cond.code ({ cls := "FuzzyFinder$Reader", name := "item", desc := "(LFuzzyFinder$Reader;I)LFuzzyFinder$Node;" } : Jvm.MethodName) prog_8_method_11_code (3 : Nat) (Option.some (Jvm.ClassFile.FieldType.object "FuzzyFinder$Node"))) ∈ lw_all := lw_g (lw_at lw_m2 122 rfl) rfl
theorem q397 : (Jvm.Cond.methodLink "FuzzyFinder$Reader" (83 : Nat) ({ cls := "FuzzyFinder$Reader", name := "atom", desc := "(LFuzzyFinder$Reader;I)LFuzzyFinder$Node;" } : Jvm.MethodName)) ∈ lw_all := lw_g (lw_at lw_m2 123 rfl) rfl
theorem q398 : (Jvm.Cond.static ({ cls := "FuzzyFinder$Reader", name := "atom", desc := "(LFuzzyFinder$Reader;I)LFuzzyFinder$Node;" } : Jvm.MethodName)) ∈ lw_all := lw_g (lw_at lw_m2 124 rfl) rfl
theorem q399 : (Jvm.Cond.code ({ cls := "FuzzyFinder$Reader", name := "atom", desc := "(LFuzzyFinder$Reader;I)LFuzzyFinder$Node;" } : Jvm.MethodName) prog_8_method_14_code (3 : Nat) (Option.some (Jvm.ClassFile.FieldType.object "FuzzyFinder$Node"))) ∈ lw_all := lw_g (lw_at lw_m2 125 rfl) rfl
theorem q400 : (Jvm.Cond.methodLink "FuzzyFinder$Reader" (43 : Nat) ({ cls := "FuzzyFinder$Reader", name := "next", desc := "()C" } : Jvm.MethodName)) ∈ lw_all := lw_g (lw_at lw_m2 126 rfl) rfl
theorem q401 : (Jvm.Cond.privateMethod ({ cls := "FuzzyFinder$Reader", name := "next", desc := "()C" } : Jvm.MethodName)) ∈ lw_tbl := lw_at lw_m2 127 rfl
theorem q402 : (Jvm.Cond.instanceMethod ({ cls := "FuzzyFinder$Reader", name := "next", desc := "()C" } : Jvm.MethodName)) ∈ lw_all := lw_g (lw_at lw_m2 128 rfl) rfl
theorem q403 : (Jvm.Cond.code ({ cls := "FuzzyFinder$Reader", name := "next", desc := "()C" } : Jvm.MethodName) prog_8_method_3_code (1 : Nat) (Option.some Jvm.ClassFile.FieldType.char)) ∈ lw_all := lw_g (lw_at lw_m2 129 rfl) rfl
theorem q404 : (Jvm.Cond.methodLink "FuzzyFinder$Reader" (35 : Nat) ({ cls := "java/lang/StringBuilder", name := "length", desc := "()I" } : Jvm.MethodName)) ∈ lw_all := lw_g (lw_at lw_m2 130 rfl) rfl
theorem q405 : (Jvm.Cond.methodLink "FuzzyFinder$Reader" (39 : Nat) ({ cls := "java/lang/StringBuilder", name := "charAt", desc := "(I)C" } : Jvm.MethodName)) ∈ lw_all := lw_g (lw_at lw_m2 131 rfl) rfl
theorem q417 : (Jvm.Cond.methodLink "FuzzyFinder$Reader" (111 : Nat) ({ cls := "FuzzyFinder$Reader", name := "fail", desc := "()LFuzzyFinder$Node;" } : Jvm.MethodName)) ∈ lw_all := lw_g (lw_at lw_m2 143 rfl) rfl
theorem q418 : (Jvm.Cond.privateMethod ({ cls := "FuzzyFinder$Reader", name := "fail", desc := "()LFuzzyFinder$Node;" } : Jvm.MethodName)) ∈ lw_tbl := lw_at lw_m2 144 rfl
theorem q419 : (Jvm.Cond.instanceMethod ({ cls := "FuzzyFinder$Reader", name := "fail", desc := "()LFuzzyFinder$Node;" } : Jvm.MethodName)) ∈ lw_all := lw_g (lw_at lw_m2 145 rfl) rfl
theorem q420 : (Jvm.Cond.code ({ cls := "FuzzyFinder$Reader", name := "fail", desc := "()LFuzzyFinder$Node;" } : Jvm.MethodName) prog_8_method_7_code (1 : Nat) (Option.some (Jvm.ClassFile.FieldType.object "FuzzyFinder$Node"))) ∈ lw_all := lw_g (lw_at lw_m2 146 rfl) rfl
theorem q421 : (Jvm.Cond.methodLink "FuzzyFinder$Reader" (120 : Nat) ({ cls := "FuzzyFinder$Reader", name := "bracket", desc := "(I)LFuzzyFinder$Node;" } : Jvm.MethodName)) ∈ lw_all := lw_g (lw_at lw_m2 147 rfl) rfl
theorem q422 : (Jvm.Cond.privateMethod ({ cls := "FuzzyFinder$Reader", name := "bracket", desc := "(I)LFuzzyFinder$Node;" } : Jvm.MethodName)) ∈ lw_tbl := lw_at lw_m2 148 rfl
theorem q423 : (Jvm.Cond.instanceMethod ({ cls := "FuzzyFinder$Reader", name := "bracket", desc := "(I)LFuzzyFinder$Node;" } : Jvm.MethodName)) ∈ lw_all := lw_g (lw_at lw_m2 149 rfl) rfl
theorem q424 : (Jvm.Cond.code ({ cls := "FuzzyFinder$Reader", name := "bracket", desc := "(I)LFuzzyFinder$Node;" } : Jvm.MethodName) prog_8_method_15_code (3 : Nat) (Option.some (Jvm.ClassFile.FieldType.object "FuzzyFinder$Node"))) ∈ lw_all := lw_g (lw_at lw_m2 150 rfl) rfl
theorem q425 : (Jvm.Cond.methodLink "FuzzyFinder$Reader" (62 : Nat) ({ cls := "FuzzyFinder$Reader", name := "accept", desc := "(C)Z" } : Jvm.MethodName)) ∈ lw_all := lw_g (lw_at lw_m2 151 rfl) rfl
theorem q426 : (Jvm.Cond.privateMethod ({ cls := "FuzzyFinder$Reader", name := "accept", desc := "(C)Z" } : Jvm.MethodName)) ∈ lw_tbl := lw_at lw_m2 152 rfl
theorem q427 : (Jvm.Cond.instanceMethod ({ cls := "FuzzyFinder$Reader", name := "accept", desc := "(C)Z" } : Jvm.MethodName)) ∈ lw_all := lw_g (lw_at lw_m2 153 rfl) rfl
theorem q428 : (Jvm.Cond.code ({ cls := "FuzzyFinder$Reader", name := "accept", desc := "(C)Z" } : Jvm.MethodName) prog_8_method_4_code (3 : Nat) (Option.some Jvm.ClassFile.FieldType.boolean)) ∈ lw_all := lw_g (lw_at lw_m2 154 rfl) rfl
theorem q429 : (Jvm.Cond.methodLink "FuzzyFinder$Reader" (124 : Nat) ({ cls := "FuzzyFinder$Reader", name := "set", desc := "()LFuzzyFinder$Node;" } : Jvm.MethodName)) ∈ lw_all := lw_g (lw_at lw_m2 155 rfl) rfl
theorem q430 : (Jvm.Cond.privateMethod ({ cls := "FuzzyFinder$Reader", name := "set", desc := "()LFuzzyFinder$Node;" } : Jvm.MethodName)) ∈ lw_tbl := lw_at lw_m2 156 rfl
theorem q431 : (Jvm.Cond.instanceMethod ({ cls := "FuzzyFinder$Reader", name := "set", desc := "()LFuzzyFinder$Node;" } : Jvm.MethodName)) ∈ lw_all := lw_g (lw_at lw_m2 157 rfl) rfl
theorem q432 : (Jvm.Cond.code ({ cls := "FuzzyFinder$Reader", name := "set", desc := "()LFuzzyFinder$Node;" } : Jvm.MethodName) prog_8_method_16_code (4 : Nat) (Option.some (Jvm.ClassFile.FieldType.object "FuzzyFinder$Node"))) ∈ lw_all := lw_g (lw_at lw_m2 158 rfl) rfl
theorem q433 : (Jvm.Cond.methodLink "FuzzyFinder$Reader" (47 : Nat) ({ cls := "FuzzyFinder$Reader", name := "small", desc := "(C)Z" } : Jvm.MethodName)) ∈ lw_all := lw_g (lw_at lw_m2 159 rfl) rfl
theorem q434 : (Jvm.Cond.static ({ cls := "FuzzyFinder$Reader", name := "small", desc := "(C)Z" } : Jvm.MethodName)) ∈ lw_all := lw_g (lw_at lw_m2 160 rfl) rfl
theorem q435 : (Jvm.Cond.code ({ cls := "FuzzyFinder$Reader", name := "small", desc := "(C)Z" } : Jvm.MethodName) prog_8_method_5_code (1 : Nat) (Option.some Jvm.ClassFile.FieldType.boolean)) ∈ lw_all := lw_g (lw_at lw_m2 161 rfl) rfl
theorem q436 : (Jvm.Cond.methodLink "FuzzyFinder$Reader" (65 : Nat) ({ cls := "FuzzyFinder$Reader", name := "full", desc := "()Z" } : Jvm.MethodName)) ∈ lw_all := lw_g (lw_at lw_m2 162 rfl) rfl
theorem q437 : (Jvm.Cond.privateMethod ({ cls := "FuzzyFinder$Reader", name := "full", desc := "()Z" } : Jvm.MethodName)) ∈ lw_tbl := lw_at lw_m2 163 rfl
theorem q438 : (Jvm.Cond.instanceMethod ({ cls := "FuzzyFinder$Reader", name := "full", desc := "()Z" } : Jvm.MethodName)) ∈ lw_all := lw_g (lw_at lw_m2 164 rfl) rfl
theorem q439 : (Jvm.Cond.code ({ cls := "FuzzyFinder$Reader", name := "full", desc := "()Z" } : Jvm.MethodName) prog_8_method_2_code (1 : Nat) (Option.some Jvm.ClassFile.FieldType.boolean)) ∈ lw_all := lw_g (lw_at lw_m2 165 rfl) rfl
theorem q440 : (Jvm.Cond.fieldLink "FuzzyFinder$Reader" (86 : Nat) "FuzzyFinder$Times" "ANY" "LFuzzyFinder$Times;") ∈ lw_all := lw_g (lw_at lw_m2 166 rfl) rfl
theorem q442 : (Jvm.Cond.methodLink "FuzzyFinder$Reader" (92 : Nat) ({ cls := "FuzzyFinder$Reader", name := "repeat", desc := "(LFuzzyFinder$Node;LFuzzyFinder$Times;)LFuzzyFinder$Node;" } : Jvm.MethodName)) ∈ lw_all := lw_g (lw_at lw_m2 168 rfl) rfl
theorem q443 : (Jvm.Cond.privateMethod ({ cls := "FuzzyFinder$Reader", name := "repeat", desc := "(LFuzzyFinder$Node;LFuzzyFinder$Times;)LFuzzyFinder$Node;" } : Jvm.MethodName)) ∈ lw_tbl := lw_at lw_m2 169 rfl
theorem q444 : (Jvm.Cond.instanceMethod ({ cls := "FuzzyFinder$Reader", name := "repeat", desc := "(LFuzzyFinder$Node;LFuzzyFinder$Times;)LFuzzyFinder$Node;" } : Jvm.MethodName)) ∈ lw_all := lw_g (lw_at lw_m2 170 rfl) rfl
theorem q445 : (Jvm.Cond.code ({ cls := "FuzzyFinder$Reader", name := "repeat", desc := "(LFuzzyFinder$Node;LFuzzyFinder$Times;)LFuzzyFinder$Node;" } : Jvm.MethodName) prog_8_method_12_code (3 : Nat) (Option.some (Jvm.ClassFile.FieldType.object "FuzzyFinder$Node"))) ∈ lw_all := lw_g (lw_at lw_m2 171 rfl) rfl
theorem q446 : (Jvm.Cond.classLink "FuzzyFinder$Reader" (106 : Nat) "FuzzyFinder$Repeat") ∈ lw_all := lw_g (lw_at lw_m2 172 rfl) rfl
theorem q448 : (Jvm.Cond.methodLinkNest "FuzzyFinder$Reader" (108 : Nat) ({ cls := "FuzzyFinder$Repeat", name := "<init>", desc := "(LFuzzyFinder$Node;LFuzzyFinder$Times;)V" } : Jvm.MethodName) "FuzzyFinder") ∈ lw_tbl := lw_at lw_m2 174 rfl
theorem q459 : (Jvm.Cond.fieldLink "FuzzyFinder$Reader" (96 : Nat) "FuzzyFinder$Times" "SOME" "LFuzzyFinder$Times;") ∈ lw_all := lw_g (lw_at lw_m2 185 rfl) rfl
theorem q461 : (Jvm.Cond.fieldLink "FuzzyFinder$Reader" (99 : Nat) "FuzzyFinder$Times" "MAYBE" "LFuzzyFinder$Times;") ∈ lw_all := lw_g (lw_at lw_m2 187 rfl) rfl
theorem q463 : (Jvm.Cond.methodLink "FuzzyFinder$Reader" (102 : Nat) ({ cls := "FuzzyFinder$Reader", name := "limit", desc := "(LFuzzyFinder$Node;)LFuzzyFinder$Node;" } : Jvm.MethodName)) ∈ lw_all := lw_g (lw_at lw_m2 189 rfl) rfl
theorem q464 : (Jvm.Cond.privateMethod ({ cls := "FuzzyFinder$Reader", name := "limit", desc := "(LFuzzyFinder$Node;)LFuzzyFinder$Node;" } : Jvm.MethodName)) ∈ lw_tbl := lw_at lw_m2 190 rfl
theorem q465 : (Jvm.Cond.instanceMethod ({ cls := "FuzzyFinder$Reader", name := "limit", desc := "(LFuzzyFinder$Node;)LFuzzyFinder$Node;" } : Jvm.MethodName)) ∈ lw_all := lw_g (lw_at lw_m2 191 rfl) rfl
theorem q466 : (Jvm.Cond.code ({ cls := "FuzzyFinder$Reader", name := "limit", desc := "(LFuzzyFinder$Node;)LFuzzyFinder$Node;" } : Jvm.MethodName) prog_8_method_13_code (4 : Nat) (Option.some (Jvm.ClassFile.FieldType.object "FuzzyFinder$Node"))) ∈ lw_all := lw_g (lw_at lw_m2 192 rfl) rfl
theorem q467 : (Jvm.Cond.classLink "FuzzyFinder$Reader" (115 : Nat) "FuzzyFinder$Limit") ∈ lw_all := lw_g (lw_at lw_m2 193 rfl) rfl
theorem q469 : (Jvm.Cond.methodLinkNest "FuzzyFinder$Reader" (117 : Nat) ({ cls := "FuzzyFinder$Limit", name := "<init>", desc := "(LFuzzyFinder$Node;I)V" } : Jvm.MethodName) "FuzzyFinder") ∈ lw_tbl := lw_at lw_m2 195 rfl
theorem q480 : (Jvm.Cond.methodLink "FuzzyFinder$Reader" (77 : Nat) ({ cls := "FuzzyFinder$Reader", name := "begins", desc := "(C)Z" } : Jvm.MethodName)) ∈ lw_all := lw_g (lw_at lw_m2 206 rfl) rfl
theorem q481 : (Jvm.Cond.static ({ cls := "FuzzyFinder$Reader", name := "begins", desc := "(C)Z" } : Jvm.MethodName)) ∈ lw_all := lw_g (lw_at lw_m2 207 rfl) rfl
theorem q482 : (Jvm.Cond.code ({ cls := "FuzzyFinder$Reader", name := "begins", desc := "(C)Z" } : Jvm.MethodName) prog_8_method_6_code (1 : Nat) (Option.some Jvm.ClassFile.FieldType.boolean)) ∈ lw_all := lw_g (lw_at lw_m2 208 rfl) rfl
theorem q483 : (Jvm.Cond.classLink "FuzzyFinder$Reader" (80 : Nat) "FuzzyFinder$Row") ∈ lw_all := lw_g (lw_at lw_m2 209 rfl) rfl
theorem q485 : (Jvm.Cond.methodLinkNest "FuzzyFinder$Reader" (82 : Nat) ({ cls := "FuzzyFinder$Row", name := "<init>", desc := "(LFuzzyFinder$Node;LFuzzyFinder$Node;)V" } : Jvm.MethodName) "FuzzyFinder") ∈ lw_tbl := lw_at lw_m2 211 rfl
theorem q496 : (Jvm.Cond.classLink "FuzzyFinder$Reader" (69 : Nat) "FuzzyFinder$Either") ∈ lw_all := lw_g (lw_at lw_m2 222 rfl) rfl
theorem q498 : (Jvm.Cond.methodLinkNest "FuzzyFinder$Reader" (71 : Nat) ({ cls := "FuzzyFinder$Either", name := "<init>", desc := "(LFuzzyFinder$Node;LFuzzyFinder$Node;)V" } : Jvm.MethodName) "FuzzyFinder") ∈ lw_tbl := lw_at lw_m2 224 rfl
theorem q731 : (Jvm.Cond.selects "FuzzyFinder$Reader" ({ cls := "java/lang/Object", name := "getClass", desc := "()Ljava/lang/Class;" } : Jvm.MethodName) ({ cls := "java/lang/Object", name := "getClass", desc := "()Ljava/lang/Class;" } : Jvm.MethodName)) ∈ lw_all := lw_g (lw_at lw_m3 217 rfl) rfl
theorem q1039 : (Jvm.Cond.castable "FuzzyFinder$Reader" "java/lang/Object") ∈ lw_tbl := lw_at lw_m5 45 rfl
theorem in_X2 : ∀ w ∈ wsX20, w ∈ lw_all := lw_in wsX20 [167, 169, 171, 173, 175] (by decide +kernel) (by decide +kernel)
/-! FuzzyFinder$Letters -/
set_option maxRecDepth 100000
def RX3 : String := "FuzzyFinder$Letters"
def TX3 : u_T := fun k => match k with
  | _ => ("FuzzyFinder$Letters", "set", "I", true)
def tyX3 : Nat → FieldType := fun k => match k with
  | _ => .int
abbrev wsX30 : List Cond := u_ws RX3 TX3 1
theorem nmX3 : ∀ a, a < 1 → ∀ b, b < 1 → a ≠ b → (TX3 a).2.1 ≠ (TX3 b).2.1 := by decide +kernel
theorem tyX3_ok : ∀ k, k < 1 → parseFieldDescriptor (TX3 k).2.2.1 = some (tyX3 k) := by decide +kernel
abbrev cX3_init : ByteArray := prog_5_method_1_code
def yX3_init : MethodName := ⟨RX3, "<init>", "(I)V"⟩
def dkwX3_init_0 : List UInt8 := [42, 183, 0, 1, 42, 27, 181, 0, 7, 177]
abbrev dktX3_init_0 : List UInt8 := dkwX3_init_0 ++ []
theorem dksX3_init_0 : cX3_init.data.toList.drop 0 = dktX3_init_0 := by decide +kernel
theorem dX3_init_0 : decode cX3_init 0 = .ok (.aload_n 0, 1) := dk_42 (dk_at dksX3_init_0 0 rfl rfl)
theorem dX3_init_1 : decode cX3_init 1 = .ok (.invokespecial 1, 3) := dk_183 0 1 (dk_at dksX3_init_0 1 rfl rfl)
theorem dX3_init_4 : decode cX3_init 4 = .ok (.aload_n 0, 1) := dk_42 (dk_at dksX3_init_0 4 rfl rfl)
theorem dX3_init_5 : decode cX3_init 5 = .ok (.iload_n 1, 1) := dk_27 (dk_at dksX3_init_0 5 rfl rfl)
theorem dX3_init_6 : decode cX3_init 6 = .ok (.putfield 7, 3) := dk_181 0 7 (dk_at dksX3_init_0 6 rfl rfl)
theorem dX3_init_9 : decode cX3_init 9 = .ok (.return_, 1) := dk_177 (dk_at dksX3_init_0 9 rfl rfl)
abbrev cX3_fill : ByteArray := prog_5_method_2_code
def yX3_fill : MethodName := ⟨RX3, "fill", "(LFuzzyFinder$Bench;I)V"⟩
def dkwX3_fill_0 : List UInt8 := [43, 28, 42, 180, 0, 7, 182, 0, 13, 177]
abbrev dktX3_fill_0 : List UInt8 := dkwX3_fill_0 ++ []
theorem dksX3_fill_0 : cX3_fill.data.toList.drop 0 = dktX3_fill_0 := by decide +kernel
theorem dX3_fill_0 : decode cX3_fill 0 = .ok (.aload_n 1, 1) := dk_43 (dk_at dksX3_fill_0 0 rfl rfl)
theorem dX3_fill_1 : decode cX3_fill 1 = .ok (.iload_n 2, 1) := dk_28 (dk_at dksX3_fill_0 1 rfl rfl)
theorem dX3_fill_2 : decode cX3_fill 2 = .ok (.aload_n 0, 1) := dk_42 (dk_at dksX3_fill_0 2 rfl rfl)
theorem dX3_fill_3 : decode cX3_fill 3 = .ok (.getfield 7, 3) := dk_180 0 7 (dk_at dksX3_fill_0 3 rfl rfl)
theorem dX3_fill_6 : decode cX3_fill 6 = .ok (.invokevirtual 13, 3) := dk_182 0 13 (dk_at dksX3_fill_0 6 rfl rfl)
theorem dX3_fill_9 : decode cX3_fill 9 = .ok (.return_, 1) := dk_177 (dk_at dksX3_fill_0 9 rfl rfl)
theorem q43 : (Jvm.Cond.initialized "FuzzyFinder$Letters") ∈ lw_all := lw_g (lw_at lw_m1 9 rfl) rfl
theorem q146 : (Jvm.Cond.instantiable "FuzzyFinder$Letters" (1 : Nat)) ∈ lw_all := lw_g (lw_at lw_m1 112 rfl) rfl
theorem q149 : (Jvm.Cond.instanceMethod ({ cls := "FuzzyFinder$Letters", name := "<init>", desc := "(I)V" } : Jvm.MethodName)) ∈ lw_all := lw_g (lw_at lw_m1 115 rfl) rfl
theorem q150 : (Jvm.Cond.code ({ cls := "FuzzyFinder$Letters", name := "<init>", desc := "(I)V" } : Jvm.MethodName) prog_5_method_1_code (2 : Nat) (Option.none : Option Jvm.ClassFile.FieldType)) ∈ lw_all := lw_g (lw_at lw_m1 116 rfl) rfl
theorem q151 : (Jvm.Cond.methodLink "FuzzyFinder$Letters" (1 : Nat) ({ cls := "java/lang/Record", name := "<init>", desc := "()V" } : Jvm.MethodName)) ∈ lw_all := lw_g (lw_at lw_m1 117 rfl) rfl
theorem q155 : (Jvm.Cond.fieldLink "FuzzyFinder$Letters" (7 : Nat) "FuzzyFinder$Letters" "set" "I") ∈ lw_all := lw_g (lw_at lw_m1 121 rfl) rfl
theorem q156 : (Jvm.Cond.laysFinal "FuzzyFinder$Letters" "FuzzyFinder$Letters" "set" "I") ∈ lw_all := lw_g (lw_at lw_m1 122 rfl) rfl
theorem q157 : (Jvm.Cond.soleField "FuzzyFinder$Letters" "set") ∈ lw_all := lw_g (lw_at lw_m1 123 rfl) rfl
theorem q158 : (Jvm.Cond.superclass "FuzzyFinder$Letters" "java/lang/Record") ∈ lw_all := lw_g (lw_at lw_m1 124 rfl) rfl
theorem q576 : (Jvm.Cond.castable "FuzzyFinder$Letters" "FuzzyFinder$Node") ∈ lw_tbl := lw_at lw_m3 62 rfl
theorem q577 : (Jvm.Cond.selects "FuzzyFinder$Letters" ({ cls := "FuzzyFinder$Node", name := "fill", desc := "(LFuzzyFinder$Bench;I)V" } : Jvm.MethodName) ({ cls := "FuzzyFinder$Letters", name := "fill", desc := "(LFuzzyFinder$Bench;I)V" } : Jvm.MethodName)) ∈ lw_all := lw_g (lw_at lw_m3 63 rfl) rfl
theorem q578 : (Jvm.Cond.unhidden "FuzzyFinder$Letters" "fill" "(LFuzzyFinder$Bench;I)V") ∈ lw_tbl := lw_at lw_m3 64 rfl
theorem q579 : (Jvm.Cond.instanceMethod ({ cls := "FuzzyFinder$Letters", name := "fill", desc := "(LFuzzyFinder$Bench;I)V" } : Jvm.MethodName)) ∈ lw_all := lw_g (lw_at lw_m3 65 rfl) rfl
theorem q580 : (Jvm.Cond.publicMethod ({ cls := "FuzzyFinder$Letters", name := "fill", desc := "(LFuzzyFinder$Bench;I)V" } : Jvm.MethodName)) ∈ lw_tbl := lw_at lw_m3 66 rfl
theorem q581 : (Jvm.Cond.code ({ cls := "FuzzyFinder$Letters", name := "fill", desc := "(LFuzzyFinder$Bench;I)V" } : Jvm.MethodName) prog_5_method_2_code (3 : Nat) (Option.none : Option Jvm.ClassFile.FieldType)) ∈ lw_all := lw_g (lw_at lw_m3 67 rfl) rfl
theorem q582 : (Jvm.Cond.methodLink "FuzzyFinder$Letters" (13 : Nat) ({ cls := "FuzzyFinder$Bench", name := "letter", desc := "(II)V" } : Jvm.MethodName)) ∈ lw_all := lw_g (lw_at lw_m3 68 rfl) rfl
theorem q729 : (Jvm.Cond.selects "FuzzyFinder$Letters" ({ cls := "java/lang/Object", name := "getClass", desc := "()Ljava/lang/Class;" } : Jvm.MethodName) ({ cls := "java/lang/Object", name := "getClass", desc := "()Ljava/lang/Class;" } : Jvm.MethodName)) ∈ lw_all := lw_g (lw_at lw_m3 215 rfl) rfl
theorem q1041 : (Jvm.Cond.castable "FuzzyFinder$Letters" "java/lang/Object") ∈ lw_tbl := lw_at lw_m5 47 rfl
theorem in_X3 : ∀ w ∈ wsX30, w ∈ lw_all := lw_in wsX30 [156] (by decide +kernel) (by decide +kernel)
/-! FuzzyFinder$Branch -/
set_option maxRecDepth 100000
def RX4 : String := "FuzzyFinder$Branch"
def TX4 : u_T := fun k => match k with
  | 0 => ("FuzzyFinder$Branch", "letter", "I", true)
  | 1 => ("FuzzyFinder$Branch", "word", "I", false)
  | 2 => ("FuzzyFinder$Branch", "child", "LFuzzyFinder$Branch;", false)
  | _ => ("FuzzyFinder$Branch", "next", "LFuzzyFinder$Branch;", false)
def tyX4 : Nat → FieldType := fun k => match k with
  | 0 => .int
  | 1 => .int
  | 2 => .object "FuzzyFinder$Branch"
  | _ => .object "FuzzyFinder$Branch"
abbrev wsX40 : List Cond := u_ws RX4 TX4 4
theorem nmX4 : ∀ a, a < 4 → ∀ b, b < 4 → a ≠ b → (TX4 a).2.1 ≠ (TX4 b).2.1 := by decide +kernel
theorem tyX4_ok : ∀ k, k < 4 → parseFieldDescriptor (TX4 k).2.2.1 = some (tyX4 k) := by decide +kernel
abbrev cX4_init : ByteArray := prog_3_method_1_code
def yX4_init : MethodName := ⟨RX4, "<init>", "(I)V"⟩
def dkwX4_init_0 : List UInt8 := [42, 183, 0, 3, 42, 2, 181, 0, 9, 42, 27, 181, 0, 15, 177]
abbrev dktX4_init_0 : List UInt8 := dkwX4_init_0 ++ []
theorem dksX4_init_0 : cX4_init.data.toList.drop 0 = dktX4_init_0 := by decide +kernel
theorem dX4_init_0 : decode cX4_init 0 = .ok (.aload_n 0, 1) := dk_42 (dk_at dksX4_init_0 0 rfl rfl)
theorem dX4_init_1 : decode cX4_init 1 = .ok (.invokespecial 3, 3) := dk_183 0 3 (dk_at dksX4_init_0 1 rfl rfl)
theorem dX4_init_4 : decode cX4_init 4 = .ok (.aload_n 0, 1) := dk_42 (dk_at dksX4_init_0 4 rfl rfl)
theorem dX4_init_5 : decode cX4_init 5 = .ok (.iconst (-1), 1) := dk_2 (dk_at dksX4_init_0 5 rfl rfl)
theorem dX4_init_6 : decode cX4_init 6 = .ok (.putfield 9, 3) := dk_181 0 9 (dk_at dksX4_init_0 6 rfl rfl)
theorem dX4_init_9 : decode cX4_init 9 = .ok (.aload_n 0, 1) := dk_42 (dk_at dksX4_init_0 9 rfl rfl)
theorem dX4_init_10 : decode cX4_init 10 = .ok (.iload_n 1, 1) := dk_27 (dk_at dksX4_init_0 10 rfl rfl)
theorem dX4_init_11 : decode cX4_init 11 = .ok (.putfield 15, 3) := dk_181 0 15 (dk_at dksX4_init_0 11 rfl rfl)
theorem dX4_init_14 : decode cX4_init 14 = .ok (.return_, 1) := dk_177 (dk_at dksX4_init_0 14 rfl rfl)
abbrev cX4_grow : ByteArray := prog_3_method_2_code
def yX4_grow : MethodName := ⟨RX4, "grow", "(I)LFuzzyFinder$Branch;"⟩
def dkwX4_grow_3 : List UInt8 := [167, 0, 9, 44, 25, 4, 181, 0, 22, 25, 4, 176]
abbrev dktX4_grow_3 : List UInt8 := dkwX4_grow_3 ++ []
def dkwX4_grow_2 : List UInt8 := [89, 27, 183, 0, 25, 58, 4, 25, 4, 45, 181, 0, 22, 44, 199, 0, 12, 42, 25, 4, 181, 0, 18]
abbrev dktX4_grow_2 : List UInt8 := dkwX4_grow_2 ++ dktX4_grow_3
def dkwX4_grow_1 : List UInt8 := [180, 0, 22, 78, 167, 255, 237, 45, 198, 0, 13, 45, 180, 0, 15, 27, 160, 0, 5, 45, 176, 187, 0, 10]
abbrev dktX4_grow_1 : List UInt8 := dkwX4_grow_1 ++ dktX4_grow_2
def dkwX4_grow_0 : List UInt8 := [1, 77, 42, 180, 0, 18, 78, 45, 198, 0, 21, 45, 180, 0, 15, 27, 162, 0, 13, 45, 77, 45]
abbrev dktX4_grow_0 : List UInt8 := dkwX4_grow_0 ++ dktX4_grow_1
theorem dksX4_grow_0 : cX4_grow.data.toList.drop 0 = dktX4_grow_0 := by decide +kernel
theorem dksX4_grow_1 : cX4_grow.data.toList.drop 22 = dktX4_grow_1 := dk_seg dksX4_grow_0 22 rfl rfl
theorem dksX4_grow_2 : cX4_grow.data.toList.drop 46 = dktX4_grow_2 := dk_seg dksX4_grow_1 24 rfl rfl
theorem dksX4_grow_3 : cX4_grow.data.toList.drop 69 = dktX4_grow_3 := dk_seg dksX4_grow_2 23 rfl rfl
theorem dX4_grow_0 : decode cX4_grow 0 = .ok (.aconst_null, 1) := dk_1 (dk_at dksX4_grow_0 0 rfl rfl)
theorem dX4_grow_1 : decode cX4_grow 1 = .ok (.astore_n 2, 1) := dk_77 (dk_at dksX4_grow_0 1 rfl rfl)
theorem dX4_grow_2 : decode cX4_grow 2 = .ok (.aload_n 0, 1) := dk_42 (dk_at dksX4_grow_0 2 rfl rfl)
theorem dX4_grow_3 : decode cX4_grow 3 = .ok (.getfield 18, 3) := dk_180 0 18 (dk_at dksX4_grow_0 3 rfl rfl)
theorem dX4_grow_6 : decode cX4_grow 6 = .ok (.astore_n 3, 1) := dk_78 (dk_at dksX4_grow_0 6 rfl rfl)
theorem dX4_grow_7 : decode cX4_grow 7 = .ok (.aload_n 3, 1) := dk_45 (dk_at dksX4_grow_0 7 rfl rfl)
theorem dX4_grow_8 : decode cX4_grow 8 = .ok (.ifnull 21, 3) := dk_198 0 21 (dk_at dksX4_grow_0 8 rfl rfl)
theorem dX4_grow_11 : decode cX4_grow 11 = .ok (.aload_n 3, 1) := dk_45 (dk_at dksX4_grow_0 11 rfl rfl)
theorem dX4_grow_12 : decode cX4_grow 12 = .ok (.getfield 15, 3) := dk_180 0 15 (dk_at dksX4_grow_0 12 rfl rfl)
theorem dX4_grow_15 : decode cX4_grow 15 = .ok (.iload_n 1, 1) := dk_27 (dk_at dksX4_grow_0 15 rfl rfl)
theorem dX4_grow_16 : decode cX4_grow 16 = .ok (.if_icmp .ge 13, 3) := dk_162 0 13 (dk_at dksX4_grow_0 16 rfl rfl)
theorem dX4_grow_19 : decode cX4_grow 19 = .ok (.aload_n 3, 1) := dk_45 (dk_at dksX4_grow_0 19 rfl rfl)
theorem dX4_grow_20 : decode cX4_grow 20 = .ok (.astore_n 2, 1) := dk_77 (dk_at dksX4_grow_0 20 rfl rfl)
theorem dX4_grow_21 : decode cX4_grow 21 = .ok (.aload_n 3, 1) := dk_45 (dk_at dksX4_grow_0 21 rfl rfl)
theorem dX4_grow_22 : decode cX4_grow 22 = .ok (.getfield 22, 3) := dk_180 0 22 (dk_at dksX4_grow_1 0 rfl rfl)
theorem dX4_grow_25 : decode cX4_grow 25 = .ok (.astore_n 3, 1) := dk_78 (dk_at dksX4_grow_1 3 rfl rfl)
theorem dX4_grow_26 : decode cX4_grow 26 = .ok (.goto (-19), 3) := dk_167 255 237 (dk_at dksX4_grow_1 4 rfl rfl)
theorem dX4_grow_29 : decode cX4_grow 29 = .ok (.aload_n 3, 1) := dk_45 (dk_at dksX4_grow_1 7 rfl rfl)
theorem dX4_grow_30 : decode cX4_grow 30 = .ok (.ifnull 13, 3) := dk_198 0 13 (dk_at dksX4_grow_1 8 rfl rfl)
theorem dX4_grow_33 : decode cX4_grow 33 = .ok (.aload_n 3, 1) := dk_45 (dk_at dksX4_grow_1 11 rfl rfl)
theorem dX4_grow_34 : decode cX4_grow 34 = .ok (.getfield 15, 3) := dk_180 0 15 (dk_at dksX4_grow_1 12 rfl rfl)
theorem dX4_grow_37 : decode cX4_grow 37 = .ok (.iload_n 1, 1) := dk_27 (dk_at dksX4_grow_1 15 rfl rfl)
theorem dX4_grow_38 : decode cX4_grow 38 = .ok (.if_icmp .ne 5, 3) := dk_160 0 5 (dk_at dksX4_grow_1 16 rfl rfl)
theorem dX4_grow_41 : decode cX4_grow 41 = .ok (.aload_n 3, 1) := dk_45 (dk_at dksX4_grow_1 19 rfl rfl)
theorem dX4_grow_42 : decode cX4_grow 42 = .ok (.areturn, 1) := dk_176 (dk_at dksX4_grow_1 20 rfl rfl)
theorem dX4_grow_43 : decode cX4_grow 43 = .ok (.new 10, 3) := dk_187 0 10 (dk_at dksX4_grow_1 21 rfl rfl)
theorem dX4_grow_46 : decode cX4_grow 46 = .ok (.dup, 1) := dk_89 (dk_at dksX4_grow_2 0 rfl rfl)
theorem dX4_grow_47 : decode cX4_grow 47 = .ok (.iload_n 1, 1) := dk_27 (dk_at dksX4_grow_2 1 rfl rfl)
theorem dX4_grow_48 : decode cX4_grow 48 = .ok (.invokespecial 25, 3) := dk_183 0 25 (dk_at dksX4_grow_2 2 rfl rfl)
theorem dX4_grow_51 : decode cX4_grow 51 = .ok (.astore 4, 2) := dk_58 4 (dk_at dksX4_grow_2 5 rfl rfl)
theorem dX4_grow_53 : decode cX4_grow 53 = .ok (.aload 4, 2) := dk_25 4 (dk_at dksX4_grow_2 7 rfl rfl)
theorem dX4_grow_55 : decode cX4_grow 55 = .ok (.aload_n 3, 1) := dk_45 (dk_at dksX4_grow_2 9 rfl rfl)
theorem dX4_grow_56 : decode cX4_grow 56 = .ok (.putfield 22, 3) := dk_181 0 22 (dk_at dksX4_grow_2 10 rfl rfl)
theorem dX4_grow_59 : decode cX4_grow 59 = .ok (.aload_n 2, 1) := dk_44 (dk_at dksX4_grow_2 13 rfl rfl)
theorem dX4_grow_60 : decode cX4_grow 60 = .ok (.ifnonnull 12, 3) := dk_199 0 12 (dk_at dksX4_grow_2 14 rfl rfl)
theorem dX4_grow_63 : decode cX4_grow 63 = .ok (.aload_n 0, 1) := dk_42 (dk_at dksX4_grow_2 17 rfl rfl)
theorem dX4_grow_64 : decode cX4_grow 64 = .ok (.aload 4, 2) := dk_25 4 (dk_at dksX4_grow_2 18 rfl rfl)
theorem dX4_grow_66 : decode cX4_grow 66 = .ok (.putfield 18, 3) := dk_181 0 18 (dk_at dksX4_grow_2 20 rfl rfl)
theorem dX4_grow_69 : decode cX4_grow 69 = .ok (.goto 9, 3) := dk_167 0 9 (dk_at dksX4_grow_3 0 rfl rfl)
theorem dX4_grow_72 : decode cX4_grow 72 = .ok (.aload_n 2, 1) := dk_44 (dk_at dksX4_grow_3 3 rfl rfl)
theorem dX4_grow_73 : decode cX4_grow 73 = .ok (.aload 4, 2) := dk_25 4 (dk_at dksX4_grow_3 4 rfl rfl)
theorem dX4_grow_75 : decode cX4_grow 75 = .ok (.putfield 22, 3) := dk_181 0 22 (dk_at dksX4_grow_3 6 rfl rfl)
theorem dX4_grow_78 : decode cX4_grow 78 = .ok (.aload 4, 2) := dk_25 4 (dk_at dksX4_grow_3 9 rfl rfl)
theorem dX4_grow_80 : decode cX4_grow 80 = .ok (.areturn, 1) := dk_176 (dk_at dksX4_grow_3 11 rfl rfl)
theorem q44 : (Jvm.Cond.initialized "FuzzyFinder$Branch") ∈ lw_all := lw_g (lw_at lw_m1 10 rfl) rfl
theorem q179 : (Jvm.Cond.instantiable "FuzzyFinder$Branch" (4 : Nat)) ∈ lw_all := lw_g (lw_at lw_m1 145 rfl) rfl
theorem q181 : (Jvm.Cond.instanceMethod ({ cls := "FuzzyFinder$Branch", name := "<init>", desc := "(I)V" } : Jvm.MethodName)) ∈ lw_all := lw_g (lw_at lw_m1 147 rfl) rfl
theorem q182 : (Jvm.Cond.code ({ cls := "FuzzyFinder$Branch", name := "<init>", desc := "(I)V" } : Jvm.MethodName) prog_3_method_1_code (2 : Nat) (Option.none : Option Jvm.ClassFile.FieldType)) ∈ lw_all := lw_g (lw_at lw_m1 148 rfl) rfl
theorem q183 : (Jvm.Cond.methodLink "FuzzyFinder$Branch" (3 : Nat) ({ cls := "java/lang/Object", name := "<init>", desc := "()V" } : Jvm.MethodName)) ∈ lw_all := lw_g (lw_at lw_m1 149 rfl) rfl
theorem q184 : (Jvm.Cond.fieldLink "FuzzyFinder$Branch" (15 : Nat) "FuzzyFinder$Branch" "letter" "I") ∈ lw_all := lw_g (lw_at lw_m1 150 rfl) rfl
theorem q186 : (Jvm.Cond.fieldLink "FuzzyFinder$Branch" (9 : Nat) "FuzzyFinder$Branch" "word" "I") ∈ lw_all := lw_g (lw_at lw_m1 152 rfl) rfl
theorem q188 : (Jvm.Cond.fieldLink "FuzzyFinder$Branch" (18 : Nat) "FuzzyFinder$Branch" "child" "LFuzzyFinder$Branch;") ∈ lw_all := lw_g (lw_at lw_m1 154 rfl) rfl
theorem q190 : (Jvm.Cond.fieldLink "FuzzyFinder$Branch" (22 : Nat) "FuzzyFinder$Branch" "next" "LFuzzyFinder$Branch;") ∈ lw_all := lw_g (lw_at lw_m1 156 rfl) rfl
theorem q192 : (Jvm.Cond.laysFinal "FuzzyFinder$Branch" "FuzzyFinder$Branch" "letter" "I") ∈ lw_all := lw_g (lw_at lw_m1 158 rfl) rfl
theorem q193 : (Jvm.Cond.soleField "FuzzyFinder$Branch" "letter") ∈ lw_all := lw_g (lw_at lw_m1 159 rfl) rfl
theorem q194 : (Jvm.Cond.lays "FuzzyFinder$Branch" "FuzzyFinder$Branch" "word" "I") ∈ lw_all := lw_g (lw_at lw_m1 160 rfl) rfl
theorem q195 : (Jvm.Cond.soleField "FuzzyFinder$Branch" "word") ∈ lw_all := lw_g (lw_at lw_m1 161 rfl) rfl
theorem q196 : (Jvm.Cond.lays "FuzzyFinder$Branch" "FuzzyFinder$Branch" "child" "LFuzzyFinder$Branch;") ∈ lw_all := lw_g (lw_at lw_m1 162 rfl) rfl
theorem q197 : (Jvm.Cond.soleField "FuzzyFinder$Branch" "child") ∈ lw_all := lw_g (lw_at lw_m1 163 rfl) rfl
theorem q198 : (Jvm.Cond.lays "FuzzyFinder$Branch" "FuzzyFinder$Branch" "next" "LFuzzyFinder$Branch;") ∈ lw_all := lw_g (lw_at lw_m1 164 rfl) rfl
theorem q199 : (Jvm.Cond.soleField "FuzzyFinder$Branch" "next") ∈ lw_all := lw_g (lw_at lw_m1 165 rfl) rfl
theorem q200 : (Jvm.Cond.superclass "FuzzyFinder$Branch" "java/lang/Object") ∈ lw_all := lw_g (lw_at lw_m1 166 rfl) rfl
theorem q654 : (Jvm.Cond.instanceMethod ({ cls := "FuzzyFinder$Branch", name := "grow", desc := "(I)LFuzzyFinder$Branch;" } : Jvm.MethodName)) ∈ lw_all := lw_g (lw_at lw_m3 140 rfl) rfl
theorem q655 : (Jvm.Cond.selects "FuzzyFinder$Branch" ({ cls := "FuzzyFinder$Branch", name := "grow", desc := "(I)LFuzzyFinder$Branch;" } : Jvm.MethodName) ({ cls := "FuzzyFinder$Branch", name := "grow", desc := "(I)LFuzzyFinder$Branch;" } : Jvm.MethodName)) ∈ lw_all := lw_g (lw_at lw_m3 141 rfl) rfl
theorem q656 : (Jvm.Cond.code ({ cls := "FuzzyFinder$Branch", name := "grow", desc := "(I)LFuzzyFinder$Branch;" } : Jvm.MethodName) prog_3_method_2_code (5 : Nat) (Option.some (Jvm.ClassFile.FieldType.object "FuzzyFinder$Branch"))) ∈ lw_all := lw_g (lw_at lw_m3 142 rfl) rfl
theorem q657 : (Jvm.Cond.classLink "FuzzyFinder$Branch" (10 : Nat) "FuzzyFinder$Branch") ∈ lw_all := lw_g (lw_at lw_m3 143 rfl) rfl
theorem q658 : (Jvm.Cond.methodLink "FuzzyFinder$Branch" (25 : Nat) ({ cls := "FuzzyFinder$Branch", name := "<init>", desc := "(I)V" } : Jvm.MethodName)) ∈ lw_all := lw_g (lw_at lw_m3 144 rfl) rfl
theorem q727 : (Jvm.Cond.selects "FuzzyFinder$Branch" ({ cls := "java/lang/Object", name := "getClass", desc := "()Ljava/lang/Class;" } : Jvm.MethodName) ({ cls := "java/lang/Object", name := "getClass", desc := "()Ljava/lang/Class;" } : Jvm.MethodName)) ∈ lw_all := lw_g (lw_at lw_m3 213 rfl) rfl
theorem q1042 : (Jvm.Cond.castable "FuzzyFinder$Branch" "java/lang/Object") ∈ lw_tbl := lw_at lw_m5 48 rfl
theorem in_X4 : ∀ w ∈ wsX40, w ∈ lw_all := lw_in wsX40 [192, 194, 196, 198] (by decide +kernel) (by decide +kernel)
/-! FuzzyFinder$Repeat -/
set_option maxRecDepth 100000
def RX6 : String := "FuzzyFinder$Repeat"
def TX6 : u_T := fun k => match k with
  | 0 => ("FuzzyFinder$Repeat", "part", "LFuzzyFinder$Node;", true)
  | _ => ("FuzzyFinder$Repeat", "times", "LFuzzyFinder$Times;", true)
def tyX6 : Nat → FieldType := fun k => match k with
  | 0 => .object "FuzzyFinder$Node"
  | _ => .object "FuzzyFinder$Times"
abbrev wsX60 : List Cond := u_ws RX6 TX6 2
theorem nmX6 : ∀ a, a < 2 → ∀ b, b < 2 → a ≠ b → (TX6 a).2.1 ≠ (TX6 b).2.1 := by decide +kernel
theorem tyX6_ok : ∀ k, k < 2 → parseFieldDescriptor (TX6 k).2.2.1 = some (tyX6 k) := by decide +kernel
abbrev cX6_init : ByteArray := prog_9_method_1_code
def yX6_init : MethodName := ⟨RX6, "<init>", "(LFuzzyFinder$Node;LFuzzyFinder$Times;)V"⟩
def dkwX6_init_0 : List UInt8 := [42, 183, 0, 1, 42, 43, 181, 0, 7, 42, 44, 181, 0, 13, 177]
abbrev dktX6_init_0 : List UInt8 := dkwX6_init_0 ++ []
theorem dksX6_init_0 : cX6_init.data.toList.drop 0 = dktX6_init_0 := by decide +kernel
theorem dX6_init_0 : decode cX6_init 0 = .ok (.aload_n 0, 1) := dk_42 (dk_at dksX6_init_0 0 rfl rfl)
theorem dX6_init_1 : decode cX6_init 1 = .ok (.invokespecial 1, 3) := dk_183 0 1 (dk_at dksX6_init_0 1 rfl rfl)
theorem dX6_init_4 : decode cX6_init 4 = .ok (.aload_n 0, 1) := dk_42 (dk_at dksX6_init_0 4 rfl rfl)
theorem dX6_init_5 : decode cX6_init 5 = .ok (.aload_n 1, 1) := dk_43 (dk_at dksX6_init_0 5 rfl rfl)
theorem dX6_init_6 : decode cX6_init 6 = .ok (.putfield 7, 3) := dk_181 0 7 (dk_at dksX6_init_0 6 rfl rfl)
theorem dX6_init_9 : decode cX6_init 9 = .ok (.aload_n 0, 1) := dk_42 (dk_at dksX6_init_0 9 rfl rfl)
theorem dX6_init_10 : decode cX6_init 10 = .ok (.aload_n 2, 1) := dk_44 (dk_at dksX6_init_0 10 rfl rfl)
theorem dX6_init_11 : decode cX6_init 11 = .ok (.putfield 13, 3) := dk_181 0 13 (dk_at dksX6_init_0 11 rfl rfl)
theorem dX6_init_14 : decode cX6_init 14 = .ok (.return_, 1) := dk_177 (dk_at dksX6_init_0 14 rfl rfl)
abbrev cX6_fill : ByteArray := prog_9_method_2_code
def yX6_fill : MethodName := ⟨RX6, "fill", "(LFuzzyFinder$Bench;I)V"⟩
def dkwX6_fill_1 : List UInt8 := [182, 0, 29, 42, 180, 0, 13, 180, 0, 35, 153, 0, 8, 43, 28, 182, 0, 38, 177]
abbrev dktX6_fill_1 : List UInt8 := dkwX6_fill_1 ++ []
def dkwX6_fill_0 : List UInt8 := [42, 180, 0, 7, 43, 28, 185, 0, 17, 3, 0, 42, 180, 0, 13, 180, 0, 23, 153, 0, 8, 43, 28]
abbrev dktX6_fill_0 : List UInt8 := dkwX6_fill_0 ++ dktX6_fill_1
theorem dksX6_fill_0 : cX6_fill.data.toList.drop 0 = dktX6_fill_0 := by decide +kernel
theorem dksX6_fill_1 : cX6_fill.data.toList.drop 23 = dktX6_fill_1 := dk_seg dksX6_fill_0 23 rfl rfl
theorem dX6_fill_0 : decode cX6_fill 0 = .ok (.aload_n 0, 1) := dk_42 (dk_at dksX6_fill_0 0 rfl rfl)
theorem dX6_fill_1 : decode cX6_fill 1 = .ok (.getfield 7, 3) := dk_180 0 7 (dk_at dksX6_fill_0 1 rfl rfl)
theorem dX6_fill_4 : decode cX6_fill 4 = .ok (.aload_n 1, 1) := dk_43 (dk_at dksX6_fill_0 4 rfl rfl)
theorem dX6_fill_5 : decode cX6_fill 5 = .ok (.iload_n 2, 1) := dk_28 (dk_at dksX6_fill_0 5 rfl rfl)
theorem dX6_fill_6 : decode cX6_fill 6 = .ok (.invokeinterface 17 3, 5) := by decide +kernel
theorem dX6_fill_11 : decode cX6_fill 11 = .ok (.aload_n 0, 1) := dk_42 (dk_at dksX6_fill_0 11 rfl rfl)
theorem dX6_fill_12 : decode cX6_fill 12 = .ok (.getfield 13, 3) := dk_180 0 13 (dk_at dksX6_fill_0 12 rfl rfl)
theorem dX6_fill_15 : decode cX6_fill 15 = .ok (.getfield 23, 3) := dk_180 0 23 (dk_at dksX6_fill_0 15 rfl rfl)
theorem dX6_fill_18 : decode cX6_fill 18 = .ok (.ifCond .eq 8, 3) := dk_153 0 8 (dk_at dksX6_fill_0 18 rfl rfl)
theorem dX6_fill_21 : decode cX6_fill 21 = .ok (.aload_n 1, 1) := dk_43 (dk_at dksX6_fill_0 21 rfl rfl)
theorem dX6_fill_22 : decode cX6_fill 22 = .ok (.iload_n 2, 1) := dk_28 (dk_at dksX6_fill_0 22 rfl rfl)
theorem dX6_fill_23 : decode cX6_fill 23 = .ok (.invokevirtual 29, 3) := dk_182 0 29 (dk_at dksX6_fill_1 0 rfl rfl)
theorem dX6_fill_26 : decode cX6_fill 26 = .ok (.aload_n 0, 1) := dk_42 (dk_at dksX6_fill_1 3 rfl rfl)
theorem dX6_fill_27 : decode cX6_fill 27 = .ok (.getfield 13, 3) := dk_180 0 13 (dk_at dksX6_fill_1 4 rfl rfl)
theorem dX6_fill_30 : decode cX6_fill 30 = .ok (.getfield 35, 3) := dk_180 0 35 (dk_at dksX6_fill_1 7 rfl rfl)
theorem dX6_fill_33 : decode cX6_fill 33 = .ok (.ifCond .eq 8, 3) := dk_153 0 8 (dk_at dksX6_fill_1 10 rfl rfl)
theorem dX6_fill_36 : decode cX6_fill 36 = .ok (.aload_n 1, 1) := dk_43 (dk_at dksX6_fill_1 13 rfl rfl)
theorem dX6_fill_37 : decode cX6_fill 37 = .ok (.iload_n 2, 1) := dk_28 (dk_at dksX6_fill_1 14 rfl rfl)
theorem dX6_fill_38 : decode cX6_fill 38 = .ok (.invokevirtual 38, 3) := dk_182 0 38 (dk_at dksX6_fill_1 15 rfl rfl)
theorem dX6_fill_41 : decode cX6_fill 41 = .ok (.return_, 1) := dk_177 (dk_at dksX6_fill_1 18 rfl rfl)
theorem q57 : (Jvm.Cond.initialized "FuzzyFinder$Repeat") ∈ lw_all := lw_g (lw_at lw_m1 23 rfl) rfl
theorem q447 : (Jvm.Cond.instantiable "FuzzyFinder$Repeat" (2 : Nat)) ∈ lw_all := lw_g (lw_at lw_m2 173 rfl) rfl
theorem q449 : (Jvm.Cond.instanceMethod ({ cls := "FuzzyFinder$Repeat", name := "<init>", desc := "(LFuzzyFinder$Node;LFuzzyFinder$Times;)V" } : Jvm.MethodName)) ∈ lw_all := lw_g (lw_at lw_m2 175 rfl) rfl
theorem q450 : (Jvm.Cond.code ({ cls := "FuzzyFinder$Repeat", name := "<init>", desc := "(LFuzzyFinder$Node;LFuzzyFinder$Times;)V" } : Jvm.MethodName) prog_9_method_1_code (3 : Nat) (Option.none : Option Jvm.ClassFile.FieldType)) ∈ lw_all := lw_g (lw_at lw_m2 176 rfl) rfl
theorem q451 : (Jvm.Cond.methodLink "FuzzyFinder$Repeat" (1 : Nat) ({ cls := "java/lang/Record", name := "<init>", desc := "()V" } : Jvm.MethodName)) ∈ lw_all := lw_g (lw_at lw_m2 177 rfl) rfl
theorem q452 : (Jvm.Cond.fieldLink "FuzzyFinder$Repeat" (7 : Nat) "FuzzyFinder$Repeat" "part" "LFuzzyFinder$Node;") ∈ lw_all := lw_g (lw_at lw_m2 178 rfl) rfl
theorem q453 : (Jvm.Cond.fieldLink "FuzzyFinder$Repeat" (13 : Nat) "FuzzyFinder$Repeat" "times" "LFuzzyFinder$Times;") ∈ lw_all := lw_g (lw_at lw_m2 179 rfl) rfl
theorem q454 : (Jvm.Cond.laysFinal "FuzzyFinder$Repeat" "FuzzyFinder$Repeat" "part" "LFuzzyFinder$Node;") ∈ lw_all := lw_g (lw_at lw_m2 180 rfl) rfl
theorem q455 : (Jvm.Cond.soleField "FuzzyFinder$Repeat" "part") ∈ lw_all := lw_g (lw_at lw_m2 181 rfl) rfl
theorem q456 : (Jvm.Cond.laysFinal "FuzzyFinder$Repeat" "FuzzyFinder$Repeat" "times" "LFuzzyFinder$Times;") ∈ lw_all := lw_g (lw_at lw_m2 182 rfl) rfl
theorem q457 : (Jvm.Cond.soleField "FuzzyFinder$Repeat" "times") ∈ lw_all := lw_g (lw_at lw_m2 183 rfl) rfl
theorem q458 : (Jvm.Cond.superclass "FuzzyFinder$Repeat" "java/lang/Record") ∈ lw_all := lw_g (lw_at lw_m2 184 rfl) rfl
theorem q596 : (Jvm.Cond.castable "FuzzyFinder$Repeat" "FuzzyFinder$Node") ∈ lw_tbl := lw_at lw_m3 82 rfl
theorem q597 : (Jvm.Cond.selects "FuzzyFinder$Repeat" ({ cls := "FuzzyFinder$Node", name := "fill", desc := "(LFuzzyFinder$Bench;I)V" } : Jvm.MethodName) ({ cls := "FuzzyFinder$Repeat", name := "fill", desc := "(LFuzzyFinder$Bench;I)V" } : Jvm.MethodName)) ∈ lw_all := lw_g (lw_at lw_m3 83 rfl) rfl
theorem q598 : (Jvm.Cond.unhidden "FuzzyFinder$Repeat" "fill" "(LFuzzyFinder$Bench;I)V") ∈ lw_tbl := lw_at lw_m3 84 rfl
theorem q599 : (Jvm.Cond.instanceMethod ({ cls := "FuzzyFinder$Repeat", name := "fill", desc := "(LFuzzyFinder$Bench;I)V" } : Jvm.MethodName)) ∈ lw_all := lw_g (lw_at lw_m3 85 rfl) rfl
theorem q600 : (Jvm.Cond.publicMethod ({ cls := "FuzzyFinder$Repeat", name := "fill", desc := "(LFuzzyFinder$Bench;I)V" } : Jvm.MethodName)) ∈ lw_tbl := lw_at lw_m3 86 rfl
theorem q601 : (Jvm.Cond.code ({ cls := "FuzzyFinder$Repeat", name := "fill", desc := "(LFuzzyFinder$Bench;I)V" } : Jvm.MethodName) prog_9_method_2_code (3 : Nat) (Option.none : Option Jvm.ClassFile.FieldType)) ∈ lw_all := lw_g (lw_at lw_m3 87 rfl) rfl
theorem q602 : (Jvm.Cond.interfaceEntry "FuzzyFinder$Repeat" (17 : Nat)) ∈ lw_tbl := lw_at lw_m3 88 rfl
theorem q603 : (Jvm.Cond.methodLink "FuzzyFinder$Repeat" (17 : Nat) ({ cls := "FuzzyFinder$Node", name := "fill", desc := "(LFuzzyFinder$Bench;I)V" } : Jvm.MethodName)) ∈ lw_all := lw_g (lw_at lw_m3 89 rfl) rfl
theorem q616 : (Jvm.Cond.methodLink "FuzzyFinder$Repeat" (29 : Nat) ({ cls := "FuzzyFinder$Bench", name := "close", desc := "(I)V" } : Jvm.MethodName)) ∈ lw_all := lw_g (lw_at lw_m3 102 rfl) rfl
theorem q620 : (Jvm.Cond.methodLink "FuzzyFinder$Repeat" (38 : Nat) ({ cls := "FuzzyFinder$Bench", name := "leave", desc := "(I)V" } : Jvm.MethodName)) ∈ lw_all := lw_g (lw_at lw_m3 106 rfl) rfl
theorem q732 : (Jvm.Cond.selects "FuzzyFinder$Repeat" ({ cls := "java/lang/Object", name := "getClass", desc := "()Ljava/lang/Class;" } : Jvm.MethodName) ({ cls := "java/lang/Object", name := "getClass", desc := "()Ljava/lang/Class;" } : Jvm.MethodName)) ∈ lw_all := lw_g (lw_at lw_m3 218 rfl) rfl
theorem q1046 : (Jvm.Cond.castable "FuzzyFinder$Repeat" "java/lang/Object") ∈ lw_tbl := lw_at lw_m5 52 rfl
theorem q1058 : (Jvm.Cond.fieldLinkNest "FuzzyFinder$Repeat" (23 : Nat) "FuzzyFinder$Times" "again" "Z" "FuzzyFinder") ∈ lw_tbl := lw_at lw_m5 64 rfl
theorem q1059 : (Jvm.Cond.fieldLinkNest "FuzzyFinder$Repeat" (35 : Nat) "FuzzyFinder$Times" "none" "Z" "FuzzyFinder") ∈ lw_tbl := lw_at lw_m5 65 rfl
theorem in_X6 : ∀ w ∈ wsX60, w ∈ lw_all := lw_in wsX60 [454, 456] (by decide +kernel) (by decide +kernel)
/-! FuzzyFinder$Limit -/
set_option maxRecDepth 100000
def RX7 : String := "FuzzyFinder$Limit"
def TX7 : u_T := fun k => match k with
  | 0 => ("FuzzyFinder$Limit", "part", "LFuzzyFinder$Node;", true)
  | _ => ("FuzzyFinder$Limit", "most", "I", true)
def tyX7 : Nat → FieldType := fun k => match k with
  | 0 => .object "FuzzyFinder$Node"
  | _ => .int
abbrev wsX70 : List Cond := u_ws RX7 TX7 2
theorem nmX7 : ∀ a, a < 2 → ∀ b, b < 2 → a ≠ b → (TX7 a).2.1 ≠ (TX7 b).2.1 := by decide +kernel
theorem tyX7_ok : ∀ k, k < 2 → parseFieldDescriptor (TX7 k).2.2.1 = some (tyX7 k) := by decide +kernel
abbrev cX7_init : ByteArray := prog_6_method_1_code
def yX7_init : MethodName := ⟨RX7, "<init>", "(LFuzzyFinder$Node;I)V"⟩
def dkwX7_init_0 : List UInt8 := [42, 183, 0, 1, 42, 43, 181, 0, 7, 42, 28, 181, 0, 13, 177]
abbrev dktX7_init_0 : List UInt8 := dkwX7_init_0 ++ []
theorem dksX7_init_0 : cX7_init.data.toList.drop 0 = dktX7_init_0 := by decide +kernel
theorem dX7_init_0 : decode cX7_init 0 = .ok (.aload_n 0, 1) := dk_42 (dk_at dksX7_init_0 0 rfl rfl)
theorem dX7_init_1 : decode cX7_init 1 = .ok (.invokespecial 1, 3) := dk_183 0 1 (dk_at dksX7_init_0 1 rfl rfl)
theorem dX7_init_4 : decode cX7_init 4 = .ok (.aload_n 0, 1) := dk_42 (dk_at dksX7_init_0 4 rfl rfl)
theorem dX7_init_5 : decode cX7_init 5 = .ok (.aload_n 1, 1) := dk_43 (dk_at dksX7_init_0 5 rfl rfl)
theorem dX7_init_6 : decode cX7_init 6 = .ok (.putfield 7, 3) := dk_181 0 7 (dk_at dksX7_init_0 6 rfl rfl)
theorem dX7_init_9 : decode cX7_init 9 = .ok (.aload_n 0, 1) := dk_42 (dk_at dksX7_init_0 9 rfl rfl)
theorem dX7_init_10 : decode cX7_init 10 = .ok (.iload_n 2, 1) := dk_28 (dk_at dksX7_init_0 10 rfl rfl)
theorem dX7_init_11 : decode cX7_init 11 = .ok (.putfield 13, 3) := dk_181 0 13 (dk_at dksX7_init_0 11 rfl rfl)
theorem dX7_init_14 : decode cX7_init 14 = .ok (.return_, 1) := dk_177 (dk_at dksX7_init_0 14 rfl rfl)
abbrev cX7_fill : ByteArray := prog_6_method_2_code
def yX7_fill : MethodName := ⟨RX7, "fill", "(LFuzzyFinder$Bench;I)V"⟩
def dkwX7_fill_0 : List UInt8 := [42, 180, 0, 7, 43, 28, 185, 0, 17, 3, 0, 43, 28, 42, 180, 0, 13, 182, 0, 23, 177]
abbrev dktX7_fill_0 : List UInt8 := dkwX7_fill_0 ++ []
theorem dksX7_fill_0 : cX7_fill.data.toList.drop 0 = dktX7_fill_0 := by decide +kernel
theorem dX7_fill_0 : decode cX7_fill 0 = .ok (.aload_n 0, 1) := dk_42 (dk_at dksX7_fill_0 0 rfl rfl)
theorem dX7_fill_1 : decode cX7_fill 1 = .ok (.getfield 7, 3) := dk_180 0 7 (dk_at dksX7_fill_0 1 rfl rfl)
theorem dX7_fill_4 : decode cX7_fill 4 = .ok (.aload_n 1, 1) := dk_43 (dk_at dksX7_fill_0 4 rfl rfl)
theorem dX7_fill_5 : decode cX7_fill 5 = .ok (.iload_n 2, 1) := dk_28 (dk_at dksX7_fill_0 5 rfl rfl)
theorem dX7_fill_6 : decode cX7_fill 6 = .ok (.invokeinterface 17 3, 5) := by decide +kernel
theorem dX7_fill_11 : decode cX7_fill 11 = .ok (.aload_n 1, 1) := dk_43 (dk_at dksX7_fill_0 11 rfl rfl)
theorem dX7_fill_12 : decode cX7_fill 12 = .ok (.iload_n 2, 1) := dk_28 (dk_at dksX7_fill_0 12 rfl rfl)
theorem dX7_fill_13 : decode cX7_fill 13 = .ok (.aload_n 0, 1) := dk_42 (dk_at dksX7_fill_0 13 rfl rfl)
theorem dX7_fill_14 : decode cX7_fill 14 = .ok (.getfield 13, 3) := dk_180 0 13 (dk_at dksX7_fill_0 14 rfl rfl)
theorem dX7_fill_17 : decode cX7_fill 17 = .ok (.invokevirtual 23, 3) := dk_182 0 23 (dk_at dksX7_fill_0 17 rfl rfl)
theorem dX7_fill_20 : decode cX7_fill 20 = .ok (.return_, 1) := dk_177 (dk_at dksX7_fill_0 20 rfl rfl)
theorem q58 : (Jvm.Cond.initialized "FuzzyFinder$Limit") ∈ lw_all := lw_g (lw_at lw_m1 24 rfl) rfl
theorem q468 : (Jvm.Cond.instantiable "FuzzyFinder$Limit" (2 : Nat)) ∈ lw_all := lw_g (lw_at lw_m2 194 rfl) rfl
theorem q470 : (Jvm.Cond.instanceMethod ({ cls := "FuzzyFinder$Limit", name := "<init>", desc := "(LFuzzyFinder$Node;I)V" } : Jvm.MethodName)) ∈ lw_all := lw_g (lw_at lw_m2 196 rfl) rfl
theorem q471 : (Jvm.Cond.code ({ cls := "FuzzyFinder$Limit", name := "<init>", desc := "(LFuzzyFinder$Node;I)V" } : Jvm.MethodName) prog_6_method_1_code (3 : Nat) (Option.none : Option Jvm.ClassFile.FieldType)) ∈ lw_all := lw_g (lw_at lw_m2 197 rfl) rfl
theorem q472 : (Jvm.Cond.methodLink "FuzzyFinder$Limit" (1 : Nat) ({ cls := "java/lang/Record", name := "<init>", desc := "()V" } : Jvm.MethodName)) ∈ lw_all := lw_g (lw_at lw_m2 198 rfl) rfl
theorem q473 : (Jvm.Cond.fieldLink "FuzzyFinder$Limit" (7 : Nat) "FuzzyFinder$Limit" "part" "LFuzzyFinder$Node;") ∈ lw_all := lw_g (lw_at lw_m2 199 rfl) rfl
theorem q474 : (Jvm.Cond.fieldLink "FuzzyFinder$Limit" (13 : Nat) "FuzzyFinder$Limit" "most" "I") ∈ lw_all := lw_g (lw_at lw_m2 200 rfl) rfl
theorem q475 : (Jvm.Cond.laysFinal "FuzzyFinder$Limit" "FuzzyFinder$Limit" "part" "LFuzzyFinder$Node;") ∈ lw_all := lw_g (lw_at lw_m2 201 rfl) rfl
theorem q476 : (Jvm.Cond.soleField "FuzzyFinder$Limit" "part") ∈ lw_all := lw_g (lw_at lw_m2 202 rfl) rfl
theorem q477 : (Jvm.Cond.laysFinal "FuzzyFinder$Limit" "FuzzyFinder$Limit" "most" "I") ∈ lw_all := lw_g (lw_at lw_m2 203 rfl) rfl
theorem q478 : (Jvm.Cond.soleField "FuzzyFinder$Limit" "most") ∈ lw_all := lw_g (lw_at lw_m2 204 rfl) rfl
theorem q479 : (Jvm.Cond.superclass "FuzzyFinder$Limit" "java/lang/Record") ∈ lw_all := lw_g (lw_at lw_m2 205 rfl) rfl
theorem q588 : (Jvm.Cond.castable "FuzzyFinder$Limit" "FuzzyFinder$Node") ∈ lw_tbl := lw_at lw_m3 74 rfl
theorem q589 : (Jvm.Cond.selects "FuzzyFinder$Limit" ({ cls := "FuzzyFinder$Node", name := "fill", desc := "(LFuzzyFinder$Bench;I)V" } : Jvm.MethodName) ({ cls := "FuzzyFinder$Limit", name := "fill", desc := "(LFuzzyFinder$Bench;I)V" } : Jvm.MethodName)) ∈ lw_all := lw_g (lw_at lw_m3 75 rfl) rfl
theorem q590 : (Jvm.Cond.unhidden "FuzzyFinder$Limit" "fill" "(LFuzzyFinder$Bench;I)V") ∈ lw_tbl := lw_at lw_m3 76 rfl
theorem q591 : (Jvm.Cond.instanceMethod ({ cls := "FuzzyFinder$Limit", name := "fill", desc := "(LFuzzyFinder$Bench;I)V" } : Jvm.MethodName)) ∈ lw_all := lw_g (lw_at lw_m3 77 rfl) rfl
theorem q592 : (Jvm.Cond.publicMethod ({ cls := "FuzzyFinder$Limit", name := "fill", desc := "(LFuzzyFinder$Bench;I)V" } : Jvm.MethodName)) ∈ lw_tbl := lw_at lw_m3 78 rfl
theorem q593 : (Jvm.Cond.code ({ cls := "FuzzyFinder$Limit", name := "fill", desc := "(LFuzzyFinder$Bench;I)V" } : Jvm.MethodName) prog_6_method_2_code (3 : Nat) (Option.none : Option Jvm.ClassFile.FieldType)) ∈ lw_all := lw_g (lw_at lw_m3 79 rfl) rfl
theorem q594 : (Jvm.Cond.interfaceEntry "FuzzyFinder$Limit" (17 : Nat)) ∈ lw_tbl := lw_at lw_m3 80 rfl
theorem q595 : (Jvm.Cond.methodLink "FuzzyFinder$Limit" (17 : Nat) ({ cls := "FuzzyFinder$Node", name := "fill", desc := "(LFuzzyFinder$Bench;I)V" } : Jvm.MethodName)) ∈ lw_all := lw_g (lw_at lw_m3 81 rfl) rfl
theorem q624 : (Jvm.Cond.methodLink "FuzzyFinder$Limit" (23 : Nat) ({ cls := "FuzzyFinder$Bench", name := "limit", desc := "(II)V" } : Jvm.MethodName)) ∈ lw_all := lw_g (lw_at lw_m3 110 rfl) rfl
theorem q730 : (Jvm.Cond.selects "FuzzyFinder$Limit" ({ cls := "java/lang/Object", name := "getClass", desc := "()Ljava/lang/Class;" } : Jvm.MethodName) ({ cls := "java/lang/Object", name := "getClass", desc := "()Ljava/lang/Class;" } : Jvm.MethodName)) ∈ lw_all := lw_g (lw_at lw_m3 216 rfl) rfl
theorem q1047 : (Jvm.Cond.castable "FuzzyFinder$Limit" "java/lang/Object") ∈ lw_tbl := lw_at lw_m5 53 rfl
theorem in_X7 : ∀ w ∈ wsX70, w ∈ lw_all := lw_in wsX70 [475, 477] (by decide +kernel) (by decide +kernel)
/-! FuzzyFinder$Row -/
set_option maxRecDepth 100000
def RX8 : String := "FuzzyFinder$Row"
def TX8 : u_T := fun k => match k with
  | 0 => ("FuzzyFinder$Row", "first", "LFuzzyFinder$Node;", true)
  | _ => ("FuzzyFinder$Row", "second", "LFuzzyFinder$Node;", true)
def tyX8 : Nat → FieldType := fun k => match k with
  | 0 => .object "FuzzyFinder$Node"
  | _ => .object "FuzzyFinder$Node"
abbrev wsX80 : List Cond := u_ws RX8 TX8 2
theorem nmX8 : ∀ a, a < 2 → ∀ b, b < 2 → a ≠ b → (TX8 a).2.1 ≠ (TX8 b).2.1 := by decide +kernel
theorem tyX8_ok : ∀ k, k < 2 → parseFieldDescriptor (TX8 k).2.2.1 = some (tyX8 k) := by decide +kernel
abbrev cX8_init : ByteArray := prog_10_method_1_code
def yX8_init : MethodName := ⟨RX8, "<init>", "(LFuzzyFinder$Node;LFuzzyFinder$Node;)V"⟩
def dkwX8_init_0 : List UInt8 := [42, 183, 0, 1, 42, 43, 181, 0, 7, 42, 44, 181, 0, 13, 177]
abbrev dktX8_init_0 : List UInt8 := dkwX8_init_0 ++ []
theorem dksX8_init_0 : cX8_init.data.toList.drop 0 = dktX8_init_0 := by decide +kernel
theorem dX8_init_0 : decode cX8_init 0 = .ok (.aload_n 0, 1) := dk_42 (dk_at dksX8_init_0 0 rfl rfl)
theorem dX8_init_1 : decode cX8_init 1 = .ok (.invokespecial 1, 3) := dk_183 0 1 (dk_at dksX8_init_0 1 rfl rfl)
theorem dX8_init_4 : decode cX8_init 4 = .ok (.aload_n 0, 1) := dk_42 (dk_at dksX8_init_0 4 rfl rfl)
theorem dX8_init_5 : decode cX8_init 5 = .ok (.aload_n 1, 1) := dk_43 (dk_at dksX8_init_0 5 rfl rfl)
theorem dX8_init_6 : decode cX8_init 6 = .ok (.putfield 7, 3) := dk_181 0 7 (dk_at dksX8_init_0 6 rfl rfl)
theorem dX8_init_9 : decode cX8_init 9 = .ok (.aload_n 0, 1) := dk_42 (dk_at dksX8_init_0 9 rfl rfl)
theorem dX8_init_10 : decode cX8_init 10 = .ok (.aload_n 2, 1) := dk_44 (dk_at dksX8_init_0 10 rfl rfl)
theorem dX8_init_11 : decode cX8_init 11 = .ok (.putfield 13, 3) := dk_181 0 13 (dk_at dksX8_init_0 11 rfl rfl)
theorem dX8_init_14 : decode cX8_init 14 = .ok (.return_, 1) := dk_177 (dk_at dksX8_init_0 14 rfl rfl)
abbrev cX8_fill : ByteArray := prog_10_method_2_code
def yX8_fill : MethodName := ⟨RX8, "fill", "(LFuzzyFinder$Bench;I)V"⟩
def dkwX8_fill_1 : List UInt8 := [43, 28, 182, 0, 22, 177]
abbrev dktX8_fill_1 : List UInt8 := dkwX8_fill_1 ++ []
def dkwX8_fill_0 : List UInt8 := [42, 180, 0, 7, 43, 28, 185, 0, 16, 3, 0, 42, 180, 0, 13, 43, 28, 4, 96, 185, 0, 16, 3, 0]
abbrev dktX8_fill_0 : List UInt8 := dkwX8_fill_0 ++ dktX8_fill_1
theorem dksX8_fill_0 : cX8_fill.data.toList.drop 0 = dktX8_fill_0 := by decide +kernel
theorem dksX8_fill_1 : cX8_fill.data.toList.drop 24 = dktX8_fill_1 := dk_seg dksX8_fill_0 24 rfl rfl
theorem dX8_fill_0 : decode cX8_fill 0 = .ok (.aload_n 0, 1) := dk_42 (dk_at dksX8_fill_0 0 rfl rfl)
theorem dX8_fill_1 : decode cX8_fill 1 = .ok (.getfield 7, 3) := dk_180 0 7 (dk_at dksX8_fill_0 1 rfl rfl)
theorem dX8_fill_4 : decode cX8_fill 4 = .ok (.aload_n 1, 1) := dk_43 (dk_at dksX8_fill_0 4 rfl rfl)
theorem dX8_fill_5 : decode cX8_fill 5 = .ok (.iload_n 2, 1) := dk_28 (dk_at dksX8_fill_0 5 rfl rfl)
theorem dX8_fill_6 : decode cX8_fill 6 = .ok (.invokeinterface 16 3, 5) := by decide +kernel
theorem dX8_fill_11 : decode cX8_fill 11 = .ok (.aload_n 0, 1) := dk_42 (dk_at dksX8_fill_0 11 rfl rfl)
theorem dX8_fill_12 : decode cX8_fill 12 = .ok (.getfield 13, 3) := dk_180 0 13 (dk_at dksX8_fill_0 12 rfl rfl)
theorem dX8_fill_15 : decode cX8_fill 15 = .ok (.aload_n 1, 1) := dk_43 (dk_at dksX8_fill_0 15 rfl rfl)
theorem dX8_fill_16 : decode cX8_fill 16 = .ok (.iload_n 2, 1) := dk_28 (dk_at dksX8_fill_0 16 rfl rfl)
theorem dX8_fill_17 : decode cX8_fill 17 = .ok (.iconst 1, 1) := dk_4 (dk_at dksX8_fill_0 17 rfl rfl)
theorem dX8_fill_18 : decode cX8_fill 18 = .ok (.iadd, 1) := dk_96 (dk_at dksX8_fill_0 18 rfl rfl)
theorem dX8_fill_19 : decode cX8_fill 19 = .ok (.invokeinterface 16 3, 5) := by decide +kernel
theorem dX8_fill_24 : decode cX8_fill 24 = .ok (.aload_n 1, 1) := dk_43 (dk_at dksX8_fill_1 0 rfl rfl)
theorem dX8_fill_25 : decode cX8_fill 25 = .ok (.iload_n 2, 1) := dk_28 (dk_at dksX8_fill_1 1 rfl rfl)
theorem dX8_fill_26 : decode cX8_fill 26 = .ok (.invokevirtual 22, 3) := dk_182 0 22 (dk_at dksX8_fill_1 2 rfl rfl)
theorem dX8_fill_29 : decode cX8_fill 29 = .ok (.return_, 1) := dk_177 (dk_at dksX8_fill_1 5 rfl rfl)
theorem q59 : (Jvm.Cond.initialized "FuzzyFinder$Row") ∈ lw_all := lw_g (lw_at lw_m1 25 rfl) rfl
theorem q484 : (Jvm.Cond.instantiable "FuzzyFinder$Row" (2 : Nat)) ∈ lw_all := lw_g (lw_at lw_m2 210 rfl) rfl
theorem q486 : (Jvm.Cond.instanceMethod ({ cls := "FuzzyFinder$Row", name := "<init>", desc := "(LFuzzyFinder$Node;LFuzzyFinder$Node;)V" } : Jvm.MethodName)) ∈ lw_all := lw_g (lw_at lw_m2 212 rfl) rfl
theorem q487 : (Jvm.Cond.code ({ cls := "FuzzyFinder$Row", name := "<init>", desc := "(LFuzzyFinder$Node;LFuzzyFinder$Node;)V" } : Jvm.MethodName) prog_10_method_1_code (3 : Nat) (Option.none : Option Jvm.ClassFile.FieldType)) ∈ lw_all := lw_g (lw_at lw_m2 213 rfl) rfl
theorem q488 : (Jvm.Cond.methodLink "FuzzyFinder$Row" (1 : Nat) ({ cls := "java/lang/Record", name := "<init>", desc := "()V" } : Jvm.MethodName)) ∈ lw_all := lw_g (lw_at lw_m2 214 rfl) rfl
theorem q489 : (Jvm.Cond.fieldLink "FuzzyFinder$Row" (7 : Nat) "FuzzyFinder$Row" "first" "LFuzzyFinder$Node;") ∈ lw_all := lw_g (lw_at lw_m2 215 rfl) rfl
theorem q490 : (Jvm.Cond.fieldLink "FuzzyFinder$Row" (13 : Nat) "FuzzyFinder$Row" "second" "LFuzzyFinder$Node;") ∈ lw_all := lw_g (lw_at lw_m2 216 rfl) rfl
theorem q491 : (Jvm.Cond.laysFinal "FuzzyFinder$Row" "FuzzyFinder$Row" "first" "LFuzzyFinder$Node;") ∈ lw_all := lw_g (lw_at lw_m2 217 rfl) rfl
theorem q492 : (Jvm.Cond.soleField "FuzzyFinder$Row" "first") ∈ lw_all := lw_g (lw_at lw_m2 218 rfl) rfl
theorem q493 : (Jvm.Cond.laysFinal "FuzzyFinder$Row" "FuzzyFinder$Row" "second" "LFuzzyFinder$Node;") ∈ lw_all := lw_g (lw_at lw_m2 219 rfl) rfl
theorem q494 : (Jvm.Cond.soleField "FuzzyFinder$Row" "second") ∈ lw_all := lw_g (lw_at lw_m2 220 rfl) rfl
theorem q495 : (Jvm.Cond.superclass "FuzzyFinder$Row" "java/lang/Record") ∈ lw_all := lw_g (lw_at lw_m2 221 rfl) rfl
theorem q604 : (Jvm.Cond.castable "FuzzyFinder$Row" "FuzzyFinder$Node") ∈ lw_tbl := lw_at lw_m3 90 rfl
theorem q605 : (Jvm.Cond.selects "FuzzyFinder$Row" ({ cls := "FuzzyFinder$Node", name := "fill", desc := "(LFuzzyFinder$Bench;I)V" } : Jvm.MethodName) ({ cls := "FuzzyFinder$Row", name := "fill", desc := "(LFuzzyFinder$Bench;I)V" } : Jvm.MethodName)) ∈ lw_all := lw_g (lw_at lw_m3 91 rfl) rfl
theorem q606 : (Jvm.Cond.unhidden "FuzzyFinder$Row" "fill" "(LFuzzyFinder$Bench;I)V") ∈ lw_tbl := lw_at lw_m3 92 rfl
theorem q607 : (Jvm.Cond.instanceMethod ({ cls := "FuzzyFinder$Row", name := "fill", desc := "(LFuzzyFinder$Bench;I)V" } : Jvm.MethodName)) ∈ lw_all := lw_g (lw_at lw_m3 93 rfl) rfl
theorem q608 : (Jvm.Cond.publicMethod ({ cls := "FuzzyFinder$Row", name := "fill", desc := "(LFuzzyFinder$Bench;I)V" } : Jvm.MethodName)) ∈ lw_tbl := lw_at lw_m3 94 rfl
theorem q609 : (Jvm.Cond.code ({ cls := "FuzzyFinder$Row", name := "fill", desc := "(LFuzzyFinder$Bench;I)V" } : Jvm.MethodName) prog_10_method_2_code (3 : Nat) (Option.none : Option Jvm.ClassFile.FieldType)) ∈ lw_all := lw_g (lw_at lw_m3 95 rfl) rfl
theorem q610 : (Jvm.Cond.interfaceEntry "FuzzyFinder$Row" (16 : Nat)) ∈ lw_tbl := lw_at lw_m3 96 rfl
theorem q611 : (Jvm.Cond.methodLink "FuzzyFinder$Row" (16 : Nat) ({ cls := "FuzzyFinder$Node", name := "fill", desc := "(LFuzzyFinder$Bench;I)V" } : Jvm.MethodName)) ∈ lw_all := lw_g (lw_at lw_m3 97 rfl) rfl
theorem q612 : (Jvm.Cond.methodLink "FuzzyFinder$Row" (22 : Nat) ({ cls := "FuzzyFinder$Bench", name := "chain", desc := "(I)V" } : Jvm.MethodName)) ∈ lw_all := lw_g (lw_at lw_m3 98 rfl) rfl
theorem q733 : (Jvm.Cond.selects "FuzzyFinder$Row" ({ cls := "java/lang/Object", name := "getClass", desc := "()Ljava/lang/Class;" } : Jvm.MethodName) ({ cls := "java/lang/Object", name := "getClass", desc := "()Ljava/lang/Class;" } : Jvm.MethodName)) ∈ lw_all := lw_g (lw_at lw_m3 219 rfl) rfl
theorem q1048 : (Jvm.Cond.castable "FuzzyFinder$Row" "java/lang/Object") ∈ lw_tbl := lw_at lw_m5 54 rfl
theorem in_X8 : ∀ w ∈ wsX80, w ∈ lw_all := lw_in wsX80 [491, 493] (by decide +kernel) (by decide +kernel)
/-! FuzzyFinder$Either -/
set_option maxRecDepth 100000
def RX9 : String := "FuzzyFinder$Either"
def TX9 : u_T := fun k => match k with
  | 0 => ("FuzzyFinder$Either", "first", "LFuzzyFinder$Node;", true)
  | _ => ("FuzzyFinder$Either", "second", "LFuzzyFinder$Node;", true)
def tyX9 : Nat → FieldType := fun k => match k with
  | 0 => .object "FuzzyFinder$Node"
  | _ => .object "FuzzyFinder$Node"
abbrev wsX90 : List Cond := u_ws RX9 TX9 2
theorem nmX9 : ∀ a, a < 2 → ∀ b, b < 2 → a ≠ b → (TX9 a).2.1 ≠ (TX9 b).2.1 := by decide +kernel
theorem tyX9_ok : ∀ k, k < 2 → parseFieldDescriptor (TX9 k).2.2.1 = some (tyX9 k) := by decide +kernel
abbrev cX9_init : ByteArray := prog_4_method_1_code
def yX9_init : MethodName := ⟨RX9, "<init>", "(LFuzzyFinder$Node;LFuzzyFinder$Node;)V"⟩
def dkwX9_init_0 : List UInt8 := [42, 183, 0, 1, 42, 43, 181, 0, 7, 42, 44, 181, 0, 13, 177]
abbrev dktX9_init_0 : List UInt8 := dkwX9_init_0 ++ []
theorem dksX9_init_0 : cX9_init.data.toList.drop 0 = dktX9_init_0 := by decide +kernel
theorem dX9_init_0 : decode cX9_init 0 = .ok (.aload_n 0, 1) := dk_42 (dk_at dksX9_init_0 0 rfl rfl)
theorem dX9_init_1 : decode cX9_init 1 = .ok (.invokespecial 1, 3) := dk_183 0 1 (dk_at dksX9_init_0 1 rfl rfl)
theorem dX9_init_4 : decode cX9_init 4 = .ok (.aload_n 0, 1) := dk_42 (dk_at dksX9_init_0 4 rfl rfl)
theorem dX9_init_5 : decode cX9_init 5 = .ok (.aload_n 1, 1) := dk_43 (dk_at dksX9_init_0 5 rfl rfl)
theorem dX9_init_6 : decode cX9_init 6 = .ok (.putfield 7, 3) := dk_181 0 7 (dk_at dksX9_init_0 6 rfl rfl)
theorem dX9_init_9 : decode cX9_init 9 = .ok (.aload_n 0, 1) := dk_42 (dk_at dksX9_init_0 9 rfl rfl)
theorem dX9_init_10 : decode cX9_init 10 = .ok (.aload_n 2, 1) := dk_44 (dk_at dksX9_init_0 10 rfl rfl)
theorem dX9_init_11 : decode cX9_init 11 = .ok (.putfield 13, 3) := dk_181 0 13 (dk_at dksX9_init_0 11 rfl rfl)
theorem dX9_init_14 : decode cX9_init 14 = .ok (.return_, 1) := dk_177 (dk_at dksX9_init_0 14 rfl rfl)
abbrev cX9_fill : ByteArray := prog_4_method_2_code
def yX9_fill : MethodName := ⟨RX9, "fill", "(LFuzzyFinder$Bench;I)V"⟩
def dkwX9_fill_1 : List UInt8 := [43, 28, 182, 0, 22, 177]
abbrev dktX9_fill_1 : List UInt8 := dkwX9_fill_1 ++ []
def dkwX9_fill_0 : List UInt8 := [42, 180, 0, 7, 43, 28, 185, 0, 16, 3, 0, 42, 180, 0, 13, 43, 28, 4, 96, 185, 0, 16, 3, 0]
abbrev dktX9_fill_0 : List UInt8 := dkwX9_fill_0 ++ dktX9_fill_1
theorem dksX9_fill_0 : cX9_fill.data.toList.drop 0 = dktX9_fill_0 := by decide +kernel
theorem dksX9_fill_1 : cX9_fill.data.toList.drop 24 = dktX9_fill_1 := dk_seg dksX9_fill_0 24 rfl rfl
theorem dX9_fill_0 : decode cX9_fill 0 = .ok (.aload_n 0, 1) := dk_42 (dk_at dksX9_fill_0 0 rfl rfl)
theorem dX9_fill_1 : decode cX9_fill 1 = .ok (.getfield 7, 3) := dk_180 0 7 (dk_at dksX9_fill_0 1 rfl rfl)
theorem dX9_fill_4 : decode cX9_fill 4 = .ok (.aload_n 1, 1) := dk_43 (dk_at dksX9_fill_0 4 rfl rfl)
theorem dX9_fill_5 : decode cX9_fill 5 = .ok (.iload_n 2, 1) := dk_28 (dk_at dksX9_fill_0 5 rfl rfl)
theorem dX9_fill_6 : decode cX9_fill 6 = .ok (.invokeinterface 16 3, 5) := by decide +kernel
theorem dX9_fill_11 : decode cX9_fill 11 = .ok (.aload_n 0, 1) := dk_42 (dk_at dksX9_fill_0 11 rfl rfl)
theorem dX9_fill_12 : decode cX9_fill 12 = .ok (.getfield 13, 3) := dk_180 0 13 (dk_at dksX9_fill_0 12 rfl rfl)
theorem dX9_fill_15 : decode cX9_fill 15 = .ok (.aload_n 1, 1) := dk_43 (dk_at dksX9_fill_0 15 rfl rfl)
theorem dX9_fill_16 : decode cX9_fill 16 = .ok (.iload_n 2, 1) := dk_28 (dk_at dksX9_fill_0 16 rfl rfl)
theorem dX9_fill_17 : decode cX9_fill 17 = .ok (.iconst 1, 1) := dk_4 (dk_at dksX9_fill_0 17 rfl rfl)
theorem dX9_fill_18 : decode cX9_fill 18 = .ok (.iadd, 1) := dk_96 (dk_at dksX9_fill_0 18 rfl rfl)
theorem dX9_fill_19 : decode cX9_fill 19 = .ok (.invokeinterface 16 3, 5) := by decide +kernel
theorem dX9_fill_24 : decode cX9_fill 24 = .ok (.aload_n 1, 1) := dk_43 (dk_at dksX9_fill_1 0 rfl rfl)
theorem dX9_fill_25 : decode cX9_fill 25 = .ok (.iload_n 2, 1) := dk_28 (dk_at dksX9_fill_1 1 rfl rfl)
theorem dX9_fill_26 : decode cX9_fill 26 = .ok (.invokevirtual 22, 3) := dk_182 0 22 (dk_at dksX9_fill_1 2 rfl rfl)
theorem dX9_fill_29 : decode cX9_fill 29 = .ok (.return_, 1) := dk_177 (dk_at dksX9_fill_1 5 rfl rfl)
theorem q60 : (Jvm.Cond.initialized "FuzzyFinder$Either") ∈ lw_all := lw_g (lw_at lw_m1 26 rfl) rfl
theorem q497 : (Jvm.Cond.instantiable "FuzzyFinder$Either" (2 : Nat)) ∈ lw_all := lw_g (lw_at lw_m2 223 rfl) rfl
theorem q499 : (Jvm.Cond.instanceMethod ({ cls := "FuzzyFinder$Either", name := "<init>", desc := "(LFuzzyFinder$Node;LFuzzyFinder$Node;)V" } : Jvm.MethodName)) ∈ lw_all := lw_g (lw_at lw_m2 225 rfl) rfl
theorem q500 : (Jvm.Cond.code ({ cls := "FuzzyFinder$Either", name := "<init>", desc := "(LFuzzyFinder$Node;LFuzzyFinder$Node;)V" } : Jvm.MethodName) prog_4_method_1_code (3 : Nat) (Option.none : Option Jvm.ClassFile.FieldType)) ∈ lw_all := lw_g (lw_at lw_m2 226 rfl) rfl
theorem q501 : (Jvm.Cond.methodLink "FuzzyFinder$Either" (1 : Nat) ({ cls := "java/lang/Record", name := "<init>", desc := "()V" } : Jvm.MethodName)) ∈ lw_all := lw_g (lw_at lw_m2 227 rfl) rfl
theorem q502 : (Jvm.Cond.fieldLink "FuzzyFinder$Either" (7 : Nat) "FuzzyFinder$Either" "first" "LFuzzyFinder$Node;") ∈ lw_all := lw_g (lw_at lw_m2 228 rfl) rfl
theorem q503 : (Jvm.Cond.fieldLink "FuzzyFinder$Either" (13 : Nat) "FuzzyFinder$Either" "second" "LFuzzyFinder$Node;") ∈ lw_all := lw_g (lw_at lw_m2 229 rfl) rfl
theorem q504 : (Jvm.Cond.laysFinal "FuzzyFinder$Either" "FuzzyFinder$Either" "first" "LFuzzyFinder$Node;") ∈ lw_all := lw_g (lw_at lw_m2 230 rfl) rfl
theorem q505 : (Jvm.Cond.soleField "FuzzyFinder$Either" "first") ∈ lw_all := lw_g (lw_at lw_m2 231 rfl) rfl
theorem q506 : (Jvm.Cond.laysFinal "FuzzyFinder$Either" "FuzzyFinder$Either" "second" "LFuzzyFinder$Node;") ∈ lw_all := lw_g (lw_at lw_m2 232 rfl) rfl
theorem q507 : (Jvm.Cond.soleField "FuzzyFinder$Either" "second") ∈ lw_all := lw_g (lw_at lw_m2 233 rfl) rfl
theorem q508 : (Jvm.Cond.superclass "FuzzyFinder$Either" "java/lang/Record") ∈ lw_all := lw_g (lw_at lw_m2 234 rfl) rfl
theorem q568 : (Jvm.Cond.castable "FuzzyFinder$Either" "FuzzyFinder$Node") ∈ lw_tbl := lw_at lw_m3 54 rfl
theorem q569 : (Jvm.Cond.selects "FuzzyFinder$Either" ({ cls := "FuzzyFinder$Node", name := "fill", desc := "(LFuzzyFinder$Bench;I)V" } : Jvm.MethodName) ({ cls := "FuzzyFinder$Either", name := "fill", desc := "(LFuzzyFinder$Bench;I)V" } : Jvm.MethodName)) ∈ lw_all := lw_g (lw_at lw_m3 55 rfl) rfl
theorem q570 : (Jvm.Cond.unhidden "FuzzyFinder$Either" "fill" "(LFuzzyFinder$Bench;I)V") ∈ lw_tbl := lw_at lw_m3 56 rfl
theorem q571 : (Jvm.Cond.instanceMethod ({ cls := "FuzzyFinder$Either", name := "fill", desc := "(LFuzzyFinder$Bench;I)V" } : Jvm.MethodName)) ∈ lw_all := lw_g (lw_at lw_m3 57 rfl) rfl
theorem q572 : (Jvm.Cond.publicMethod ({ cls := "FuzzyFinder$Either", name := "fill", desc := "(LFuzzyFinder$Bench;I)V" } : Jvm.MethodName)) ∈ lw_tbl := lw_at lw_m3 58 rfl
theorem q573 : (Jvm.Cond.code ({ cls := "FuzzyFinder$Either", name := "fill", desc := "(LFuzzyFinder$Bench;I)V" } : Jvm.MethodName) prog_4_method_2_code (3 : Nat) (Option.none : Option Jvm.ClassFile.FieldType)) ∈ lw_all := lw_g (lw_at lw_m3 59 rfl) rfl
theorem q574 : (Jvm.Cond.interfaceEntry "FuzzyFinder$Either" (16 : Nat)) ∈ lw_tbl := lw_at lw_m3 60 rfl
theorem q575 : (Jvm.Cond.methodLink "FuzzyFinder$Either" (16 : Nat) ({ cls := "FuzzyFinder$Node", name := "fill", desc := "(LFuzzyFinder$Bench;I)V" } : Jvm.MethodName)) ∈ lw_all := lw_g (lw_at lw_m3 61 rfl) rfl
theorem q628 : (Jvm.Cond.methodLink "FuzzyFinder$Either" (22 : Nat) ({ cls := "FuzzyFinder$Bench", name := "lower", desc := "(I)V" } : Jvm.MethodName)) ∈ lw_all := lw_g (lw_at lw_m3 114 rfl) rfl
theorem q728 : (Jvm.Cond.selects "FuzzyFinder$Either" ({ cls := "java/lang/Object", name := "getClass", desc := "()Ljava/lang/Class;" } : Jvm.MethodName) ({ cls := "java/lang/Object", name := "getClass", desc := "()Ljava/lang/Class;" } : Jvm.MethodName)) ∈ lw_all := lw_g (lw_at lw_m3 214 rfl) rfl
theorem q1049 : (Jvm.Cond.castable "FuzzyFinder$Either" "java/lang/Object") ∈ lw_tbl := lw_at lw_m5 55 rfl
theorem in_X9 : ∀ w ∈ wsX90, w ∈ lw_all := lw_in wsX90 [504, 506] (by decide +kernel) (by decide +kernel)
