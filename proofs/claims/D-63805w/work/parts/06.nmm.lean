/-! FuzzyFinderModel -/
set_option maxRecDepth 100000
def RX5 : String := "FuzzyFinderModel"
def TX5 : u_T := fun k => match k with
  | 0 => ("FuzzyFinderModel", "typed", "I", false)
  | 1 => ("FuzzyFinderModel", "chars", "[I", true)
  | 2 => ("FuzzyFinderModel", "nodes", "I", false)
  | 3 => ("FuzzyFinderModel", "kind", "[I", true)
  | 4 => ("FuzzyFinderModel", "left", "[I", true)
  | 5 => ("FuzzyFinderModel", "right", "[I", true)
  | 6 => ("FuzzyFinderModel", "fresh", "I", false)
  | 7 => ("FuzzyFinderModel", "freshKind", "[I", true)
  | 8 => ("FuzzyFinderModel", "freshLeft", "[I", true)
  | 9 => ("FuzzyFinderModel", "freshRight", "[I", true)
  | 10 => ("FuzzyFinderModel", "waits", "I", false)
  | 11 => ("FuzzyFinderModel", "waiting", "[I", true)
  | 12 => ("FuzzyFinderModel", "wholes", "I", false)
  | 13 => ("FuzzyFinderModel", "whole", "[I", true)
  | 14 => ("FuzzyFinderModel", "letters", "I", false)
  | 15 => ("FuzzyFinderModel", "added", "I", false)
  | 16 => ("FuzzyFinderModel", "missing", "I", false)
  | 17 => ("FuzzyFinderModel", "wrong", "I", false)
  | 18 => ("FuzzyFinderModel", "most", "I", false)
  | 19 => ("FuzzyFinderModel", "length", "I", false)
  | 20 => ("FuzzyFinderModel", "text", "[I", true)
  | 21 => ("FuzzyFinderModel", "known", "Z", false)
  | 22 => ("FuzzyFinderModel", "costs", "[I", true)
  | 23 => ("FuzzyFinderModel", "foundFrom", "I", false)
  | 24 => ("FuzzyFinderModel", "foundTo", "I", false)
  | 25 => ("FuzzyFinderModel", "words", "I", false)
  | 26 => ("FuzzyFinderModel", "size", "[I", true)
  | 27 => ("FuzzyFinderModel", "letter", "[I", true)
  | _ => ("FuzzyFinderModel", "steps", "[I", true)
def tyX5 : Nat → FieldType := fun k => match k with
  | 0 => .int
  | 1 => .array .int
  | 2 => .int
  | 3 => .array .int
  | 4 => .array .int
  | 5 => .array .int
  | 6 => .int
  | 7 => .array .int
  | 8 => .array .int
  | 9 => .array .int
  | 10 => .int
  | 11 => .array .int
  | 12 => .int
  | 13 => .array .int
  | 14 => .int
  | 15 => .int
  | 16 => .int
  | 17 => .int
  | 18 => .int
  | 19 => .int
  | 20 => .array .int
  | 21 => .boolean
  | 22 => .array .int
  | 23 => .int
  | 24 => .int
  | 25 => .int
  | 26 => .array .int
  | 27 => .array .int
  | _ => .array .int
abbrev wsX50 : List Cond := u_ws RX5 TX5 29
set_option maxRecDepth 100000 in
theorem nmX5 : ∀ a, a < 29 → ∀ b, b < 29 → a ≠ b → (TX5 a).2.1 ≠ (TX5 b).2.1 := by decide +kernel
set_option maxRecDepth 100000 in
theorem tyX5_ok : ∀ k, k < 29 → parseFieldDescriptor (TX5 k).2.2.1 = some (tyX5 k) := by decide +kernel
abbrev cX5_init : ByteArray := prog_13_method_1_code
def yX5_init : MethodName := ⟨RX5, "<init>", "()V"⟩
def dkwX5_init_6 : List UInt8 := [181, 0, 65, 177]
abbrev dktX5_init_6 : List UInt8 := dkwX5_init_6 ++ []
def dkwX5_init_5 : List UInt8 := [42, 16, 20, 188, 10, 181, 0, 59, 42, 17, 0, 240, 188, 10, 181, 0, 62, 42, 17, 1, 69, 188, 10]
abbrev dktX5_init_5 : List UInt8 := dkwX5_init_5 ++ dktX5_init_6
def dkwX5_init_4 : List UInt8 := [188, 10, 181, 0, 47, 42, 17, 58, 152, 188, 10, 181, 0, 50, 42, 2, 181, 0, 53, 42, 2, 181, 0, 56]
abbrev dktX5_init_4 : List UInt8 := dkwX5_init_4 ++ dktX5_init_5
def dkwX5_init_3 : List UInt8 := [188, 10, 181, 0, 34, 42, 4, 181, 0, 37, 42, 4, 181, 0, 41, 42, 4, 181, 0, 44, 42, 16, 24]
abbrev dktX5_init_3 : List UInt8 := dkwX5_init_3 ++ dktX5_init_4
def dkwX5_init_2 : List UInt8 := [188, 10, 181, 0, 25, 42, 16, 80, 188, 10, 181, 0, 28, 42, 16, 80, 188, 10, 181, 0, 31, 42, 16, 80]
abbrev dktX5_init_2 : List UInt8 := dkwX5_init_2 ++ dktX5_init_3
def dkwX5_init_1 : List UInt8 := [188, 10, 181, 0, 16, 42, 16, 24, 188, 10, 181, 0, 19, 42, 16, 80, 188, 10, 181, 0, 22, 42, 16, 80]
abbrev dktX5_init_1 : List UInt8 := dkwX5_init_1 ++ dktX5_init_2
def dkwX5_init_0 : List UInt8 := [42, 183, 0, 1, 42, 16, 40, 188, 10, 181, 0, 7, 42, 16, 24, 188, 10, 181, 0, 13, 42, 16, 24]
abbrev dktX5_init_0 : List UInt8 := dkwX5_init_0 ++ dktX5_init_1
theorem dksX5_init_0 : cX5_init.data.toList.drop 0 = dktX5_init_0 := by decide +kernel
theorem dksX5_init_1 : cX5_init.data.toList.drop 23 = dktX5_init_1 := dk_seg dksX5_init_0 23 rfl rfl
theorem dksX5_init_2 : cX5_init.data.toList.drop 47 = dktX5_init_2 := dk_seg dksX5_init_1 24 rfl rfl
theorem dksX5_init_3 : cX5_init.data.toList.drop 71 = dktX5_init_3 := dk_seg dksX5_init_2 24 rfl rfl
theorem dksX5_init_4 : cX5_init.data.toList.drop 94 = dktX5_init_4 := dk_seg dksX5_init_3 23 rfl rfl
theorem dksX5_init_5 : cX5_init.data.toList.drop 118 = dktX5_init_5 := dk_seg dksX5_init_4 24 rfl rfl
theorem dksX5_init_6 : cX5_init.data.toList.drop 141 = dktX5_init_6 := dk_seg dksX5_init_5 23 rfl rfl
theorem dX5_init_0 : decode cX5_init 0 = .ok (.aload_n 0, 1) := dk_42 (dk_at dksX5_init_0 0 rfl rfl)
theorem dX5_init_1 : decode cX5_init 1 = .ok (.invokespecial 1, 3) := dk_183 0 1 (dk_at dksX5_init_0 1 rfl rfl)
theorem dX5_init_4 : decode cX5_init 4 = .ok (.aload_n 0, 1) := dk_42 (dk_at dksX5_init_0 4 rfl rfl)
theorem dX5_init_5 : decode cX5_init 5 = .ok (.bipush 40, 2) := dk_16 40 (dk_at dksX5_init_0 5 rfl rfl)
theorem dX5_init_7 : decode cX5_init 7 = .ok (.newarray .int, 2) := dk_188_10 (dk_at dksX5_init_0 7 rfl rfl)
theorem dX5_init_9 : decode cX5_init 9 = .ok (.putfield 7, 3) := dk_181 0 7 (dk_at dksX5_init_0 9 rfl rfl)
theorem dX5_init_12 : decode cX5_init 12 = .ok (.aload_n 0, 1) := dk_42 (dk_at dksX5_init_0 12 rfl rfl)
theorem dX5_init_13 : decode cX5_init 13 = .ok (.bipush 24, 2) := dk_16 24 (dk_at dksX5_init_0 13 rfl rfl)
theorem dX5_init_15 : decode cX5_init 15 = .ok (.newarray .int, 2) := dk_188_10 (dk_at dksX5_init_0 15 rfl rfl)
theorem dX5_init_17 : decode cX5_init 17 = .ok (.putfield 13, 3) := dk_181 0 13 (dk_at dksX5_init_0 17 rfl rfl)
theorem dX5_init_20 : decode cX5_init 20 = .ok (.aload_n 0, 1) := dk_42 (dk_at dksX5_init_0 20 rfl rfl)
theorem dX5_init_21 : decode cX5_init 21 = .ok (.bipush 24, 2) := dk_16 24 (dk_at dksX5_init_0 21 rfl rfl)
theorem dX5_init_23 : decode cX5_init 23 = .ok (.newarray .int, 2) := dk_188_10 (dk_at dksX5_init_1 0 rfl rfl)
theorem dX5_init_25 : decode cX5_init 25 = .ok (.putfield 16, 3) := dk_181 0 16 (dk_at dksX5_init_1 2 rfl rfl)
theorem dX5_init_28 : decode cX5_init 28 = .ok (.aload_n 0, 1) := dk_42 (dk_at dksX5_init_1 5 rfl rfl)
theorem dX5_init_29 : decode cX5_init 29 = .ok (.bipush 24, 2) := dk_16 24 (dk_at dksX5_init_1 6 rfl rfl)
theorem dX5_init_31 : decode cX5_init 31 = .ok (.newarray .int, 2) := dk_188_10 (dk_at dksX5_init_1 8 rfl rfl)
theorem dX5_init_33 : decode cX5_init 33 = .ok (.putfield 19, 3) := dk_181 0 19 (dk_at dksX5_init_1 10 rfl rfl)
theorem dX5_init_36 : decode cX5_init 36 = .ok (.aload_n 0, 1) := dk_42 (dk_at dksX5_init_1 13 rfl rfl)
theorem dX5_init_37 : decode cX5_init 37 = .ok (.bipush 80, 2) := dk_16 80 (dk_at dksX5_init_1 14 rfl rfl)
theorem dX5_init_39 : decode cX5_init 39 = .ok (.newarray .int, 2) := dk_188_10 (dk_at dksX5_init_1 16 rfl rfl)
theorem dX5_init_41 : decode cX5_init 41 = .ok (.putfield 22, 3) := dk_181 0 22 (dk_at dksX5_init_1 18 rfl rfl)
theorem dX5_init_44 : decode cX5_init 44 = .ok (.aload_n 0, 1) := dk_42 (dk_at dksX5_init_1 21 rfl rfl)
theorem dX5_init_45 : decode cX5_init 45 = .ok (.bipush 80, 2) := dk_16 80 (dk_at dksX5_init_1 22 rfl rfl)
theorem dX5_init_47 : decode cX5_init 47 = .ok (.newarray .int, 2) := dk_188_10 (dk_at dksX5_init_2 0 rfl rfl)
theorem dX5_init_49 : decode cX5_init 49 = .ok (.putfield 25, 3) := dk_181 0 25 (dk_at dksX5_init_2 2 rfl rfl)
theorem dX5_init_52 : decode cX5_init 52 = .ok (.aload_n 0, 1) := dk_42 (dk_at dksX5_init_2 5 rfl rfl)
theorem dX5_init_53 : decode cX5_init 53 = .ok (.bipush 80, 2) := dk_16 80 (dk_at dksX5_init_2 6 rfl rfl)
theorem dX5_init_55 : decode cX5_init 55 = .ok (.newarray .int, 2) := dk_188_10 (dk_at dksX5_init_2 8 rfl rfl)
theorem dX5_init_57 : decode cX5_init 57 = .ok (.putfield 28, 3) := dk_181 0 28 (dk_at dksX5_init_2 10 rfl rfl)
theorem dX5_init_60 : decode cX5_init 60 = .ok (.aload_n 0, 1) := dk_42 (dk_at dksX5_init_2 13 rfl rfl)
theorem dX5_init_61 : decode cX5_init 61 = .ok (.bipush 80, 2) := dk_16 80 (dk_at dksX5_init_2 14 rfl rfl)
theorem dX5_init_63 : decode cX5_init 63 = .ok (.newarray .int, 2) := dk_188_10 (dk_at dksX5_init_2 16 rfl rfl)
theorem dX5_init_65 : decode cX5_init 65 = .ok (.putfield 31, 3) := dk_181 0 31 (dk_at dksX5_init_2 18 rfl rfl)
theorem dX5_init_68 : decode cX5_init 68 = .ok (.aload_n 0, 1) := dk_42 (dk_at dksX5_init_2 21 rfl rfl)
theorem dX5_init_69 : decode cX5_init 69 = .ok (.bipush 80, 2) := dk_16 80 (dk_at dksX5_init_2 22 rfl rfl)
theorem dX5_init_71 : decode cX5_init 71 = .ok (.newarray .int, 2) := dk_188_10 (dk_at dksX5_init_3 0 rfl rfl)
theorem dX5_init_73 : decode cX5_init 73 = .ok (.putfield 34, 3) := dk_181 0 34 (dk_at dksX5_init_3 2 rfl rfl)
theorem dX5_init_76 : decode cX5_init 76 = .ok (.aload_n 0, 1) := dk_42 (dk_at dksX5_init_3 5 rfl rfl)
theorem dX5_init_77 : decode cX5_init 77 = .ok (.iconst 1, 1) := dk_4 (dk_at dksX5_init_3 6 rfl rfl)
theorem dX5_init_78 : decode cX5_init 78 = .ok (.putfield 37, 3) := dk_181 0 37 (dk_at dksX5_init_3 7 rfl rfl)
theorem dX5_init_81 : decode cX5_init 81 = .ok (.aload_n 0, 1) := dk_42 (dk_at dksX5_init_3 10 rfl rfl)
theorem dX5_init_82 : decode cX5_init 82 = .ok (.iconst 1, 1) := dk_4 (dk_at dksX5_init_3 11 rfl rfl)
theorem dX5_init_83 : decode cX5_init 83 = .ok (.putfield 41, 3) := dk_181 0 41 (dk_at dksX5_init_3 12 rfl rfl)
theorem dX5_init_86 : decode cX5_init 86 = .ok (.aload_n 0, 1) := dk_42 (dk_at dksX5_init_3 15 rfl rfl)
theorem dX5_init_87 : decode cX5_init 87 = .ok (.iconst 1, 1) := dk_4 (dk_at dksX5_init_3 16 rfl rfl)
theorem dX5_init_88 : decode cX5_init 88 = .ok (.putfield 44, 3) := dk_181 0 44 (dk_at dksX5_init_3 17 rfl rfl)
theorem dX5_init_91 : decode cX5_init 91 = .ok (.aload_n 0, 1) := dk_42 (dk_at dksX5_init_3 20 rfl rfl)
theorem dX5_init_92 : decode cX5_init 92 = .ok (.bipush 24, 2) := dk_16 24 (dk_at dksX5_init_3 21 rfl rfl)
theorem dX5_init_94 : decode cX5_init 94 = .ok (.newarray .int, 2) := dk_188_10 (dk_at dksX5_init_4 0 rfl rfl)
theorem dX5_init_96 : decode cX5_init 96 = .ok (.putfield 47, 3) := dk_181 0 47 (dk_at dksX5_init_4 2 rfl rfl)
theorem dX5_init_99 : decode cX5_init 99 = .ok (.aload_n 0, 1) := dk_42 (dk_at dksX5_init_4 5 rfl rfl)
theorem dX5_init_100 : decode cX5_init 100 = .ok (.sipush 15000, 3) := dk_17 58 152 (dk_at dksX5_init_4 6 rfl rfl)
theorem dX5_init_103 : decode cX5_init 103 = .ok (.newarray .int, 2) := dk_188_10 (dk_at dksX5_init_4 9 rfl rfl)
theorem dX5_init_105 : decode cX5_init 105 = .ok (.putfield 50, 3) := dk_181 0 50 (dk_at dksX5_init_4 11 rfl rfl)
theorem dX5_init_108 : decode cX5_init 108 = .ok (.aload_n 0, 1) := dk_42 (dk_at dksX5_init_4 14 rfl rfl)
theorem dX5_init_109 : decode cX5_init 109 = .ok (.iconst (-1), 1) := dk_2 (dk_at dksX5_init_4 15 rfl rfl)
theorem dX5_init_110 : decode cX5_init 110 = .ok (.putfield 53, 3) := dk_181 0 53 (dk_at dksX5_init_4 16 rfl rfl)
theorem dX5_init_113 : decode cX5_init 113 = .ok (.aload_n 0, 1) := dk_42 (dk_at dksX5_init_4 19 rfl rfl)
theorem dX5_init_114 : decode cX5_init 114 = .ok (.iconst (-1), 1) := dk_2 (dk_at dksX5_init_4 20 rfl rfl)
theorem dX5_init_115 : decode cX5_init 115 = .ok (.putfield 56, 3) := dk_181 0 56 (dk_at dksX5_init_4 21 rfl rfl)
theorem dX5_init_118 : decode cX5_init 118 = .ok (.aload_n 0, 1) := dk_42 (dk_at dksX5_init_5 0 rfl rfl)
theorem dX5_init_119 : decode cX5_init 119 = .ok (.bipush 20, 2) := dk_16 20 (dk_at dksX5_init_5 1 rfl rfl)
theorem dX5_init_121 : decode cX5_init 121 = .ok (.newarray .int, 2) := dk_188_10 (dk_at dksX5_init_5 3 rfl rfl)
theorem dX5_init_123 : decode cX5_init 123 = .ok (.putfield 59, 3) := dk_181 0 59 (dk_at dksX5_init_5 5 rfl rfl)
theorem dX5_init_126 : decode cX5_init 126 = .ok (.aload_n 0, 1) := dk_42 (dk_at dksX5_init_5 8 rfl rfl)
theorem dX5_init_127 : decode cX5_init 127 = .ok (.sipush 240, 3) := dk_17 0 240 (dk_at dksX5_init_5 9 rfl rfl)
theorem dX5_init_130 : decode cX5_init 130 = .ok (.newarray .int, 2) := dk_188_10 (dk_at dksX5_init_5 12 rfl rfl)
theorem dX5_init_132 : decode cX5_init 132 = .ok (.putfield 62, 3) := dk_181 0 62 (dk_at dksX5_init_5 14 rfl rfl)
theorem dX5_init_135 : decode cX5_init 135 = .ok (.aload_n 0, 1) := dk_42 (dk_at dksX5_init_5 17 rfl rfl)
theorem dX5_init_136 : decode cX5_init 136 = .ok (.sipush 325, 3) := dk_17 1 69 (dk_at dksX5_init_5 18 rfl rfl)
theorem dX5_init_139 : decode cX5_init 139 = .ok (.newarray .int, 2) := dk_188_10 (dk_at dksX5_init_5 21 rfl rfl)
theorem dX5_init_141 : decode cX5_init 141 = .ok (.putfield 65, 3) := dk_181 0 65 (dk_at dksX5_init_6 0 rfl rfl)
theorem dX5_init_144 : decode cX5_init 144 = .ok (.return_, 1) := dk_177 (dk_at dksX5_init_6 3 rfl rfl)
abbrev cX5_type : ByteArray := prog_13_method_2_code
def yX5_type : MethodName := ⟨RX5, "type", "(C)Z"⟩
def dkwX5_type_1 : List UInt8 := [180, 0, 7, 42, 180, 0, 68, 27, 79, 42, 89, 180, 0, 68, 4, 96, 181, 0, 68, 4, 172]
abbrev dktX5_type_1 : List UInt8 := dkwX5_type_1 ++ []
def dkwX5_type_0 : List UInt8 := [27, 16, 33, 161, 0, 18, 27, 16, 126, 163, 0, 12, 42, 180, 0, 68, 16, 40, 160, 0, 5, 3, 172, 42]
abbrev dktX5_type_0 : List UInt8 := dkwX5_type_0 ++ dktX5_type_1
theorem dksX5_type_0 : cX5_type.data.toList.drop 0 = dktX5_type_0 := by decide +kernel
theorem dksX5_type_1 : cX5_type.data.toList.drop 24 = dktX5_type_1 := dk_seg dksX5_type_0 24 rfl rfl
theorem dX5_type_0 : decode cX5_type 0 = .ok (.iload_n 1, 1) := dk_27 (dk_at dksX5_type_0 0 rfl rfl)
theorem dX5_type_1 : decode cX5_type 1 = .ok (.bipush 33, 2) := dk_16 33 (dk_at dksX5_type_0 1 rfl rfl)
theorem dX5_type_3 : decode cX5_type 3 = .ok (.if_icmp .lt 18, 3) := dk_161 0 18 (dk_at dksX5_type_0 3 rfl rfl)
theorem dX5_type_6 : decode cX5_type 6 = .ok (.iload_n 1, 1) := dk_27 (dk_at dksX5_type_0 6 rfl rfl)
theorem dX5_type_7 : decode cX5_type 7 = .ok (.bipush 126, 2) := dk_16 126 (dk_at dksX5_type_0 7 rfl rfl)
theorem dX5_type_9 : decode cX5_type 9 = .ok (.if_icmp .gt 12, 3) := dk_163 0 12 (dk_at dksX5_type_0 9 rfl rfl)
theorem dX5_type_12 : decode cX5_type 12 = .ok (.aload_n 0, 1) := dk_42 (dk_at dksX5_type_0 12 rfl rfl)
theorem dX5_type_13 : decode cX5_type 13 = .ok (.getfield 68, 3) := dk_180 0 68 (dk_at dksX5_type_0 13 rfl rfl)
theorem dX5_type_16 : decode cX5_type 16 = .ok (.bipush 40, 2) := dk_16 40 (dk_at dksX5_type_0 16 rfl rfl)
theorem dX5_type_18 : decode cX5_type 18 = .ok (.if_icmp .ne 5, 3) := dk_160 0 5 (dk_at dksX5_type_0 18 rfl rfl)
theorem dX5_type_21 : decode cX5_type 21 = .ok (.iconst 0, 1) := dk_3 (dk_at dksX5_type_0 21 rfl rfl)
theorem dX5_type_22 : decode cX5_type 22 = .ok (.ireturn, 1) := dk_172 (dk_at dksX5_type_0 22 rfl rfl)
theorem dX5_type_23 : decode cX5_type 23 = .ok (.aload_n 0, 1) := dk_42 (dk_at dksX5_type_0 23 rfl rfl)
theorem dX5_type_24 : decode cX5_type 24 = .ok (.getfield 7, 3) := dk_180 0 7 (dk_at dksX5_type_1 0 rfl rfl)
theorem dX5_type_27 : decode cX5_type 27 = .ok (.aload_n 0, 1) := dk_42 (dk_at dksX5_type_1 3 rfl rfl)
theorem dX5_type_28 : decode cX5_type 28 = .ok (.getfield 68, 3) := dk_180 0 68 (dk_at dksX5_type_1 4 rfl rfl)
theorem dX5_type_31 : decode cX5_type 31 = .ok (.iload_n 1, 1) := dk_27 (dk_at dksX5_type_1 7 rfl rfl)
theorem dX5_type_32 : decode cX5_type 32 = .ok (.iastore, 1) := dk_79 (dk_at dksX5_type_1 8 rfl rfl)
theorem dX5_type_33 : decode cX5_type 33 = .ok (.aload_n 0, 1) := dk_42 (dk_at dksX5_type_1 9 rfl rfl)
theorem dX5_type_34 : decode cX5_type 34 = .ok (.dup, 1) := dk_89 (dk_at dksX5_type_1 10 rfl rfl)
theorem dX5_type_35 : decode cX5_type 35 = .ok (.getfield 68, 3) := dk_180 0 68 (dk_at dksX5_type_1 11 rfl rfl)
theorem dX5_type_38 : decode cX5_type 38 = .ok (.iconst 1, 1) := dk_4 (dk_at dksX5_type_1 14 rfl rfl)
theorem dX5_type_39 : decode cX5_type 39 = .ok (.iadd, 1) := dk_96 (dk_at dksX5_type_1 15 rfl rfl)
theorem dX5_type_40 : decode cX5_type 40 = .ok (.putfield 68, 3) := dk_181 0 68 (dk_at dksX5_type_1 16 rfl rfl)
theorem dX5_type_43 : decode cX5_type 43 = .ok (.iconst 1, 1) := dk_4 (dk_at dksX5_type_1 19 rfl rfl)
theorem dX5_type_44 : decode cX5_type 44 = .ok (.ireturn, 1) := dk_172 (dk_at dksX5_type_1 20 rfl rfl)
abbrev cX5_compile : ByteArray := prog_13_method_13_code
def yX5_compile : MethodName := ⟨RX5, "compile", "()I"⟩
def dkwX5_compile_4 : List UInt8 := [132, 2, 1, 167, 255, 209, 42, 182, 0, 125, 2, 172]
abbrev dktX5_compile_4 : List UInt8 := dkwX5_compile_4 ++ []
def dkwX5_compile_3 : List UInt8 := [180, 0, 16, 28, 42, 180, 0, 25, 28, 46, 79, 42, 180, 0, 19, 28, 42, 180, 0, 28, 28, 46, 79]
abbrev dktX5_compile_3 : List UInt8 := dkwX5_compile_3 ++ dktX5_compile_4
def dkwX5_compile_2 : List UInt8 := [61, 28, 42, 180, 0, 122, 162, 0, 45, 42, 180, 0, 13, 28, 42, 180, 0, 22, 28, 46, 79, 42]
abbrev dktX5_compile_2 : List UInt8 := dkwX5_compile_2 ++ dktX5_compile_3
def dkwX5_compile_1 : List UInt8 := [181, 0, 68, 42, 180, 0, 79, 16, 24, 164, 0, 6, 16, 254, 172, 42, 42, 180, 0, 79, 181, 0, 122, 3]
abbrev dktX5_compile_1 : List UInt8 := dkwX5_compile_1 ++ dktX5_compile_2
def dkwX5_compile_0 : List UInt8 := [42, 182, 0, 115, 60, 27, 2, 159, 0, 10, 42, 3, 181, 0, 68, 27, 172, 42, 182, 0, 119, 42, 3]
abbrev dktX5_compile_0 : List UInt8 := dkwX5_compile_0 ++ dktX5_compile_1
theorem dksX5_compile_0 : cX5_compile.data.toList.drop 0 = dktX5_compile_0 := by decide +kernel
theorem dksX5_compile_1 : cX5_compile.data.toList.drop 23 = dktX5_compile_1 := dk_seg dksX5_compile_0 23 rfl rfl
theorem dksX5_compile_2 : cX5_compile.data.toList.drop 47 = dktX5_compile_2 := dk_seg dksX5_compile_1 24 rfl rfl
theorem dksX5_compile_3 : cX5_compile.data.toList.drop 69 = dktX5_compile_3 := dk_seg dksX5_compile_2 22 rfl rfl
theorem dksX5_compile_4 : cX5_compile.data.toList.drop 92 = dktX5_compile_4 := dk_seg dksX5_compile_3 23 rfl rfl
theorem dX5_compile_0 : decode cX5_compile 0 = .ok (.aload_n 0, 1) := dk_42 (dk_at dksX5_compile_0 0 rfl rfl)
theorem dX5_compile_1 : decode cX5_compile 1 = .ok (.invokevirtual 115, 3) := dk_182 0 115 (dk_at dksX5_compile_0 1 rfl rfl)
theorem dX5_compile_4 : decode cX5_compile 4 = .ok (.istore_n 1, 1) := dk_60 (dk_at dksX5_compile_0 4 rfl rfl)
theorem dX5_compile_5 : decode cX5_compile 5 = .ok (.iload_n 1, 1) := dk_27 (dk_at dksX5_compile_0 5 rfl rfl)
theorem dX5_compile_6 : decode cX5_compile 6 = .ok (.iconst (-1), 1) := dk_2 (dk_at dksX5_compile_0 6 rfl rfl)
theorem dX5_compile_7 : decode cX5_compile 7 = .ok (.if_icmp .eq 10, 3) := dk_159 0 10 (dk_at dksX5_compile_0 7 rfl rfl)
theorem dX5_compile_10 : decode cX5_compile 10 = .ok (.aload_n 0, 1) := dk_42 (dk_at dksX5_compile_0 10 rfl rfl)
theorem dX5_compile_11 : decode cX5_compile 11 = .ok (.iconst 0, 1) := dk_3 (dk_at dksX5_compile_0 11 rfl rfl)
theorem dX5_compile_12 : decode cX5_compile 12 = .ok (.putfield 68, 3) := dk_181 0 68 (dk_at dksX5_compile_0 12 rfl rfl)
theorem dX5_compile_15 : decode cX5_compile 15 = .ok (.iload_n 1, 1) := dk_27 (dk_at dksX5_compile_0 15 rfl rfl)
theorem dX5_compile_16 : decode cX5_compile 16 = .ok (.ireturn, 1) := dk_172 (dk_at dksX5_compile_0 16 rfl rfl)
theorem dX5_compile_17 : decode cX5_compile 17 = .ok (.aload_n 0, 1) := dk_42 (dk_at dksX5_compile_0 17 rfl rfl)
theorem dX5_compile_18 : decode cX5_compile 18 = .ok (.invokevirtual 119, 3) := dk_182 0 119 (dk_at dksX5_compile_0 18 rfl rfl)
theorem dX5_compile_21 : decode cX5_compile 21 = .ok (.aload_n 0, 1) := dk_42 (dk_at dksX5_compile_0 21 rfl rfl)
theorem dX5_compile_22 : decode cX5_compile 22 = .ok (.iconst 0, 1) := dk_3 (dk_at dksX5_compile_0 22 rfl rfl)
theorem dX5_compile_23 : decode cX5_compile 23 = .ok (.putfield 68, 3) := dk_181 0 68 (dk_at dksX5_compile_1 0 rfl rfl)
theorem dX5_compile_26 : decode cX5_compile 26 = .ok (.aload_n 0, 1) := dk_42 (dk_at dksX5_compile_1 3 rfl rfl)
theorem dX5_compile_27 : decode cX5_compile 27 = .ok (.getfield 79, 3) := dk_180 0 79 (dk_at dksX5_compile_1 4 rfl rfl)
theorem dX5_compile_30 : decode cX5_compile 30 = .ok (.bipush 24, 2) := dk_16 24 (dk_at dksX5_compile_1 7 rfl rfl)
theorem dX5_compile_32 : decode cX5_compile 32 = .ok (.if_icmp .le 6, 3) := dk_164 0 6 (dk_at dksX5_compile_1 9 rfl rfl)
theorem dX5_compile_35 : decode cX5_compile 35 = .ok (.bipush (-2), 2) := dk_16 254 (dk_at dksX5_compile_1 12 rfl rfl)
theorem dX5_compile_37 : decode cX5_compile 37 = .ok (.ireturn, 1) := dk_172 (dk_at dksX5_compile_1 14 rfl rfl)
theorem dX5_compile_38 : decode cX5_compile 38 = .ok (.aload_n 0, 1) := dk_42 (dk_at dksX5_compile_1 15 rfl rfl)
theorem dX5_compile_39 : decode cX5_compile 39 = .ok (.aload_n 0, 1) := dk_42 (dk_at dksX5_compile_1 16 rfl rfl)
theorem dX5_compile_40 : decode cX5_compile 40 = .ok (.getfield 79, 3) := dk_180 0 79 (dk_at dksX5_compile_1 17 rfl rfl)
theorem dX5_compile_43 : decode cX5_compile 43 = .ok (.putfield 122, 3) := dk_181 0 122 (dk_at dksX5_compile_1 20 rfl rfl)
theorem dX5_compile_46 : decode cX5_compile 46 = .ok (.iconst 0, 1) := dk_3 (dk_at dksX5_compile_1 23 rfl rfl)
theorem dX5_compile_47 : decode cX5_compile 47 = .ok (.istore_n 2, 1) := dk_61 (dk_at dksX5_compile_2 0 rfl rfl)
theorem dX5_compile_48 : decode cX5_compile 48 = .ok (.iload_n 2, 1) := dk_28 (dk_at dksX5_compile_2 1 rfl rfl)
theorem dX5_compile_49 : decode cX5_compile 49 = .ok (.aload_n 0, 1) := dk_42 (dk_at dksX5_compile_2 2 rfl rfl)
theorem dX5_compile_50 : decode cX5_compile 50 = .ok (.getfield 122, 3) := dk_180 0 122 (dk_at dksX5_compile_2 3 rfl rfl)
theorem dX5_compile_53 : decode cX5_compile 53 = .ok (.if_icmp .ge 45, 3) := dk_162 0 45 (dk_at dksX5_compile_2 6 rfl rfl)
theorem dX5_compile_56 : decode cX5_compile 56 = .ok (.aload_n 0, 1) := dk_42 (dk_at dksX5_compile_2 9 rfl rfl)
theorem dX5_compile_57 : decode cX5_compile 57 = .ok (.getfield 13, 3) := dk_180 0 13 (dk_at dksX5_compile_2 10 rfl rfl)
theorem dX5_compile_60 : decode cX5_compile 60 = .ok (.iload_n 2, 1) := dk_28 (dk_at dksX5_compile_2 13 rfl rfl)
theorem dX5_compile_61 : decode cX5_compile 61 = .ok (.aload_n 0, 1) := dk_42 (dk_at dksX5_compile_2 14 rfl rfl)
theorem dX5_compile_62 : decode cX5_compile 62 = .ok (.getfield 22, 3) := dk_180 0 22 (dk_at dksX5_compile_2 15 rfl rfl)
theorem dX5_compile_65 : decode cX5_compile 65 = .ok (.iload_n 2, 1) := dk_28 (dk_at dksX5_compile_2 18 rfl rfl)
theorem dX5_compile_66 : decode cX5_compile 66 = .ok (.iaload, 1) := dk_46 (dk_at dksX5_compile_2 19 rfl rfl)
theorem dX5_compile_67 : decode cX5_compile 67 = .ok (.iastore, 1) := dk_79 (dk_at dksX5_compile_2 20 rfl rfl)
theorem dX5_compile_68 : decode cX5_compile 68 = .ok (.aload_n 0, 1) := dk_42 (dk_at dksX5_compile_2 21 rfl rfl)
theorem dX5_compile_69 : decode cX5_compile 69 = .ok (.getfield 16, 3) := dk_180 0 16 (dk_at dksX5_compile_3 0 rfl rfl)
theorem dX5_compile_72 : decode cX5_compile 72 = .ok (.iload_n 2, 1) := dk_28 (dk_at dksX5_compile_3 3 rfl rfl)
theorem dX5_compile_73 : decode cX5_compile 73 = .ok (.aload_n 0, 1) := dk_42 (dk_at dksX5_compile_3 4 rfl rfl)
theorem dX5_compile_74 : decode cX5_compile 74 = .ok (.getfield 25, 3) := dk_180 0 25 (dk_at dksX5_compile_3 5 rfl rfl)
theorem dX5_compile_77 : decode cX5_compile 77 = .ok (.iload_n 2, 1) := dk_28 (dk_at dksX5_compile_3 8 rfl rfl)
theorem dX5_compile_78 : decode cX5_compile 78 = .ok (.iaload, 1) := dk_46 (dk_at dksX5_compile_3 9 rfl rfl)
theorem dX5_compile_79 : decode cX5_compile 79 = .ok (.iastore, 1) := dk_79 (dk_at dksX5_compile_3 10 rfl rfl)
theorem dX5_compile_80 : decode cX5_compile 80 = .ok (.aload_n 0, 1) := dk_42 (dk_at dksX5_compile_3 11 rfl rfl)
theorem dX5_compile_81 : decode cX5_compile 81 = .ok (.getfield 19, 3) := dk_180 0 19 (dk_at dksX5_compile_3 12 rfl rfl)
theorem dX5_compile_84 : decode cX5_compile 84 = .ok (.iload_n 2, 1) := dk_28 (dk_at dksX5_compile_3 15 rfl rfl)
theorem dX5_compile_85 : decode cX5_compile 85 = .ok (.aload_n 0, 1) := dk_42 (dk_at dksX5_compile_3 16 rfl rfl)
theorem dX5_compile_86 : decode cX5_compile 86 = .ok (.getfield 28, 3) := dk_180 0 28 (dk_at dksX5_compile_3 17 rfl rfl)
theorem dX5_compile_89 : decode cX5_compile 89 = .ok (.iload_n 2, 1) := dk_28 (dk_at dksX5_compile_3 20 rfl rfl)
theorem dX5_compile_90 : decode cX5_compile 90 = .ok (.iaload, 1) := dk_46 (dk_at dksX5_compile_3 21 rfl rfl)
theorem dX5_compile_91 : decode cX5_compile 91 = .ok (.iastore, 1) := dk_79 (dk_at dksX5_compile_3 22 rfl rfl)
theorem dX5_compile_92 : decode cX5_compile 92 = .ok (.iinc 2 1, 3) := dk_132 2 1 (dk_at dksX5_compile_4 0 rfl rfl)
theorem dX5_compile_95 : decode cX5_compile 95 = .ok (.goto (-47), 3) := dk_167 255 209 (dk_at dksX5_compile_4 3 rfl rfl)
theorem dX5_compile_98 : decode cX5_compile 98 = .ok (.aload_n 0, 1) := dk_42 (dk_at dksX5_compile_4 6 rfl rfl)
theorem dX5_compile_99 : decode cX5_compile 99 = .ok (.invokevirtual 125, 3) := dk_182 0 125 (dk_at dksX5_compile_4 7 rfl rfl)
theorem dX5_compile_102 : decode cX5_compile 102 = .ok (.iconst (-1), 1) := dk_2 (dk_at dksX5_compile_4 10 rfl rfl)
theorem dX5_compile_103 : decode cX5_compile 103 = .ok (.ireturn, 1) := dk_172 (dk_at dksX5_compile_4 11 rfl rfl)
abbrev cX5_fault : ByteArray := prog_13_method_5_code
def yX5_fault : MethodName := ⟨RX5, "fault", "()I"⟩
def dkwX5_fault_5 : List UInt8 := [167, 0, 7, 42, 180, 0, 68, 172]
abbrev dktX5_fault_5 : List UInt8 := dkwX5_fault_5 ++ []
def dkwX5_fault_4 : List UInt8 := [96, 61, 132, 3, 1, 167, 255, 161, 28, 154, 0, 18, 27, 4, 159, 0, 9, 27, 16, 6, 160, 0, 7, 2]
abbrev dktX5_fault_4 : List UInt8 := dkwX5_fault_4 ++ dktX5_fault_5
def dkwX5_fault_3 : List UInt8 := [167, 0, 24, 21, 5, 153, 0, 18, 42, 180, 0, 7, 29, 46, 16, 41, 160, 0, 7, 2, 167, 0, 4, 3]
abbrev dktX5_fault_3 : List UInt8 := dkwX5_fault_3 ++ dktX5_fault_4
def dkwX5_fault_2 : List UInt8 := [167, 0, 4, 3, 54, 5, 28, 21, 5, 153, 0, 18, 42, 180, 0, 7, 29, 46, 16, 40, 160, 0, 7, 4]
abbrev dktX5_fault_2 : List UInt8 := dkwX5_fault_2 ++ dktX5_fault_3
def dkwX5_fault_1 : List UInt8 := [28, 184, 0, 75, 60, 27, 156, 0, 5, 29, 172, 21, 4, 5, 161, 0, 9, 21, 4, 7, 164, 0, 7, 4]
abbrev dktX5_fault_1 : List UInt8 := dkwX5_fault_1 ++ dktX5_fault_2
def dkwX5_fault_0 : List UInt8 := [3, 60, 3, 61, 3, 62, 29, 42, 180, 0, 68, 162, 0, 93, 27, 54, 4, 27, 42, 180, 0, 7, 29, 46]
abbrev dktX5_fault_0 : List UInt8 := dkwX5_fault_0 ++ dktX5_fault_1
theorem dksX5_fault_0 : cX5_fault.data.toList.drop 0 = dktX5_fault_0 := by decide +kernel
theorem dksX5_fault_1 : cX5_fault.data.toList.drop 24 = dktX5_fault_1 := dk_seg dksX5_fault_0 24 rfl rfl
theorem dksX5_fault_2 : cX5_fault.data.toList.drop 48 = dktX5_fault_2 := dk_seg dksX5_fault_1 24 rfl rfl
theorem dksX5_fault_3 : cX5_fault.data.toList.drop 72 = dktX5_fault_3 := dk_seg dksX5_fault_2 24 rfl rfl
theorem dksX5_fault_4 : cX5_fault.data.toList.drop 96 = dktX5_fault_4 := dk_seg dksX5_fault_3 24 rfl rfl
theorem dksX5_fault_5 : cX5_fault.data.toList.drop 120 = dktX5_fault_5 := dk_seg dksX5_fault_4 24 rfl rfl
theorem dX5_fault_0 : decode cX5_fault 0 = .ok (.iconst 0, 1) := dk_3 (dk_at dksX5_fault_0 0 rfl rfl)
theorem dX5_fault_1 : decode cX5_fault 1 = .ok (.istore_n 1, 1) := dk_60 (dk_at dksX5_fault_0 1 rfl rfl)
theorem dX5_fault_2 : decode cX5_fault 2 = .ok (.iconst 0, 1) := dk_3 (dk_at dksX5_fault_0 2 rfl rfl)
theorem dX5_fault_3 : decode cX5_fault 3 = .ok (.istore_n 2, 1) := dk_61 (dk_at dksX5_fault_0 3 rfl rfl)
theorem dX5_fault_4 : decode cX5_fault 4 = .ok (.iconst 0, 1) := dk_3 (dk_at dksX5_fault_0 4 rfl rfl)
theorem dX5_fault_5 : decode cX5_fault 5 = .ok (.istore_n 3, 1) := dk_62 (dk_at dksX5_fault_0 5 rfl rfl)
theorem dX5_fault_6 : decode cX5_fault 6 = .ok (.iload_n 3, 1) := dk_29 (dk_at dksX5_fault_0 6 rfl rfl)
theorem dX5_fault_7 : decode cX5_fault 7 = .ok (.aload_n 0, 1) := dk_42 (dk_at dksX5_fault_0 7 rfl rfl)
theorem dX5_fault_8 : decode cX5_fault 8 = .ok (.getfield 68, 3) := dk_180 0 68 (dk_at dksX5_fault_0 8 rfl rfl)
theorem dX5_fault_11 : decode cX5_fault 11 = .ok (.if_icmp .ge 93, 3) := dk_162 0 93 (dk_at dksX5_fault_0 11 rfl rfl)
theorem dX5_fault_14 : decode cX5_fault 14 = .ok (.iload_n 1, 1) := dk_27 (dk_at dksX5_fault_0 14 rfl rfl)
theorem dX5_fault_15 : decode cX5_fault 15 = .ok (.istore 4, 2) := dk_54 4 (dk_at dksX5_fault_0 15 rfl rfl)
theorem dX5_fault_17 : decode cX5_fault 17 = .ok (.iload_n 1, 1) := dk_27 (dk_at dksX5_fault_0 17 rfl rfl)
theorem dX5_fault_18 : decode cX5_fault 18 = .ok (.aload_n 0, 1) := dk_42 (dk_at dksX5_fault_0 18 rfl rfl)
theorem dX5_fault_19 : decode cX5_fault 19 = .ok (.getfield 7, 3) := dk_180 0 7 (dk_at dksX5_fault_0 19 rfl rfl)
theorem dX5_fault_22 : decode cX5_fault 22 = .ok (.iload_n 3, 1) := dk_29 (dk_at dksX5_fault_0 22 rfl rfl)
theorem dX5_fault_23 : decode cX5_fault 23 = .ok (.iaload, 1) := dk_46 (dk_at dksX5_fault_0 23 rfl rfl)
theorem dX5_fault_24 : decode cX5_fault 24 = .ok (.iload_n 2, 1) := dk_28 (dk_at dksX5_fault_1 0 rfl rfl)
theorem dX5_fault_25 : decode cX5_fault 25 = .ok (.invokestatic 75, 3) := dk_184 0 75 (dk_at dksX5_fault_1 1 rfl rfl)
theorem dX5_fault_28 : decode cX5_fault 28 = .ok (.istore_n 1, 1) := dk_60 (dk_at dksX5_fault_1 4 rfl rfl)
theorem dX5_fault_29 : decode cX5_fault 29 = .ok (.iload_n 1, 1) := dk_27 (dk_at dksX5_fault_1 5 rfl rfl)
theorem dX5_fault_30 : decode cX5_fault 30 = .ok (.ifCond .ge 5, 3) := dk_156 0 5 (dk_at dksX5_fault_1 6 rfl rfl)
theorem dX5_fault_33 : decode cX5_fault 33 = .ok (.iload_n 3, 1) := dk_29 (dk_at dksX5_fault_1 9 rfl rfl)
theorem dX5_fault_34 : decode cX5_fault 34 = .ok (.ireturn, 1) := dk_172 (dk_at dksX5_fault_1 10 rfl rfl)
theorem dX5_fault_35 : decode cX5_fault 35 = .ok (.iload 4, 2) := dk_21 4 (dk_at dksX5_fault_1 11 rfl rfl)
theorem dX5_fault_37 : decode cX5_fault 37 = .ok (.iconst 2, 1) := dk_5 (dk_at dksX5_fault_1 13 rfl rfl)
theorem dX5_fault_38 : decode cX5_fault 38 = .ok (.if_icmp .lt 9, 3) := dk_161 0 9 (dk_at dksX5_fault_1 14 rfl rfl)
theorem dX5_fault_41 : decode cX5_fault 41 = .ok (.iload 4, 2) := dk_21 4 (dk_at dksX5_fault_1 17 rfl rfl)
theorem dX5_fault_43 : decode cX5_fault 43 = .ok (.iconst 4, 1) := dk_7 (dk_at dksX5_fault_1 19 rfl rfl)
theorem dX5_fault_44 : decode cX5_fault 44 = .ok (.if_icmp .le 7, 3) := dk_164 0 7 (dk_at dksX5_fault_1 20 rfl rfl)
theorem dX5_fault_47 : decode cX5_fault 47 = .ok (.iconst 1, 1) := dk_4 (dk_at dksX5_fault_1 23 rfl rfl)
theorem dX5_fault_48 : decode cX5_fault 48 = .ok (.goto 4, 3) := dk_167 0 4 (dk_at dksX5_fault_2 0 rfl rfl)
theorem dX5_fault_51 : decode cX5_fault 51 = .ok (.iconst 0, 1) := dk_3 (dk_at dksX5_fault_2 3 rfl rfl)
theorem dX5_fault_52 : decode cX5_fault 52 = .ok (.istore 5, 2) := dk_54 5 (dk_at dksX5_fault_2 4 rfl rfl)
theorem dX5_fault_54 : decode cX5_fault 54 = .ok (.iload_n 2, 1) := dk_28 (dk_at dksX5_fault_2 6 rfl rfl)
theorem dX5_fault_55 : decode cX5_fault 55 = .ok (.iload 5, 2) := dk_21 5 (dk_at dksX5_fault_2 7 rfl rfl)
theorem dX5_fault_57 : decode cX5_fault 57 = .ok (.ifCond .eq 18, 3) := dk_153 0 18 (dk_at dksX5_fault_2 9 rfl rfl)
theorem dX5_fault_60 : decode cX5_fault 60 = .ok (.aload_n 0, 1) := dk_42 (dk_at dksX5_fault_2 12 rfl rfl)
theorem dX5_fault_61 : decode cX5_fault 61 = .ok (.getfield 7, 3) := dk_180 0 7 (dk_at dksX5_fault_2 13 rfl rfl)
theorem dX5_fault_64 : decode cX5_fault 64 = .ok (.iload_n 3, 1) := dk_29 (dk_at dksX5_fault_2 16 rfl rfl)
theorem dX5_fault_65 : decode cX5_fault 65 = .ok (.iaload, 1) := dk_46 (dk_at dksX5_fault_2 17 rfl rfl)
theorem dX5_fault_66 : decode cX5_fault 66 = .ok (.bipush 40, 2) := dk_16 40 (dk_at dksX5_fault_2 18 rfl rfl)
theorem dX5_fault_68 : decode cX5_fault 68 = .ok (.if_icmp .ne 7, 3) := dk_160 0 7 (dk_at dksX5_fault_2 20 rfl rfl)
theorem dX5_fault_71 : decode cX5_fault 71 = .ok (.iconst 1, 1) := dk_4 (dk_at dksX5_fault_2 23 rfl rfl)
theorem dX5_fault_72 : decode cX5_fault 72 = .ok (.goto 24, 3) := dk_167 0 24 (dk_at dksX5_fault_3 0 rfl rfl)
theorem dX5_fault_75 : decode cX5_fault 75 = .ok (.iload 5, 2) := dk_21 5 (dk_at dksX5_fault_3 3 rfl rfl)
theorem dX5_fault_77 : decode cX5_fault 77 = .ok (.ifCond .eq 18, 3) := dk_153 0 18 (dk_at dksX5_fault_3 5 rfl rfl)
theorem dX5_fault_80 : decode cX5_fault 80 = .ok (.aload_n 0, 1) := dk_42 (dk_at dksX5_fault_3 8 rfl rfl)
theorem dX5_fault_81 : decode cX5_fault 81 = .ok (.getfield 7, 3) := dk_180 0 7 (dk_at dksX5_fault_3 9 rfl rfl)
theorem dX5_fault_84 : decode cX5_fault 84 = .ok (.iload_n 3, 1) := dk_29 (dk_at dksX5_fault_3 12 rfl rfl)
theorem dX5_fault_85 : decode cX5_fault 85 = .ok (.iaload, 1) := dk_46 (dk_at dksX5_fault_3 13 rfl rfl)
theorem dX5_fault_86 : decode cX5_fault 86 = .ok (.bipush 41, 2) := dk_16 41 (dk_at dksX5_fault_3 14 rfl rfl)
theorem dX5_fault_88 : decode cX5_fault 88 = .ok (.if_icmp .ne 7, 3) := dk_160 0 7 (dk_at dksX5_fault_3 16 rfl rfl)
theorem dX5_fault_91 : decode cX5_fault 91 = .ok (.iconst (-1), 1) := dk_2 (dk_at dksX5_fault_3 19 rfl rfl)
theorem dX5_fault_92 : decode cX5_fault 92 = .ok (.goto 4, 3) := dk_167 0 4 (dk_at dksX5_fault_3 20 rfl rfl)
theorem dX5_fault_95 : decode cX5_fault 95 = .ok (.iconst 0, 1) := dk_3 (dk_at dksX5_fault_3 23 rfl rfl)
theorem dX5_fault_96 : decode cX5_fault 96 = .ok (.iadd, 1) := dk_96 (dk_at dksX5_fault_4 0 rfl rfl)
theorem dX5_fault_97 : decode cX5_fault 97 = .ok (.istore_n 2, 1) := dk_61 (dk_at dksX5_fault_4 1 rfl rfl)
theorem dX5_fault_98 : decode cX5_fault 98 = .ok (.iinc 3 1, 3) := dk_132 3 1 (dk_at dksX5_fault_4 2 rfl rfl)
theorem dX5_fault_101 : decode cX5_fault 101 = .ok (.goto (-95), 3) := dk_167 255 161 (dk_at dksX5_fault_4 5 rfl rfl)
theorem dX5_fault_104 : decode cX5_fault 104 = .ok (.iload_n 2, 1) := dk_28 (dk_at dksX5_fault_4 8 rfl rfl)
theorem dX5_fault_105 : decode cX5_fault 105 = .ok (.ifCond .ne 18, 3) := dk_154 0 18 (dk_at dksX5_fault_4 9 rfl rfl)
theorem dX5_fault_108 : decode cX5_fault 108 = .ok (.iload_n 1, 1) := dk_27 (dk_at dksX5_fault_4 12 rfl rfl)
theorem dX5_fault_109 : decode cX5_fault 109 = .ok (.iconst 1, 1) := dk_4 (dk_at dksX5_fault_4 13 rfl rfl)
theorem dX5_fault_110 : decode cX5_fault 110 = .ok (.if_icmp .eq 9, 3) := dk_159 0 9 (dk_at dksX5_fault_4 14 rfl rfl)
theorem dX5_fault_113 : decode cX5_fault 113 = .ok (.iload_n 1, 1) := dk_27 (dk_at dksX5_fault_4 17 rfl rfl)
theorem dX5_fault_114 : decode cX5_fault 114 = .ok (.bipush 6, 2) := dk_16 6 (dk_at dksX5_fault_4 18 rfl rfl)
theorem dX5_fault_116 : decode cX5_fault 116 = .ok (.if_icmp .ne 7, 3) := dk_160 0 7 (dk_at dksX5_fault_4 20 rfl rfl)
theorem dX5_fault_119 : decode cX5_fault 119 = .ok (.iconst (-1), 1) := dk_2 (dk_at dksX5_fault_4 23 rfl rfl)
theorem dX5_fault_120 : decode cX5_fault 120 = .ok (.goto 7, 3) := dk_167 0 7 (dk_at dksX5_fault_5 0 rfl rfl)
theorem dX5_fault_123 : decode cX5_fault 123 = .ok (.aload_n 0, 1) := dk_42 (dk_at dksX5_fault_5 3 rfl rfl)
theorem dX5_fault_124 : decode cX5_fault 124 = .ok (.getfield 68, 3) := dk_180 0 68 (dk_at dksX5_fault_5 4 rfl rfl)
theorem dX5_fault_127 : decode cX5_fault 127 = .ok (.ireturn, 1) := dk_172 (dk_at dksX5_fault_5 7 rfl rfl)
abbrev cX5_next : ByteArray := prog_13_method_4_code
def yX5_next : MethodName := ⟨RX5, "next", "(III)I"⟩
def dkwX5_next_8 : List UInt8 := [167, 0, 18, 27, 16, 41, 160, 0, 11, 28, 158, 0, 7, 4, 167, 0, 4, 2, 172]
abbrev dktX5_next_8 : List UInt8 := dkwX5_next_8 ++ []
def dkwX5_next_7 : List UInt8 := [160, 0, 5, 4, 172, 27, 16, 60, 160, 0, 7, 8, 167, 0, 28, 27, 16, 124, 160, 0, 7, 3]
abbrev dktX5_next_7 : List UInt8 := dkwX5_next_7 ++ dktX5_next_8
def dkwX5_next_6 : List UInt8 := [2, 172, 26, 154, 0, 5, 2, 172, 27, 16, 42, 159, 0, 15, 27, 16, 43, 159, 0, 9, 27, 16, 63]
abbrev dktX5_next_6 : List UInt8 := dkwX5_next_6 ++ dktX5_next_7
def dkwX5_next_5 : List UInt8 := [27, 16, 91, 160, 0, 5, 5, 172, 27, 16, 40, 160, 0, 15, 28, 16, 6, 162, 0, 7, 3, 167, 0, 4]
abbrev dktX5_next_5 : List UInt8 := dkwX5_next_5 ++ dktX5_next_6
def dkwX5_next_4 : List UInt8 := [160, 0, 9, 29, 153, 0, 5, 4, 172, 27, 184, 0, 71, 154, 0, 9, 27, 16, 46, 160, 0, 5, 4, 172]
abbrev dktX5_next_4 : List UInt8 := dkwX5_next_4 ++ dktX5_next_5
def dkwX5_next_3 : List UInt8 := [167, 0, 4, 3, 62, 26, 8, 160, 0, 14, 29, 153, 0, 8, 16, 6, 167, 0, 4, 2, 172, 26, 16, 6]
abbrev dktX5_next_3 : List UInt8 := dkwX5_next_3 ++ dktX5_next_4
def dkwX5_next_2 : List UInt8 := [16, 93, 160, 0, 7, 4, 167, 0, 4, 2, 172, 27, 16, 48, 161, 0, 13, 27, 16, 57, 163, 0, 7, 4]
abbrev dktX5_next_2 : List UInt8 := dkwX5_next_2 ++ dktX5_next_3
def dkwX5_next_1 : List UInt8 := [167, 0, 34, 26, 5, 160, 0, 13, 27, 16, 94, 160, 0, 7, 6, 167, 0, 19, 26, 7, 160, 0, 13, 27]
abbrev dktX5_next_1 : List UInt8 := dkwX5_next_1 ++ dktX5_next_2
def dkwX5_next_0 : List UInt8 := [26, 5, 159, 0, 13, 26, 6, 159, 0, 8, 26, 7, 160, 0, 46, 27, 184, 0, 71, 153, 0, 7, 7]
abbrev dktX5_next_0 : List UInt8 := dkwX5_next_0 ++ dktX5_next_1
theorem dksX5_next_0 : cX5_next.data.toList.drop 0 = dktX5_next_0 := by decide +kernel
theorem dksX5_next_1 : cX5_next.data.toList.drop 23 = dktX5_next_1 := dk_seg dksX5_next_0 23 rfl rfl
theorem dksX5_next_2 : cX5_next.data.toList.drop 47 = dktX5_next_2 := dk_seg dksX5_next_1 24 rfl rfl
theorem dksX5_next_3 : cX5_next.data.toList.drop 71 = dktX5_next_3 := dk_seg dksX5_next_2 24 rfl rfl
theorem dksX5_next_4 : cX5_next.data.toList.drop 95 = dktX5_next_4 := dk_seg dksX5_next_3 24 rfl rfl
theorem dksX5_next_5 : cX5_next.data.toList.drop 119 = dktX5_next_5 := dk_seg dksX5_next_4 24 rfl rfl
theorem dksX5_next_6 : cX5_next.data.toList.drop 143 = dktX5_next_6 := dk_seg dksX5_next_5 24 rfl rfl
theorem dksX5_next_7 : cX5_next.data.toList.drop 166 = dktX5_next_7 := dk_seg dksX5_next_6 23 rfl rfl
theorem dksX5_next_8 : cX5_next.data.toList.drop 188 = dktX5_next_8 := dk_seg dksX5_next_7 22 rfl rfl
theorem dX5_next_0 : decode cX5_next 0 = .ok (.iload_n 0, 1) := dk_26 (dk_at dksX5_next_0 0 rfl rfl)
theorem dX5_next_1 : decode cX5_next 1 = .ok (.iconst 2, 1) := dk_5 (dk_at dksX5_next_0 1 rfl rfl)
theorem dX5_next_2 : decode cX5_next 2 = .ok (.if_icmp .eq 13, 3) := dk_159 0 13 (dk_at dksX5_next_0 2 rfl rfl)
theorem dX5_next_5 : decode cX5_next 5 = .ok (.iload_n 0, 1) := dk_26 (dk_at dksX5_next_0 5 rfl rfl)
theorem dX5_next_6 : decode cX5_next 6 = .ok (.iconst 3, 1) := dk_6 (dk_at dksX5_next_0 6 rfl rfl)
theorem dX5_next_7 : decode cX5_next 7 = .ok (.if_icmp .eq 8, 3) := dk_159 0 8 (dk_at dksX5_next_0 7 rfl rfl)
theorem dX5_next_10 : decode cX5_next 10 = .ok (.iload_n 0, 1) := dk_26 (dk_at dksX5_next_0 10 rfl rfl)
theorem dX5_next_11 : decode cX5_next 11 = .ok (.iconst 4, 1) := dk_7 (dk_at dksX5_next_0 11 rfl rfl)
theorem dX5_next_12 : decode cX5_next 12 = .ok (.if_icmp .ne 46, 3) := dk_160 0 46 (dk_at dksX5_next_0 12 rfl rfl)
theorem dX5_next_15 : decode cX5_next 15 = .ok (.iload_n 1, 1) := dk_27 (dk_at dksX5_next_0 15 rfl rfl)
theorem dX5_next_16 : decode cX5_next 16 = .ok (.invokestatic 71, 3) := dk_184 0 71 (dk_at dksX5_next_0 16 rfl rfl)
theorem dX5_next_19 : decode cX5_next 19 = .ok (.ifCond .eq 7, 3) := dk_153 0 7 (dk_at dksX5_next_0 19 rfl rfl)
theorem dX5_next_22 : decode cX5_next 22 = .ok (.iconst 4, 1) := dk_7 (dk_at dksX5_next_0 22 rfl rfl)
theorem dX5_next_23 : decode cX5_next 23 = .ok (.goto 34, 3) := dk_167 0 34 (dk_at dksX5_next_1 0 rfl rfl)
theorem dX5_next_26 : decode cX5_next 26 = .ok (.iload_n 0, 1) := dk_26 (dk_at dksX5_next_1 3 rfl rfl)
theorem dX5_next_27 : decode cX5_next 27 = .ok (.iconst 2, 1) := dk_5 (dk_at dksX5_next_1 4 rfl rfl)
theorem dX5_next_28 : decode cX5_next 28 = .ok (.if_icmp .ne 13, 3) := dk_160 0 13 (dk_at dksX5_next_1 5 rfl rfl)
theorem dX5_next_31 : decode cX5_next 31 = .ok (.iload_n 1, 1) := dk_27 (dk_at dksX5_next_1 8 rfl rfl)
theorem dX5_next_32 : decode cX5_next 32 = .ok (.bipush 94, 2) := dk_16 94 (dk_at dksX5_next_1 9 rfl rfl)
theorem dX5_next_34 : decode cX5_next 34 = .ok (.if_icmp .ne 7, 3) := dk_160 0 7 (dk_at dksX5_next_1 11 rfl rfl)
theorem dX5_next_37 : decode cX5_next 37 = .ok (.iconst 3, 1) := dk_6 (dk_at dksX5_next_1 14 rfl rfl)
theorem dX5_next_38 : decode cX5_next 38 = .ok (.goto 19, 3) := dk_167 0 19 (dk_at dksX5_next_1 15 rfl rfl)
theorem dX5_next_41 : decode cX5_next 41 = .ok (.iload_n 0, 1) := dk_26 (dk_at dksX5_next_1 18 rfl rfl)
theorem dX5_next_42 : decode cX5_next 42 = .ok (.iconst 4, 1) := dk_7 (dk_at dksX5_next_1 19 rfl rfl)
theorem dX5_next_43 : decode cX5_next 43 = .ok (.if_icmp .ne 13, 3) := dk_160 0 13 (dk_at dksX5_next_1 20 rfl rfl)
theorem dX5_next_46 : decode cX5_next 46 = .ok (.iload_n 1, 1) := dk_27 (dk_at dksX5_next_1 23 rfl rfl)
theorem dX5_next_47 : decode cX5_next 47 = .ok (.bipush 93, 2) := dk_16 93 (dk_at dksX5_next_2 0 rfl rfl)
theorem dX5_next_49 : decode cX5_next 49 = .ok (.if_icmp .ne 7, 3) := dk_160 0 7 (dk_at dksX5_next_2 2 rfl rfl)
theorem dX5_next_52 : decode cX5_next 52 = .ok (.iconst 1, 1) := dk_4 (dk_at dksX5_next_2 5 rfl rfl)
theorem dX5_next_53 : decode cX5_next 53 = .ok (.goto 4, 3) := dk_167 0 4 (dk_at dksX5_next_2 6 rfl rfl)
theorem dX5_next_56 : decode cX5_next 56 = .ok (.iconst (-1), 1) := dk_2 (dk_at dksX5_next_2 9 rfl rfl)
theorem dX5_next_57 : decode cX5_next 57 = .ok (.ireturn, 1) := dk_172 (dk_at dksX5_next_2 10 rfl rfl)
theorem dX5_next_58 : decode cX5_next 58 = .ok (.iload_n 1, 1) := dk_27 (dk_at dksX5_next_2 11 rfl rfl)
theorem dX5_next_59 : decode cX5_next 59 = .ok (.bipush 48, 2) := dk_16 48 (dk_at dksX5_next_2 12 rfl rfl)
theorem dX5_next_61 : decode cX5_next 61 = .ok (.if_icmp .lt 13, 3) := dk_161 0 13 (dk_at dksX5_next_2 14 rfl rfl)
theorem dX5_next_64 : decode cX5_next 64 = .ok (.iload_n 1, 1) := dk_27 (dk_at dksX5_next_2 17 rfl rfl)
theorem dX5_next_65 : decode cX5_next 65 = .ok (.bipush 57, 2) := dk_16 57 (dk_at dksX5_next_2 18 rfl rfl)
theorem dX5_next_67 : decode cX5_next 67 = .ok (.if_icmp .gt 7, 3) := dk_163 0 7 (dk_at dksX5_next_2 20 rfl rfl)
theorem dX5_next_70 : decode cX5_next 70 = .ok (.iconst 1, 1) := dk_4 (dk_at dksX5_next_2 23 rfl rfl)
theorem dX5_next_71 : decode cX5_next 71 = .ok (.goto 4, 3) := dk_167 0 4 (dk_at dksX5_next_3 0 rfl rfl)
theorem dX5_next_74 : decode cX5_next 74 = .ok (.iconst 0, 1) := dk_3 (dk_at dksX5_next_3 3 rfl rfl)
theorem dX5_next_75 : decode cX5_next 75 = .ok (.istore_n 3, 1) := dk_62 (dk_at dksX5_next_3 4 rfl rfl)
theorem dX5_next_76 : decode cX5_next 76 = .ok (.iload_n 0, 1) := dk_26 (dk_at dksX5_next_3 5 rfl rfl)
theorem dX5_next_77 : decode cX5_next 77 = .ok (.iconst 5, 1) := dk_8 (dk_at dksX5_next_3 6 rfl rfl)
theorem dX5_next_78 : decode cX5_next 78 = .ok (.if_icmp .ne 14, 3) := dk_160 0 14 (dk_at dksX5_next_3 7 rfl rfl)
theorem dX5_next_81 : decode cX5_next 81 = .ok (.iload_n 3, 1) := dk_29 (dk_at dksX5_next_3 10 rfl rfl)
theorem dX5_next_82 : decode cX5_next 82 = .ok (.ifCond .eq 8, 3) := dk_153 0 8 (dk_at dksX5_next_3 11 rfl rfl)
theorem dX5_next_85 : decode cX5_next 85 = .ok (.bipush 6, 2) := dk_16 6 (dk_at dksX5_next_3 14 rfl rfl)
theorem dX5_next_87 : decode cX5_next 87 = .ok (.goto 4, 3) := dk_167 0 4 (dk_at dksX5_next_3 16 rfl rfl)
theorem dX5_next_90 : decode cX5_next 90 = .ok (.iconst (-1), 1) := dk_2 (dk_at dksX5_next_3 19 rfl rfl)
theorem dX5_next_91 : decode cX5_next 91 = .ok (.ireturn, 1) := dk_172 (dk_at dksX5_next_3 20 rfl rfl)
theorem dX5_next_92 : decode cX5_next 92 = .ok (.iload_n 0, 1) := dk_26 (dk_at dksX5_next_3 21 rfl rfl)
theorem dX5_next_93 : decode cX5_next 93 = .ok (.bipush 6, 2) := dk_16 6 (dk_at dksX5_next_3 22 rfl rfl)
theorem dX5_next_95 : decode cX5_next 95 = .ok (.if_icmp .ne 9, 3) := dk_160 0 9 (dk_at dksX5_next_4 0 rfl rfl)
theorem dX5_next_98 : decode cX5_next 98 = .ok (.iload_n 3, 1) := dk_29 (dk_at dksX5_next_4 3 rfl rfl)
theorem dX5_next_99 : decode cX5_next 99 = .ok (.ifCond .eq 5, 3) := dk_153 0 5 (dk_at dksX5_next_4 4 rfl rfl)
theorem dX5_next_102 : decode cX5_next 102 = .ok (.iconst 1, 1) := dk_4 (dk_at dksX5_next_4 7 rfl rfl)
theorem dX5_next_103 : decode cX5_next 103 = .ok (.ireturn, 1) := dk_172 (dk_at dksX5_next_4 8 rfl rfl)
theorem dX5_next_104 : decode cX5_next 104 = .ok (.iload_n 1, 1) := dk_27 (dk_at dksX5_next_4 9 rfl rfl)
theorem dX5_next_105 : decode cX5_next 105 = .ok (.invokestatic 71, 3) := dk_184 0 71 (dk_at dksX5_next_4 10 rfl rfl)
theorem dX5_next_108 : decode cX5_next 108 = .ok (.ifCond .ne 9, 3) := dk_154 0 9 (dk_at dksX5_next_4 13 rfl rfl)
theorem dX5_next_111 : decode cX5_next 111 = .ok (.iload_n 1, 1) := dk_27 (dk_at dksX5_next_4 16 rfl rfl)
theorem dX5_next_112 : decode cX5_next 112 = .ok (.bipush 46, 2) := dk_16 46 (dk_at dksX5_next_4 17 rfl rfl)
theorem dX5_next_114 : decode cX5_next 114 = .ok (.if_icmp .ne 5, 3) := dk_160 0 5 (dk_at dksX5_next_4 19 rfl rfl)
theorem dX5_next_117 : decode cX5_next 117 = .ok (.iconst 1, 1) := dk_4 (dk_at dksX5_next_4 22 rfl rfl)
theorem dX5_next_118 : decode cX5_next 118 = .ok (.ireturn, 1) := dk_172 (dk_at dksX5_next_4 23 rfl rfl)
theorem dX5_next_119 : decode cX5_next 119 = .ok (.iload_n 1, 1) := dk_27 (dk_at dksX5_next_5 0 rfl rfl)
theorem dX5_next_120 : decode cX5_next 120 = .ok (.bipush 91, 2) := dk_16 91 (dk_at dksX5_next_5 1 rfl rfl)
theorem dX5_next_122 : decode cX5_next 122 = .ok (.if_icmp .ne 5, 3) := dk_160 0 5 (dk_at dksX5_next_5 3 rfl rfl)
theorem dX5_next_125 : decode cX5_next 125 = .ok (.iconst 2, 1) := dk_5 (dk_at dksX5_next_5 6 rfl rfl)
theorem dX5_next_126 : decode cX5_next 126 = .ok (.ireturn, 1) := dk_172 (dk_at dksX5_next_5 7 rfl rfl)
theorem dX5_next_127 : decode cX5_next 127 = .ok (.iload_n 1, 1) := dk_27 (dk_at dksX5_next_5 8 rfl rfl)
theorem dX5_next_128 : decode cX5_next 128 = .ok (.bipush 40, 2) := dk_16 40 (dk_at dksX5_next_5 9 rfl rfl)
theorem dX5_next_130 : decode cX5_next 130 = .ok (.if_icmp .ne 15, 3) := dk_160 0 15 (dk_at dksX5_next_5 11 rfl rfl)
theorem dX5_next_133 : decode cX5_next 133 = .ok (.iload_n 2, 1) := dk_28 (dk_at dksX5_next_5 14 rfl rfl)
theorem dX5_next_134 : decode cX5_next 134 = .ok (.bipush 6, 2) := dk_16 6 (dk_at dksX5_next_5 15 rfl rfl)
theorem dX5_next_136 : decode cX5_next 136 = .ok (.if_icmp .ge 7, 3) := dk_162 0 7 (dk_at dksX5_next_5 17 rfl rfl)
theorem dX5_next_139 : decode cX5_next 139 = .ok (.iconst 0, 1) := dk_3 (dk_at dksX5_next_5 20 rfl rfl)
theorem dX5_next_140 : decode cX5_next 140 = .ok (.goto 4, 3) := dk_167 0 4 (dk_at dksX5_next_5 21 rfl rfl)
theorem dX5_next_143 : decode cX5_next 143 = .ok (.iconst (-1), 1) := dk_2 (dk_at dksX5_next_6 0 rfl rfl)
theorem dX5_next_144 : decode cX5_next 144 = .ok (.ireturn, 1) := dk_172 (dk_at dksX5_next_6 1 rfl rfl)
theorem dX5_next_145 : decode cX5_next 145 = .ok (.iload_n 0, 1) := dk_26 (dk_at dksX5_next_6 2 rfl rfl)
theorem dX5_next_146 : decode cX5_next 146 = .ok (.ifCond .ne 5, 3) := dk_154 0 5 (dk_at dksX5_next_6 3 rfl rfl)
theorem dX5_next_149 : decode cX5_next 149 = .ok (.iconst (-1), 1) := dk_2 (dk_at dksX5_next_6 6 rfl rfl)
theorem dX5_next_150 : decode cX5_next 150 = .ok (.ireturn, 1) := dk_172 (dk_at dksX5_next_6 7 rfl rfl)
theorem dX5_next_151 : decode cX5_next 151 = .ok (.iload_n 1, 1) := dk_27 (dk_at dksX5_next_6 8 rfl rfl)
theorem dX5_next_152 : decode cX5_next 152 = .ok (.bipush 42, 2) := dk_16 42 (dk_at dksX5_next_6 9 rfl rfl)
theorem dX5_next_154 : decode cX5_next 154 = .ok (.if_icmp .eq 15, 3) := dk_159 0 15 (dk_at dksX5_next_6 11 rfl rfl)
theorem dX5_next_157 : decode cX5_next 157 = .ok (.iload_n 1, 1) := dk_27 (dk_at dksX5_next_6 14 rfl rfl)
theorem dX5_next_158 : decode cX5_next 158 = .ok (.bipush 43, 2) := dk_16 43 (dk_at dksX5_next_6 15 rfl rfl)
theorem dX5_next_160 : decode cX5_next 160 = .ok (.if_icmp .eq 9, 3) := dk_159 0 9 (dk_at dksX5_next_6 17 rfl rfl)
theorem dX5_next_163 : decode cX5_next 163 = .ok (.iload_n 1, 1) := dk_27 (dk_at dksX5_next_6 20 rfl rfl)
theorem dX5_next_164 : decode cX5_next 164 = .ok (.bipush 63, 2) := dk_16 63 (dk_at dksX5_next_6 21 rfl rfl)
theorem dX5_next_166 : decode cX5_next 166 = .ok (.if_icmp .ne 5, 3) := dk_160 0 5 (dk_at dksX5_next_7 0 rfl rfl)
theorem dX5_next_169 : decode cX5_next 169 = .ok (.iconst 1, 1) := dk_4 (dk_at dksX5_next_7 3 rfl rfl)
theorem dX5_next_170 : decode cX5_next 170 = .ok (.ireturn, 1) := dk_172 (dk_at dksX5_next_7 4 rfl rfl)
theorem dX5_next_171 : decode cX5_next 171 = .ok (.iload_n 1, 1) := dk_27 (dk_at dksX5_next_7 5 rfl rfl)
theorem dX5_next_172 : decode cX5_next 172 = .ok (.bipush 60, 2) := dk_16 60 (dk_at dksX5_next_7 6 rfl rfl)
theorem dX5_next_174 : decode cX5_next 174 = .ok (.if_icmp .ne 7, 3) := dk_160 0 7 (dk_at dksX5_next_7 8 rfl rfl)
theorem dX5_next_177 : decode cX5_next 177 = .ok (.iconst 5, 1) := dk_8 (dk_at dksX5_next_7 11 rfl rfl)
theorem dX5_next_178 : decode cX5_next 178 = .ok (.goto 28, 3) := dk_167 0 28 (dk_at dksX5_next_7 12 rfl rfl)
theorem dX5_next_181 : decode cX5_next 181 = .ok (.iload_n 1, 1) := dk_27 (dk_at dksX5_next_7 15 rfl rfl)
theorem dX5_next_182 : decode cX5_next 182 = .ok (.bipush 124, 2) := dk_16 124 (dk_at dksX5_next_7 16 rfl rfl)
theorem dX5_next_184 : decode cX5_next 184 = .ok (.if_icmp .ne 7, 3) := dk_160 0 7 (dk_at dksX5_next_7 18 rfl rfl)
theorem dX5_next_187 : decode cX5_next 187 = .ok (.iconst 0, 1) := dk_3 (dk_at dksX5_next_7 21 rfl rfl)
theorem dX5_next_188 : decode cX5_next 188 = .ok (.goto 18, 3) := dk_167 0 18 (dk_at dksX5_next_8 0 rfl rfl)
theorem dX5_next_191 : decode cX5_next 191 = .ok (.iload_n 1, 1) := dk_27 (dk_at dksX5_next_8 3 rfl rfl)
theorem dX5_next_192 : decode cX5_next 192 = .ok (.bipush 41, 2) := dk_16 41 (dk_at dksX5_next_8 4 rfl rfl)
theorem dX5_next_194 : decode cX5_next 194 = .ok (.if_icmp .ne 11, 3) := dk_160 0 11 (dk_at dksX5_next_8 6 rfl rfl)
theorem dX5_next_197 : decode cX5_next 197 = .ok (.iload_n 2, 1) := dk_28 (dk_at dksX5_next_8 9 rfl rfl)
theorem dX5_next_198 : decode cX5_next 198 = .ok (.ifCond .le 7, 3) := dk_158 0 7 (dk_at dksX5_next_8 10 rfl rfl)
theorem dX5_next_201 : decode cX5_next 201 = .ok (.iconst 1, 1) := dk_4 (dk_at dksX5_next_8 13 rfl rfl)
theorem dX5_next_202 : decode cX5_next 202 = .ok (.goto 4, 3) := dk_167 0 4 (dk_at dksX5_next_8 14 rfl rfl)
theorem dX5_next_205 : decode cX5_next 205 = .ok (.iconst (-1), 1) := dk_2 (dk_at dksX5_next_8 17 rfl rfl)
theorem dX5_next_206 : decode cX5_next 206 = .ok (.ireturn, 1) := dk_172 (dk_at dksX5_next_8 18 rfl rfl)
abbrev cX5_small : ByteArray := prog_13_method_3_code
def yX5_small : MethodName := ⟨RX5, "small", "(I)Z"⟩
def dkwX5_small_0 : List UInt8 := [26, 16, 97, 161, 0, 13, 26, 16, 122, 163, 0, 7, 4, 167, 0, 4, 3, 172]
abbrev dktX5_small_0 : List UInt8 := dkwX5_small_0 ++ []
theorem dksX5_small_0 : cX5_small.data.toList.drop 0 = dktX5_small_0 := by decide +kernel
theorem dX5_small_0 : decode cX5_small 0 = .ok (.iload_n 0, 1) := dk_26 (dk_at dksX5_small_0 0 rfl rfl)
theorem dX5_small_1 : decode cX5_small 1 = .ok (.bipush 97, 2) := dk_16 97 (dk_at dksX5_small_0 1 rfl rfl)
theorem dX5_small_3 : decode cX5_small 3 = .ok (.if_icmp .lt 13, 3) := dk_161 0 13 (dk_at dksX5_small_0 3 rfl rfl)
theorem dX5_small_6 : decode cX5_small 6 = .ok (.iload_n 0, 1) := dk_26 (dk_at dksX5_small_0 6 rfl rfl)
theorem dX5_small_7 : decode cX5_small 7 = .ok (.bipush 122, 2) := dk_16 122 (dk_at dksX5_small_0 7 rfl rfl)
theorem dX5_small_9 : decode cX5_small 9 = .ok (.if_icmp .gt 7, 3) := dk_163 0 7 (dk_at dksX5_small_0 9 rfl rfl)
theorem dX5_small_12 : decode cX5_small 12 = .ok (.iconst 1, 1) := dk_4 (dk_at dksX5_small_0 12 rfl rfl)
theorem dX5_small_13 : decode cX5_small 13 = .ok (.goto 4, 3) := dk_167 0 4 (dk_at dksX5_small_0 13 rfl rfl)
theorem dX5_small_16 : decode cX5_small 16 = .ok (.iconst 0, 1) := dk_3 (dk_at dksX5_small_0 16 rfl rfl)
theorem dX5_small_17 : decode cX5_small 17 = .ok (.ireturn, 1) := dk_172 (dk_at dksX5_small_0 17 rfl rfl)
abbrev cX5_read : ByteArray := prog_13_method_12_code
def yX5_read : MethodName := ⟨RX5, "read", "()V"⟩
def dkwX5_read_13 : List UInt8 := [167, 0, 4, 3, 60, 167, 254, 217, 42, 5, 182, 0, 92, 177]
abbrev dktX5_read_13 : List UInt8 := dkwX5_read_13 ++ []
def dkwX5_read_12 : List UInt8 := [61, 42, 3, 42, 180, 0, 99, 3, 182, 0, 88, 4, 60, 27, 154, 0, 9, 29, 16, 41, 160, 0, 7, 4]
abbrev dktX5_read_12 : List UInt8 := dkwX5_read_12 ++ dktX5_read_13
def dkwX5_read_11 : List UInt8 := [16, 97, 100, 120, 181, 0, 99, 29, 16, 91, 160, 0, 13, 42, 28, 4, 100, 182, 0, 111, 167, 0, 4, 28]
abbrev dktX5_read_11 : List UInt8 := dkwX5_read_11 ++ dktX5_read_12
def dkwX5_read_10 : List UInt8 := [42, 29, 16, 46, 160, 0, 8, 18, 102, 167, 0, 19, 4, 29, 16, 91, 160, 0, 7, 3, 167, 0, 7, 29]
abbrev dktX5_read_10 : List UInt8 := dkwX5_read_10 ++ dktX5_read_11
def dkwX5_read_9 : List UInt8 := [16, 48, 100, 54, 4, 132, 2, 1, 42, 16, 6, 21, 4, 182, 0, 107, 167, 0, 69, 42, 27, 182, 0, 103]
abbrev dktX5_read_9 : List UInt8 := dkwX5_read_9 ++ dktX5_read_10
def dkwX5_read_8 : List UInt8 := [42, 180, 0, 7, 28, 46, 16, 57, 163, 0, 23, 16, 10, 21, 4, 104, 42, 180, 0, 7, 28, 46, 96]
abbrev dktX5_read_8 : List UInt8 := dkwX5_read_8 ++ dktX5_read_9
def dkwX5_read_7 : List UInt8 := [54, 4, 132, 2, 1, 28, 42, 180, 0, 68, 162, 0, 45, 42, 180, 0, 7, 28, 46, 16, 48, 161, 0, 34]
abbrev dktX5_read_7 : List UInt8 := dkwX5_read_7 ++ dktX5_read_8
def dkwX5_read_6 : List UInt8 := [8, 3, 182, 0, 107, 167, 0, 150, 29, 16, 60, 160, 0, 78, 42, 180, 0, 7, 28, 46, 16, 48, 100]
abbrev dktX5_read_6 : List UInt8 := dkwX5_read_6 ++ dktX5_read_7
def dkwX5_read_5 : List UInt8 := [160, 0, 32, 42, 29, 16, 42, 160, 0, 7, 6, 167, 0, 14, 29, 16, 43, 160, 0, 7, 7, 167, 0, 4]
abbrev dktX5_read_5 : List UInt8 := dkwX5_read_5 ++ dktX5_read_6
def dkwX5_read_4 : List UInt8 := [4, 100, 181, 0, 85, 167, 0, 197, 29, 16, 42, 159, 0, 15, 29, 16, 43, 159, 0, 9, 29, 16, 63]
abbrev dktX5_read_4 : List UInt8 := dkwX5_read_4 ++ dktX5_read_5
def dkwX5_read_3 : List UInt8 := [182, 0, 96, 3, 60, 167, 0, 221, 29, 16, 41, 160, 0, 21, 42, 5, 182, 0, 92, 42, 89, 180, 0, 85]
abbrev dktX5_read_3 : List UInt8 := dkwX5_read_3 ++ dktX5_read_4
def dkwX5_read_2 : List UInt8 := [42, 5, 182, 0, 96, 3, 60, 167, 0, 243, 29, 16, 40, 160, 0, 19, 42, 27, 182, 0, 103, 42, 16, 7]
abbrev dktX5_read_2 : List UInt8 := dkwX5_read_2 ++ dktX5_read_3
def dkwX5_read_1 : List UInt8 := [162, 1, 37, 42, 180, 0, 7, 28, 46, 62, 132, 2, 1, 29, 16, 124, 160, 0, 18, 42, 5, 182, 0, 92]
abbrev dktX5_read_1 : List UInt8 := dkwX5_read_1 ++ dktX5_read_2
def dkwX5_read_0 : List UInt8 := [42, 3, 181, 0, 79, 42, 3, 181, 0, 85, 42, 3, 181, 0, 82, 3, 60, 3, 61, 28, 42, 180, 0, 68]
abbrev dktX5_read_0 : List UInt8 := dkwX5_read_0 ++ dktX5_read_1
theorem dksX5_read_0 : cX5_read.data.toList.drop 0 = dktX5_read_0 := by decide +kernel
theorem dksX5_read_1 : cX5_read.data.toList.drop 24 = dktX5_read_1 := dk_seg dksX5_read_0 24 rfl rfl
theorem dksX5_read_2 : cX5_read.data.toList.drop 48 = dktX5_read_2 := dk_seg dksX5_read_1 24 rfl rfl
theorem dksX5_read_3 : cX5_read.data.toList.drop 72 = dktX5_read_3 := dk_seg dksX5_read_2 24 rfl rfl
theorem dksX5_read_4 : cX5_read.data.toList.drop 96 = dktX5_read_4 := dk_seg dksX5_read_3 24 rfl rfl
theorem dksX5_read_5 : cX5_read.data.toList.drop 119 = dktX5_read_5 := dk_seg dksX5_read_4 23 rfl rfl
theorem dksX5_read_6 : cX5_read.data.toList.drop 143 = dktX5_read_6 := dk_seg dksX5_read_5 24 rfl rfl
theorem dksX5_read_7 : cX5_read.data.toList.drop 166 = dktX5_read_7 := dk_seg dksX5_read_6 23 rfl rfl
theorem dksX5_read_8 : cX5_read.data.toList.drop 190 = dktX5_read_8 := dk_seg dksX5_read_7 24 rfl rfl
theorem dksX5_read_9 : cX5_read.data.toList.drop 213 = dktX5_read_9 := dk_seg dksX5_read_8 23 rfl rfl
theorem dksX5_read_10 : cX5_read.data.toList.drop 237 = dktX5_read_10 := dk_seg dksX5_read_9 24 rfl rfl
theorem dksX5_read_11 : cX5_read.data.toList.drop 261 = dktX5_read_11 := dk_seg dksX5_read_10 24 rfl rfl
theorem dksX5_read_12 : cX5_read.data.toList.drop 285 = dktX5_read_12 := dk_seg dksX5_read_11 24 rfl rfl
theorem dksX5_read_13 : cX5_read.data.toList.drop 309 = dktX5_read_13 := dk_seg dksX5_read_12 24 rfl rfl
theorem dX5_read_0 : decode cX5_read 0 = .ok (.aload_n 0, 1) := dk_42 (dk_at dksX5_read_0 0 rfl rfl)
theorem dX5_read_1 : decode cX5_read 1 = .ok (.iconst 0, 1) := dk_3 (dk_at dksX5_read_0 1 rfl rfl)
theorem dX5_read_2 : decode cX5_read 2 = .ok (.putfield 79, 3) := dk_181 0 79 (dk_at dksX5_read_0 2 rfl rfl)
theorem dX5_read_5 : decode cX5_read 5 = .ok (.aload_n 0, 1) := dk_42 (dk_at dksX5_read_0 5 rfl rfl)
theorem dX5_read_6 : decode cX5_read 6 = .ok (.iconst 0, 1) := dk_3 (dk_at dksX5_read_0 6 rfl rfl)
theorem dX5_read_7 : decode cX5_read 7 = .ok (.putfield 85, 3) := dk_181 0 85 (dk_at dksX5_read_0 7 rfl rfl)
theorem dX5_read_10 : decode cX5_read 10 = .ok (.aload_n 0, 1) := dk_42 (dk_at dksX5_read_0 10 rfl rfl)
theorem dX5_read_11 : decode cX5_read 11 = .ok (.iconst 0, 1) := dk_3 (dk_at dksX5_read_0 11 rfl rfl)
theorem dX5_read_12 : decode cX5_read 12 = .ok (.putfield 82, 3) := dk_181 0 82 (dk_at dksX5_read_0 12 rfl rfl)
theorem dX5_read_15 : decode cX5_read 15 = .ok (.iconst 0, 1) := dk_3 (dk_at dksX5_read_0 15 rfl rfl)
theorem dX5_read_16 : decode cX5_read 16 = .ok (.istore_n 1, 1) := dk_60 (dk_at dksX5_read_0 16 rfl rfl)
theorem dX5_read_17 : decode cX5_read 17 = .ok (.iconst 0, 1) := dk_3 (dk_at dksX5_read_0 17 rfl rfl)
theorem dX5_read_18 : decode cX5_read 18 = .ok (.istore_n 2, 1) := dk_61 (dk_at dksX5_read_0 18 rfl rfl)
theorem dX5_read_19 : decode cX5_read 19 = .ok (.iload_n 2, 1) := dk_28 (dk_at dksX5_read_0 19 rfl rfl)
theorem dX5_read_20 : decode cX5_read 20 = .ok (.aload_n 0, 1) := dk_42 (dk_at dksX5_read_0 20 rfl rfl)
theorem dX5_read_21 : decode cX5_read 21 = .ok (.getfield 68, 3) := dk_180 0 68 (dk_at dksX5_read_0 21 rfl rfl)
theorem dX5_read_24 : decode cX5_read 24 = .ok (.if_icmp .ge 293, 3) := dk_162 1 37 (dk_at dksX5_read_1 0 rfl rfl)
theorem dX5_read_27 : decode cX5_read 27 = .ok (.aload_n 0, 1) := dk_42 (dk_at dksX5_read_1 3 rfl rfl)
theorem dX5_read_28 : decode cX5_read 28 = .ok (.getfield 7, 3) := dk_180 0 7 (dk_at dksX5_read_1 4 rfl rfl)
theorem dX5_read_31 : decode cX5_read 31 = .ok (.iload_n 2, 1) := dk_28 (dk_at dksX5_read_1 7 rfl rfl)
theorem dX5_read_32 : decode cX5_read 32 = .ok (.iaload, 1) := dk_46 (dk_at dksX5_read_1 8 rfl rfl)
theorem dX5_read_33 : decode cX5_read 33 = .ok (.istore_n 3, 1) := dk_62 (dk_at dksX5_read_1 9 rfl rfl)
theorem dX5_read_34 : decode cX5_read 34 = .ok (.iinc 2 1, 3) := dk_132 2 1 (dk_at dksX5_read_1 10 rfl rfl)
theorem dX5_read_37 : decode cX5_read 37 = .ok (.iload_n 3, 1) := dk_29 (dk_at dksX5_read_1 13 rfl rfl)
theorem dX5_read_38 : decode cX5_read 38 = .ok (.bipush 124, 2) := dk_16 124 (dk_at dksX5_read_1 14 rfl rfl)
theorem dX5_read_40 : decode cX5_read 40 = .ok (.if_icmp .ne 18, 3) := dk_160 0 18 (dk_at dksX5_read_1 16 rfl rfl)
theorem dX5_read_43 : decode cX5_read 43 = .ok (.aload_n 0, 1) := dk_42 (dk_at dksX5_read_1 19 rfl rfl)
theorem dX5_read_44 : decode cX5_read 44 = .ok (.iconst 2, 1) := dk_5 (dk_at dksX5_read_1 20 rfl rfl)
theorem dX5_read_45 : decode cX5_read 45 = .ok (.invokevirtual 92, 3) := dk_182 0 92 (dk_at dksX5_read_1 21 rfl rfl)
theorem dX5_read_48 : decode cX5_read 48 = .ok (.aload_n 0, 1) := dk_42 (dk_at dksX5_read_2 0 rfl rfl)
theorem dX5_read_49 : decode cX5_read 49 = .ok (.iconst 2, 1) := dk_5 (dk_at dksX5_read_2 1 rfl rfl)
theorem dX5_read_50 : decode cX5_read 50 = .ok (.invokevirtual 96, 3) := dk_182 0 96 (dk_at dksX5_read_2 2 rfl rfl)
theorem dX5_read_53 : decode cX5_read 53 = .ok (.iconst 0, 1) := dk_3 (dk_at dksX5_read_2 5 rfl rfl)
theorem dX5_read_54 : decode cX5_read 54 = .ok (.istore_n 1, 1) := dk_60 (dk_at dksX5_read_2 6 rfl rfl)
theorem dX5_read_55 : decode cX5_read 55 = .ok (.goto 243, 3) := dk_167 0 243 (dk_at dksX5_read_2 7 rfl rfl)
theorem dX5_read_58 : decode cX5_read 58 = .ok (.iload_n 3, 1) := dk_29 (dk_at dksX5_read_2 10 rfl rfl)
theorem dX5_read_59 : decode cX5_read 59 = .ok (.bipush 40, 2) := dk_16 40 (dk_at dksX5_read_2 11 rfl rfl)
theorem dX5_read_61 : decode cX5_read 61 = .ok (.if_icmp .ne 19, 3) := dk_160 0 19 (dk_at dksX5_read_2 13 rfl rfl)
theorem dX5_read_64 : decode cX5_read 64 = .ok (.aload_n 0, 1) := dk_42 (dk_at dksX5_read_2 16 rfl rfl)
theorem dX5_read_65 : decode cX5_read 65 = .ok (.iload_n 1, 1) := dk_27 (dk_at dksX5_read_2 17 rfl rfl)
theorem dX5_read_66 : decode cX5_read 66 = .ok (.invokevirtual 103, 3) := dk_182 0 103 (dk_at dksX5_read_2 18 rfl rfl)
theorem dX5_read_69 : decode cX5_read 69 = .ok (.aload_n 0, 1) := dk_42 (dk_at dksX5_read_2 21 rfl rfl)
theorem dX5_read_70 : decode cX5_read 70 = .ok (.bipush 7, 2) := dk_16 7 (dk_at dksX5_read_2 22 rfl rfl)
theorem dX5_read_72 : decode cX5_read 72 = .ok (.invokevirtual 96, 3) := dk_182 0 96 (dk_at dksX5_read_3 0 rfl rfl)
theorem dX5_read_75 : decode cX5_read 75 = .ok (.iconst 0, 1) := dk_3 (dk_at dksX5_read_3 3 rfl rfl)
theorem dX5_read_76 : decode cX5_read 76 = .ok (.istore_n 1, 1) := dk_60 (dk_at dksX5_read_3 4 rfl rfl)
theorem dX5_read_77 : decode cX5_read 77 = .ok (.goto 221, 3) := dk_167 0 221 (dk_at dksX5_read_3 5 rfl rfl)
theorem dX5_read_80 : decode cX5_read 80 = .ok (.iload_n 3, 1) := dk_29 (dk_at dksX5_read_3 8 rfl rfl)
theorem dX5_read_81 : decode cX5_read 81 = .ok (.bipush 41, 2) := dk_16 41 (dk_at dksX5_read_3 9 rfl rfl)
theorem dX5_read_83 : decode cX5_read 83 = .ok (.if_icmp .ne 21, 3) := dk_160 0 21 (dk_at dksX5_read_3 11 rfl rfl)
theorem dX5_read_86 : decode cX5_read 86 = .ok (.aload_n 0, 1) := dk_42 (dk_at dksX5_read_3 14 rfl rfl)
theorem dX5_read_87 : decode cX5_read 87 = .ok (.iconst 2, 1) := dk_5 (dk_at dksX5_read_3 15 rfl rfl)
theorem dX5_read_88 : decode cX5_read 88 = .ok (.invokevirtual 92, 3) := dk_182 0 92 (dk_at dksX5_read_3 16 rfl rfl)
theorem dX5_read_91 : decode cX5_read 91 = .ok (.aload_n 0, 1) := dk_42 (dk_at dksX5_read_3 19 rfl rfl)
theorem dX5_read_92 : decode cX5_read 92 = .ok (.dup, 1) := dk_89 (dk_at dksX5_read_3 20 rfl rfl)
theorem dX5_read_93 : decode cX5_read 93 = .ok (.getfield 85, 3) := dk_180 0 85 (dk_at dksX5_read_3 21 rfl rfl)
theorem dX5_read_96 : decode cX5_read 96 = .ok (.iconst 1, 1) := dk_4 (dk_at dksX5_read_4 0 rfl rfl)
theorem dX5_read_97 : decode cX5_read 97 = .ok (.isub, 1) := dk_100 (dk_at dksX5_read_4 1 rfl rfl)
theorem dX5_read_98 : decode cX5_read 98 = .ok (.putfield 85, 3) := dk_181 0 85 (dk_at dksX5_read_4 2 rfl rfl)
theorem dX5_read_101 : decode cX5_read 101 = .ok (.goto 197, 3) := dk_167 0 197 (dk_at dksX5_read_4 5 rfl rfl)
theorem dX5_read_104 : decode cX5_read 104 = .ok (.iload_n 3, 1) := dk_29 (dk_at dksX5_read_4 8 rfl rfl)
theorem dX5_read_105 : decode cX5_read 105 = .ok (.bipush 42, 2) := dk_16 42 (dk_at dksX5_read_4 9 rfl rfl)
theorem dX5_read_107 : decode cX5_read 107 = .ok (.if_icmp .eq 15, 3) := dk_159 0 15 (dk_at dksX5_read_4 11 rfl rfl)
theorem dX5_read_110 : decode cX5_read 110 = .ok (.iload_n 3, 1) := dk_29 (dk_at dksX5_read_4 14 rfl rfl)
theorem dX5_read_111 : decode cX5_read 111 = .ok (.bipush 43, 2) := dk_16 43 (dk_at dksX5_read_4 15 rfl rfl)
theorem dX5_read_113 : decode cX5_read 113 = .ok (.if_icmp .eq 9, 3) := dk_159 0 9 (dk_at dksX5_read_4 17 rfl rfl)
theorem dX5_read_116 : decode cX5_read 116 = .ok (.iload_n 3, 1) := dk_29 (dk_at dksX5_read_4 20 rfl rfl)
theorem dX5_read_117 : decode cX5_read 117 = .ok (.bipush 63, 2) := dk_16 63 (dk_at dksX5_read_4 21 rfl rfl)
theorem dX5_read_119 : decode cX5_read 119 = .ok (.if_icmp .ne 32, 3) := dk_160 0 32 (dk_at dksX5_read_5 0 rfl rfl)
theorem dX5_read_122 : decode cX5_read 122 = .ok (.aload_n 0, 1) := dk_42 (dk_at dksX5_read_5 3 rfl rfl)
theorem dX5_read_123 : decode cX5_read 123 = .ok (.iload_n 3, 1) := dk_29 (dk_at dksX5_read_5 4 rfl rfl)
theorem dX5_read_124 : decode cX5_read 124 = .ok (.bipush 42, 2) := dk_16 42 (dk_at dksX5_read_5 5 rfl rfl)
theorem dX5_read_126 : decode cX5_read 126 = .ok (.if_icmp .ne 7, 3) := dk_160 0 7 (dk_at dksX5_read_5 7 rfl rfl)
theorem dX5_read_129 : decode cX5_read 129 = .ok (.iconst 3, 1) := dk_6 (dk_at dksX5_read_5 10 rfl rfl)
theorem dX5_read_130 : decode cX5_read 130 = .ok (.goto 14, 3) := dk_167 0 14 (dk_at dksX5_read_5 11 rfl rfl)
theorem dX5_read_133 : decode cX5_read 133 = .ok (.iload_n 3, 1) := dk_29 (dk_at dksX5_read_5 14 rfl rfl)
theorem dX5_read_134 : decode cX5_read 134 = .ok (.bipush 43, 2) := dk_16 43 (dk_at dksX5_read_5 15 rfl rfl)
theorem dX5_read_136 : decode cX5_read 136 = .ok (.if_icmp .ne 7, 3) := dk_160 0 7 (dk_at dksX5_read_5 17 rfl rfl)
theorem dX5_read_139 : decode cX5_read 139 = .ok (.iconst 4, 1) := dk_7 (dk_at dksX5_read_5 20 rfl rfl)
theorem dX5_read_140 : decode cX5_read 140 = .ok (.goto 4, 3) := dk_167 0 4 (dk_at dksX5_read_5 21 rfl rfl)
theorem dX5_read_143 : decode cX5_read 143 = .ok (.iconst 5, 1) := dk_8 (dk_at dksX5_read_6 0 rfl rfl)
theorem dX5_read_144 : decode cX5_read 144 = .ok (.iconst 0, 1) := dk_3 (dk_at dksX5_read_6 1 rfl rfl)
theorem dX5_read_145 : decode cX5_read 145 = .ok (.invokevirtual 107, 3) := dk_182 0 107 (dk_at dksX5_read_6 2 rfl rfl)
theorem dX5_read_148 : decode cX5_read 148 = .ok (.goto 150, 3) := dk_167 0 150 (dk_at dksX5_read_6 5 rfl rfl)
theorem dX5_read_151 : decode cX5_read 151 = .ok (.iload_n 3, 1) := dk_29 (dk_at dksX5_read_6 8 rfl rfl)
theorem dX5_read_152 : decode cX5_read 152 = .ok (.bipush 60, 2) := dk_16 60 (dk_at dksX5_read_6 9 rfl rfl)
theorem dX5_read_154 : decode cX5_read 154 = .ok (.if_icmp .ne 78, 3) := dk_160 0 78 (dk_at dksX5_read_6 11 rfl rfl)
theorem dX5_read_157 : decode cX5_read 157 = .ok (.aload_n 0, 1) := dk_42 (dk_at dksX5_read_6 14 rfl rfl)
theorem dX5_read_158 : decode cX5_read 158 = .ok (.getfield 7, 3) := dk_180 0 7 (dk_at dksX5_read_6 15 rfl rfl)
theorem dX5_read_161 : decode cX5_read 161 = .ok (.iload_n 2, 1) := dk_28 (dk_at dksX5_read_6 18 rfl rfl)
theorem dX5_read_162 : decode cX5_read 162 = .ok (.iaload, 1) := dk_46 (dk_at dksX5_read_6 19 rfl rfl)
theorem dX5_read_163 : decode cX5_read 163 = .ok (.bipush 48, 2) := dk_16 48 (dk_at dksX5_read_6 20 rfl rfl)
theorem dX5_read_165 : decode cX5_read 165 = .ok (.isub, 1) := dk_100 (dk_at dksX5_read_6 22 rfl rfl)
theorem dX5_read_166 : decode cX5_read 166 = .ok (.istore 4, 2) := dk_54 4 (dk_at dksX5_read_7 0 rfl rfl)
theorem dX5_read_168 : decode cX5_read 168 = .ok (.iinc 2 1, 3) := dk_132 2 1 (dk_at dksX5_read_7 2 rfl rfl)
theorem dX5_read_171 : decode cX5_read 171 = .ok (.iload_n 2, 1) := dk_28 (dk_at dksX5_read_7 5 rfl rfl)
theorem dX5_read_172 : decode cX5_read 172 = .ok (.aload_n 0, 1) := dk_42 (dk_at dksX5_read_7 6 rfl rfl)
theorem dX5_read_173 : decode cX5_read 173 = .ok (.getfield 68, 3) := dk_180 0 68 (dk_at dksX5_read_7 7 rfl rfl)
theorem dX5_read_176 : decode cX5_read 176 = .ok (.if_icmp .ge 45, 3) := dk_162 0 45 (dk_at dksX5_read_7 10 rfl rfl)
theorem dX5_read_179 : decode cX5_read 179 = .ok (.aload_n 0, 1) := dk_42 (dk_at dksX5_read_7 13 rfl rfl)
theorem dX5_read_180 : decode cX5_read 180 = .ok (.getfield 7, 3) := dk_180 0 7 (dk_at dksX5_read_7 14 rfl rfl)
theorem dX5_read_183 : decode cX5_read 183 = .ok (.iload_n 2, 1) := dk_28 (dk_at dksX5_read_7 17 rfl rfl)
theorem dX5_read_184 : decode cX5_read 184 = .ok (.iaload, 1) := dk_46 (dk_at dksX5_read_7 18 rfl rfl)
theorem dX5_read_185 : decode cX5_read 185 = .ok (.bipush 48, 2) := dk_16 48 (dk_at dksX5_read_7 19 rfl rfl)
theorem dX5_read_187 : decode cX5_read 187 = .ok (.if_icmp .lt 34, 3) := dk_161 0 34 (dk_at dksX5_read_7 21 rfl rfl)
theorem dX5_read_190 : decode cX5_read 190 = .ok (.aload_n 0, 1) := dk_42 (dk_at dksX5_read_8 0 rfl rfl)
theorem dX5_read_191 : decode cX5_read 191 = .ok (.getfield 7, 3) := dk_180 0 7 (dk_at dksX5_read_8 1 rfl rfl)
theorem dX5_read_194 : decode cX5_read 194 = .ok (.iload_n 2, 1) := dk_28 (dk_at dksX5_read_8 4 rfl rfl)
theorem dX5_read_195 : decode cX5_read 195 = .ok (.iaload, 1) := dk_46 (dk_at dksX5_read_8 5 rfl rfl)
theorem dX5_read_196 : decode cX5_read 196 = .ok (.bipush 57, 2) := dk_16 57 (dk_at dksX5_read_8 6 rfl rfl)
theorem dX5_read_198 : decode cX5_read 198 = .ok (.if_icmp .gt 23, 3) := dk_163 0 23 (dk_at dksX5_read_8 8 rfl rfl)
theorem dX5_read_201 : decode cX5_read 201 = .ok (.bipush 10, 2) := dk_16 10 (dk_at dksX5_read_8 11 rfl rfl)
theorem dX5_read_203 : decode cX5_read 203 = .ok (.iload 4, 2) := dk_21 4 (dk_at dksX5_read_8 13 rfl rfl)
theorem dX5_read_205 : decode cX5_read 205 = .ok (.imul, 1) := dk_104 (dk_at dksX5_read_8 15 rfl rfl)
theorem dX5_read_206 : decode cX5_read 206 = .ok (.aload_n 0, 1) := dk_42 (dk_at dksX5_read_8 16 rfl rfl)
theorem dX5_read_207 : decode cX5_read 207 = .ok (.getfield 7, 3) := dk_180 0 7 (dk_at dksX5_read_8 17 rfl rfl)
theorem dX5_read_210 : decode cX5_read 210 = .ok (.iload_n 2, 1) := dk_28 (dk_at dksX5_read_8 20 rfl rfl)
theorem dX5_read_211 : decode cX5_read 211 = .ok (.iaload, 1) := dk_46 (dk_at dksX5_read_8 21 rfl rfl)
theorem dX5_read_212 : decode cX5_read 212 = .ok (.iadd, 1) := dk_96 (dk_at dksX5_read_8 22 rfl rfl)
theorem dX5_read_213 : decode cX5_read 213 = .ok (.bipush 48, 2) := dk_16 48 (dk_at dksX5_read_9 0 rfl rfl)
theorem dX5_read_215 : decode cX5_read 215 = .ok (.isub, 1) := dk_100 (dk_at dksX5_read_9 2 rfl rfl)
theorem dX5_read_216 : decode cX5_read 216 = .ok (.istore 4, 2) := dk_54 4 (dk_at dksX5_read_9 3 rfl rfl)
theorem dX5_read_218 : decode cX5_read 218 = .ok (.iinc 2 1, 3) := dk_132 2 1 (dk_at dksX5_read_9 5 rfl rfl)
theorem dX5_read_221 : decode cX5_read 221 = .ok (.aload_n 0, 1) := dk_42 (dk_at dksX5_read_9 8 rfl rfl)
theorem dX5_read_222 : decode cX5_read 222 = .ok (.bipush 6, 2) := dk_16 6 (dk_at dksX5_read_9 9 rfl rfl)
theorem dX5_read_224 : decode cX5_read 224 = .ok (.iload 4, 2) := dk_21 4 (dk_at dksX5_read_9 11 rfl rfl)
theorem dX5_read_226 : decode cX5_read 226 = .ok (.invokevirtual 107, 3) := dk_182 0 107 (dk_at dksX5_read_9 13 rfl rfl)
theorem dX5_read_229 : decode cX5_read 229 = .ok (.goto 69, 3) := dk_167 0 69 (dk_at dksX5_read_9 16 rfl rfl)
theorem dX5_read_232 : decode cX5_read 232 = .ok (.aload_n 0, 1) := dk_42 (dk_at dksX5_read_9 19 rfl rfl)
theorem dX5_read_233 : decode cX5_read 233 = .ok (.iload_n 1, 1) := dk_27 (dk_at dksX5_read_9 20 rfl rfl)
theorem dX5_read_234 : decode cX5_read 234 = .ok (.invokevirtual 103, 3) := dk_182 0 103 (dk_at dksX5_read_9 21 rfl rfl)
theorem dX5_read_237 : decode cX5_read 237 = .ok (.aload_n 0, 1) := dk_42 (dk_at dksX5_read_10 0 rfl rfl)
theorem dX5_read_238 : decode cX5_read 238 = .ok (.iload_n 3, 1) := dk_29 (dk_at dksX5_read_10 1 rfl rfl)
theorem dX5_read_239 : decode cX5_read 239 = .ok (.bipush 46, 2) := dk_16 46 (dk_at dksX5_read_10 2 rfl rfl)
theorem dX5_read_241 : decode cX5_read 241 = .ok (.if_icmp .ne 8, 3) := dk_160 0 8 (dk_at dksX5_read_10 4 rfl rfl)
theorem dX5_read_244 : decode cX5_read 244 = .ok (.ldc 102, 2) := dk_18 102 (dk_at dksX5_read_10 7 rfl rfl)
theorem dX5_read_246 : decode cX5_read 246 = .ok (.goto 19, 3) := dk_167 0 19 (dk_at dksX5_read_10 9 rfl rfl)
theorem dX5_read_249 : decode cX5_read 249 = .ok (.iconst 1, 1) := dk_4 (dk_at dksX5_read_10 12 rfl rfl)
theorem dX5_read_250 : decode cX5_read 250 = .ok (.iload_n 3, 1) := dk_29 (dk_at dksX5_read_10 13 rfl rfl)
theorem dX5_read_251 : decode cX5_read 251 = .ok (.bipush 91, 2) := dk_16 91 (dk_at dksX5_read_10 14 rfl rfl)
theorem dX5_read_253 : decode cX5_read 253 = .ok (.if_icmp .ne 7, 3) := dk_160 0 7 (dk_at dksX5_read_10 16 rfl rfl)
theorem dX5_read_256 : decode cX5_read 256 = .ok (.iconst 0, 1) := dk_3 (dk_at dksX5_read_10 19 rfl rfl)
theorem dX5_read_257 : decode cX5_read 257 = .ok (.goto 7, 3) := dk_167 0 7 (dk_at dksX5_read_10 20 rfl rfl)
theorem dX5_read_260 : decode cX5_read 260 = .ok (.iload_n 3, 1) := dk_29 (dk_at dksX5_read_10 23 rfl rfl)
theorem dX5_read_261 : decode cX5_read 261 = .ok (.bipush 97, 2) := dk_16 97 (dk_at dksX5_read_11 0 rfl rfl)
theorem dX5_read_263 : decode cX5_read 263 = .ok (.isub, 1) := dk_100 (dk_at dksX5_read_11 2 rfl rfl)
theorem dX5_read_264 : decode cX5_read 264 = .ok (.ishl, 1) := dk_120 (dk_at dksX5_read_11 3 rfl rfl)
theorem dX5_read_265 : decode cX5_read 265 = .ok (.putfield 99, 3) := dk_181 0 99 (dk_at dksX5_read_11 4 rfl rfl)
theorem dX5_read_268 : decode cX5_read 268 = .ok (.iload_n 3, 1) := dk_29 (dk_at dksX5_read_11 7 rfl rfl)
theorem dX5_read_269 : decode cX5_read 269 = .ok (.bipush 91, 2) := dk_16 91 (dk_at dksX5_read_11 8 rfl rfl)
theorem dX5_read_271 : decode cX5_read 271 = .ok (.if_icmp .ne 13, 3) := dk_160 0 13 (dk_at dksX5_read_11 10 rfl rfl)
theorem dX5_read_274 : decode cX5_read 274 = .ok (.aload_n 0, 1) := dk_42 (dk_at dksX5_read_11 13 rfl rfl)
theorem dX5_read_275 : decode cX5_read 275 = .ok (.iload_n 2, 1) := dk_28 (dk_at dksX5_read_11 14 rfl rfl)
theorem dX5_read_276 : decode cX5_read 276 = .ok (.iconst 1, 1) := dk_4 (dk_at dksX5_read_11 15 rfl rfl)
theorem dX5_read_277 : decode cX5_read 277 = .ok (.isub, 1) := dk_100 (dk_at dksX5_read_11 16 rfl rfl)
theorem dX5_read_278 : decode cX5_read 278 = .ok (.invokevirtual 111, 3) := dk_182 0 111 (dk_at dksX5_read_11 17 rfl rfl)
theorem dX5_read_281 : decode cX5_read 281 = .ok (.goto 4, 3) := dk_167 0 4 (dk_at dksX5_read_11 20 rfl rfl)
theorem dX5_read_284 : decode cX5_read 284 = .ok (.iload_n 2, 1) := dk_28 (dk_at dksX5_read_11 23 rfl rfl)
theorem dX5_read_285 : decode cX5_read 285 = .ok (.istore_n 2, 1) := dk_61 (dk_at dksX5_read_12 0 rfl rfl)
theorem dX5_read_286 : decode cX5_read 286 = .ok (.aload_n 0, 1) := dk_42 (dk_at dksX5_read_12 1 rfl rfl)
theorem dX5_read_287 : decode cX5_read 287 = .ok (.iconst 0, 1) := dk_3 (dk_at dksX5_read_12 2 rfl rfl)
theorem dX5_read_288 : decode cX5_read 288 = .ok (.aload_n 0, 1) := dk_42 (dk_at dksX5_read_12 3 rfl rfl)
theorem dX5_read_289 : decode cX5_read 289 = .ok (.getfield 99, 3) := dk_180 0 99 (dk_at dksX5_read_12 4 rfl rfl)
theorem dX5_read_292 : decode cX5_read 292 = .ok (.iconst 0, 1) := dk_3 (dk_at dksX5_read_12 7 rfl rfl)
theorem dX5_read_293 : decode cX5_read 293 = .ok (.invokevirtual 88, 3) := dk_182 0 88 (dk_at dksX5_read_12 8 rfl rfl)
theorem dX5_read_296 : decode cX5_read 296 = .ok (.iconst 1, 1) := dk_4 (dk_at dksX5_read_12 11 rfl rfl)
theorem dX5_read_297 : decode cX5_read 297 = .ok (.istore_n 1, 1) := dk_60 (dk_at dksX5_read_12 12 rfl rfl)
theorem dX5_read_298 : decode cX5_read 298 = .ok (.iload_n 1, 1) := dk_27 (dk_at dksX5_read_12 13 rfl rfl)
theorem dX5_read_299 : decode cX5_read 299 = .ok (.ifCond .ne 9, 3) := dk_154 0 9 (dk_at dksX5_read_12 14 rfl rfl)
theorem dX5_read_302 : decode cX5_read 302 = .ok (.iload_n 3, 1) := dk_29 (dk_at dksX5_read_12 17 rfl rfl)
theorem dX5_read_303 : decode cX5_read 303 = .ok (.bipush 41, 2) := dk_16 41 (dk_at dksX5_read_12 18 rfl rfl)
theorem dX5_read_305 : decode cX5_read 305 = .ok (.if_icmp .ne 7, 3) := dk_160 0 7 (dk_at dksX5_read_12 20 rfl rfl)
theorem dX5_read_308 : decode cX5_read 308 = .ok (.iconst 1, 1) := dk_4 (dk_at dksX5_read_12 23 rfl rfl)
theorem dX5_read_309 : decode cX5_read 309 = .ok (.goto 4, 3) := dk_167 0 4 (dk_at dksX5_read_13 0 rfl rfl)
theorem dX5_read_312 : decode cX5_read 312 = .ok (.iconst 0, 1) := dk_3 (dk_at dksX5_read_13 3 rfl rfl)
theorem dX5_read_313 : decode cX5_read 313 = .ok (.istore_n 1, 1) := dk_60 (dk_at dksX5_read_13 4 rfl rfl)
theorem dX5_read_314 : decode cX5_read 314 = .ok (.goto (-295), 3) := dk_167 254 217 (dk_at dksX5_read_13 5 rfl rfl)
theorem dX5_read_317 : decode cX5_read 317 = .ok (.aload_n 0, 1) := dk_42 (dk_at dksX5_read_13 8 rfl rfl)
theorem dX5_read_318 : decode cX5_read 318 = .ok (.iconst 2, 1) := dk_5 (dk_at dksX5_read_13 9 rfl rfl)
theorem dX5_read_319 : decode cX5_read 319 = .ok (.invokevirtual 92, 3) := dk_182 0 92 (dk_at dksX5_read_13 10 rfl rfl)
theorem dX5_read_322 : decode cX5_read 322 = .ok (.return_, 1) := dk_177 (dk_at dksX5_read_13 13 rfl rfl)
abbrev cX5_join : ByteArray := prog_13_method_7_code
def yX5_join : MethodName := ⟨RX5, "join", "(I)V"⟩
def dkwX5_join_4 : List UInt8 := [29, 182, 0, 88, 167, 255, 156, 177]
abbrev dktX5_join_4 : List UInt8 := dkwX5_join_4 ++ []
def dkwX5_join_3 : List UInt8 := [96, 46, 62, 42, 89, 180, 0, 85, 4, 100, 181, 0, 85, 42, 42, 180, 0, 31, 42, 180, 0, 85, 46, 28]
abbrev dktX5_join_3 : List UInt8 := dkwX5_join_3 ++ dktX5_join_4
def dkwX5_join_2 : List UInt8 := [5, 100, 181, 0, 82, 42, 180, 0, 34, 42, 180, 0, 82, 46, 61, 42, 180, 0, 34, 42, 180, 0, 82, 4]
abbrev dktX5_join_2 : List UInt8 := dkwX5_join_2 ++ dktX5_join_3
def dkwX5_join_1 : List UInt8 := [180, 0, 31, 42, 180, 0, 85, 4, 100, 46, 4, 159, 0, 8, 27, 5, 160, 0, 63, 42, 89, 180, 0, 82]
abbrev dktX5_join_1 : List UInt8 := dkwX5_join_1 ++ dktX5_join_2
def dkwX5_join_0 : List UInt8 := [42, 180, 0, 85, 158, 0, 99, 42, 180, 0, 31, 42, 180, 0, 85, 4, 100, 46, 16, 7, 159, 0, 83, 42]
abbrev dktX5_join_0 : List UInt8 := dkwX5_join_0 ++ dktX5_join_1
theorem dksX5_join_0 : cX5_join.data.toList.drop 0 = dktX5_join_0 := by decide +kernel
theorem dksX5_join_1 : cX5_join.data.toList.drop 24 = dktX5_join_1 := dk_seg dksX5_join_0 24 rfl rfl
theorem dksX5_join_2 : cX5_join.data.toList.drop 48 = dktX5_join_2 := dk_seg dksX5_join_1 24 rfl rfl
theorem dksX5_join_3 : cX5_join.data.toList.drop 72 = dktX5_join_3 := dk_seg dksX5_join_2 24 rfl rfl
theorem dksX5_join_4 : cX5_join.data.toList.drop 96 = dktX5_join_4 := dk_seg dksX5_join_3 24 rfl rfl
theorem dX5_join_0 : decode cX5_join 0 = .ok (.aload_n 0, 1) := dk_42 (dk_at dksX5_join_0 0 rfl rfl)
theorem dX5_join_1 : decode cX5_join 1 = .ok (.getfield 85, 3) := dk_180 0 85 (dk_at dksX5_join_0 1 rfl rfl)
theorem dX5_join_4 : decode cX5_join 4 = .ok (.ifCond .le 99, 3) := dk_158 0 99 (dk_at dksX5_join_0 4 rfl rfl)
theorem dX5_join_7 : decode cX5_join 7 = .ok (.aload_n 0, 1) := dk_42 (dk_at dksX5_join_0 7 rfl rfl)
theorem dX5_join_8 : decode cX5_join 8 = .ok (.getfield 31, 3) := dk_180 0 31 (dk_at dksX5_join_0 8 rfl rfl)
theorem dX5_join_11 : decode cX5_join 11 = .ok (.aload_n 0, 1) := dk_42 (dk_at dksX5_join_0 11 rfl rfl)
theorem dX5_join_12 : decode cX5_join 12 = .ok (.getfield 85, 3) := dk_180 0 85 (dk_at dksX5_join_0 12 rfl rfl)
theorem dX5_join_15 : decode cX5_join 15 = .ok (.iconst 1, 1) := dk_4 (dk_at dksX5_join_0 15 rfl rfl)
theorem dX5_join_16 : decode cX5_join 16 = .ok (.isub, 1) := dk_100 (dk_at dksX5_join_0 16 rfl rfl)
theorem dX5_join_17 : decode cX5_join 17 = .ok (.iaload, 1) := dk_46 (dk_at dksX5_join_0 17 rfl rfl)
theorem dX5_join_18 : decode cX5_join 18 = .ok (.bipush 7, 2) := dk_16 7 (dk_at dksX5_join_0 18 rfl rfl)
theorem dX5_join_20 : decode cX5_join 20 = .ok (.if_icmp .eq 83, 3) := dk_159 0 83 (dk_at dksX5_join_0 20 rfl rfl)
theorem dX5_join_23 : decode cX5_join 23 = .ok (.aload_n 0, 1) := dk_42 (dk_at dksX5_join_0 23 rfl rfl)
theorem dX5_join_24 : decode cX5_join 24 = .ok (.getfield 31, 3) := dk_180 0 31 (dk_at dksX5_join_1 0 rfl rfl)
theorem dX5_join_27 : decode cX5_join 27 = .ok (.aload_n 0, 1) := dk_42 (dk_at dksX5_join_1 3 rfl rfl)
theorem dX5_join_28 : decode cX5_join 28 = .ok (.getfield 85, 3) := dk_180 0 85 (dk_at dksX5_join_1 4 rfl rfl)
theorem dX5_join_31 : decode cX5_join 31 = .ok (.iconst 1, 1) := dk_4 (dk_at dksX5_join_1 7 rfl rfl)
theorem dX5_join_32 : decode cX5_join 32 = .ok (.isub, 1) := dk_100 (dk_at dksX5_join_1 8 rfl rfl)
theorem dX5_join_33 : decode cX5_join 33 = .ok (.iaload, 1) := dk_46 (dk_at dksX5_join_1 9 rfl rfl)
theorem dX5_join_34 : decode cX5_join 34 = .ok (.iconst 1, 1) := dk_4 (dk_at dksX5_join_1 10 rfl rfl)
theorem dX5_join_35 : decode cX5_join 35 = .ok (.if_icmp .eq 8, 3) := dk_159 0 8 (dk_at dksX5_join_1 11 rfl rfl)
theorem dX5_join_38 : decode cX5_join 38 = .ok (.iload_n 1, 1) := dk_27 (dk_at dksX5_join_1 14 rfl rfl)
theorem dX5_join_39 : decode cX5_join 39 = .ok (.iconst 2, 1) := dk_5 (dk_at dksX5_join_1 15 rfl rfl)
theorem dX5_join_40 : decode cX5_join 40 = .ok (.if_icmp .ne 63, 3) := dk_160 0 63 (dk_at dksX5_join_1 16 rfl rfl)
theorem dX5_join_43 : decode cX5_join 43 = .ok (.aload_n 0, 1) := dk_42 (dk_at dksX5_join_1 19 rfl rfl)
theorem dX5_join_44 : decode cX5_join 44 = .ok (.dup, 1) := dk_89 (dk_at dksX5_join_1 20 rfl rfl)
theorem dX5_join_45 : decode cX5_join 45 = .ok (.getfield 82, 3) := dk_180 0 82 (dk_at dksX5_join_1 21 rfl rfl)
theorem dX5_join_48 : decode cX5_join 48 = .ok (.iconst 2, 1) := dk_5 (dk_at dksX5_join_2 0 rfl rfl)
theorem dX5_join_49 : decode cX5_join 49 = .ok (.isub, 1) := dk_100 (dk_at dksX5_join_2 1 rfl rfl)
theorem dX5_join_50 : decode cX5_join 50 = .ok (.putfield 82, 3) := dk_181 0 82 (dk_at dksX5_join_2 2 rfl rfl)
theorem dX5_join_53 : decode cX5_join 53 = .ok (.aload_n 0, 1) := dk_42 (dk_at dksX5_join_2 5 rfl rfl)
theorem dX5_join_54 : decode cX5_join 54 = .ok (.getfield 34, 3) := dk_180 0 34 (dk_at dksX5_join_2 6 rfl rfl)
theorem dX5_join_57 : decode cX5_join 57 = .ok (.aload_n 0, 1) := dk_42 (dk_at dksX5_join_2 9 rfl rfl)
theorem dX5_join_58 : decode cX5_join 58 = .ok (.getfield 82, 3) := dk_180 0 82 (dk_at dksX5_join_2 10 rfl rfl)
theorem dX5_join_61 : decode cX5_join 61 = .ok (.iaload, 1) := dk_46 (dk_at dksX5_join_2 13 rfl rfl)
theorem dX5_join_62 : decode cX5_join 62 = .ok (.istore_n 2, 1) := dk_61 (dk_at dksX5_join_2 14 rfl rfl)
theorem dX5_join_63 : decode cX5_join 63 = .ok (.aload_n 0, 1) := dk_42 (dk_at dksX5_join_2 15 rfl rfl)
theorem dX5_join_64 : decode cX5_join 64 = .ok (.getfield 34, 3) := dk_180 0 34 (dk_at dksX5_join_2 16 rfl rfl)
theorem dX5_join_67 : decode cX5_join 67 = .ok (.aload_n 0, 1) := dk_42 (dk_at dksX5_join_2 19 rfl rfl)
theorem dX5_join_68 : decode cX5_join 68 = .ok (.getfield 82, 3) := dk_180 0 82 (dk_at dksX5_join_2 20 rfl rfl)
theorem dX5_join_71 : decode cX5_join 71 = .ok (.iconst 1, 1) := dk_4 (dk_at dksX5_join_2 23 rfl rfl)
theorem dX5_join_72 : decode cX5_join 72 = .ok (.iadd, 1) := dk_96 (dk_at dksX5_join_3 0 rfl rfl)
theorem dX5_join_73 : decode cX5_join 73 = .ok (.iaload, 1) := dk_46 (dk_at dksX5_join_3 1 rfl rfl)
theorem dX5_join_74 : decode cX5_join 74 = .ok (.istore_n 3, 1) := dk_62 (dk_at dksX5_join_3 2 rfl rfl)
theorem dX5_join_75 : decode cX5_join 75 = .ok (.aload_n 0, 1) := dk_42 (dk_at dksX5_join_3 3 rfl rfl)
theorem dX5_join_76 : decode cX5_join 76 = .ok (.dup, 1) := dk_89 (dk_at dksX5_join_3 4 rfl rfl)
theorem dX5_join_77 : decode cX5_join 77 = .ok (.getfield 85, 3) := dk_180 0 85 (dk_at dksX5_join_3 5 rfl rfl)
theorem dX5_join_80 : decode cX5_join 80 = .ok (.iconst 1, 1) := dk_4 (dk_at dksX5_join_3 8 rfl rfl)
theorem dX5_join_81 : decode cX5_join 81 = .ok (.isub, 1) := dk_100 (dk_at dksX5_join_3 9 rfl rfl)
theorem dX5_join_82 : decode cX5_join 82 = .ok (.putfield 85, 3) := dk_181 0 85 (dk_at dksX5_join_3 10 rfl rfl)
theorem dX5_join_85 : decode cX5_join 85 = .ok (.aload_n 0, 1) := dk_42 (dk_at dksX5_join_3 13 rfl rfl)
theorem dX5_join_86 : decode cX5_join 86 = .ok (.aload_n 0, 1) := dk_42 (dk_at dksX5_join_3 14 rfl rfl)
theorem dX5_join_87 : decode cX5_join 87 = .ok (.getfield 31, 3) := dk_180 0 31 (dk_at dksX5_join_3 15 rfl rfl)
theorem dX5_join_90 : decode cX5_join 90 = .ok (.aload_n 0, 1) := dk_42 (dk_at dksX5_join_3 18 rfl rfl)
theorem dX5_join_91 : decode cX5_join 91 = .ok (.getfield 85, 3) := dk_180 0 85 (dk_at dksX5_join_3 19 rfl rfl)
theorem dX5_join_94 : decode cX5_join 94 = .ok (.iaload, 1) := dk_46 (dk_at dksX5_join_3 22 rfl rfl)
theorem dX5_join_95 : decode cX5_join 95 = .ok (.iload_n 2, 1) := dk_28 (dk_at dksX5_join_3 23 rfl rfl)
theorem dX5_join_96 : decode cX5_join 96 = .ok (.iload_n 3, 1) := dk_29 (dk_at dksX5_join_4 0 rfl rfl)
theorem dX5_join_97 : decode cX5_join 97 = .ok (.invokevirtual 88, 3) := dk_182 0 88 (dk_at dksX5_join_4 1 rfl rfl)
theorem dX5_join_100 : decode cX5_join 100 = .ok (.goto (-100), 3) := dk_167 255 156 (dk_at dksX5_join_4 4 rfl rfl)
theorem dX5_join_103 : decode cX5_join 103 = .ok (.return_, 1) := dk_177 (dk_at dksX5_join_4 7 rfl rfl)
abbrev cX5_make : ByteArray := prog_13_method_6_code
def yX5_make : MethodName := ⟨RX5, "make", "(III)V"⟩
def dkwX5_make_2 : List UInt8 := [4, 96, 181, 0, 82, 42, 89, 180, 0, 79, 4, 96, 181, 0, 79, 177]
abbrev dktX5_make_2 : List UInt8 := dkwX5_make_2 ++ []
def dkwX5_make_1 : List UInt8 := [42, 180, 0, 79, 29, 79, 42, 180, 0, 34, 42, 180, 0, 82, 42, 180, 0, 79, 79, 42, 89, 180, 0, 82]
abbrev dktX5_make_1 : List UInt8 := dkwX5_make_1 ++ dktX5_make_2
def dkwX5_make_0 : List UInt8 := [42, 180, 0, 22, 42, 180, 0, 79, 27, 79, 42, 180, 0, 25, 42, 180, 0, 79, 28, 79, 42, 180, 0, 28]
abbrev dktX5_make_0 : List UInt8 := dkwX5_make_0 ++ dktX5_make_1
theorem dksX5_make_0 : cX5_make.data.toList.drop 0 = dktX5_make_0 := by decide +kernel
theorem dksX5_make_1 : cX5_make.data.toList.drop 24 = dktX5_make_1 := dk_seg dksX5_make_0 24 rfl rfl
theorem dksX5_make_2 : cX5_make.data.toList.drop 48 = dktX5_make_2 := dk_seg dksX5_make_1 24 rfl rfl
theorem dX5_make_0 : decode cX5_make 0 = .ok (.aload_n 0, 1) := dk_42 (dk_at dksX5_make_0 0 rfl rfl)
theorem dX5_make_1 : decode cX5_make 1 = .ok (.getfield 22, 3) := dk_180 0 22 (dk_at dksX5_make_0 1 rfl rfl)
theorem dX5_make_4 : decode cX5_make 4 = .ok (.aload_n 0, 1) := dk_42 (dk_at dksX5_make_0 4 rfl rfl)
theorem dX5_make_5 : decode cX5_make 5 = .ok (.getfield 79, 3) := dk_180 0 79 (dk_at dksX5_make_0 5 rfl rfl)
theorem dX5_make_8 : decode cX5_make 8 = .ok (.iload_n 1, 1) := dk_27 (dk_at dksX5_make_0 8 rfl rfl)
theorem dX5_make_9 : decode cX5_make 9 = .ok (.iastore, 1) := dk_79 (dk_at dksX5_make_0 9 rfl rfl)
theorem dX5_make_10 : decode cX5_make 10 = .ok (.aload_n 0, 1) := dk_42 (dk_at dksX5_make_0 10 rfl rfl)
theorem dX5_make_11 : decode cX5_make 11 = .ok (.getfield 25, 3) := dk_180 0 25 (dk_at dksX5_make_0 11 rfl rfl)
theorem dX5_make_14 : decode cX5_make 14 = .ok (.aload_n 0, 1) := dk_42 (dk_at dksX5_make_0 14 rfl rfl)
theorem dX5_make_15 : decode cX5_make 15 = .ok (.getfield 79, 3) := dk_180 0 79 (dk_at dksX5_make_0 15 rfl rfl)
theorem dX5_make_18 : decode cX5_make 18 = .ok (.iload_n 2, 1) := dk_28 (dk_at dksX5_make_0 18 rfl rfl)
theorem dX5_make_19 : decode cX5_make 19 = .ok (.iastore, 1) := dk_79 (dk_at dksX5_make_0 19 rfl rfl)
theorem dX5_make_20 : decode cX5_make 20 = .ok (.aload_n 0, 1) := dk_42 (dk_at dksX5_make_0 20 rfl rfl)
theorem dX5_make_21 : decode cX5_make 21 = .ok (.getfield 28, 3) := dk_180 0 28 (dk_at dksX5_make_0 21 rfl rfl)
theorem dX5_make_24 : decode cX5_make 24 = .ok (.aload_n 0, 1) := dk_42 (dk_at dksX5_make_1 0 rfl rfl)
theorem dX5_make_25 : decode cX5_make 25 = .ok (.getfield 79, 3) := dk_180 0 79 (dk_at dksX5_make_1 1 rfl rfl)
theorem dX5_make_28 : decode cX5_make 28 = .ok (.iload_n 3, 1) := dk_29 (dk_at dksX5_make_1 4 rfl rfl)
theorem dX5_make_29 : decode cX5_make 29 = .ok (.iastore, 1) := dk_79 (dk_at dksX5_make_1 5 rfl rfl)
theorem dX5_make_30 : decode cX5_make 30 = .ok (.aload_n 0, 1) := dk_42 (dk_at dksX5_make_1 6 rfl rfl)
theorem dX5_make_31 : decode cX5_make 31 = .ok (.getfield 34, 3) := dk_180 0 34 (dk_at dksX5_make_1 7 rfl rfl)
theorem dX5_make_34 : decode cX5_make 34 = .ok (.aload_n 0, 1) := dk_42 (dk_at dksX5_make_1 10 rfl rfl)
theorem dX5_make_35 : decode cX5_make 35 = .ok (.getfield 82, 3) := dk_180 0 82 (dk_at dksX5_make_1 11 rfl rfl)
theorem dX5_make_38 : decode cX5_make 38 = .ok (.aload_n 0, 1) := dk_42 (dk_at dksX5_make_1 14 rfl rfl)
theorem dX5_make_39 : decode cX5_make 39 = .ok (.getfield 79, 3) := dk_180 0 79 (dk_at dksX5_make_1 15 rfl rfl)
theorem dX5_make_42 : decode cX5_make 42 = .ok (.iastore, 1) := dk_79 (dk_at dksX5_make_1 18 rfl rfl)
theorem dX5_make_43 : decode cX5_make 43 = .ok (.aload_n 0, 1) := dk_42 (dk_at dksX5_make_1 19 rfl rfl)
theorem dX5_make_44 : decode cX5_make 44 = .ok (.dup, 1) := dk_89 (dk_at dksX5_make_1 20 rfl rfl)
theorem dX5_make_45 : decode cX5_make 45 = .ok (.getfield 82, 3) := dk_180 0 82 (dk_at dksX5_make_1 21 rfl rfl)
theorem dX5_make_48 : decode cX5_make 48 = .ok (.iconst 1, 1) := dk_4 (dk_at dksX5_make_2 0 rfl rfl)
theorem dX5_make_49 : decode cX5_make 49 = .ok (.iadd, 1) := dk_96 (dk_at dksX5_make_2 1 rfl rfl)
theorem dX5_make_50 : decode cX5_make 50 = .ok (.putfield 82, 3) := dk_181 0 82 (dk_at dksX5_make_2 2 rfl rfl)
theorem dX5_make_53 : decode cX5_make 53 = .ok (.aload_n 0, 1) := dk_42 (dk_at dksX5_make_2 5 rfl rfl)
theorem dX5_make_54 : decode cX5_make 54 = .ok (.dup, 1) := dk_89 (dk_at dksX5_make_2 6 rfl rfl)
theorem dX5_make_55 : decode cX5_make 55 = .ok (.getfield 79, 3) := dk_180 0 79 (dk_at dksX5_make_2 7 rfl rfl)
theorem dX5_make_58 : decode cX5_make 58 = .ok (.iconst 1, 1) := dk_4 (dk_at dksX5_make_2 10 rfl rfl)
theorem dX5_make_59 : decode cX5_make 59 = .ok (.iadd, 1) := dk_96 (dk_at dksX5_make_2 11 rfl rfl)
theorem dX5_make_60 : decode cX5_make 60 = .ok (.putfield 79, 3) := dk_181 0 79 (dk_at dksX5_make_2 12 rfl rfl)
theorem dX5_make_63 : decode cX5_make 63 = .ok (.return_, 1) := dk_177 (dk_at dksX5_make_2 15 rfl rfl)
abbrev cX5_hold : ByteArray := prog_13_method_8_code
def yX5_hold : MethodName := ⟨RX5, "hold", "(I)V"⟩
def dkwX5_hold_0 : List UInt8 := [42, 180, 0, 31, 42, 180, 0, 85, 27, 79, 42, 89, 180, 0, 85, 4, 96, 181, 0, 85, 177]
abbrev dktX5_hold_0 : List UInt8 := dkwX5_hold_0 ++ []
theorem dksX5_hold_0 : cX5_hold.data.toList.drop 0 = dktX5_hold_0 := by decide +kernel
theorem dX5_hold_0 : decode cX5_hold 0 = .ok (.aload_n 0, 1) := dk_42 (dk_at dksX5_hold_0 0 rfl rfl)
theorem dX5_hold_1 : decode cX5_hold 1 = .ok (.getfield 31, 3) := dk_180 0 31 (dk_at dksX5_hold_0 1 rfl rfl)
theorem dX5_hold_4 : decode cX5_hold 4 = .ok (.aload_n 0, 1) := dk_42 (dk_at dksX5_hold_0 4 rfl rfl)
theorem dX5_hold_5 : decode cX5_hold 5 = .ok (.getfield 85, 3) := dk_180 0 85 (dk_at dksX5_hold_0 5 rfl rfl)
theorem dX5_hold_8 : decode cX5_hold 8 = .ok (.iload_n 1, 1) := dk_27 (dk_at dksX5_hold_0 8 rfl rfl)
theorem dX5_hold_9 : decode cX5_hold 9 = .ok (.iastore, 1) := dk_79 (dk_at dksX5_hold_0 9 rfl rfl)
theorem dX5_hold_10 : decode cX5_hold 10 = .ok (.aload_n 0, 1) := dk_42 (dk_at dksX5_hold_0 10 rfl rfl)
theorem dX5_hold_11 : decode cX5_hold 11 = .ok (.dup, 1) := dk_89 (dk_at dksX5_hold_0 11 rfl rfl)
theorem dX5_hold_12 : decode cX5_hold 12 = .ok (.getfield 85, 3) := dk_180 0 85 (dk_at dksX5_hold_0 12 rfl rfl)
theorem dX5_hold_15 : decode cX5_hold 15 = .ok (.iconst 1, 1) := dk_4 (dk_at dksX5_hold_0 15 rfl rfl)
theorem dX5_hold_16 : decode cX5_hold 16 = .ok (.iadd, 1) := dk_96 (dk_at dksX5_hold_0 16 rfl rfl)
theorem dX5_hold_17 : decode cX5_hold 17 = .ok (.putfield 85, 3) := dk_181 0 85 (dk_at dksX5_hold_0 17 rfl rfl)
theorem dX5_hold_20 : decode cX5_hold 20 = .ok (.return_, 1) := dk_177 (dk_at dksX5_hold_0 20 rfl rfl)
abbrev cX5_item : ByteArray := prog_13_method_10_code
def yX5_item : MethodName := ⟨RX5, "item", "(Z)V"⟩
def dkwX5_item_0 : List UInt8 := [27, 153, 0, 13, 42, 4, 182, 0, 92, 42, 4, 182, 0, 96, 177]
abbrev dktX5_item_0 : List UInt8 := dkwX5_item_0 ++ []
theorem dksX5_item_0 : cX5_item.data.toList.drop 0 = dktX5_item_0 := by decide +kernel
theorem dX5_item_0 : decode cX5_item 0 = .ok (.iload_n 1, 1) := dk_27 (dk_at dksX5_item_0 0 rfl rfl)
theorem dX5_item_1 : decode cX5_item 1 = .ok (.ifCond .eq 13, 3) := dk_153 0 13 (dk_at dksX5_item_0 1 rfl rfl)
theorem dX5_item_4 : decode cX5_item 4 = .ok (.aload_n 0, 1) := dk_42 (dk_at dksX5_item_0 4 rfl rfl)
theorem dX5_item_5 : decode cX5_item 5 = .ok (.iconst 1, 1) := dk_4 (dk_at dksX5_item_0 5 rfl rfl)
theorem dX5_item_6 : decode cX5_item 6 = .ok (.invokevirtual 92, 3) := dk_182 0 92 (dk_at dksX5_item_0 6 rfl rfl)
theorem dX5_item_9 : decode cX5_item 9 = .ok (.aload_n 0, 1) := dk_42 (dk_at dksX5_item_0 9 rfl rfl)
theorem dX5_item_10 : decode cX5_item 10 = .ok (.iconst 1, 1) := dk_4 (dk_at dksX5_item_0 10 rfl rfl)
theorem dX5_item_11 : decode cX5_item 11 = .ok (.invokevirtual 96, 3) := dk_182 0 96 (dk_at dksX5_item_0 11 rfl rfl)
theorem dX5_item_14 : decode cX5_item 14 = .ok (.return_, 1) := dk_177 (dk_at dksX5_item_0 14 rfl rfl)
abbrev cX5_suffix : ByteArray := prog_13_method_9_code
def yX5_suffix : MethodName := ⟨RX5, "suffix", "(II)V"⟩
def dkwX5_suffix_1 : List UInt8 := [182, 0, 88, 177]
abbrev dktX5_suffix_1 : List UInt8 := dkwX5_suffix_1 ++ []
def dkwX5_suffix_0 : List UInt8 := [42, 89, 180, 0, 82, 4, 100, 181, 0, 82, 42, 27, 42, 180, 0, 34, 42, 180, 0, 82, 46, 28]
abbrev dktX5_suffix_0 : List UInt8 := dkwX5_suffix_0 ++ dktX5_suffix_1
theorem dksX5_suffix_0 : cX5_suffix.data.toList.drop 0 = dktX5_suffix_0 := by decide +kernel
theorem dksX5_suffix_1 : cX5_suffix.data.toList.drop 22 = dktX5_suffix_1 := dk_seg dksX5_suffix_0 22 rfl rfl
theorem dX5_suffix_0 : decode cX5_suffix 0 = .ok (.aload_n 0, 1) := dk_42 (dk_at dksX5_suffix_0 0 rfl rfl)
theorem dX5_suffix_1 : decode cX5_suffix 1 = .ok (.dup, 1) := dk_89 (dk_at dksX5_suffix_0 1 rfl rfl)
theorem dX5_suffix_2 : decode cX5_suffix 2 = .ok (.getfield 82, 3) := dk_180 0 82 (dk_at dksX5_suffix_0 2 rfl rfl)
theorem dX5_suffix_5 : decode cX5_suffix 5 = .ok (.iconst 1, 1) := dk_4 (dk_at dksX5_suffix_0 5 rfl rfl)
theorem dX5_suffix_6 : decode cX5_suffix 6 = .ok (.isub, 1) := dk_100 (dk_at dksX5_suffix_0 6 rfl rfl)
theorem dX5_suffix_7 : decode cX5_suffix 7 = .ok (.putfield 82, 3) := dk_181 0 82 (dk_at dksX5_suffix_0 7 rfl rfl)
theorem dX5_suffix_10 : decode cX5_suffix 10 = .ok (.aload_n 0, 1) := dk_42 (dk_at dksX5_suffix_0 10 rfl rfl)
theorem dX5_suffix_11 : decode cX5_suffix 11 = .ok (.iload_n 1, 1) := dk_27 (dk_at dksX5_suffix_0 11 rfl rfl)
theorem dX5_suffix_12 : decode cX5_suffix 12 = .ok (.aload_n 0, 1) := dk_42 (dk_at dksX5_suffix_0 12 rfl rfl)
theorem dX5_suffix_13 : decode cX5_suffix 13 = .ok (.getfield 34, 3) := dk_180 0 34 (dk_at dksX5_suffix_0 13 rfl rfl)
theorem dX5_suffix_16 : decode cX5_suffix 16 = .ok (.aload_n 0, 1) := dk_42 (dk_at dksX5_suffix_0 16 rfl rfl)
theorem dX5_suffix_17 : decode cX5_suffix 17 = .ok (.getfield 82, 3) := dk_180 0 82 (dk_at dksX5_suffix_0 17 rfl rfl)
theorem dX5_suffix_20 : decode cX5_suffix 20 = .ok (.iaload, 1) := dk_46 (dk_at dksX5_suffix_0 20 rfl rfl)
theorem dX5_suffix_21 : decode cX5_suffix 21 = .ok (.iload_n 2, 1) := dk_28 (dk_at dksX5_suffix_0 21 rfl rfl)
theorem dX5_suffix_22 : decode cX5_suffix 22 = .ok (.invokevirtual 88, 3) := dk_182 0 88 (dk_at dksX5_suffix_1 0 rfl rfl)
theorem dX5_suffix_25 : decode cX5_suffix 25 = .ok (.return_, 1) := dk_177 (dk_at dksX5_suffix_1 3 rfl rfl)
abbrev cX5_set : ByteArray := prog_13_method_11_code
def yX5_set : MethodName := ⟨RX5, "set", "(I)I"⟩
def dkwX5_set_4 : List UInt8 := [180, 0, 99, 181, 0, 99, 28, 4, 96, 172]
abbrev dktX5_set_4 : List UInt8 := dkwX5_set_4 ++ []
def dkwX5_set_3 : List UInt8 := [132, 2, 1, 167, 255, 222, 42, 29, 153, 0, 15, 18, 102, 42, 180, 0, 99, 2, 130, 126, 167, 0, 7, 42]
abbrev dktX5_set_3 : List UInt8 := dkwX5_set_3 ++ dktX5_set_4
def dkwX5_set_2 : List UInt8 := [159, 0, 29, 42, 89, 180, 0, 99, 4, 42, 180, 0, 7, 28, 46, 16, 97, 100, 120, 128, 181, 0, 99]
abbrev dktX5_set_2 : List UInt8 := dkwX5_set_2 ++ dktX5_set_3
def dkwX5_set_1 : List UInt8 := [153, 0, 9, 28, 4, 96, 167, 0, 4, 28, 61, 42, 3, 181, 0, 99, 42, 180, 0, 7, 28, 46, 16, 93]
abbrev dktX5_set_1 : List UInt8 := dkwX5_set_1 ++ dktX5_set_2
def dkwX5_set_0 : List UInt8 := [27, 4, 96, 61, 42, 180, 0, 7, 28, 46, 16, 94, 160, 0, 7, 4, 167, 0, 4, 3, 62, 29]
abbrev dktX5_set_0 : List UInt8 := dkwX5_set_0 ++ dktX5_set_1
theorem dksX5_set_0 : cX5_set.data.toList.drop 0 = dktX5_set_0 := by decide +kernel
theorem dksX5_set_1 : cX5_set.data.toList.drop 22 = dktX5_set_1 := dk_seg dksX5_set_0 22 rfl rfl
theorem dksX5_set_2 : cX5_set.data.toList.drop 46 = dktX5_set_2 := dk_seg dksX5_set_1 24 rfl rfl
theorem dksX5_set_3 : cX5_set.data.toList.drop 69 = dktX5_set_3 := dk_seg dksX5_set_2 23 rfl rfl
theorem dksX5_set_4 : cX5_set.data.toList.drop 93 = dktX5_set_4 := dk_seg dksX5_set_3 24 rfl rfl
theorem dX5_set_0 : decode cX5_set 0 = .ok (.iload_n 1, 1) := dk_27 (dk_at dksX5_set_0 0 rfl rfl)
theorem dX5_set_1 : decode cX5_set 1 = .ok (.iconst 1, 1) := dk_4 (dk_at dksX5_set_0 1 rfl rfl)
theorem dX5_set_2 : decode cX5_set 2 = .ok (.iadd, 1) := dk_96 (dk_at dksX5_set_0 2 rfl rfl)
theorem dX5_set_3 : decode cX5_set 3 = .ok (.istore_n 2, 1) := dk_61 (dk_at dksX5_set_0 3 rfl rfl)
theorem dX5_set_4 : decode cX5_set 4 = .ok (.aload_n 0, 1) := dk_42 (dk_at dksX5_set_0 4 rfl rfl)
theorem dX5_set_5 : decode cX5_set 5 = .ok (.getfield 7, 3) := dk_180 0 7 (dk_at dksX5_set_0 5 rfl rfl)
theorem dX5_set_8 : decode cX5_set 8 = .ok (.iload_n 2, 1) := dk_28 (dk_at dksX5_set_0 8 rfl rfl)
theorem dX5_set_9 : decode cX5_set 9 = .ok (.iaload, 1) := dk_46 (dk_at dksX5_set_0 9 rfl rfl)
theorem dX5_set_10 : decode cX5_set 10 = .ok (.bipush 94, 2) := dk_16 94 (dk_at dksX5_set_0 10 rfl rfl)
theorem dX5_set_12 : decode cX5_set 12 = .ok (.if_icmp .ne 7, 3) := dk_160 0 7 (dk_at dksX5_set_0 12 rfl rfl)
theorem dX5_set_15 : decode cX5_set 15 = .ok (.iconst 1, 1) := dk_4 (dk_at dksX5_set_0 15 rfl rfl)
theorem dX5_set_16 : decode cX5_set 16 = .ok (.goto 4, 3) := dk_167 0 4 (dk_at dksX5_set_0 16 rfl rfl)
theorem dX5_set_19 : decode cX5_set 19 = .ok (.iconst 0, 1) := dk_3 (dk_at dksX5_set_0 19 rfl rfl)
theorem dX5_set_20 : decode cX5_set 20 = .ok (.istore_n 3, 1) := dk_62 (dk_at dksX5_set_0 20 rfl rfl)
theorem dX5_set_21 : decode cX5_set 21 = .ok (.iload_n 3, 1) := dk_29 (dk_at dksX5_set_0 21 rfl rfl)
theorem dX5_set_22 : decode cX5_set 22 = .ok (.ifCond .eq 9, 3) := dk_153 0 9 (dk_at dksX5_set_1 0 rfl rfl)
theorem dX5_set_25 : decode cX5_set 25 = .ok (.iload_n 2, 1) := dk_28 (dk_at dksX5_set_1 3 rfl rfl)
theorem dX5_set_26 : decode cX5_set 26 = .ok (.iconst 1, 1) := dk_4 (dk_at dksX5_set_1 4 rfl rfl)
theorem dX5_set_27 : decode cX5_set 27 = .ok (.iadd, 1) := dk_96 (dk_at dksX5_set_1 5 rfl rfl)
theorem dX5_set_28 : decode cX5_set 28 = .ok (.goto 4, 3) := dk_167 0 4 (dk_at dksX5_set_1 6 rfl rfl)
theorem dX5_set_31 : decode cX5_set 31 = .ok (.iload_n 2, 1) := dk_28 (dk_at dksX5_set_1 9 rfl rfl)
theorem dX5_set_32 : decode cX5_set 32 = .ok (.istore_n 2, 1) := dk_61 (dk_at dksX5_set_1 10 rfl rfl)
theorem dX5_set_33 : decode cX5_set 33 = .ok (.aload_n 0, 1) := dk_42 (dk_at dksX5_set_1 11 rfl rfl)
theorem dX5_set_34 : decode cX5_set 34 = .ok (.iconst 0, 1) := dk_3 (dk_at dksX5_set_1 12 rfl rfl)
theorem dX5_set_35 : decode cX5_set 35 = .ok (.putfield 99, 3) := dk_181 0 99 (dk_at dksX5_set_1 13 rfl rfl)
theorem dX5_set_38 : decode cX5_set 38 = .ok (.aload_n 0, 1) := dk_42 (dk_at dksX5_set_1 16 rfl rfl)
theorem dX5_set_39 : decode cX5_set 39 = .ok (.getfield 7, 3) := dk_180 0 7 (dk_at dksX5_set_1 17 rfl rfl)
theorem dX5_set_42 : decode cX5_set 42 = .ok (.iload_n 2, 1) := dk_28 (dk_at dksX5_set_1 20 rfl rfl)
theorem dX5_set_43 : decode cX5_set 43 = .ok (.iaload, 1) := dk_46 (dk_at dksX5_set_1 21 rfl rfl)
theorem dX5_set_44 : decode cX5_set 44 = .ok (.bipush 93, 2) := dk_16 93 (dk_at dksX5_set_1 22 rfl rfl)
theorem dX5_set_46 : decode cX5_set 46 = .ok (.if_icmp .eq 29, 3) := dk_159 0 29 (dk_at dksX5_set_2 0 rfl rfl)
theorem dX5_set_49 : decode cX5_set 49 = .ok (.aload_n 0, 1) := dk_42 (dk_at dksX5_set_2 3 rfl rfl)
theorem dX5_set_50 : decode cX5_set 50 = .ok (.dup, 1) := dk_89 (dk_at dksX5_set_2 4 rfl rfl)
theorem dX5_set_51 : decode cX5_set 51 = .ok (.getfield 99, 3) := dk_180 0 99 (dk_at dksX5_set_2 5 rfl rfl)
theorem dX5_set_54 : decode cX5_set 54 = .ok (.iconst 1, 1) := dk_4 (dk_at dksX5_set_2 8 rfl rfl)
theorem dX5_set_55 : decode cX5_set 55 = .ok (.aload_n 0, 1) := dk_42 (dk_at dksX5_set_2 9 rfl rfl)
theorem dX5_set_56 : decode cX5_set 56 = .ok (.getfield 7, 3) := dk_180 0 7 (dk_at dksX5_set_2 10 rfl rfl)
theorem dX5_set_59 : decode cX5_set 59 = .ok (.iload_n 2, 1) := dk_28 (dk_at dksX5_set_2 13 rfl rfl)
theorem dX5_set_60 : decode cX5_set 60 = .ok (.iaload, 1) := dk_46 (dk_at dksX5_set_2 14 rfl rfl)
theorem dX5_set_61 : decode cX5_set 61 = .ok (.bipush 97, 2) := dk_16 97 (dk_at dksX5_set_2 15 rfl rfl)
theorem dX5_set_63 : decode cX5_set 63 = .ok (.isub, 1) := dk_100 (dk_at dksX5_set_2 17 rfl rfl)
theorem dX5_set_64 : decode cX5_set 64 = .ok (.ishl, 1) := dk_120 (dk_at dksX5_set_2 18 rfl rfl)
theorem dX5_set_65 : decode cX5_set 65 = .ok (.ior, 1) := dk_128 (dk_at dksX5_set_2 19 rfl rfl)
theorem dX5_set_66 : decode cX5_set 66 = .ok (.putfield 99, 3) := dk_181 0 99 (dk_at dksX5_set_2 20 rfl rfl)
theorem dX5_set_69 : decode cX5_set 69 = .ok (.iinc 2 1, 3) := dk_132 2 1 (dk_at dksX5_set_3 0 rfl rfl)
theorem dX5_set_72 : decode cX5_set 72 = .ok (.goto (-34), 3) := dk_167 255 222 (dk_at dksX5_set_3 3 rfl rfl)
theorem dX5_set_75 : decode cX5_set 75 = .ok (.aload_n 0, 1) := dk_42 (dk_at dksX5_set_3 6 rfl rfl)
theorem dX5_set_76 : decode cX5_set 76 = .ok (.iload_n 3, 1) := dk_29 (dk_at dksX5_set_3 7 rfl rfl)
theorem dX5_set_77 : decode cX5_set 77 = .ok (.ifCond .eq 15, 3) := dk_153 0 15 (dk_at dksX5_set_3 8 rfl rfl)
theorem dX5_set_80 : decode cX5_set 80 = .ok (.ldc 102, 2) := dk_18 102 (dk_at dksX5_set_3 11 rfl rfl)
theorem dX5_set_82 : decode cX5_set 82 = .ok (.aload_n 0, 1) := dk_42 (dk_at dksX5_set_3 13 rfl rfl)
theorem dX5_set_83 : decode cX5_set 83 = .ok (.getfield 99, 3) := dk_180 0 99 (dk_at dksX5_set_3 14 rfl rfl)
theorem dX5_set_86 : decode cX5_set 86 = .ok (.iconst (-1), 1) := dk_2 (dk_at dksX5_set_3 17 rfl rfl)
theorem dX5_set_87 : decode cX5_set 87 = .ok (.ixor, 1) := dk_130 (dk_at dksX5_set_3 18 rfl rfl)
theorem dX5_set_88 : decode cX5_set 88 = .ok (.iand, 1) := dk_126 (dk_at dksX5_set_3 19 rfl rfl)
theorem dX5_set_89 : decode cX5_set 89 = .ok (.goto 7, 3) := dk_167 0 7 (dk_at dksX5_set_3 20 rfl rfl)
theorem dX5_set_92 : decode cX5_set 92 = .ok (.aload_n 0, 1) := dk_42 (dk_at dksX5_set_3 23 rfl rfl)
theorem dX5_set_93 : decode cX5_set 93 = .ok (.getfield 99, 3) := dk_180 0 99 (dk_at dksX5_set_4 0 rfl rfl)
theorem dX5_set_96 : decode cX5_set 96 = .ok (.putfield 99, 3) := dk_181 0 99 (dk_at dksX5_set_4 3 rfl rfl)
theorem dX5_set_99 : decode cX5_set 99 = .ok (.iload_n 2, 1) := dk_28 (dk_at dksX5_set_4 6 rfl rfl)
theorem dX5_set_100 : decode cX5_set 100 = .ok (.iconst 1, 1) := dk_4 (dk_at dksX5_set_4 7 rfl rfl)
theorem dX5_set_101 : decode cX5_set 101 = .ok (.iadd, 1) := dk_96 (dk_at dksX5_set_4 8 rfl rfl)
theorem dX5_set_102 : decode cX5_set 102 = .ok (.ireturn, 1) := dk_172 (dk_at dksX5_set_4 9 rfl rfl)
abbrev cX5_changed : ByteArray := prog_13_method_15_code
def yX5_changed : MethodName := ⟨RX5, "changed", "()V"⟩
def dkwX5_changed_0 : List UInt8 := [42, 3, 181, 0, 128, 42, 2, 181, 0, 53, 42, 2, 181, 0, 56, 177]
abbrev dktX5_changed_0 : List UInt8 := dkwX5_changed_0 ++ []
theorem dksX5_changed_0 : cX5_changed.data.toList.drop 0 = dktX5_changed_0 := by decide +kernel
theorem dX5_changed_0 : decode cX5_changed 0 = .ok (.aload_n 0, 1) := dk_42 (dk_at dksX5_changed_0 0 rfl rfl)
theorem dX5_changed_1 : decode cX5_changed 1 = .ok (.iconst 0, 1) := dk_3 (dk_at dksX5_changed_0 1 rfl rfl)
theorem dX5_changed_2 : decode cX5_changed 2 = .ok (.putfield 128, 3) := dk_181 0 128 (dk_at dksX5_changed_0 2 rfl rfl)
theorem dX5_changed_5 : decode cX5_changed 5 = .ok (.aload_n 0, 1) := dk_42 (dk_at dksX5_changed_0 5 rfl rfl)
theorem dX5_changed_6 : decode cX5_changed 6 = .ok (.iconst (-1), 1) := dk_2 (dk_at dksX5_changed_0 6 rfl rfl)
theorem dX5_changed_7 : decode cX5_changed 7 = .ok (.putfield 53, 3) := dk_181 0 53 (dk_at dksX5_changed_0 7 rfl rfl)
theorem dX5_changed_10 : decode cX5_changed 10 = .ok (.aload_n 0, 1) := dk_42 (dk_at dksX5_changed_0 10 rfl rfl)
theorem dX5_changed_11 : decode cX5_changed 11 = .ok (.iconst (-1), 1) := dk_2 (dk_at dksX5_changed_0 11 rfl rfl)
theorem dX5_changed_12 : decode cX5_changed 12 = .ok (.putfield 56, 3) := dk_181 0 56 (dk_at dksX5_changed_0 12 rfl rfl)
theorem dX5_changed_15 : decode cX5_changed 15 = .ok (.return_, 1) := dk_177 (dk_at dksX5_changed_0 15 rfl rfl)
abbrev cX5_nodes : ByteArray := prog_13_method_14_code
def yX5_nodes : MethodName := ⟨RX5, "nodes", "()I"⟩
theorem dX5_nodes_0 : decode cX5_nodes 0 = .ok (.aload_n 0, 1) := by decide +kernel
theorem dX5_nodes_1 : decode cX5_nodes 1 = .ok (.getfield 122, 3) := by decide +kernel
theorem dX5_nodes_4 : decode cX5_nodes 4 = .ok (.ireturn, 1) := by decide +kernel
abbrev cX5_weights : ByteArray := prog_13_method_16_code
def yX5_weights : MethodName := ⟨RX5, "weights", "(III)Z"⟩
def dkwX5_weights_2 : List UInt8 := [182, 0, 125, 4, 172]
abbrev dktX5_weights_2 : List UInt8 := dkwX5_weights_2 ++ []
def dkwX5_weights_1 : List UInt8 := [29, 16, 9, 164, 0, 5, 3, 172, 42, 27, 181, 0, 37, 42, 28, 181, 0, 41, 42, 29, 181, 0, 44, 42]
abbrev dktX5_weights_1 : List UInt8 := dkwX5_weights_1 ++ dktX5_weights_2
def dkwX5_weights_0 : List UInt8 := [27, 155, 0, 29, 27, 16, 9, 163, 0, 23, 28, 155, 0, 19, 28, 16, 9, 163, 0, 13, 29, 155, 0, 9]
abbrev dktX5_weights_0 : List UInt8 := dkwX5_weights_0 ++ dktX5_weights_1
theorem dksX5_weights_0 : cX5_weights.data.toList.drop 0 = dktX5_weights_0 := by decide +kernel
theorem dksX5_weights_1 : cX5_weights.data.toList.drop 24 = dktX5_weights_1 := dk_seg dksX5_weights_0 24 rfl rfl
theorem dksX5_weights_2 : cX5_weights.data.toList.drop 48 = dktX5_weights_2 := dk_seg dksX5_weights_1 24 rfl rfl
theorem dX5_weights_0 : decode cX5_weights 0 = .ok (.iload_n 1, 1) := dk_27 (dk_at dksX5_weights_0 0 rfl rfl)
theorem dX5_weights_1 : decode cX5_weights 1 = .ok (.ifCond .lt 29, 3) := dk_155 0 29 (dk_at dksX5_weights_0 1 rfl rfl)
theorem dX5_weights_4 : decode cX5_weights 4 = .ok (.iload_n 1, 1) := dk_27 (dk_at dksX5_weights_0 4 rfl rfl)
theorem dX5_weights_5 : decode cX5_weights 5 = .ok (.bipush 9, 2) := dk_16 9 (dk_at dksX5_weights_0 5 rfl rfl)
theorem dX5_weights_7 : decode cX5_weights 7 = .ok (.if_icmp .gt 23, 3) := dk_163 0 23 (dk_at dksX5_weights_0 7 rfl rfl)
theorem dX5_weights_10 : decode cX5_weights 10 = .ok (.iload_n 2, 1) := dk_28 (dk_at dksX5_weights_0 10 rfl rfl)
theorem dX5_weights_11 : decode cX5_weights 11 = .ok (.ifCond .lt 19, 3) := dk_155 0 19 (dk_at dksX5_weights_0 11 rfl rfl)
theorem dX5_weights_14 : decode cX5_weights 14 = .ok (.iload_n 2, 1) := dk_28 (dk_at dksX5_weights_0 14 rfl rfl)
theorem dX5_weights_15 : decode cX5_weights 15 = .ok (.bipush 9, 2) := dk_16 9 (dk_at dksX5_weights_0 15 rfl rfl)
theorem dX5_weights_17 : decode cX5_weights 17 = .ok (.if_icmp .gt 13, 3) := dk_163 0 13 (dk_at dksX5_weights_0 17 rfl rfl)
theorem dX5_weights_20 : decode cX5_weights 20 = .ok (.iload_n 3, 1) := dk_29 (dk_at dksX5_weights_0 20 rfl rfl)
theorem dX5_weights_21 : decode cX5_weights 21 = .ok (.ifCond .lt 9, 3) := dk_155 0 9 (dk_at dksX5_weights_0 21 rfl rfl)
theorem dX5_weights_24 : decode cX5_weights 24 = .ok (.iload_n 3, 1) := dk_29 (dk_at dksX5_weights_1 0 rfl rfl)
theorem dX5_weights_25 : decode cX5_weights 25 = .ok (.bipush 9, 2) := dk_16 9 (dk_at dksX5_weights_1 1 rfl rfl)
theorem dX5_weights_27 : decode cX5_weights 27 = .ok (.if_icmp .le 5, 3) := dk_164 0 5 (dk_at dksX5_weights_1 3 rfl rfl)
theorem dX5_weights_30 : decode cX5_weights 30 = .ok (.iconst 0, 1) := dk_3 (dk_at dksX5_weights_1 6 rfl rfl)
theorem dX5_weights_31 : decode cX5_weights 31 = .ok (.ireturn, 1) := dk_172 (dk_at dksX5_weights_1 7 rfl rfl)
theorem dX5_weights_32 : decode cX5_weights 32 = .ok (.aload_n 0, 1) := dk_42 (dk_at dksX5_weights_1 8 rfl rfl)
theorem dX5_weights_33 : decode cX5_weights 33 = .ok (.iload_n 1, 1) := dk_27 (dk_at dksX5_weights_1 9 rfl rfl)
theorem dX5_weights_34 : decode cX5_weights 34 = .ok (.putfield 37, 3) := dk_181 0 37 (dk_at dksX5_weights_1 10 rfl rfl)
theorem dX5_weights_37 : decode cX5_weights 37 = .ok (.aload_n 0, 1) := dk_42 (dk_at dksX5_weights_1 13 rfl rfl)
theorem dX5_weights_38 : decode cX5_weights 38 = .ok (.iload_n 2, 1) := dk_28 (dk_at dksX5_weights_1 14 rfl rfl)
theorem dX5_weights_39 : decode cX5_weights 39 = .ok (.putfield 41, 3) := dk_181 0 41 (dk_at dksX5_weights_1 15 rfl rfl)
theorem dX5_weights_42 : decode cX5_weights 42 = .ok (.aload_n 0, 1) := dk_42 (dk_at dksX5_weights_1 18 rfl rfl)
theorem dX5_weights_43 : decode cX5_weights 43 = .ok (.iload_n 3, 1) := dk_29 (dk_at dksX5_weights_1 19 rfl rfl)
theorem dX5_weights_44 : decode cX5_weights 44 = .ok (.putfield 44, 3) := dk_181 0 44 (dk_at dksX5_weights_1 20 rfl rfl)
theorem dX5_weights_47 : decode cX5_weights 47 = .ok (.aload_n 0, 1) := dk_42 (dk_at dksX5_weights_1 23 rfl rfl)
theorem dX5_weights_48 : decode cX5_weights 48 = .ok (.invokevirtual 125, 3) := dk_182 0 125 (dk_at dksX5_weights_2 0 rfl rfl)
theorem dX5_weights_51 : decode cX5_weights 51 = .ok (.iconst 1, 1) := dk_4 (dk_at dksX5_weights_2 3 rfl rfl)
theorem dX5_weights_52 : decode cX5_weights 52 = .ok (.ireturn, 1) := dk_172 (dk_at dksX5_weights_2 4 rfl rfl)
abbrev cX5_bound : ByteArray := prog_13_method_17_code
def yX5_bound : MethodName := ⟨RX5, "bound", "(I)Z"⟩
def dkwX5_bound_0 : List UInt8 := [27, 155, 0, 10, 27, 17, 3, 231, 164, 0, 5, 3, 172, 42, 27, 181, 0, 132, 42, 182, 0, 125, 4, 172]
abbrev dktX5_bound_0 : List UInt8 := dkwX5_bound_0 ++ []
theorem dksX5_bound_0 : cX5_bound.data.toList.drop 0 = dktX5_bound_0 := by decide +kernel
theorem dX5_bound_0 : decode cX5_bound 0 = .ok (.iload_n 1, 1) := dk_27 (dk_at dksX5_bound_0 0 rfl rfl)
theorem dX5_bound_1 : decode cX5_bound 1 = .ok (.ifCond .lt 10, 3) := dk_155 0 10 (dk_at dksX5_bound_0 1 rfl rfl)
theorem dX5_bound_4 : decode cX5_bound 4 = .ok (.iload_n 1, 1) := dk_27 (dk_at dksX5_bound_0 4 rfl rfl)
theorem dX5_bound_5 : decode cX5_bound 5 = .ok (.sipush 999, 3) := dk_17 3 231 (dk_at dksX5_bound_0 5 rfl rfl)
theorem dX5_bound_8 : decode cX5_bound 8 = .ok (.if_icmp .le 5, 3) := dk_164 0 5 (dk_at dksX5_bound_0 8 rfl rfl)
theorem dX5_bound_11 : decode cX5_bound 11 = .ok (.iconst 0, 1) := dk_3 (dk_at dksX5_bound_0 11 rfl rfl)
theorem dX5_bound_12 : decode cX5_bound 12 = .ok (.ireturn, 1) := dk_172 (dk_at dksX5_bound_0 12 rfl rfl)
theorem dX5_bound_13 : decode cX5_bound 13 = .ok (.aload_n 0, 1) := dk_42 (dk_at dksX5_bound_0 13 rfl rfl)
theorem dX5_bound_14 : decode cX5_bound 14 = .ok (.iload_n 1, 1) := dk_27 (dk_at dksX5_bound_0 14 rfl rfl)
theorem dX5_bound_15 : decode cX5_bound 15 = .ok (.putfield 132, 3) := dk_181 0 132 (dk_at dksX5_bound_0 15 rfl rfl)
theorem dX5_bound_18 : decode cX5_bound 18 = .ok (.aload_n 0, 1) := dk_42 (dk_at dksX5_bound_0 18 rfl rfl)
theorem dX5_bound_19 : decode cX5_bound 19 = .ok (.invokevirtual 125, 3) := dk_182 0 125 (dk_at dksX5_bound_0 19 rfl rfl)
theorem dX5_bound_22 : decode cX5_bound 22 = .ok (.iconst 1, 1) := dk_4 (dk_at dksX5_bound_0 22 rfl rfl)
theorem dX5_bound_23 : decode cX5_bound 23 = .ok (.ireturn, 1) := dk_172 (dk_at dksX5_bound_0 23 rfl rfl)
abbrev cX5_write : ByteArray := prog_13_method_18_code
def yX5_write : MethodName := ⟨RX5, "write", "(C)Z"⟩
def dkwX5_write_1 : List UInt8 := [180, 0, 135, 27, 79, 42, 89, 180, 0, 135, 4, 96, 181, 0, 135, 42, 182, 0, 125, 4, 172]
abbrev dktX5_write_1 : List UInt8 := dkwX5_write_1 ++ []
def dkwX5_write_0 : List UInt8 := [27, 184, 0, 71, 153, 0, 12, 42, 180, 0, 135, 16, 24, 160, 0, 5, 3, 172, 42, 180, 0, 47, 42]
abbrev dktX5_write_0 : List UInt8 := dkwX5_write_0 ++ dktX5_write_1
theorem dksX5_write_0 : cX5_write.data.toList.drop 0 = dktX5_write_0 := by decide +kernel
theorem dksX5_write_1 : cX5_write.data.toList.drop 23 = dktX5_write_1 := dk_seg dksX5_write_0 23 rfl rfl
theorem dX5_write_0 : decode cX5_write 0 = .ok (.iload_n 1, 1) := dk_27 (dk_at dksX5_write_0 0 rfl rfl)
theorem dX5_write_1 : decode cX5_write 1 = .ok (.invokestatic 71, 3) := dk_184 0 71 (dk_at dksX5_write_0 1 rfl rfl)
theorem dX5_write_4 : decode cX5_write 4 = .ok (.ifCond .eq 12, 3) := dk_153 0 12 (dk_at dksX5_write_0 4 rfl rfl)
theorem dX5_write_7 : decode cX5_write 7 = .ok (.aload_n 0, 1) := dk_42 (dk_at dksX5_write_0 7 rfl rfl)
theorem dX5_write_8 : decode cX5_write 8 = .ok (.getfield 135, 3) := dk_180 0 135 (dk_at dksX5_write_0 8 rfl rfl)
theorem dX5_write_11 : decode cX5_write 11 = .ok (.bipush 24, 2) := dk_16 24 (dk_at dksX5_write_0 11 rfl rfl)
theorem dX5_write_13 : decode cX5_write 13 = .ok (.if_icmp .ne 5, 3) := dk_160 0 5 (dk_at dksX5_write_0 13 rfl rfl)
theorem dX5_write_16 : decode cX5_write 16 = .ok (.iconst 0, 1) := dk_3 (dk_at dksX5_write_0 16 rfl rfl)
theorem dX5_write_17 : decode cX5_write 17 = .ok (.ireturn, 1) := dk_172 (dk_at dksX5_write_0 17 rfl rfl)
theorem dX5_write_18 : decode cX5_write 18 = .ok (.aload_n 0, 1) := dk_42 (dk_at dksX5_write_0 18 rfl rfl)
theorem dX5_write_19 : decode cX5_write 19 = .ok (.getfield 47, 3) := dk_180 0 47 (dk_at dksX5_write_0 19 rfl rfl)
theorem dX5_write_22 : decode cX5_write 22 = .ok (.aload_n 0, 1) := dk_42 (dk_at dksX5_write_0 22 rfl rfl)
theorem dX5_write_23 : decode cX5_write 23 = .ok (.getfield 135, 3) := dk_180 0 135 (dk_at dksX5_write_1 0 rfl rfl)
theorem dX5_write_26 : decode cX5_write 26 = .ok (.iload_n 1, 1) := dk_27 (dk_at dksX5_write_1 3 rfl rfl)
theorem dX5_write_27 : decode cX5_write 27 = .ok (.iastore, 1) := dk_79 (dk_at dksX5_write_1 4 rfl rfl)
theorem dX5_write_28 : decode cX5_write 28 = .ok (.aload_n 0, 1) := dk_42 (dk_at dksX5_write_1 5 rfl rfl)
theorem dX5_write_29 : decode cX5_write 29 = .ok (.dup, 1) := dk_89 (dk_at dksX5_write_1 6 rfl rfl)
theorem dX5_write_30 : decode cX5_write 30 = .ok (.getfield 135, 3) := dk_180 0 135 (dk_at dksX5_write_1 7 rfl rfl)
theorem dX5_write_33 : decode cX5_write 33 = .ok (.iconst 1, 1) := dk_4 (dk_at dksX5_write_1 10 rfl rfl)
theorem dX5_write_34 : decode cX5_write 34 = .ok (.iadd, 1) := dk_96 (dk_at dksX5_write_1 11 rfl rfl)
theorem dX5_write_35 : decode cX5_write 35 = .ok (.putfield 135, 3) := dk_181 0 135 (dk_at dksX5_write_1 12 rfl rfl)
theorem dX5_write_38 : decode cX5_write 38 = .ok (.aload_n 0, 1) := dk_42 (dk_at dksX5_write_1 15 rfl rfl)
theorem dX5_write_39 : decode cX5_write 39 = .ok (.invokevirtual 125, 3) := dk_182 0 125 (dk_at dksX5_write_1 16 rfl rfl)
theorem dX5_write_42 : decode cX5_write 42 = .ok (.iconst 1, 1) := dk_4 (dk_at dksX5_write_1 19 rfl rfl)
theorem dX5_write_43 : decode cX5_write 43 = .ok (.ireturn, 1) := dk_172 (dk_at dksX5_write_1 20 rfl rfl)
abbrev cX5_erase : ByteArray := prog_13_method_19_code
def yX5_erase : MethodName := ⟨RX5, "erase", "()V"⟩
def dkwX5_erase_0 : List UInt8 := [42, 3, 181, 0, 135, 42, 182, 0, 125, 177]
abbrev dktX5_erase_0 : List UInt8 := dkwX5_erase_0 ++ []
theorem dksX5_erase_0 : cX5_erase.data.toList.drop 0 = dktX5_erase_0 := by decide +kernel
theorem dX5_erase_0 : decode cX5_erase 0 = .ok (.aload_n 0, 1) := dk_42 (dk_at dksX5_erase_0 0 rfl rfl)
theorem dX5_erase_1 : decode cX5_erase 1 = .ok (.iconst 0, 1) := dk_3 (dk_at dksX5_erase_0 1 rfl rfl)
theorem dX5_erase_2 : decode cX5_erase 2 = .ok (.putfield 135, 3) := dk_181 0 135 (dk_at dksX5_erase_0 2 rfl rfl)
theorem dX5_erase_5 : decode cX5_erase 5 = .ok (.aload_n 0, 1) := dk_42 (dk_at dksX5_erase_0 5 rfl rfl)
theorem dX5_erase_6 : decode cX5_erase 6 = .ok (.invokevirtual 125, 3) := dk_182 0 125 (dk_at dksX5_erase_0 6 rfl rfl)
theorem dX5_erase_9 : decode cX5_erase 9 = .ok (.return_, 1) := dk_177 (dk_at dksX5_erase_0 9 rfl rfl)
abbrev cX5_cost : ByteArray := prog_13_method_27_code
def yX5_cost : MethodName := ⟨RX5, "cost", "(II)I"⟩
def dkwX5_cost_2 : List UInt8 := [161, 0, 7, 2, 167, 0, 4, 29, 172]
abbrev dktX5_cost_2 : List UInt8 := dkwX5_cost_2 ++ []
def dkwX5_cost_1 : List UInt8 := [2, 172, 42, 182, 0, 159, 42, 42, 180, 0, 122, 4, 100, 27, 28, 182, 0, 139, 62, 29, 18, 138]
abbrev dktX5_cost_1 : List UInt8 := dkwX5_cost_1 ++ dktX5_cost_2
def dkwX5_cost_0 : List UInt8 := [42, 180, 0, 122, 153, 0, 20, 27, 155, 0, 16, 28, 27, 161, 0, 11, 28, 42, 180, 0, 135, 164, 0, 5]
abbrev dktX5_cost_0 : List UInt8 := dkwX5_cost_0 ++ dktX5_cost_1
theorem dksX5_cost_0 : cX5_cost.data.toList.drop 0 = dktX5_cost_0 := by decide +kernel
theorem dksX5_cost_1 : cX5_cost.data.toList.drop 24 = dktX5_cost_1 := dk_seg dksX5_cost_0 24 rfl rfl
theorem dksX5_cost_2 : cX5_cost.data.toList.drop 46 = dktX5_cost_2 := dk_seg dksX5_cost_1 22 rfl rfl
theorem dX5_cost_0 : decode cX5_cost 0 = .ok (.aload_n 0, 1) := dk_42 (dk_at dksX5_cost_0 0 rfl rfl)
theorem dX5_cost_1 : decode cX5_cost 1 = .ok (.getfield 122, 3) := dk_180 0 122 (dk_at dksX5_cost_0 1 rfl rfl)
theorem dX5_cost_4 : decode cX5_cost 4 = .ok (.ifCond .eq 20, 3) := dk_153 0 20 (dk_at dksX5_cost_0 4 rfl rfl)
theorem dX5_cost_7 : decode cX5_cost 7 = .ok (.iload_n 1, 1) := dk_27 (dk_at dksX5_cost_0 7 rfl rfl)
theorem dX5_cost_8 : decode cX5_cost 8 = .ok (.ifCond .lt 16, 3) := dk_155 0 16 (dk_at dksX5_cost_0 8 rfl rfl)
theorem dX5_cost_11 : decode cX5_cost 11 = .ok (.iload_n 2, 1) := dk_28 (dk_at dksX5_cost_0 11 rfl rfl)
theorem dX5_cost_12 : decode cX5_cost 12 = .ok (.iload_n 1, 1) := dk_27 (dk_at dksX5_cost_0 12 rfl rfl)
theorem dX5_cost_13 : decode cX5_cost 13 = .ok (.if_icmp .lt 11, 3) := dk_161 0 11 (dk_at dksX5_cost_0 13 rfl rfl)
theorem dX5_cost_16 : decode cX5_cost 16 = .ok (.iload_n 2, 1) := dk_28 (dk_at dksX5_cost_0 16 rfl rfl)
theorem dX5_cost_17 : decode cX5_cost 17 = .ok (.aload_n 0, 1) := dk_42 (dk_at dksX5_cost_0 17 rfl rfl)
theorem dX5_cost_18 : decode cX5_cost 18 = .ok (.getfield 135, 3) := dk_180 0 135 (dk_at dksX5_cost_0 18 rfl rfl)
theorem dX5_cost_21 : decode cX5_cost 21 = .ok (.if_icmp .le 5, 3) := dk_164 0 5 (dk_at dksX5_cost_0 21 rfl rfl)
theorem dX5_cost_24 : decode cX5_cost 24 = .ok (.iconst (-1), 1) := dk_2 (dk_at dksX5_cost_1 0 rfl rfl)
theorem dX5_cost_25 : decode cX5_cost 25 = .ok (.ireturn, 1) := dk_172 (dk_at dksX5_cost_1 1 rfl rfl)
theorem dX5_cost_26 : decode cX5_cost 26 = .ok (.aload_n 0, 1) := dk_42 (dk_at dksX5_cost_1 2 rfl rfl)
theorem dX5_cost_27 : decode cX5_cost 27 = .ok (.invokevirtual 159, 3) := dk_182 0 159 (dk_at dksX5_cost_1 3 rfl rfl)
theorem dX5_cost_30 : decode cX5_cost 30 = .ok (.aload_n 0, 1) := dk_42 (dk_at dksX5_cost_1 6 rfl rfl)
theorem dX5_cost_31 : decode cX5_cost 31 = .ok (.aload_n 0, 1) := dk_42 (dk_at dksX5_cost_1 7 rfl rfl)
theorem dX5_cost_32 : decode cX5_cost 32 = .ok (.getfield 122, 3) := dk_180 0 122 (dk_at dksX5_cost_1 8 rfl rfl)
theorem dX5_cost_35 : decode cX5_cost 35 = .ok (.iconst 1, 1) := dk_4 (dk_at dksX5_cost_1 11 rfl rfl)
theorem dX5_cost_36 : decode cX5_cost 36 = .ok (.isub, 1) := dk_100 (dk_at dksX5_cost_1 12 rfl rfl)
theorem dX5_cost_37 : decode cX5_cost 37 = .ok (.iload_n 1, 1) := dk_27 (dk_at dksX5_cost_1 13 rfl rfl)
theorem dX5_cost_38 : decode cX5_cost 38 = .ok (.iload_n 2, 1) := dk_28 (dk_at dksX5_cost_1 14 rfl rfl)
theorem dX5_cost_39 : decode cX5_cost 39 = .ok (.invokevirtual 139, 3) := dk_182 0 139 (dk_at dksX5_cost_1 15 rfl rfl)
theorem dX5_cost_42 : decode cX5_cost 42 = .ok (.istore_n 3, 1) := dk_62 (dk_at dksX5_cost_1 18 rfl rfl)
theorem dX5_cost_43 : decode cX5_cost 43 = .ok (.iload_n 3, 1) := dk_29 (dk_at dksX5_cost_1 19 rfl rfl)
theorem dX5_cost_44 : decode cX5_cost 44 = .ok (.ldc 138, 2) := dk_18 138 (dk_at dksX5_cost_1 20 rfl rfl)
theorem dX5_cost_46 : decode cX5_cost 46 = .ok (.if_icmp .lt 7, 3) := dk_161 0 7 (dk_at dksX5_cost_2 0 rfl rfl)
theorem dX5_cost_49 : decode cX5_cost 49 = .ok (.iconst (-1), 1) := dk_2 (dk_at dksX5_cost_2 3 rfl rfl)
theorem dX5_cost_50 : decode cX5_cost 50 = .ok (.goto 4, 3) := dk_167 0 4 (dk_at dksX5_cost_2 4 rfl rfl)
theorem dX5_cost_53 : decode cX5_cost 53 = .ok (.iload_n 3, 1) := dk_29 (dk_at dksX5_cost_2 7 rfl rfl)
theorem dX5_cost_54 : decode cX5_cost 54 = .ok (.ireturn, 1) := dk_172 (dk_at dksX5_cost_2 8 rfl rfl)
abbrev cX5_work : ByteArray := prog_13_method_26_code
def yX5_work : MethodName := ⟨RX5, "work", "()V"⟩
def dkwX5_work_7 : List UInt8 := [167, 255, 194, 132, 2, 1, 167, 255, 168, 132, 1, 1, 167, 255, 96, 177]
abbrev dktX5_work_7 : List UInt8 := dkwX5_work_7 ++ []
def dkwX5_work_6 : List UInt8 := [182, 0, 139, 21, 4, 162, 0, 13, 42, 27, 28, 29, 182, 0, 139, 167, 0, 5, 21, 4, 79, 132, 3, 1]
abbrev dktX5_work_6 : List UInt8 := dkwX5_work_6 ++ dktX5_work_7
def dkwX5_work_5 : List UInt8 := [54, 4, 42, 180, 0, 50, 17, 2, 113, 27, 104, 16, 25, 28, 104, 96, 29, 96, 42, 27, 28, 29]
abbrev dktX5_work_5 : List UInt8 := dkwX5_work_5 ++ dktX5_work_6
def dkwX5_work_4 : List UInt8 := [46, 6, 160, 0, 76, 28, 62, 29, 42, 180, 0, 135, 163, 0, 60, 29, 28, 100, 42, 180, 0, 37, 104]
abbrev dktX5_work_4 : List UInt8 := dkwX5_work_4 ++ dktX5_work_5
def dkwX5_work_3 : List UInt8 := [167, 255, 221, 132, 2, 1, 167, 255, 205, 3, 61, 28, 42, 180, 0, 135, 163, 0, 86, 42, 180, 0, 13, 27]
abbrev dktX5_work_3 : List UInt8 := dkwX5_work_3 ++ dktX5_work_4
def dkwX5_work_2 : List UInt8 := [17, 2, 113, 27, 104, 16, 25, 28, 104, 96, 29, 96, 42, 27, 28, 29, 182, 0, 156, 79, 132, 3, 1]
abbrev dktX5_work_2 : List UInt8 := dkwX5_work_2 ++ dktX5_work_3
def dkwX5_work_1 : List UInt8 := [61, 28, 42, 180, 0, 135, 163, 0, 49, 28, 62, 29, 42, 180, 0, 135, 163, 0, 33, 42, 180, 0, 50]
abbrev dktX5_work_1 : List UInt8 := dkwX5_work_1 ++ dktX5_work_2
def dkwX5_work_0 : List UInt8 := [42, 180, 0, 128, 153, 0, 4, 177, 42, 4, 181, 0, 128, 3, 60, 27, 42, 180, 0, 122, 162, 0, 158, 3]
abbrev dktX5_work_0 : List UInt8 := dkwX5_work_0 ++ dktX5_work_1
theorem dksX5_work_0 : cX5_work.data.toList.drop 0 = dktX5_work_0 := by decide +kernel
theorem dksX5_work_1 : cX5_work.data.toList.drop 24 = dktX5_work_1 := dk_seg dksX5_work_0 24 rfl rfl
theorem dksX5_work_2 : cX5_work.data.toList.drop 47 = dktX5_work_2 := dk_seg dksX5_work_1 23 rfl rfl
theorem dksX5_work_3 : cX5_work.data.toList.drop 70 = dktX5_work_3 := dk_seg dksX5_work_2 23 rfl rfl
theorem dksX5_work_4 : cX5_work.data.toList.drop 94 = dktX5_work_4 := dk_seg dksX5_work_3 24 rfl rfl
theorem dksX5_work_5 : cX5_work.data.toList.drop 117 = dktX5_work_5 := dk_seg dksX5_work_4 23 rfl rfl
theorem dksX5_work_6 : cX5_work.data.toList.drop 139 = dktX5_work_6 := dk_seg dksX5_work_5 22 rfl rfl
theorem dksX5_work_7 : cX5_work.data.toList.drop 163 = dktX5_work_7 := dk_seg dksX5_work_6 24 rfl rfl
theorem dX5_work_0 : decode cX5_work 0 = .ok (.aload_n 0, 1) := dk_42 (dk_at dksX5_work_0 0 rfl rfl)
theorem dX5_work_1 : decode cX5_work 1 = .ok (.getfield 128, 3) := dk_180 0 128 (dk_at dksX5_work_0 1 rfl rfl)
theorem dX5_work_4 : decode cX5_work 4 = .ok (.ifCond .eq 4, 3) := dk_153 0 4 (dk_at dksX5_work_0 4 rfl rfl)
theorem dX5_work_7 : decode cX5_work 7 = .ok (.return_, 1) := dk_177 (dk_at dksX5_work_0 7 rfl rfl)
theorem dX5_work_8 : decode cX5_work 8 = .ok (.aload_n 0, 1) := dk_42 (dk_at dksX5_work_0 8 rfl rfl)
theorem dX5_work_9 : decode cX5_work 9 = .ok (.iconst 1, 1) := dk_4 (dk_at dksX5_work_0 9 rfl rfl)
theorem dX5_work_10 : decode cX5_work 10 = .ok (.putfield 128, 3) := dk_181 0 128 (dk_at dksX5_work_0 10 rfl rfl)
theorem dX5_work_13 : decode cX5_work 13 = .ok (.iconst 0, 1) := dk_3 (dk_at dksX5_work_0 13 rfl rfl)
theorem dX5_work_14 : decode cX5_work 14 = .ok (.istore_n 1, 1) := dk_60 (dk_at dksX5_work_0 14 rfl rfl)
theorem dX5_work_15 : decode cX5_work 15 = .ok (.iload_n 1, 1) := dk_27 (dk_at dksX5_work_0 15 rfl rfl)
theorem dX5_work_16 : decode cX5_work 16 = .ok (.aload_n 0, 1) := dk_42 (dk_at dksX5_work_0 16 rfl rfl)
theorem dX5_work_17 : decode cX5_work 17 = .ok (.getfield 122, 3) := dk_180 0 122 (dk_at dksX5_work_0 17 rfl rfl)
theorem dX5_work_20 : decode cX5_work 20 = .ok (.if_icmp .ge 158, 3) := dk_162 0 158 (dk_at dksX5_work_0 20 rfl rfl)
theorem dX5_work_23 : decode cX5_work 23 = .ok (.iconst 0, 1) := dk_3 (dk_at dksX5_work_0 23 rfl rfl)
theorem dX5_work_24 : decode cX5_work 24 = .ok (.istore_n 2, 1) := dk_61 (dk_at dksX5_work_1 0 rfl rfl)
theorem dX5_work_25 : decode cX5_work 25 = .ok (.iload_n 2, 1) := dk_28 (dk_at dksX5_work_1 1 rfl rfl)
theorem dX5_work_26 : decode cX5_work 26 = .ok (.aload_n 0, 1) := dk_42 (dk_at dksX5_work_1 2 rfl rfl)
theorem dX5_work_27 : decode cX5_work 27 = .ok (.getfield 135, 3) := dk_180 0 135 (dk_at dksX5_work_1 3 rfl rfl)
theorem dX5_work_30 : decode cX5_work 30 = .ok (.if_icmp .gt 49, 3) := dk_163 0 49 (dk_at dksX5_work_1 6 rfl rfl)
theorem dX5_work_33 : decode cX5_work 33 = .ok (.iload_n 2, 1) := dk_28 (dk_at dksX5_work_1 9 rfl rfl)
theorem dX5_work_34 : decode cX5_work 34 = .ok (.istore_n 3, 1) := dk_62 (dk_at dksX5_work_1 10 rfl rfl)
theorem dX5_work_35 : decode cX5_work 35 = .ok (.iload_n 3, 1) := dk_29 (dk_at dksX5_work_1 11 rfl rfl)
theorem dX5_work_36 : decode cX5_work 36 = .ok (.aload_n 0, 1) := dk_42 (dk_at dksX5_work_1 12 rfl rfl)
theorem dX5_work_37 : decode cX5_work 37 = .ok (.getfield 135, 3) := dk_180 0 135 (dk_at dksX5_work_1 13 rfl rfl)
theorem dX5_work_40 : decode cX5_work 40 = .ok (.if_icmp .gt 33, 3) := dk_163 0 33 (dk_at dksX5_work_1 16 rfl rfl)
theorem dX5_work_43 : decode cX5_work 43 = .ok (.aload_n 0, 1) := dk_42 (dk_at dksX5_work_1 19 rfl rfl)
theorem dX5_work_44 : decode cX5_work 44 = .ok (.getfield 50, 3) := dk_180 0 50 (dk_at dksX5_work_1 20 rfl rfl)
theorem dX5_work_47 : decode cX5_work 47 = .ok (.sipush 625, 3) := dk_17 2 113 (dk_at dksX5_work_2 0 rfl rfl)
theorem dX5_work_50 : decode cX5_work 50 = .ok (.iload_n 1, 1) := dk_27 (dk_at dksX5_work_2 3 rfl rfl)
theorem dX5_work_51 : decode cX5_work 51 = .ok (.imul, 1) := dk_104 (dk_at dksX5_work_2 4 rfl rfl)
theorem dX5_work_52 : decode cX5_work 52 = .ok (.bipush 25, 2) := dk_16 25 (dk_at dksX5_work_2 5 rfl rfl)
theorem dX5_work_54 : decode cX5_work 54 = .ok (.iload_n 2, 1) := dk_28 (dk_at dksX5_work_2 7 rfl rfl)
theorem dX5_work_55 : decode cX5_work 55 = .ok (.imul, 1) := dk_104 (dk_at dksX5_work_2 8 rfl rfl)
theorem dX5_work_56 : decode cX5_work 56 = .ok (.iadd, 1) := dk_96 (dk_at dksX5_work_2 9 rfl rfl)
theorem dX5_work_57 : decode cX5_work 57 = .ok (.iload_n 3, 1) := dk_29 (dk_at dksX5_work_2 10 rfl rfl)
theorem dX5_work_58 : decode cX5_work 58 = .ok (.iadd, 1) := dk_96 (dk_at dksX5_work_2 11 rfl rfl)
theorem dX5_work_59 : decode cX5_work 59 = .ok (.aload_n 0, 1) := dk_42 (dk_at dksX5_work_2 12 rfl rfl)
theorem dX5_work_60 : decode cX5_work 60 = .ok (.iload_n 1, 1) := dk_27 (dk_at dksX5_work_2 13 rfl rfl)
theorem dX5_work_61 : decode cX5_work 61 = .ok (.iload_n 2, 1) := dk_28 (dk_at dksX5_work_2 14 rfl rfl)
theorem dX5_work_62 : decode cX5_work 62 = .ok (.iload_n 3, 1) := dk_29 (dk_at dksX5_work_2 15 rfl rfl)
theorem dX5_work_63 : decode cX5_work 63 = .ok (.invokevirtual 156, 3) := dk_182 0 156 (dk_at dksX5_work_2 16 rfl rfl)
theorem dX5_work_66 : decode cX5_work 66 = .ok (.iastore, 1) := dk_79 (dk_at dksX5_work_2 19 rfl rfl)
theorem dX5_work_67 : decode cX5_work 67 = .ok (.iinc 3 1, 3) := dk_132 3 1 (dk_at dksX5_work_2 20 rfl rfl)
theorem dX5_work_70 : decode cX5_work 70 = .ok (.goto (-35), 3) := dk_167 255 221 (dk_at dksX5_work_3 0 rfl rfl)
theorem dX5_work_73 : decode cX5_work 73 = .ok (.iinc 2 1, 3) := dk_132 2 1 (dk_at dksX5_work_3 3 rfl rfl)
theorem dX5_work_76 : decode cX5_work 76 = .ok (.goto (-51), 3) := dk_167 255 205 (dk_at dksX5_work_3 6 rfl rfl)
theorem dX5_work_79 : decode cX5_work 79 = .ok (.iconst 0, 1) := dk_3 (dk_at dksX5_work_3 9 rfl rfl)
theorem dX5_work_80 : decode cX5_work 80 = .ok (.istore_n 2, 1) := dk_61 (dk_at dksX5_work_3 10 rfl rfl)
theorem dX5_work_81 : decode cX5_work 81 = .ok (.iload_n 2, 1) := dk_28 (dk_at dksX5_work_3 11 rfl rfl)
theorem dX5_work_82 : decode cX5_work 82 = .ok (.aload_n 0, 1) := dk_42 (dk_at dksX5_work_3 12 rfl rfl)
theorem dX5_work_83 : decode cX5_work 83 = .ok (.getfield 135, 3) := dk_180 0 135 (dk_at dksX5_work_3 13 rfl rfl)
theorem dX5_work_86 : decode cX5_work 86 = .ok (.if_icmp .gt 86, 3) := dk_163 0 86 (dk_at dksX5_work_3 16 rfl rfl)
theorem dX5_work_89 : decode cX5_work 89 = .ok (.aload_n 0, 1) := dk_42 (dk_at dksX5_work_3 19 rfl rfl)
theorem dX5_work_90 : decode cX5_work 90 = .ok (.getfield 13, 3) := dk_180 0 13 (dk_at dksX5_work_3 20 rfl rfl)
theorem dX5_work_93 : decode cX5_work 93 = .ok (.iload_n 1, 1) := dk_27 (dk_at dksX5_work_3 23 rfl rfl)
theorem dX5_work_94 : decode cX5_work 94 = .ok (.iaload, 1) := dk_46 (dk_at dksX5_work_4 0 rfl rfl)
theorem dX5_work_95 : decode cX5_work 95 = .ok (.iconst 3, 1) := dk_6 (dk_at dksX5_work_4 1 rfl rfl)
theorem dX5_work_96 : decode cX5_work 96 = .ok (.if_icmp .ne 76, 3) := dk_160 0 76 (dk_at dksX5_work_4 2 rfl rfl)
theorem dX5_work_99 : decode cX5_work 99 = .ok (.iload_n 2, 1) := dk_28 (dk_at dksX5_work_4 5 rfl rfl)
theorem dX5_work_100 : decode cX5_work 100 = .ok (.istore_n 3, 1) := dk_62 (dk_at dksX5_work_4 6 rfl rfl)
theorem dX5_work_101 : decode cX5_work 101 = .ok (.iload_n 3, 1) := dk_29 (dk_at dksX5_work_4 7 rfl rfl)
theorem dX5_work_102 : decode cX5_work 102 = .ok (.aload_n 0, 1) := dk_42 (dk_at dksX5_work_4 8 rfl rfl)
theorem dX5_work_103 : decode cX5_work 103 = .ok (.getfield 135, 3) := dk_180 0 135 (dk_at dksX5_work_4 9 rfl rfl)
theorem dX5_work_106 : decode cX5_work 106 = .ok (.if_icmp .gt 60, 3) := dk_163 0 60 (dk_at dksX5_work_4 12 rfl rfl)
theorem dX5_work_109 : decode cX5_work 109 = .ok (.iload_n 3, 1) := dk_29 (dk_at dksX5_work_4 15 rfl rfl)
theorem dX5_work_110 : decode cX5_work 110 = .ok (.iload_n 2, 1) := dk_28 (dk_at dksX5_work_4 16 rfl rfl)
theorem dX5_work_111 : decode cX5_work 111 = .ok (.isub, 1) := dk_100 (dk_at dksX5_work_4 17 rfl rfl)
theorem dX5_work_112 : decode cX5_work 112 = .ok (.aload_n 0, 1) := dk_42 (dk_at dksX5_work_4 18 rfl rfl)
theorem dX5_work_113 : decode cX5_work 113 = .ok (.getfield 37, 3) := dk_180 0 37 (dk_at dksX5_work_4 19 rfl rfl)
theorem dX5_work_116 : decode cX5_work 116 = .ok (.imul, 1) := dk_104 (dk_at dksX5_work_4 22 rfl rfl)
theorem dX5_work_117 : decode cX5_work 117 = .ok (.istore 4, 2) := dk_54 4 (dk_at dksX5_work_5 0 rfl rfl)
theorem dX5_work_119 : decode cX5_work 119 = .ok (.aload_n 0, 1) := dk_42 (dk_at dksX5_work_5 2 rfl rfl)
theorem dX5_work_120 : decode cX5_work 120 = .ok (.getfield 50, 3) := dk_180 0 50 (dk_at dksX5_work_5 3 rfl rfl)
theorem dX5_work_123 : decode cX5_work 123 = .ok (.sipush 625, 3) := dk_17 2 113 (dk_at dksX5_work_5 6 rfl rfl)
theorem dX5_work_126 : decode cX5_work 126 = .ok (.iload_n 1, 1) := dk_27 (dk_at dksX5_work_5 9 rfl rfl)
theorem dX5_work_127 : decode cX5_work 127 = .ok (.imul, 1) := dk_104 (dk_at dksX5_work_5 10 rfl rfl)
theorem dX5_work_128 : decode cX5_work 128 = .ok (.bipush 25, 2) := dk_16 25 (dk_at dksX5_work_5 11 rfl rfl)
theorem dX5_work_130 : decode cX5_work 130 = .ok (.iload_n 2, 1) := dk_28 (dk_at dksX5_work_5 13 rfl rfl)
theorem dX5_work_131 : decode cX5_work 131 = .ok (.imul, 1) := dk_104 (dk_at dksX5_work_5 14 rfl rfl)
theorem dX5_work_132 : decode cX5_work 132 = .ok (.iadd, 1) := dk_96 (dk_at dksX5_work_5 15 rfl rfl)
theorem dX5_work_133 : decode cX5_work 133 = .ok (.iload_n 3, 1) := dk_29 (dk_at dksX5_work_5 16 rfl rfl)
theorem dX5_work_134 : decode cX5_work 134 = .ok (.iadd, 1) := dk_96 (dk_at dksX5_work_5 17 rfl rfl)
theorem dX5_work_135 : decode cX5_work 135 = .ok (.aload_n 0, 1) := dk_42 (dk_at dksX5_work_5 18 rfl rfl)
theorem dX5_work_136 : decode cX5_work 136 = .ok (.iload_n 1, 1) := dk_27 (dk_at dksX5_work_5 19 rfl rfl)
theorem dX5_work_137 : decode cX5_work 137 = .ok (.iload_n 2, 1) := dk_28 (dk_at dksX5_work_5 20 rfl rfl)
theorem dX5_work_138 : decode cX5_work 138 = .ok (.iload_n 3, 1) := dk_29 (dk_at dksX5_work_5 21 rfl rfl)
theorem dX5_work_139 : decode cX5_work 139 = .ok (.invokevirtual 139, 3) := dk_182 0 139 (dk_at dksX5_work_6 0 rfl rfl)
theorem dX5_work_142 : decode cX5_work 142 = .ok (.iload 4, 2) := dk_21 4 (dk_at dksX5_work_6 3 rfl rfl)
theorem dX5_work_144 : decode cX5_work 144 = .ok (.if_icmp .ge 13, 3) := dk_162 0 13 (dk_at dksX5_work_6 5 rfl rfl)
theorem dX5_work_147 : decode cX5_work 147 = .ok (.aload_n 0, 1) := dk_42 (dk_at dksX5_work_6 8 rfl rfl)
theorem dX5_work_148 : decode cX5_work 148 = .ok (.iload_n 1, 1) := dk_27 (dk_at dksX5_work_6 9 rfl rfl)
theorem dX5_work_149 : decode cX5_work 149 = .ok (.iload_n 2, 1) := dk_28 (dk_at dksX5_work_6 10 rfl rfl)
theorem dX5_work_150 : decode cX5_work 150 = .ok (.iload_n 3, 1) := dk_29 (dk_at dksX5_work_6 11 rfl rfl)
theorem dX5_work_151 : decode cX5_work 151 = .ok (.invokevirtual 139, 3) := dk_182 0 139 (dk_at dksX5_work_6 12 rfl rfl)
theorem dX5_work_154 : decode cX5_work 154 = .ok (.goto 5, 3) := dk_167 0 5 (dk_at dksX5_work_6 15 rfl rfl)
theorem dX5_work_157 : decode cX5_work 157 = .ok (.iload 4, 2) := dk_21 4 (dk_at dksX5_work_6 18 rfl rfl)
theorem dX5_work_159 : decode cX5_work 159 = .ok (.iastore, 1) := dk_79 (dk_at dksX5_work_6 20 rfl rfl)
theorem dX5_work_160 : decode cX5_work 160 = .ok (.iinc 3 1, 3) := dk_132 3 1 (dk_at dksX5_work_6 21 rfl rfl)
theorem dX5_work_163 : decode cX5_work 163 = .ok (.goto (-62), 3) := dk_167 255 194 (dk_at dksX5_work_7 0 rfl rfl)
theorem dX5_work_166 : decode cX5_work 166 = .ok (.iinc 2 1, 3) := dk_132 2 1 (dk_at dksX5_work_7 3 rfl rfl)
theorem dX5_work_169 : decode cX5_work 169 = .ok (.goto (-88), 3) := dk_167 255 168 (dk_at dksX5_work_7 6 rfl rfl)
theorem dX5_work_172 : decode cX5_work 172 = .ok (.iinc 1 1, 3) := dk_132 1 1 (dk_at dksX5_work_7 9 rfl rfl)
theorem dX5_work_175 : decode cX5_work 175 = .ok (.goto (-160), 3) := dk_167 255 96 (dk_at dksX5_work_7 12 rfl rfl)
theorem dX5_work_178 : decode cX5_work 178 = .ok (.return_, 1) := dk_177 (dk_at dksX5_work_7 15 rfl rfl)
abbrev cX5_ofNode : ByteArray := prog_13_method_25_code
def yX5_ofNode : MethodName := ⟨RX5, "ofNode", "(III)I"⟩
def dkwX5_ofNode_7 : List UInt8 := [182, 0, 139, 167, 0, 5, 18, 138, 172, 42, 27, 21, 4, 28, 29, 182, 0, 153, 172]
abbrev dktX5_ofNode_7 : List UInt8 := dkwX5_ofNode_7 ++ []
def dkwX5_ofNode_6 : List UInt8 := [180, 0, 37, 104, 172, 42, 21, 4, 28, 29, 182, 0, 139, 21, 5, 163, 0, 14, 42, 21, 4, 28, 29]
abbrev dktX5_ofNode_6 : List UInt8 := dkwX5_ofNode_6 ++ dktX5_ofNode_7
def dkwX5_ofNode_5 : List UInt8 := [180, 0, 37, 104, 162, 0, 14, 42, 21, 4, 28, 29, 182, 0, 139, 167, 0, 11, 29, 28, 100, 42]
abbrev dktX5_ofNode_5 : List UInt8 := dkwX5_ofNode_5 ++ dktX5_ofNode_6
def dkwX5_ofNode_4 : List UInt8 := [167, 0, 11, 42, 21, 5, 28, 29, 182, 0, 139, 172, 42, 21, 4, 28, 29, 182, 0, 139, 29, 28, 100, 42]
abbrev dktX5_ofNode_4 : List UInt8 := dkwX5_ofNode_4 ++ dktX5_ofNode_5
def dkwX5_ofNode_3 : List UInt8 := [29, 182, 0, 139, 42, 21, 5, 28, 29, 182, 0, 139, 162, 0, 14, 42, 21, 4, 28, 29, 182, 0, 139]
abbrev dktX5_ofNode_3 : List UInt8 := dkwX5_ofNode_3 ++ dktX5_ofNode_4
def dkwX5_ofNode_2 : List UInt8 := [42, 21, 4, 28, 29, 182, 0, 146, 172, 42, 21, 4, 21, 5, 28, 29, 182, 0, 149, 172, 42, 21, 4, 28]
abbrev dktX5_ofNode_2 : List UInt8 := dkwX5_ofNode_2 ++ dktX5_ofNode_3
def dkwX5_ofNode_1 : List UInt8 := [170, 0, 0, 0, 0, 167, 0, 0, 0, 0, 0, 0, 0, 6, 0, 0, 0, 42, 0, 0, 0, 51, 0, 0, 0, 62, 0, 0, 0, 167, 0, 0, 0, 167, 0, 0, 0, 101, 0, 0, 0, 140]
abbrev dktX5_ofNode_1 : List UInt8 := dkwX5_ofNode_1 ++ dktX5_ofNode_2
def dkwX5_ofNode_0 : List UInt8 := [42, 180, 0, 16, 27, 46, 54, 4, 42, 180, 0, 19, 27, 46, 54, 5, 42, 180, 0, 13, 27, 46]
abbrev dktX5_ofNode_0 : List UInt8 := dkwX5_ofNode_0 ++ dktX5_ofNode_1
theorem dksX5_ofNode_0 : cX5_ofNode.data.toList.drop 0 = dktX5_ofNode_0 := by decide +kernel
theorem dksX5_ofNode_1 : cX5_ofNode.data.toList.drop 22 = dktX5_ofNode_1 := dk_seg dksX5_ofNode_0 22 rfl rfl
theorem dksX5_ofNode_2 : cX5_ofNode.data.toList.drop 64 = dktX5_ofNode_2 := dk_seg dksX5_ofNode_1 42 rfl rfl
theorem dksX5_ofNode_3 : cX5_ofNode.data.toList.drop 88 = dktX5_ofNode_3 := dk_seg dksX5_ofNode_2 24 rfl rfl
theorem dksX5_ofNode_4 : cX5_ofNode.data.toList.drop 111 = dktX5_ofNode_4 := dk_seg dksX5_ofNode_3 23 rfl rfl
theorem dksX5_ofNode_5 : cX5_ofNode.data.toList.drop 135 = dktX5_ofNode_5 := dk_seg dksX5_ofNode_4 24 rfl rfl
theorem dksX5_ofNode_6 : cX5_ofNode.data.toList.drop 157 = dktX5_ofNode_6 := dk_seg dksX5_ofNode_5 22 rfl rfl
theorem dksX5_ofNode_7 : cX5_ofNode.data.toList.drop 180 = dktX5_ofNode_7 := dk_seg dksX5_ofNode_6 23 rfl rfl
theorem dX5_ofNode_0 : decode cX5_ofNode 0 = .ok (.aload_n 0, 1) := dk_42 (dk_at dksX5_ofNode_0 0 rfl rfl)
theorem dX5_ofNode_1 : decode cX5_ofNode 1 = .ok (.getfield 16, 3) := dk_180 0 16 (dk_at dksX5_ofNode_0 1 rfl rfl)
theorem dX5_ofNode_4 : decode cX5_ofNode 4 = .ok (.iload_n 1, 1) := dk_27 (dk_at dksX5_ofNode_0 4 rfl rfl)
theorem dX5_ofNode_5 : decode cX5_ofNode 5 = .ok (.iaload, 1) := dk_46 (dk_at dksX5_ofNode_0 5 rfl rfl)
theorem dX5_ofNode_6 : decode cX5_ofNode 6 = .ok (.istore 4, 2) := dk_54 4 (dk_at dksX5_ofNode_0 6 rfl rfl)
theorem dX5_ofNode_8 : decode cX5_ofNode 8 = .ok (.aload_n 0, 1) := dk_42 (dk_at dksX5_ofNode_0 8 rfl rfl)
theorem dX5_ofNode_9 : decode cX5_ofNode 9 = .ok (.getfield 19, 3) := dk_180 0 19 (dk_at dksX5_ofNode_0 9 rfl rfl)
theorem dX5_ofNode_12 : decode cX5_ofNode 12 = .ok (.iload_n 1, 1) := dk_27 (dk_at dksX5_ofNode_0 12 rfl rfl)
theorem dX5_ofNode_13 : decode cX5_ofNode 13 = .ok (.iaload, 1) := dk_46 (dk_at dksX5_ofNode_0 13 rfl rfl)
theorem dX5_ofNode_14 : decode cX5_ofNode 14 = .ok (.istore 5, 2) := dk_54 5 (dk_at dksX5_ofNode_0 14 rfl rfl)
theorem dX5_ofNode_16 : decode cX5_ofNode 16 = .ok (.aload_n 0, 1) := dk_42 (dk_at dksX5_ofNode_0 16 rfl rfl)
theorem dX5_ofNode_17 : decode cX5_ofNode 17 = .ok (.getfield 13, 3) := dk_180 0 13 (dk_at dksX5_ofNode_0 17 rfl rfl)
theorem dX5_ofNode_20 : decode cX5_ofNode 20 = .ok (.iload_n 1, 1) := dk_27 (dk_at dksX5_ofNode_0 20 rfl rfl)
theorem dX5_ofNode_21 : decode cX5_ofNode 21 = .ok (.iaload, 1) := dk_46 (dk_at dksX5_ofNode_0 21 rfl rfl)
theorem dX5_ofNode_22 : decode cX5_ofNode 22 = .ok (.tableswitch 167 0 6 #[42, 51, 62, 167, 167, 101, 140], 42) := by decide +kernel
theorem dX5_ofNode_64 : decode cX5_ofNode 64 = .ok (.aload_n 0, 1) := dk_42 (dk_at dksX5_ofNode_2 0 rfl rfl)
theorem dX5_ofNode_65 : decode cX5_ofNode 65 = .ok (.iload 4, 2) := dk_21 4 (dk_at dksX5_ofNode_2 1 rfl rfl)
theorem dX5_ofNode_67 : decode cX5_ofNode 67 = .ok (.iload_n 2, 1) := dk_28 (dk_at dksX5_ofNode_2 3 rfl rfl)
theorem dX5_ofNode_68 : decode cX5_ofNode 68 = .ok (.iload_n 3, 1) := dk_29 (dk_at dksX5_ofNode_2 4 rfl rfl)
theorem dX5_ofNode_69 : decode cX5_ofNode 69 = .ok (.invokevirtual 146, 3) := dk_182 0 146 (dk_at dksX5_ofNode_2 5 rfl rfl)
theorem dX5_ofNode_72 : decode cX5_ofNode 72 = .ok (.ireturn, 1) := dk_172 (dk_at dksX5_ofNode_2 8 rfl rfl)
theorem dX5_ofNode_73 : decode cX5_ofNode 73 = .ok (.aload_n 0, 1) := dk_42 (dk_at dksX5_ofNode_2 9 rfl rfl)
theorem dX5_ofNode_74 : decode cX5_ofNode 74 = .ok (.iload 4, 2) := dk_21 4 (dk_at dksX5_ofNode_2 10 rfl rfl)
theorem dX5_ofNode_76 : decode cX5_ofNode 76 = .ok (.iload 5, 2) := dk_21 5 (dk_at dksX5_ofNode_2 12 rfl rfl)
theorem dX5_ofNode_78 : decode cX5_ofNode 78 = .ok (.iload_n 2, 1) := dk_28 (dk_at dksX5_ofNode_2 14 rfl rfl)
theorem dX5_ofNode_79 : decode cX5_ofNode 79 = .ok (.iload_n 3, 1) := dk_29 (dk_at dksX5_ofNode_2 15 rfl rfl)
theorem dX5_ofNode_80 : decode cX5_ofNode 80 = .ok (.invokevirtual 149, 3) := dk_182 0 149 (dk_at dksX5_ofNode_2 16 rfl rfl)
theorem dX5_ofNode_83 : decode cX5_ofNode 83 = .ok (.ireturn, 1) := dk_172 (dk_at dksX5_ofNode_2 19 rfl rfl)
theorem dX5_ofNode_84 : decode cX5_ofNode 84 = .ok (.aload_n 0, 1) := dk_42 (dk_at dksX5_ofNode_2 20 rfl rfl)
theorem dX5_ofNode_85 : decode cX5_ofNode 85 = .ok (.iload 4, 2) := dk_21 4 (dk_at dksX5_ofNode_2 21 rfl rfl)
theorem dX5_ofNode_87 : decode cX5_ofNode 87 = .ok (.iload_n 2, 1) := dk_28 (dk_at dksX5_ofNode_2 23 rfl rfl)
theorem dX5_ofNode_88 : decode cX5_ofNode 88 = .ok (.iload_n 3, 1) := dk_29 (dk_at dksX5_ofNode_3 0 rfl rfl)
theorem dX5_ofNode_89 : decode cX5_ofNode 89 = .ok (.invokevirtual 139, 3) := dk_182 0 139 (dk_at dksX5_ofNode_3 1 rfl rfl)
theorem dX5_ofNode_92 : decode cX5_ofNode 92 = .ok (.aload_n 0, 1) := dk_42 (dk_at dksX5_ofNode_3 4 rfl rfl)
theorem dX5_ofNode_93 : decode cX5_ofNode 93 = .ok (.iload 5, 2) := dk_21 5 (dk_at dksX5_ofNode_3 5 rfl rfl)
theorem dX5_ofNode_95 : decode cX5_ofNode 95 = .ok (.iload_n 2, 1) := dk_28 (dk_at dksX5_ofNode_3 7 rfl rfl)
theorem dX5_ofNode_96 : decode cX5_ofNode 96 = .ok (.iload_n 3, 1) := dk_29 (dk_at dksX5_ofNode_3 8 rfl rfl)
theorem dX5_ofNode_97 : decode cX5_ofNode 97 = .ok (.invokevirtual 139, 3) := dk_182 0 139 (dk_at dksX5_ofNode_3 9 rfl rfl)
theorem dX5_ofNode_100 : decode cX5_ofNode 100 = .ok (.if_icmp .ge 14, 3) := dk_162 0 14 (dk_at dksX5_ofNode_3 12 rfl rfl)
theorem dX5_ofNode_103 : decode cX5_ofNode 103 = .ok (.aload_n 0, 1) := dk_42 (dk_at dksX5_ofNode_3 15 rfl rfl)
theorem dX5_ofNode_104 : decode cX5_ofNode 104 = .ok (.iload 4, 2) := dk_21 4 (dk_at dksX5_ofNode_3 16 rfl rfl)
theorem dX5_ofNode_106 : decode cX5_ofNode 106 = .ok (.iload_n 2, 1) := dk_28 (dk_at dksX5_ofNode_3 18 rfl rfl)
theorem dX5_ofNode_107 : decode cX5_ofNode 107 = .ok (.iload_n 3, 1) := dk_29 (dk_at dksX5_ofNode_3 19 rfl rfl)
theorem dX5_ofNode_108 : decode cX5_ofNode 108 = .ok (.invokevirtual 139, 3) := dk_182 0 139 (dk_at dksX5_ofNode_3 20 rfl rfl)
theorem dX5_ofNode_111 : decode cX5_ofNode 111 = .ok (.goto 11, 3) := dk_167 0 11 (dk_at dksX5_ofNode_4 0 rfl rfl)
theorem dX5_ofNode_114 : decode cX5_ofNode 114 = .ok (.aload_n 0, 1) := dk_42 (dk_at dksX5_ofNode_4 3 rfl rfl)
theorem dX5_ofNode_115 : decode cX5_ofNode 115 = .ok (.iload 5, 2) := dk_21 5 (dk_at dksX5_ofNode_4 4 rfl rfl)
theorem dX5_ofNode_117 : decode cX5_ofNode 117 = .ok (.iload_n 2, 1) := dk_28 (dk_at dksX5_ofNode_4 6 rfl rfl)
theorem dX5_ofNode_118 : decode cX5_ofNode 118 = .ok (.iload_n 3, 1) := dk_29 (dk_at dksX5_ofNode_4 7 rfl rfl)
theorem dX5_ofNode_119 : decode cX5_ofNode 119 = .ok (.invokevirtual 139, 3) := dk_182 0 139 (dk_at dksX5_ofNode_4 8 rfl rfl)
theorem dX5_ofNode_122 : decode cX5_ofNode 122 = .ok (.ireturn, 1) := dk_172 (dk_at dksX5_ofNode_4 11 rfl rfl)
theorem dX5_ofNode_123 : decode cX5_ofNode 123 = .ok (.aload_n 0, 1) := dk_42 (dk_at dksX5_ofNode_4 12 rfl rfl)
theorem dX5_ofNode_124 : decode cX5_ofNode 124 = .ok (.iload 4, 2) := dk_21 4 (dk_at dksX5_ofNode_4 13 rfl rfl)
theorem dX5_ofNode_126 : decode cX5_ofNode 126 = .ok (.iload_n 2, 1) := dk_28 (dk_at dksX5_ofNode_4 15 rfl rfl)
theorem dX5_ofNode_127 : decode cX5_ofNode 127 = .ok (.iload_n 3, 1) := dk_29 (dk_at dksX5_ofNode_4 16 rfl rfl)
theorem dX5_ofNode_128 : decode cX5_ofNode 128 = .ok (.invokevirtual 139, 3) := dk_182 0 139 (dk_at dksX5_ofNode_4 17 rfl rfl)
theorem dX5_ofNode_131 : decode cX5_ofNode 131 = .ok (.iload_n 3, 1) := dk_29 (dk_at dksX5_ofNode_4 20 rfl rfl)
theorem dX5_ofNode_132 : decode cX5_ofNode 132 = .ok (.iload_n 2, 1) := dk_28 (dk_at dksX5_ofNode_4 21 rfl rfl)
theorem dX5_ofNode_133 : decode cX5_ofNode 133 = .ok (.isub, 1) := dk_100 (dk_at dksX5_ofNode_4 22 rfl rfl)
theorem dX5_ofNode_134 : decode cX5_ofNode 134 = .ok (.aload_n 0, 1) := dk_42 (dk_at dksX5_ofNode_4 23 rfl rfl)
theorem dX5_ofNode_135 : decode cX5_ofNode 135 = .ok (.getfield 37, 3) := dk_180 0 37 (dk_at dksX5_ofNode_5 0 rfl rfl)
theorem dX5_ofNode_138 : decode cX5_ofNode 138 = .ok (.imul, 1) := dk_104 (dk_at dksX5_ofNode_5 3 rfl rfl)
theorem dX5_ofNode_139 : decode cX5_ofNode 139 = .ok (.if_icmp .ge 14, 3) := dk_162 0 14 (dk_at dksX5_ofNode_5 4 rfl rfl)
theorem dX5_ofNode_142 : decode cX5_ofNode 142 = .ok (.aload_n 0, 1) := dk_42 (dk_at dksX5_ofNode_5 7 rfl rfl)
theorem dX5_ofNode_143 : decode cX5_ofNode 143 = .ok (.iload 4, 2) := dk_21 4 (dk_at dksX5_ofNode_5 8 rfl rfl)
theorem dX5_ofNode_145 : decode cX5_ofNode 145 = .ok (.iload_n 2, 1) := dk_28 (dk_at dksX5_ofNode_5 10 rfl rfl)
theorem dX5_ofNode_146 : decode cX5_ofNode 146 = .ok (.iload_n 3, 1) := dk_29 (dk_at dksX5_ofNode_5 11 rfl rfl)
theorem dX5_ofNode_147 : decode cX5_ofNode 147 = .ok (.invokevirtual 139, 3) := dk_182 0 139 (dk_at dksX5_ofNode_5 12 rfl rfl)
theorem dX5_ofNode_150 : decode cX5_ofNode 150 = .ok (.goto 11, 3) := dk_167 0 11 (dk_at dksX5_ofNode_5 15 rfl rfl)
theorem dX5_ofNode_153 : decode cX5_ofNode 153 = .ok (.iload_n 3, 1) := dk_29 (dk_at dksX5_ofNode_5 18 rfl rfl)
theorem dX5_ofNode_154 : decode cX5_ofNode 154 = .ok (.iload_n 2, 1) := dk_28 (dk_at dksX5_ofNode_5 19 rfl rfl)
theorem dX5_ofNode_155 : decode cX5_ofNode 155 = .ok (.isub, 1) := dk_100 (dk_at dksX5_ofNode_5 20 rfl rfl)
theorem dX5_ofNode_156 : decode cX5_ofNode 156 = .ok (.aload_n 0, 1) := dk_42 (dk_at dksX5_ofNode_5 21 rfl rfl)
theorem dX5_ofNode_157 : decode cX5_ofNode 157 = .ok (.getfield 37, 3) := dk_180 0 37 (dk_at dksX5_ofNode_6 0 rfl rfl)
theorem dX5_ofNode_160 : decode cX5_ofNode 160 = .ok (.imul, 1) := dk_104 (dk_at dksX5_ofNode_6 3 rfl rfl)
theorem dX5_ofNode_161 : decode cX5_ofNode 161 = .ok (.ireturn, 1) := dk_172 (dk_at dksX5_ofNode_6 4 rfl rfl)
theorem dX5_ofNode_162 : decode cX5_ofNode 162 = .ok (.aload_n 0, 1) := dk_42 (dk_at dksX5_ofNode_6 5 rfl rfl)
theorem dX5_ofNode_163 : decode cX5_ofNode 163 = .ok (.iload 4, 2) := dk_21 4 (dk_at dksX5_ofNode_6 6 rfl rfl)
theorem dX5_ofNode_165 : decode cX5_ofNode 165 = .ok (.iload_n 2, 1) := dk_28 (dk_at dksX5_ofNode_6 8 rfl rfl)
theorem dX5_ofNode_166 : decode cX5_ofNode 166 = .ok (.iload_n 3, 1) := dk_29 (dk_at dksX5_ofNode_6 9 rfl rfl)
theorem dX5_ofNode_167 : decode cX5_ofNode 167 = .ok (.invokevirtual 139, 3) := dk_182 0 139 (dk_at dksX5_ofNode_6 10 rfl rfl)
theorem dX5_ofNode_170 : decode cX5_ofNode 170 = .ok (.iload 5, 2) := dk_21 5 (dk_at dksX5_ofNode_6 13 rfl rfl)
theorem dX5_ofNode_172 : decode cX5_ofNode 172 = .ok (.if_icmp .gt 14, 3) := dk_163 0 14 (dk_at dksX5_ofNode_6 15 rfl rfl)
theorem dX5_ofNode_175 : decode cX5_ofNode 175 = .ok (.aload_n 0, 1) := dk_42 (dk_at dksX5_ofNode_6 18 rfl rfl)
theorem dX5_ofNode_176 : decode cX5_ofNode 176 = .ok (.iload 4, 2) := dk_21 4 (dk_at dksX5_ofNode_6 19 rfl rfl)
theorem dX5_ofNode_178 : decode cX5_ofNode 178 = .ok (.iload_n 2, 1) := dk_28 (dk_at dksX5_ofNode_6 21 rfl rfl)
theorem dX5_ofNode_179 : decode cX5_ofNode 179 = .ok (.iload_n 3, 1) := dk_29 (dk_at dksX5_ofNode_6 22 rfl rfl)
theorem dX5_ofNode_180 : decode cX5_ofNode 180 = .ok (.invokevirtual 139, 3) := dk_182 0 139 (dk_at dksX5_ofNode_7 0 rfl rfl)
theorem dX5_ofNode_183 : decode cX5_ofNode 183 = .ok (.goto 5, 3) := dk_167 0 5 (dk_at dksX5_ofNode_7 3 rfl rfl)
theorem dX5_ofNode_186 : decode cX5_ofNode 186 = .ok (.ldc 138, 2) := dk_18 138 (dk_at dksX5_ofNode_7 6 rfl rfl)
theorem dX5_ofNode_188 : decode cX5_ofNode 188 = .ok (.ireturn, 1) := dk_172 (dk_at dksX5_ofNode_7 8 rfl rfl)
theorem dX5_ofNode_189 : decode cX5_ofNode 189 = .ok (.aload_n 0, 1) := dk_42 (dk_at dksX5_ofNode_7 9 rfl rfl)
theorem dX5_ofNode_190 : decode cX5_ofNode 190 = .ok (.iload_n 1, 1) := dk_27 (dk_at dksX5_ofNode_7 10 rfl rfl)
theorem dX5_ofNode_191 : decode cX5_ofNode 191 = .ok (.iload 4, 2) := dk_21 4 (dk_at dksX5_ofNode_7 11 rfl rfl)
theorem dX5_ofNode_193 : decode cX5_ofNode 193 = .ok (.iload_n 2, 1) := dk_28 (dk_at dksX5_ofNode_7 13 rfl rfl)
theorem dX5_ofNode_194 : decode cX5_ofNode 194 = .ok (.iload_n 3, 1) := dk_29 (dk_at dksX5_ofNode_7 14 rfl rfl)
theorem dX5_ofNode_195 : decode cX5_ofNode 195 = .ok (.invokevirtual 153, 3) := dk_182 0 153 (dk_at dksX5_ofNode_7 15 rfl rfl)
theorem dX5_ofNode_198 : decode cX5_ofNode 198 = .ok (.ireturn, 1) := dk_172 (dk_at dksX5_ofNode_7 18 rfl rfl)
abbrev cX5_ofSet : ByteArray := prog_13_method_22_code
def yX5_ofSet : MethodName := ⟨RX5, "ofSet", "(III)I"⟩
def dkwX5_ofSet_4 : List UInt8 := [42, 180, 0, 44, 96, 54, 7, 21, 5, 21, 7, 162, 0, 8, 21, 5, 167, 0, 5, 21, 7, 172]
abbrev dktX5_ofSet_4 : List UInt8 := dkwX5_ofSet_4 ++ []
def dkwX5_ofSet_3 : List UInt8 := [132, 7, 1, 167, 255, 217, 21, 4, 4, 100, 42, 180, 0, 37, 104, 21, 6, 153, 0, 7, 3, 167, 0, 7]
abbrev dktX5_ofSet_3 : List UInt8 := dkwX5_ofSet_3 ++ dktX5_ofSet_4
def dkwX5_ofSet_2 : List UInt8 := [180, 0, 47, 21, 7, 46, 16, 97, 100, 122, 4, 126, 4, 160, 0, 7, 4, 167, 0, 4, 3, 54, 6]
abbrev dktX5_ofSet_2 : List UInt8 := dkwX5_ofSet_2 ++ dktX5_ofSet_3
def dkwX5_ofSet_1 : List UInt8 := [21, 5, 172, 3, 54, 6, 28, 54, 7, 21, 7, 29, 162, 0, 39, 21, 6, 154, 0, 21, 27, 42]
abbrev dktX5_ofSet_1 : List UInt8 := dkwX5_ofSet_1 ++ dktX5_ofSet_2
def dkwX5_ofSet_0 : List UInt8 := [29, 28, 100, 54, 4, 42, 180, 0, 41, 21, 4, 42, 180, 0, 37, 104, 96, 54, 5, 21, 4, 154, 0, 6]
abbrev dktX5_ofSet_0 : List UInt8 := dkwX5_ofSet_0 ++ dktX5_ofSet_1
theorem dksX5_ofSet_0 : cX5_ofSet.data.toList.drop 0 = dktX5_ofSet_0 := by decide +kernel
theorem dksX5_ofSet_1 : cX5_ofSet.data.toList.drop 24 = dktX5_ofSet_1 := dk_seg dksX5_ofSet_0 24 rfl rfl
theorem dksX5_ofSet_2 : cX5_ofSet.data.toList.drop 46 = dktX5_ofSet_2 := dk_seg dksX5_ofSet_1 22 rfl rfl
theorem dksX5_ofSet_3 : cX5_ofSet.data.toList.drop 69 = dktX5_ofSet_3 := dk_seg dksX5_ofSet_2 23 rfl rfl
theorem dksX5_ofSet_4 : cX5_ofSet.data.toList.drop 93 = dktX5_ofSet_4 := dk_seg dksX5_ofSet_3 24 rfl rfl
theorem dX5_ofSet_0 : decode cX5_ofSet 0 = .ok (.iload_n 3, 1) := dk_29 (dk_at dksX5_ofSet_0 0 rfl rfl)
theorem dX5_ofSet_1 : decode cX5_ofSet 1 = .ok (.iload_n 2, 1) := dk_28 (dk_at dksX5_ofSet_0 1 rfl rfl)
theorem dX5_ofSet_2 : decode cX5_ofSet 2 = .ok (.isub, 1) := dk_100 (dk_at dksX5_ofSet_0 2 rfl rfl)
theorem dX5_ofSet_3 : decode cX5_ofSet 3 = .ok (.istore 4, 2) := dk_54 4 (dk_at dksX5_ofSet_0 3 rfl rfl)
theorem dX5_ofSet_5 : decode cX5_ofSet 5 = .ok (.aload_n 0, 1) := dk_42 (dk_at dksX5_ofSet_0 5 rfl rfl)
theorem dX5_ofSet_6 : decode cX5_ofSet 6 = .ok (.getfield 41, 3) := dk_180 0 41 (dk_at dksX5_ofSet_0 6 rfl rfl)
theorem dX5_ofSet_9 : decode cX5_ofSet 9 = .ok (.iload 4, 2) := dk_21 4 (dk_at dksX5_ofSet_0 9 rfl rfl)
theorem dX5_ofSet_11 : decode cX5_ofSet 11 = .ok (.aload_n 0, 1) := dk_42 (dk_at dksX5_ofSet_0 11 rfl rfl)
theorem dX5_ofSet_12 : decode cX5_ofSet 12 = .ok (.getfield 37, 3) := dk_180 0 37 (dk_at dksX5_ofSet_0 12 rfl rfl)
theorem dX5_ofSet_15 : decode cX5_ofSet 15 = .ok (.imul, 1) := dk_104 (dk_at dksX5_ofSet_0 15 rfl rfl)
theorem dX5_ofSet_16 : decode cX5_ofSet 16 = .ok (.iadd, 1) := dk_96 (dk_at dksX5_ofSet_0 16 rfl rfl)
theorem dX5_ofSet_17 : decode cX5_ofSet 17 = .ok (.istore 5, 2) := dk_54 5 (dk_at dksX5_ofSet_0 17 rfl rfl)
theorem dX5_ofSet_19 : decode cX5_ofSet 19 = .ok (.iload 4, 2) := dk_21 4 (dk_at dksX5_ofSet_0 19 rfl rfl)
theorem dX5_ofSet_21 : decode cX5_ofSet 21 = .ok (.ifCond .ne 6, 3) := dk_154 0 6 (dk_at dksX5_ofSet_0 21 rfl rfl)
theorem dX5_ofSet_24 : decode cX5_ofSet 24 = .ok (.iload 5, 2) := dk_21 5 (dk_at dksX5_ofSet_1 0 rfl rfl)
theorem dX5_ofSet_26 : decode cX5_ofSet 26 = .ok (.ireturn, 1) := dk_172 (dk_at dksX5_ofSet_1 2 rfl rfl)
theorem dX5_ofSet_27 : decode cX5_ofSet 27 = .ok (.iconst 0, 1) := dk_3 (dk_at dksX5_ofSet_1 3 rfl rfl)
theorem dX5_ofSet_28 : decode cX5_ofSet 28 = .ok (.istore 6, 2) := dk_54 6 (dk_at dksX5_ofSet_1 4 rfl rfl)
theorem dX5_ofSet_30 : decode cX5_ofSet 30 = .ok (.iload_n 2, 1) := dk_28 (dk_at dksX5_ofSet_1 6 rfl rfl)
theorem dX5_ofSet_31 : decode cX5_ofSet 31 = .ok (.istore 7, 2) := dk_54 7 (dk_at dksX5_ofSet_1 7 rfl rfl)
theorem dX5_ofSet_33 : decode cX5_ofSet 33 = .ok (.iload 7, 2) := dk_21 7 (dk_at dksX5_ofSet_1 9 rfl rfl)
theorem dX5_ofSet_35 : decode cX5_ofSet 35 = .ok (.iload_n 3, 1) := dk_29 (dk_at dksX5_ofSet_1 11 rfl rfl)
theorem dX5_ofSet_36 : decode cX5_ofSet 36 = .ok (.if_icmp .ge 39, 3) := dk_162 0 39 (dk_at dksX5_ofSet_1 12 rfl rfl)
theorem dX5_ofSet_39 : decode cX5_ofSet 39 = .ok (.iload 6, 2) := dk_21 6 (dk_at dksX5_ofSet_1 15 rfl rfl)
theorem dX5_ofSet_41 : decode cX5_ofSet 41 = .ok (.ifCond .ne 21, 3) := dk_154 0 21 (dk_at dksX5_ofSet_1 17 rfl rfl)
theorem dX5_ofSet_44 : decode cX5_ofSet 44 = .ok (.iload_n 1, 1) := dk_27 (dk_at dksX5_ofSet_1 20 rfl rfl)
theorem dX5_ofSet_45 : decode cX5_ofSet 45 = .ok (.aload_n 0, 1) := dk_42 (dk_at dksX5_ofSet_1 21 rfl rfl)
theorem dX5_ofSet_46 : decode cX5_ofSet 46 = .ok (.getfield 47, 3) := dk_180 0 47 (dk_at dksX5_ofSet_2 0 rfl rfl)
theorem dX5_ofSet_49 : decode cX5_ofSet 49 = .ok (.iload 7, 2) := dk_21 7 (dk_at dksX5_ofSet_2 3 rfl rfl)
theorem dX5_ofSet_51 : decode cX5_ofSet 51 = .ok (.iaload, 1) := dk_46 (dk_at dksX5_ofSet_2 5 rfl rfl)
theorem dX5_ofSet_52 : decode cX5_ofSet 52 = .ok (.bipush 97, 2) := dk_16 97 (dk_at dksX5_ofSet_2 6 rfl rfl)
theorem dX5_ofSet_54 : decode cX5_ofSet 54 = .ok (.isub, 1) := dk_100 (dk_at dksX5_ofSet_2 8 rfl rfl)
theorem dX5_ofSet_55 : decode cX5_ofSet 55 = .ok (.ishr, 1) := dk_122 (dk_at dksX5_ofSet_2 9 rfl rfl)
theorem dX5_ofSet_56 : decode cX5_ofSet 56 = .ok (.iconst 1, 1) := dk_4 (dk_at dksX5_ofSet_2 10 rfl rfl)
theorem dX5_ofSet_57 : decode cX5_ofSet 57 = .ok (.iand, 1) := dk_126 (dk_at dksX5_ofSet_2 11 rfl rfl)
theorem dX5_ofSet_58 : decode cX5_ofSet 58 = .ok (.iconst 1, 1) := dk_4 (dk_at dksX5_ofSet_2 12 rfl rfl)
theorem dX5_ofSet_59 : decode cX5_ofSet 59 = .ok (.if_icmp .ne 7, 3) := dk_160 0 7 (dk_at dksX5_ofSet_2 13 rfl rfl)
theorem dX5_ofSet_62 : decode cX5_ofSet 62 = .ok (.iconst 1, 1) := dk_4 (dk_at dksX5_ofSet_2 16 rfl rfl)
theorem dX5_ofSet_63 : decode cX5_ofSet 63 = .ok (.goto 4, 3) := dk_167 0 4 (dk_at dksX5_ofSet_2 17 rfl rfl)
theorem dX5_ofSet_66 : decode cX5_ofSet 66 = .ok (.iconst 0, 1) := dk_3 (dk_at dksX5_ofSet_2 20 rfl rfl)
theorem dX5_ofSet_67 : decode cX5_ofSet 67 = .ok (.istore 6, 2) := dk_54 6 (dk_at dksX5_ofSet_2 21 rfl rfl)
theorem dX5_ofSet_69 : decode cX5_ofSet 69 = .ok (.iinc 7 1, 3) := dk_132 7 1 (dk_at dksX5_ofSet_3 0 rfl rfl)
theorem dX5_ofSet_72 : decode cX5_ofSet 72 = .ok (.goto (-39), 3) := dk_167 255 217 (dk_at dksX5_ofSet_3 3 rfl rfl)
theorem dX5_ofSet_75 : decode cX5_ofSet 75 = .ok (.iload 4, 2) := dk_21 4 (dk_at dksX5_ofSet_3 6 rfl rfl)
theorem dX5_ofSet_77 : decode cX5_ofSet 77 = .ok (.iconst 1, 1) := dk_4 (dk_at dksX5_ofSet_3 8 rfl rfl)
theorem dX5_ofSet_78 : decode cX5_ofSet 78 = .ok (.isub, 1) := dk_100 (dk_at dksX5_ofSet_3 9 rfl rfl)
theorem dX5_ofSet_79 : decode cX5_ofSet 79 = .ok (.aload_n 0, 1) := dk_42 (dk_at dksX5_ofSet_3 10 rfl rfl)
theorem dX5_ofSet_80 : decode cX5_ofSet 80 = .ok (.getfield 37, 3) := dk_180 0 37 (dk_at dksX5_ofSet_3 11 rfl rfl)
theorem dX5_ofSet_83 : decode cX5_ofSet 83 = .ok (.imul, 1) := dk_104 (dk_at dksX5_ofSet_3 14 rfl rfl)
theorem dX5_ofSet_84 : decode cX5_ofSet 84 = .ok (.iload 6, 2) := dk_21 6 (dk_at dksX5_ofSet_3 15 rfl rfl)
theorem dX5_ofSet_86 : decode cX5_ofSet 86 = .ok (.ifCond .eq 7, 3) := dk_153 0 7 (dk_at dksX5_ofSet_3 17 rfl rfl)
theorem dX5_ofSet_89 : decode cX5_ofSet 89 = .ok (.iconst 0, 1) := dk_3 (dk_at dksX5_ofSet_3 20 rfl rfl)
theorem dX5_ofSet_90 : decode cX5_ofSet 90 = .ok (.goto 7, 3) := dk_167 0 7 (dk_at dksX5_ofSet_3 21 rfl rfl)
theorem dX5_ofSet_93 : decode cX5_ofSet 93 = .ok (.aload_n 0, 1) := dk_42 (dk_at dksX5_ofSet_4 0 rfl rfl)
theorem dX5_ofSet_94 : decode cX5_ofSet 94 = .ok (.getfield 44, 3) := dk_180 0 44 (dk_at dksX5_ofSet_4 1 rfl rfl)
theorem dX5_ofSet_97 : decode cX5_ofSet 97 = .ok (.iadd, 1) := dk_96 (dk_at dksX5_ofSet_4 4 rfl rfl)
theorem dX5_ofSet_98 : decode cX5_ofSet 98 = .ok (.istore 7, 2) := dk_54 7 (dk_at dksX5_ofSet_4 5 rfl rfl)
theorem dX5_ofSet_100 : decode cX5_ofSet 100 = .ok (.iload 5, 2) := dk_21 5 (dk_at dksX5_ofSet_4 7 rfl rfl)
theorem dX5_ofSet_102 : decode cX5_ofSet 102 = .ok (.iload 7, 2) := dk_21 7 (dk_at dksX5_ofSet_4 9 rfl rfl)
theorem dX5_ofSet_104 : decode cX5_ofSet 104 = .ok (.if_icmp .ge 8, 3) := dk_162 0 8 (dk_at dksX5_ofSet_4 11 rfl rfl)
theorem dX5_ofSet_107 : decode cX5_ofSet 107 = .ok (.iload 5, 2) := dk_21 5 (dk_at dksX5_ofSet_4 14 rfl rfl)
theorem dX5_ofSet_109 : decode cX5_ofSet 109 = .ok (.goto 5, 3) := dk_167 0 5 (dk_at dksX5_ofSet_4 16 rfl rfl)
theorem dX5_ofSet_112 : decode cX5_ofSet 112 = .ok (.iload 7, 2) := dk_21 7 (dk_at dksX5_ofSet_4 19 rfl rfl)
theorem dX5_ofSet_114 : decode cX5_ofSet 114 = .ok (.ireturn, 1) := dk_172 (dk_at dksX5_ofSet_4 21 rfl rfl)
abbrev cX5_ofRow : ByteArray := prog_13_method_23_code
def yX5_ofRow : MethodName := ⟨RX5, "ofRow", "(IIII)I"⟩
def dkwX5_ofRow_2 : List UInt8 := [21, 5, 54, 5, 132, 6, 1, 167, 255, 208, 21, 5, 172]
abbrev dktX5_ofRow_2 : List UInt8 := dkwX5_ofRow_2 ++ []
def dkwX5_ofRow_1 : List UInt8 := [21, 6, 21, 4, 182, 0, 139, 184, 0, 142, 54, 7, 21, 7, 21, 5, 162, 0, 8, 21, 7, 167, 0, 5]
abbrev dktX5_ofRow_1 : List UInt8 := dkwX5_ofRow_1 ++ dktX5_ofRow_2
def dkwX5_ofRow_0 : List UInt8 := [18, 138, 54, 5, 29, 54, 6, 21, 6, 21, 4, 163, 0, 47, 42, 27, 29, 21, 6, 182, 0, 139, 42, 28]
abbrev dktX5_ofRow_0 : List UInt8 := dkwX5_ofRow_0 ++ dktX5_ofRow_1
theorem dksX5_ofRow_0 : cX5_ofRow.data.toList.drop 0 = dktX5_ofRow_0 := by decide +kernel
theorem dksX5_ofRow_1 : cX5_ofRow.data.toList.drop 24 = dktX5_ofRow_1 := dk_seg dksX5_ofRow_0 24 rfl rfl
theorem dksX5_ofRow_2 : cX5_ofRow.data.toList.drop 48 = dktX5_ofRow_2 := dk_seg dksX5_ofRow_1 24 rfl rfl
theorem dX5_ofRow_0 : decode cX5_ofRow 0 = .ok (.ldc 138, 2) := dk_18 138 (dk_at dksX5_ofRow_0 0 rfl rfl)
theorem dX5_ofRow_2 : decode cX5_ofRow 2 = .ok (.istore 5, 2) := dk_54 5 (dk_at dksX5_ofRow_0 2 rfl rfl)
theorem dX5_ofRow_4 : decode cX5_ofRow 4 = .ok (.iload_n 3, 1) := dk_29 (dk_at dksX5_ofRow_0 4 rfl rfl)
theorem dX5_ofRow_5 : decode cX5_ofRow 5 = .ok (.istore 6, 2) := dk_54 6 (dk_at dksX5_ofRow_0 5 rfl rfl)
theorem dX5_ofRow_7 : decode cX5_ofRow 7 = .ok (.iload 6, 2) := dk_21 6 (dk_at dksX5_ofRow_0 7 rfl rfl)
theorem dX5_ofRow_9 : decode cX5_ofRow 9 = .ok (.iload 4, 2) := dk_21 4 (dk_at dksX5_ofRow_0 9 rfl rfl)
theorem dX5_ofRow_11 : decode cX5_ofRow 11 = .ok (.if_icmp .gt 47, 3) := dk_163 0 47 (dk_at dksX5_ofRow_0 11 rfl rfl)
theorem dX5_ofRow_14 : decode cX5_ofRow 14 = .ok (.aload_n 0, 1) := dk_42 (dk_at dksX5_ofRow_0 14 rfl rfl)
theorem dX5_ofRow_15 : decode cX5_ofRow 15 = .ok (.iload_n 1, 1) := dk_27 (dk_at dksX5_ofRow_0 15 rfl rfl)
theorem dX5_ofRow_16 : decode cX5_ofRow 16 = .ok (.iload_n 3, 1) := dk_29 (dk_at dksX5_ofRow_0 16 rfl rfl)
theorem dX5_ofRow_17 : decode cX5_ofRow 17 = .ok (.iload 6, 2) := dk_21 6 (dk_at dksX5_ofRow_0 17 rfl rfl)
theorem dX5_ofRow_19 : decode cX5_ofRow 19 = .ok (.invokevirtual 139, 3) := dk_182 0 139 (dk_at dksX5_ofRow_0 19 rfl rfl)
theorem dX5_ofRow_22 : decode cX5_ofRow 22 = .ok (.aload_n 0, 1) := dk_42 (dk_at dksX5_ofRow_0 22 rfl rfl)
theorem dX5_ofRow_23 : decode cX5_ofRow 23 = .ok (.iload_n 2, 1) := dk_28 (dk_at dksX5_ofRow_0 23 rfl rfl)
theorem dX5_ofRow_24 : decode cX5_ofRow 24 = .ok (.iload 6, 2) := dk_21 6 (dk_at dksX5_ofRow_1 0 rfl rfl)
theorem dX5_ofRow_26 : decode cX5_ofRow 26 = .ok (.iload 4, 2) := dk_21 4 (dk_at dksX5_ofRow_1 2 rfl rfl)
theorem dX5_ofRow_28 : decode cX5_ofRow 28 = .ok (.invokevirtual 139, 3) := dk_182 0 139 (dk_at dksX5_ofRow_1 4 rfl rfl)
theorem dX5_ofRow_31 : decode cX5_ofRow 31 = .ok (.invokestatic 142, 3) := dk_184 0 142 (dk_at dksX5_ofRow_1 7 rfl rfl)
theorem dX5_ofRow_34 : decode cX5_ofRow 34 = .ok (.istore 7, 2) := dk_54 7 (dk_at dksX5_ofRow_1 10 rfl rfl)
theorem dX5_ofRow_36 : decode cX5_ofRow 36 = .ok (.iload 7, 2) := dk_21 7 (dk_at dksX5_ofRow_1 12 rfl rfl)
theorem dX5_ofRow_38 : decode cX5_ofRow 38 = .ok (.iload 5, 2) := dk_21 5 (dk_at dksX5_ofRow_1 14 rfl rfl)
theorem dX5_ofRow_40 : decode cX5_ofRow 40 = .ok (.if_icmp .ge 8, 3) := dk_162 0 8 (dk_at dksX5_ofRow_1 16 rfl rfl)
theorem dX5_ofRow_43 : decode cX5_ofRow 43 = .ok (.iload 7, 2) := dk_21 7 (dk_at dksX5_ofRow_1 19 rfl rfl)
theorem dX5_ofRow_45 : decode cX5_ofRow 45 = .ok (.goto 5, 3) := dk_167 0 5 (dk_at dksX5_ofRow_1 21 rfl rfl)
theorem dX5_ofRow_48 : decode cX5_ofRow 48 = .ok (.iload 5, 2) := dk_21 5 (dk_at dksX5_ofRow_2 0 rfl rfl)
theorem dX5_ofRow_50 : decode cX5_ofRow 50 = .ok (.istore 5, 2) := dk_54 5 (dk_at dksX5_ofRow_2 2 rfl rfl)
theorem dX5_ofRow_52 : decode cX5_ofRow 52 = .ok (.iinc 6 1, 3) := dk_132 6 1 (dk_at dksX5_ofRow_2 4 rfl rfl)
theorem dX5_ofRow_55 : decode cX5_ofRow 55 = .ok (.goto (-48), 3) := dk_167 255 208 (dk_at dksX5_ofRow_2 7 rfl rfl)
theorem dX5_ofRow_58 : decode cX5_ofRow 58 = .ok (.iload 5, 2) := dk_21 5 (dk_at dksX5_ofRow_2 10 rfl rfl)
theorem dX5_ofRow_60 : decode cX5_ofRow 60 = .ok (.ireturn, 1) := dk_172 (dk_at dksX5_ofRow_2 12 rfl rfl)
abbrev cX5_costOf : ByteArray := prog_13_method_20_code
def yX5_costOf : MethodName := ⟨RX5, "costOf", "(III)I"⟩
def dkwX5_costOf_0 : List UInt8 := [42, 180, 0, 50, 17, 2, 113, 27, 104, 16, 25, 28, 104, 96, 29, 96, 46, 172]
abbrev dktX5_costOf_0 : List UInt8 := dkwX5_costOf_0 ++ []
theorem dksX5_costOf_0 : cX5_costOf.data.toList.drop 0 = dktX5_costOf_0 := by decide +kernel
theorem dX5_costOf_0 : decode cX5_costOf 0 = .ok (.aload_n 0, 1) := dk_42 (dk_at dksX5_costOf_0 0 rfl rfl)
theorem dX5_costOf_1 : decode cX5_costOf 1 = .ok (.getfield 50, 3) := dk_180 0 50 (dk_at dksX5_costOf_0 1 rfl rfl)
theorem dX5_costOf_4 : decode cX5_costOf 4 = .ok (.sipush 625, 3) := dk_17 2 113 (dk_at dksX5_costOf_0 4 rfl rfl)
theorem dX5_costOf_7 : decode cX5_costOf 7 = .ok (.iload_n 1, 1) := dk_27 (dk_at dksX5_costOf_0 7 rfl rfl)
theorem dX5_costOf_8 : decode cX5_costOf 8 = .ok (.imul, 1) := dk_104 (dk_at dksX5_costOf_0 8 rfl rfl)
theorem dX5_costOf_9 : decode cX5_costOf 9 = .ok (.bipush 25, 2) := dk_16 25 (dk_at dksX5_costOf_0 9 rfl rfl)
theorem dX5_costOf_11 : decode cX5_costOf 11 = .ok (.iload_n 2, 1) := dk_28 (dk_at dksX5_costOf_0 11 rfl rfl)
theorem dX5_costOf_12 : decode cX5_costOf 12 = .ok (.imul, 1) := dk_104 (dk_at dksX5_costOf_0 12 rfl rfl)
theorem dX5_costOf_13 : decode cX5_costOf 13 = .ok (.iadd, 1) := dk_96 (dk_at dksX5_costOf_0 13 rfl rfl)
theorem dX5_costOf_14 : decode cX5_costOf 14 = .ok (.iload_n 3, 1) := dk_29 (dk_at dksX5_costOf_0 14 rfl rfl)
theorem dX5_costOf_15 : decode cX5_costOf 15 = .ok (.iadd, 1) := dk_96 (dk_at dksX5_costOf_0 15 rfl rfl)
theorem dX5_costOf_16 : decode cX5_costOf 16 = .ok (.iaload, 1) := dk_46 (dk_at dksX5_costOf_0 16 rfl rfl)
theorem dX5_costOf_17 : decode cX5_costOf 17 = .ok (.ireturn, 1) := dk_172 (dk_at dksX5_costOf_0 17 rfl rfl)
abbrev cX5_sum : ByteArray := prog_13_method_21_code
def yX5_sum : MethodName := ⟨RX5, "sum", "(II)I"⟩
def dkwX5_sum_0 : List UInt8 := [26, 18, 138, 162, 0, 9, 27, 18, 138, 161, 0, 8, 18, 138, 167, 0, 6, 26, 27, 96, 172]
abbrev dktX5_sum_0 : List UInt8 := dkwX5_sum_0 ++ []
theorem dksX5_sum_0 : cX5_sum.data.toList.drop 0 = dktX5_sum_0 := by decide +kernel
theorem dX5_sum_0 : decode cX5_sum 0 = .ok (.iload_n 0, 1) := dk_26 (dk_at dksX5_sum_0 0 rfl rfl)
theorem dX5_sum_1 : decode cX5_sum 1 = .ok (.ldc 138, 2) := dk_18 138 (dk_at dksX5_sum_0 1 rfl rfl)
theorem dX5_sum_3 : decode cX5_sum 3 = .ok (.if_icmp .ge 9, 3) := dk_162 0 9 (dk_at dksX5_sum_0 3 rfl rfl)
theorem dX5_sum_6 : decode cX5_sum 6 = .ok (.iload_n 1, 1) := dk_27 (dk_at dksX5_sum_0 6 rfl rfl)
theorem dX5_sum_7 : decode cX5_sum 7 = .ok (.ldc 138, 2) := dk_18 138 (dk_at dksX5_sum_0 7 rfl rfl)
theorem dX5_sum_9 : decode cX5_sum 9 = .ok (.if_icmp .lt 8, 3) := dk_161 0 8 (dk_at dksX5_sum_0 9 rfl rfl)
theorem dX5_sum_12 : decode cX5_sum 12 = .ok (.ldc 138, 2) := dk_18 138 (dk_at dksX5_sum_0 12 rfl rfl)
theorem dX5_sum_14 : decode cX5_sum 14 = .ok (.goto 6, 3) := dk_167 0 6 (dk_at dksX5_sum_0 14 rfl rfl)
theorem dX5_sum_17 : decode cX5_sum 17 = .ok (.iload_n 0, 1) := dk_26 (dk_at dksX5_sum_0 17 rfl rfl)
theorem dX5_sum_18 : decode cX5_sum 18 = .ok (.iload_n 1, 1) := dk_27 (dk_at dksX5_sum_0 18 rfl rfl)
theorem dX5_sum_19 : decode cX5_sum 19 = .ok (.iadd, 1) := dk_96 (dk_at dksX5_sum_0 19 rfl rfl)
theorem dX5_sum_20 : decode cX5_sum 20 = .ok (.ireturn, 1) := dk_172 (dk_at dksX5_sum_0 20 rfl rfl)
abbrev cX5_ofPlus : ByteArray := prog_13_method_24_code
def yX5_ofPlus : MethodName := ⟨RX5, "ofPlus", "(IIII)I"⟩
def dkwX5_ofPlus_2 : List UInt8 := [162, 0, 8, 21, 7, 167, 0, 5, 21, 5, 54, 5, 132, 6, 1, 167, 255, 208, 21, 5, 172]
abbrev dktX5_ofPlus_2 : List UInt8 := dkwX5_ofPlus_2 ++ []
def dkwX5_ofPlus_1 : List UInt8 := [29, 21, 6, 182, 0, 139, 42, 28, 21, 6, 21, 4, 182, 0, 139, 184, 0, 142, 54, 7, 21, 7, 21, 5]
abbrev dktX5_ofPlus_1 : List UInt8 := dkwX5_ofPlus_1 ++ dktX5_ofPlus_2
def dkwX5_ofPlus_0 : List UInt8 := [42, 28, 29, 21, 4, 182, 0, 139, 54, 5, 29, 4, 96, 54, 6, 21, 6, 21, 4, 162, 0, 47, 42, 27]
abbrev dktX5_ofPlus_0 : List UInt8 := dkwX5_ofPlus_0 ++ dktX5_ofPlus_1
theorem dksX5_ofPlus_0 : cX5_ofPlus.data.toList.drop 0 = dktX5_ofPlus_0 := by decide +kernel
theorem dksX5_ofPlus_1 : cX5_ofPlus.data.toList.drop 24 = dktX5_ofPlus_1 := dk_seg dksX5_ofPlus_0 24 rfl rfl
theorem dksX5_ofPlus_2 : cX5_ofPlus.data.toList.drop 48 = dktX5_ofPlus_2 := dk_seg dksX5_ofPlus_1 24 rfl rfl
theorem dX5_ofPlus_0 : decode cX5_ofPlus 0 = .ok (.aload_n 0, 1) := dk_42 (dk_at dksX5_ofPlus_0 0 rfl rfl)
theorem dX5_ofPlus_1 : decode cX5_ofPlus 1 = .ok (.iload_n 2, 1) := dk_28 (dk_at dksX5_ofPlus_0 1 rfl rfl)
theorem dX5_ofPlus_2 : decode cX5_ofPlus 2 = .ok (.iload_n 3, 1) := dk_29 (dk_at dksX5_ofPlus_0 2 rfl rfl)
theorem dX5_ofPlus_3 : decode cX5_ofPlus 3 = .ok (.iload 4, 2) := dk_21 4 (dk_at dksX5_ofPlus_0 3 rfl rfl)
theorem dX5_ofPlus_5 : decode cX5_ofPlus 5 = .ok (.invokevirtual 139, 3) := dk_182 0 139 (dk_at dksX5_ofPlus_0 5 rfl rfl)
theorem dX5_ofPlus_8 : decode cX5_ofPlus 8 = .ok (.istore 5, 2) := dk_54 5 (dk_at dksX5_ofPlus_0 8 rfl rfl)
theorem dX5_ofPlus_10 : decode cX5_ofPlus 10 = .ok (.iload_n 3, 1) := dk_29 (dk_at dksX5_ofPlus_0 10 rfl rfl)
theorem dX5_ofPlus_11 : decode cX5_ofPlus 11 = .ok (.iconst 1, 1) := dk_4 (dk_at dksX5_ofPlus_0 11 rfl rfl)
theorem dX5_ofPlus_12 : decode cX5_ofPlus 12 = .ok (.iadd, 1) := dk_96 (dk_at dksX5_ofPlus_0 12 rfl rfl)
theorem dX5_ofPlus_13 : decode cX5_ofPlus 13 = .ok (.istore 6, 2) := dk_54 6 (dk_at dksX5_ofPlus_0 13 rfl rfl)
theorem dX5_ofPlus_15 : decode cX5_ofPlus 15 = .ok (.iload 6, 2) := dk_21 6 (dk_at dksX5_ofPlus_0 15 rfl rfl)
theorem dX5_ofPlus_17 : decode cX5_ofPlus 17 = .ok (.iload 4, 2) := dk_21 4 (dk_at dksX5_ofPlus_0 17 rfl rfl)
theorem dX5_ofPlus_19 : decode cX5_ofPlus 19 = .ok (.if_icmp .ge 47, 3) := dk_162 0 47 (dk_at dksX5_ofPlus_0 19 rfl rfl)
theorem dX5_ofPlus_22 : decode cX5_ofPlus 22 = .ok (.aload_n 0, 1) := dk_42 (dk_at dksX5_ofPlus_0 22 rfl rfl)
theorem dX5_ofPlus_23 : decode cX5_ofPlus 23 = .ok (.iload_n 1, 1) := dk_27 (dk_at dksX5_ofPlus_0 23 rfl rfl)
theorem dX5_ofPlus_24 : decode cX5_ofPlus 24 = .ok (.iload_n 3, 1) := dk_29 (dk_at dksX5_ofPlus_1 0 rfl rfl)
theorem dX5_ofPlus_25 : decode cX5_ofPlus 25 = .ok (.iload 6, 2) := dk_21 6 (dk_at dksX5_ofPlus_1 1 rfl rfl)
theorem dX5_ofPlus_27 : decode cX5_ofPlus 27 = .ok (.invokevirtual 139, 3) := dk_182 0 139 (dk_at dksX5_ofPlus_1 3 rfl rfl)
theorem dX5_ofPlus_30 : decode cX5_ofPlus 30 = .ok (.aload_n 0, 1) := dk_42 (dk_at dksX5_ofPlus_1 6 rfl rfl)
theorem dX5_ofPlus_31 : decode cX5_ofPlus 31 = .ok (.iload_n 2, 1) := dk_28 (dk_at dksX5_ofPlus_1 7 rfl rfl)
theorem dX5_ofPlus_32 : decode cX5_ofPlus 32 = .ok (.iload 6, 2) := dk_21 6 (dk_at dksX5_ofPlus_1 8 rfl rfl)
theorem dX5_ofPlus_34 : decode cX5_ofPlus 34 = .ok (.iload 4, 2) := dk_21 4 (dk_at dksX5_ofPlus_1 10 rfl rfl)
theorem dX5_ofPlus_36 : decode cX5_ofPlus 36 = .ok (.invokevirtual 139, 3) := dk_182 0 139 (dk_at dksX5_ofPlus_1 12 rfl rfl)
theorem dX5_ofPlus_39 : decode cX5_ofPlus 39 = .ok (.invokestatic 142, 3) := dk_184 0 142 (dk_at dksX5_ofPlus_1 15 rfl rfl)
theorem dX5_ofPlus_42 : decode cX5_ofPlus 42 = .ok (.istore 7, 2) := dk_54 7 (dk_at dksX5_ofPlus_1 18 rfl rfl)
theorem dX5_ofPlus_44 : decode cX5_ofPlus 44 = .ok (.iload 7, 2) := dk_21 7 (dk_at dksX5_ofPlus_1 20 rfl rfl)
theorem dX5_ofPlus_46 : decode cX5_ofPlus 46 = .ok (.iload 5, 2) := dk_21 5 (dk_at dksX5_ofPlus_1 22 rfl rfl)
theorem dX5_ofPlus_48 : decode cX5_ofPlus 48 = .ok (.if_icmp .ge 8, 3) := dk_162 0 8 (dk_at dksX5_ofPlus_2 0 rfl rfl)
theorem dX5_ofPlus_51 : decode cX5_ofPlus 51 = .ok (.iload 7, 2) := dk_21 7 (dk_at dksX5_ofPlus_2 3 rfl rfl)
theorem dX5_ofPlus_53 : decode cX5_ofPlus 53 = .ok (.goto 5, 3) := dk_167 0 5 (dk_at dksX5_ofPlus_2 5 rfl rfl)
theorem dX5_ofPlus_56 : decode cX5_ofPlus 56 = .ok (.iload 5, 2) := dk_21 5 (dk_at dksX5_ofPlus_2 8 rfl rfl)
theorem dX5_ofPlus_58 : decode cX5_ofPlus 58 = .ok (.istore 5, 2) := dk_54 5 (dk_at dksX5_ofPlus_2 10 rfl rfl)
theorem dX5_ofPlus_60 : decode cX5_ofPlus 60 = .ok (.iinc 6 1, 3) := dk_132 6 1 (dk_at dksX5_ofPlus_2 12 rfl rfl)
theorem dX5_ofPlus_63 : decode cX5_ofPlus 63 = .ok (.goto (-48), 3) := dk_167 255 208 (dk_at dksX5_ofPlus_2 15 rfl rfl)
theorem dX5_ofPlus_66 : decode cX5_ofPlus 66 = .ok (.iload 5, 2) := dk_21 5 (dk_at dksX5_ofPlus_2 18 rfl rfl)
theorem dX5_ofPlus_68 : decode cX5_ofPlus 68 = .ok (.ireturn, 1) := dk_172 (dk_at dksX5_ofPlus_2 20 rfl rfl)
abbrev cX5_find : ByteArray := prog_13_method_30_code
def yX5_find : MethodName := ⟨RX5, "find", "(Z)I"⟩
def dkwX5_find_4 : List UInt8 := [167, 0, 15, 42, 42, 180, 0, 53, 42, 180, 0, 56, 182, 0, 162, 172]
abbrev dktX5_find_4 : List UInt8 := dkwX5_find_4 ++ []
def dkwX5_find_3 : List UInt8 := [181, 0, 56, 132, 3, 1, 167, 255, 201, 132, 2, 1, 167, 255, 185, 42, 180, 0, 53, 156, 0, 7, 2]
abbrev dktX5_find_3 : List UInt8 := dkwX5_find_3 ++ dktX5_find_4
def dkwX5_find_2 : List UInt8 := [28, 29, 42, 180, 0, 53, 42, 180, 0, 56, 182, 0, 169, 153, 0, 13, 42, 28, 181, 0, 53, 42, 29]
abbrev dktX5_find_2 : List UInt8 := dkwX5_find_2 ++ dktX5_find_3
def dkwX5_find_1 : List UInt8 := [180, 0, 135, 163, 0, 53, 42, 28, 29, 182, 0, 165, 153, 0, 38, 42, 180, 0, 53, 155, 0, 21, 42, 27]
abbrev dktX5_find_1 : List UInt8 := dkwX5_find_1 ++ dktX5_find_2
def dkwX5_find_0 : List UInt8 := [42, 2, 181, 0, 53, 42, 2, 181, 0, 56, 3, 61, 28, 42, 180, 0, 135, 163, 0, 69, 28, 62, 29, 42]
abbrev dktX5_find_0 : List UInt8 := dkwX5_find_0 ++ dktX5_find_1
theorem dksX5_find_0 : cX5_find.data.toList.drop 0 = dktX5_find_0 := by decide +kernel
theorem dksX5_find_1 : cX5_find.data.toList.drop 24 = dktX5_find_1 := dk_seg dksX5_find_0 24 rfl rfl
theorem dksX5_find_2 : cX5_find.data.toList.drop 48 = dktX5_find_2 := dk_seg dksX5_find_1 24 rfl rfl
theorem dksX5_find_3 : cX5_find.data.toList.drop 71 = dktX5_find_3 := dk_seg dksX5_find_2 23 rfl rfl
theorem dksX5_find_4 : cX5_find.data.toList.drop 94 = dktX5_find_4 := dk_seg dksX5_find_3 23 rfl rfl
theorem dX5_find_0 : decode cX5_find 0 = .ok (.aload_n 0, 1) := dk_42 (dk_at dksX5_find_0 0 rfl rfl)
theorem dX5_find_1 : decode cX5_find 1 = .ok (.iconst (-1), 1) := dk_2 (dk_at dksX5_find_0 1 rfl rfl)
theorem dX5_find_2 : decode cX5_find 2 = .ok (.putfield 53, 3) := dk_181 0 53 (dk_at dksX5_find_0 2 rfl rfl)
theorem dX5_find_5 : decode cX5_find 5 = .ok (.aload_n 0, 1) := dk_42 (dk_at dksX5_find_0 5 rfl rfl)
theorem dX5_find_6 : decode cX5_find 6 = .ok (.iconst (-1), 1) := dk_2 (dk_at dksX5_find_0 6 rfl rfl)
theorem dX5_find_7 : decode cX5_find 7 = .ok (.putfield 56, 3) := dk_181 0 56 (dk_at dksX5_find_0 7 rfl rfl)
theorem dX5_find_10 : decode cX5_find 10 = .ok (.iconst 0, 1) := dk_3 (dk_at dksX5_find_0 10 rfl rfl)
theorem dX5_find_11 : decode cX5_find 11 = .ok (.istore_n 2, 1) := dk_61 (dk_at dksX5_find_0 11 rfl rfl)
theorem dX5_find_12 : decode cX5_find 12 = .ok (.iload_n 2, 1) := dk_28 (dk_at dksX5_find_0 12 rfl rfl)
theorem dX5_find_13 : decode cX5_find 13 = .ok (.aload_n 0, 1) := dk_42 (dk_at dksX5_find_0 13 rfl rfl)
theorem dX5_find_14 : decode cX5_find 14 = .ok (.getfield 135, 3) := dk_180 0 135 (dk_at dksX5_find_0 14 rfl rfl)
theorem dX5_find_17 : decode cX5_find 17 = .ok (.if_icmp .gt 69, 3) := dk_163 0 69 (dk_at dksX5_find_0 17 rfl rfl)
theorem dX5_find_20 : decode cX5_find 20 = .ok (.iload_n 2, 1) := dk_28 (dk_at dksX5_find_0 20 rfl rfl)
theorem dX5_find_21 : decode cX5_find 21 = .ok (.istore_n 3, 1) := dk_62 (dk_at dksX5_find_0 21 rfl rfl)
theorem dX5_find_22 : decode cX5_find 22 = .ok (.iload_n 3, 1) := dk_29 (dk_at dksX5_find_0 22 rfl rfl)
theorem dX5_find_23 : decode cX5_find 23 = .ok (.aload_n 0, 1) := dk_42 (dk_at dksX5_find_0 23 rfl rfl)
theorem dX5_find_24 : decode cX5_find 24 = .ok (.getfield 135, 3) := dk_180 0 135 (dk_at dksX5_find_1 0 rfl rfl)
theorem dX5_find_27 : decode cX5_find 27 = .ok (.if_icmp .gt 53, 3) := dk_163 0 53 (dk_at dksX5_find_1 3 rfl rfl)
theorem dX5_find_30 : decode cX5_find 30 = .ok (.aload_n 0, 1) := dk_42 (dk_at dksX5_find_1 6 rfl rfl)
theorem dX5_find_31 : decode cX5_find 31 = .ok (.iload_n 2, 1) := dk_28 (dk_at dksX5_find_1 7 rfl rfl)
theorem dX5_find_32 : decode cX5_find 32 = .ok (.iload_n 3, 1) := dk_29 (dk_at dksX5_find_1 8 rfl rfl)
theorem dX5_find_33 : decode cX5_find 33 = .ok (.invokevirtual 165, 3) := dk_182 0 165 (dk_at dksX5_find_1 9 rfl rfl)
theorem dX5_find_36 : decode cX5_find 36 = .ok (.ifCond .eq 38, 3) := dk_153 0 38 (dk_at dksX5_find_1 12 rfl rfl)
theorem dX5_find_39 : decode cX5_find 39 = .ok (.aload_n 0, 1) := dk_42 (dk_at dksX5_find_1 15 rfl rfl)
theorem dX5_find_40 : decode cX5_find 40 = .ok (.getfield 53, 3) := dk_180 0 53 (dk_at dksX5_find_1 16 rfl rfl)
theorem dX5_find_43 : decode cX5_find 43 = .ok (.ifCond .lt 21, 3) := dk_155 0 21 (dk_at dksX5_find_1 19 rfl rfl)
theorem dX5_find_46 : decode cX5_find 46 = .ok (.aload_n 0, 1) := dk_42 (dk_at dksX5_find_1 22 rfl rfl)
theorem dX5_find_47 : decode cX5_find 47 = .ok (.iload_n 1, 1) := dk_27 (dk_at dksX5_find_1 23 rfl rfl)
theorem dX5_find_48 : decode cX5_find 48 = .ok (.iload_n 2, 1) := dk_28 (dk_at dksX5_find_2 0 rfl rfl)
theorem dX5_find_49 : decode cX5_find 49 = .ok (.iload_n 3, 1) := dk_29 (dk_at dksX5_find_2 1 rfl rfl)
theorem dX5_find_50 : decode cX5_find 50 = .ok (.aload_n 0, 1) := dk_42 (dk_at dksX5_find_2 2 rfl rfl)
theorem dX5_find_51 : decode cX5_find 51 = .ok (.getfield 53, 3) := dk_180 0 53 (dk_at dksX5_find_2 3 rfl rfl)
theorem dX5_find_54 : decode cX5_find 54 = .ok (.aload_n 0, 1) := dk_42 (dk_at dksX5_find_2 6 rfl rfl)
theorem dX5_find_55 : decode cX5_find 55 = .ok (.getfield 56, 3) := dk_180 0 56 (dk_at dksX5_find_2 7 rfl rfl)
theorem dX5_find_58 : decode cX5_find 58 = .ok (.invokevirtual 169, 3) := dk_182 0 169 (dk_at dksX5_find_2 10 rfl rfl)
theorem dX5_find_61 : decode cX5_find 61 = .ok (.ifCond .eq 13, 3) := dk_153 0 13 (dk_at dksX5_find_2 13 rfl rfl)
theorem dX5_find_64 : decode cX5_find 64 = .ok (.aload_n 0, 1) := dk_42 (dk_at dksX5_find_2 16 rfl rfl)
theorem dX5_find_65 : decode cX5_find 65 = .ok (.iload_n 2, 1) := dk_28 (dk_at dksX5_find_2 17 rfl rfl)
theorem dX5_find_66 : decode cX5_find 66 = .ok (.putfield 53, 3) := dk_181 0 53 (dk_at dksX5_find_2 18 rfl rfl)
theorem dX5_find_69 : decode cX5_find 69 = .ok (.aload_n 0, 1) := dk_42 (dk_at dksX5_find_2 21 rfl rfl)
theorem dX5_find_70 : decode cX5_find 70 = .ok (.iload_n 3, 1) := dk_29 (dk_at dksX5_find_2 22 rfl rfl)
theorem dX5_find_71 : decode cX5_find 71 = .ok (.putfield 56, 3) := dk_181 0 56 (dk_at dksX5_find_3 0 rfl rfl)
theorem dX5_find_74 : decode cX5_find 74 = .ok (.iinc 3 1, 3) := dk_132 3 1 (dk_at dksX5_find_3 3 rfl rfl)
theorem dX5_find_77 : decode cX5_find 77 = .ok (.goto (-55), 3) := dk_167 255 201 (dk_at dksX5_find_3 6 rfl rfl)
theorem dX5_find_80 : decode cX5_find 80 = .ok (.iinc 2 1, 3) := dk_132 2 1 (dk_at dksX5_find_3 9 rfl rfl)
theorem dX5_find_83 : decode cX5_find 83 = .ok (.goto (-71), 3) := dk_167 255 185 (dk_at dksX5_find_3 12 rfl rfl)
theorem dX5_find_86 : decode cX5_find 86 = .ok (.aload_n 0, 1) := dk_42 (dk_at dksX5_find_3 15 rfl rfl)
theorem dX5_find_87 : decode cX5_find 87 = .ok (.getfield 53, 3) := dk_180 0 53 (dk_at dksX5_find_3 16 rfl rfl)
theorem dX5_find_90 : decode cX5_find 90 = .ok (.ifCond .ge 7, 3) := dk_156 0 7 (dk_at dksX5_find_3 19 rfl rfl)
theorem dX5_find_93 : decode cX5_find 93 = .ok (.iconst (-1), 1) := dk_2 (dk_at dksX5_find_3 22 rfl rfl)
theorem dX5_find_94 : decode cX5_find 94 = .ok (.goto 15, 3) := dk_167 0 15 (dk_at dksX5_find_4 0 rfl rfl)
theorem dX5_find_97 : decode cX5_find 97 = .ok (.aload_n 0, 1) := dk_42 (dk_at dksX5_find_4 3 rfl rfl)
theorem dX5_find_98 : decode cX5_find 98 = .ok (.aload_n 0, 1) := dk_42 (dk_at dksX5_find_4 4 rfl rfl)
theorem dX5_find_99 : decode cX5_find 99 = .ok (.getfield 53, 3) := dk_180 0 53 (dk_at dksX5_find_4 5 rfl rfl)
theorem dX5_find_102 : decode cX5_find 102 = .ok (.aload_n 0, 1) := dk_42 (dk_at dksX5_find_4 8 rfl rfl)
theorem dX5_find_103 : decode cX5_find 103 = .ok (.getfield 56, 3) := dk_180 0 56 (dk_at dksX5_find_4 9 rfl rfl)
theorem dX5_find_106 : decode cX5_find 106 = .ok (.invokevirtual 162, 3) := dk_182 0 162 (dk_at dksX5_find_4 12 rfl rfl)
theorem dX5_find_109 : decode cX5_find 109 = .ok (.ireturn, 1) := dk_172 (dk_at dksX5_find_4 15 rfl rfl)
abbrev cX5_matches : ByteArray := prog_13_method_28_code
def yX5_matches : MethodName := ⟨RX5, "matches", "(II)Z"⟩
def dkwX5_matches_1 : List UInt8 := [172]
abbrev dktX5_matches_1 : List UInt8 := dkwX5_matches_1 ++ []
def dkwX5_matches_0 : List UInt8 := [42, 27, 28, 182, 0, 162, 62, 29, 155, 0, 15, 29, 42, 180, 0, 132, 163, 0, 7, 4, 167, 0, 4, 3]
abbrev dktX5_matches_0 : List UInt8 := dkwX5_matches_0 ++ dktX5_matches_1
theorem dksX5_matches_0 : cX5_matches.data.toList.drop 0 = dktX5_matches_0 := by decide +kernel
theorem dksX5_matches_1 : cX5_matches.data.toList.drop 24 = dktX5_matches_1 := dk_seg dksX5_matches_0 24 rfl rfl
theorem dX5_matches_0 : decode cX5_matches 0 = .ok (.aload_n 0, 1) := dk_42 (dk_at dksX5_matches_0 0 rfl rfl)
theorem dX5_matches_1 : decode cX5_matches 1 = .ok (.iload_n 1, 1) := dk_27 (dk_at dksX5_matches_0 1 rfl rfl)
theorem dX5_matches_2 : decode cX5_matches 2 = .ok (.iload_n 2, 1) := dk_28 (dk_at dksX5_matches_0 2 rfl rfl)
theorem dX5_matches_3 : decode cX5_matches 3 = .ok (.invokevirtual 162, 3) := dk_182 0 162 (dk_at dksX5_matches_0 3 rfl rfl)
theorem dX5_matches_6 : decode cX5_matches 6 = .ok (.istore_n 3, 1) := dk_62 (dk_at dksX5_matches_0 6 rfl rfl)
theorem dX5_matches_7 : decode cX5_matches 7 = .ok (.iload_n 3, 1) := dk_29 (dk_at dksX5_matches_0 7 rfl rfl)
theorem dX5_matches_8 : decode cX5_matches 8 = .ok (.ifCond .lt 15, 3) := dk_155 0 15 (dk_at dksX5_matches_0 8 rfl rfl)
theorem dX5_matches_11 : decode cX5_matches 11 = .ok (.iload_n 3, 1) := dk_29 (dk_at dksX5_matches_0 11 rfl rfl)
theorem dX5_matches_12 : decode cX5_matches 12 = .ok (.aload_n 0, 1) := dk_42 (dk_at dksX5_matches_0 12 rfl rfl)
theorem dX5_matches_13 : decode cX5_matches 13 = .ok (.getfield 132, 3) := dk_180 0 132 (dk_at dksX5_matches_0 13 rfl rfl)
theorem dX5_matches_16 : decode cX5_matches 16 = .ok (.if_icmp .gt 7, 3) := dk_163 0 7 (dk_at dksX5_matches_0 16 rfl rfl)
theorem dX5_matches_19 : decode cX5_matches 19 = .ok (.iconst 1, 1) := dk_4 (dk_at dksX5_matches_0 19 rfl rfl)
theorem dX5_matches_20 : decode cX5_matches 20 = .ok (.goto 4, 3) := dk_167 0 4 (dk_at dksX5_matches_0 20 rfl rfl)
theorem dX5_matches_23 : decode cX5_matches 23 = .ok (.iconst 0, 1) := dk_3 (dk_at dksX5_matches_0 23 rfl rfl)
theorem dX5_matches_24 : decode cX5_matches 24 = .ok (.ireturn, 1) := dk_172 (dk_at dksX5_matches_1 0 rfl rfl)
abbrev cX5_before : ByteArray := prog_13_method_29_code
def yX5_before : MethodName := ⟨RX5, "before", "(ZIIII)Z"⟩
def dkwX5_before_4 : List UInt8 := [3, 172]
abbrev dktX5_before_4 : List UInt8 := dkwX5_before_4 ++ []
def dkwX5_before_3 : List UInt8 := [21, 6, 21, 7, 161, 0, 16, 21, 6, 21, 7, 160, 0, 13, 29, 21, 5, 164, 0, 7, 4, 167, 0, 4]
abbrev dktX5_before_3 : List UInt8 := dkwX5_before_3 ++ dktX5_before_4
def dkwX5_before_2 : List UInt8 := [29, 21, 5, 164, 0, 7, 4, 167, 0, 4, 3, 172, 28, 21, 4, 161, 0, 29, 28, 21, 4, 160, 0, 27]
abbrev dktX5_before_2 : List UInt8 := dkwX5_before_2 ++ dktX5_before_3
def dkwX5_before_1 : List UInt8 := [21, 7, 161, 0, 28, 21, 6, 21, 7, 160, 0, 25, 28, 21, 4, 161, 0, 15, 28, 21, 4, 160, 0, 13]
abbrev dktX5_before_1 : List UInt8 := dkwX5_before_1 ++ dktX5_before_2
def dkwX5_before_0 : List UInt8 := [42, 28, 29, 182, 0, 162, 54, 6, 42, 21, 4, 21, 5, 182, 0, 162, 54, 7, 27, 153, 0, 41, 21, 6]
abbrev dktX5_before_0 : List UInt8 := dkwX5_before_0 ++ dktX5_before_1
theorem dksX5_before_0 : cX5_before.data.toList.drop 0 = dktX5_before_0 := by decide +kernel
theorem dksX5_before_1 : cX5_before.data.toList.drop 24 = dktX5_before_1 := dk_seg dksX5_before_0 24 rfl rfl
theorem dksX5_before_2 : cX5_before.data.toList.drop 48 = dktX5_before_2 := dk_seg dksX5_before_1 24 rfl rfl
theorem dksX5_before_3 : cX5_before.data.toList.drop 72 = dktX5_before_3 := dk_seg dksX5_before_2 24 rfl rfl
theorem dksX5_before_4 : cX5_before.data.toList.drop 96 = dktX5_before_4 := dk_seg dksX5_before_3 24 rfl rfl
theorem dX5_before_0 : decode cX5_before 0 = .ok (.aload_n 0, 1) := dk_42 (dk_at dksX5_before_0 0 rfl rfl)
theorem dX5_before_1 : decode cX5_before 1 = .ok (.iload_n 2, 1) := dk_28 (dk_at dksX5_before_0 1 rfl rfl)
theorem dX5_before_2 : decode cX5_before 2 = .ok (.iload_n 3, 1) := dk_29 (dk_at dksX5_before_0 2 rfl rfl)
theorem dX5_before_3 : decode cX5_before 3 = .ok (.invokevirtual 162, 3) := dk_182 0 162 (dk_at dksX5_before_0 3 rfl rfl)
theorem dX5_before_6 : decode cX5_before 6 = .ok (.istore 6, 2) := dk_54 6 (dk_at dksX5_before_0 6 rfl rfl)
theorem dX5_before_8 : decode cX5_before 8 = .ok (.aload_n 0, 1) := dk_42 (dk_at dksX5_before_0 8 rfl rfl)
theorem dX5_before_9 : decode cX5_before 9 = .ok (.iload 4, 2) := dk_21 4 (dk_at dksX5_before_0 9 rfl rfl)
theorem dX5_before_11 : decode cX5_before 11 = .ok (.iload 5, 2) := dk_21 5 (dk_at dksX5_before_0 11 rfl rfl)
theorem dX5_before_13 : decode cX5_before 13 = .ok (.invokevirtual 162, 3) := dk_182 0 162 (dk_at dksX5_before_0 13 rfl rfl)
theorem dX5_before_16 : decode cX5_before 16 = .ok (.istore 7, 2) := dk_54 7 (dk_at dksX5_before_0 16 rfl rfl)
theorem dX5_before_18 : decode cX5_before 18 = .ok (.iload_n 1, 1) := dk_27 (dk_at dksX5_before_0 18 rfl rfl)
theorem dX5_before_19 : decode cX5_before 19 = .ok (.ifCond .eq 41, 3) := dk_153 0 41 (dk_at dksX5_before_0 19 rfl rfl)
theorem dX5_before_22 : decode cX5_before 22 = .ok (.iload 6, 2) := dk_21 6 (dk_at dksX5_before_0 22 rfl rfl)
theorem dX5_before_24 : decode cX5_before 24 = .ok (.iload 7, 2) := dk_21 7 (dk_at dksX5_before_1 0 rfl rfl)
theorem dX5_before_26 : decode cX5_before 26 = .ok (.if_icmp .lt 28, 3) := dk_161 0 28 (dk_at dksX5_before_1 2 rfl rfl)
theorem dX5_before_29 : decode cX5_before 29 = .ok (.iload 6, 2) := dk_21 6 (dk_at dksX5_before_1 5 rfl rfl)
theorem dX5_before_31 : decode cX5_before 31 = .ok (.iload 7, 2) := dk_21 7 (dk_at dksX5_before_1 7 rfl rfl)
theorem dX5_before_33 : decode cX5_before 33 = .ok (.if_icmp .ne 25, 3) := dk_160 0 25 (dk_at dksX5_before_1 9 rfl rfl)
theorem dX5_before_36 : decode cX5_before 36 = .ok (.iload_n 2, 1) := dk_28 (dk_at dksX5_before_1 12 rfl rfl)
theorem dX5_before_37 : decode cX5_before 37 = .ok (.iload 4, 2) := dk_21 4 (dk_at dksX5_before_1 13 rfl rfl)
theorem dX5_before_39 : decode cX5_before 39 = .ok (.if_icmp .lt 15, 3) := dk_161 0 15 (dk_at dksX5_before_1 15 rfl rfl)
theorem dX5_before_42 : decode cX5_before 42 = .ok (.iload_n 2, 1) := dk_28 (dk_at dksX5_before_1 18 rfl rfl)
theorem dX5_before_43 : decode cX5_before 43 = .ok (.iload 4, 2) := dk_21 4 (dk_at dksX5_before_1 19 rfl rfl)
theorem dX5_before_45 : decode cX5_before 45 = .ok (.if_icmp .ne 13, 3) := dk_160 0 13 (dk_at dksX5_before_1 21 rfl rfl)
theorem dX5_before_48 : decode cX5_before 48 = .ok (.iload_n 3, 1) := dk_29 (dk_at dksX5_before_2 0 rfl rfl)
theorem dX5_before_49 : decode cX5_before 49 = .ok (.iload 5, 2) := dk_21 5 (dk_at dksX5_before_2 1 rfl rfl)
theorem dX5_before_51 : decode cX5_before 51 = .ok (.if_icmp .le 7, 3) := dk_164 0 7 (dk_at dksX5_before_2 3 rfl rfl)
theorem dX5_before_54 : decode cX5_before 54 = .ok (.iconst 1, 1) := dk_4 (dk_at dksX5_before_2 6 rfl rfl)
theorem dX5_before_55 : decode cX5_before 55 = .ok (.goto 4, 3) := dk_167 0 4 (dk_at dksX5_before_2 7 rfl rfl)
theorem dX5_before_58 : decode cX5_before 58 = .ok (.iconst 0, 1) := dk_3 (dk_at dksX5_before_2 10 rfl rfl)
theorem dX5_before_59 : decode cX5_before 59 = .ok (.ireturn, 1) := dk_172 (dk_at dksX5_before_2 11 rfl rfl)
theorem dX5_before_60 : decode cX5_before 60 = .ok (.iload_n 2, 1) := dk_28 (dk_at dksX5_before_2 12 rfl rfl)
theorem dX5_before_61 : decode cX5_before 61 = .ok (.iload 4, 2) := dk_21 4 (dk_at dksX5_before_2 13 rfl rfl)
theorem dX5_before_63 : decode cX5_before 63 = .ok (.if_icmp .lt 29, 3) := dk_161 0 29 (dk_at dksX5_before_2 15 rfl rfl)
theorem dX5_before_66 : decode cX5_before 66 = .ok (.iload_n 2, 1) := dk_28 (dk_at dksX5_before_2 18 rfl rfl)
theorem dX5_before_67 : decode cX5_before 67 = .ok (.iload 4, 2) := dk_21 4 (dk_at dksX5_before_2 19 rfl rfl)
theorem dX5_before_69 : decode cX5_before 69 = .ok (.if_icmp .ne 27, 3) := dk_160 0 27 (dk_at dksX5_before_2 21 rfl rfl)
theorem dX5_before_72 : decode cX5_before 72 = .ok (.iload 6, 2) := dk_21 6 (dk_at dksX5_before_3 0 rfl rfl)
theorem dX5_before_74 : decode cX5_before 74 = .ok (.iload 7, 2) := dk_21 7 (dk_at dksX5_before_3 2 rfl rfl)
theorem dX5_before_76 : decode cX5_before 76 = .ok (.if_icmp .lt 16, 3) := dk_161 0 16 (dk_at dksX5_before_3 4 rfl rfl)
theorem dX5_before_79 : decode cX5_before 79 = .ok (.iload 6, 2) := dk_21 6 (dk_at dksX5_before_3 7 rfl rfl)
theorem dX5_before_81 : decode cX5_before 81 = .ok (.iload 7, 2) := dk_21 7 (dk_at dksX5_before_3 9 rfl rfl)
theorem dX5_before_83 : decode cX5_before 83 = .ok (.if_icmp .ne 13, 3) := dk_160 0 13 (dk_at dksX5_before_3 11 rfl rfl)
theorem dX5_before_86 : decode cX5_before 86 = .ok (.iload_n 3, 1) := dk_29 (dk_at dksX5_before_3 14 rfl rfl)
theorem dX5_before_87 : decode cX5_before 87 = .ok (.iload 5, 2) := dk_21 5 (dk_at dksX5_before_3 15 rfl rfl)
theorem dX5_before_89 : decode cX5_before 89 = .ok (.if_icmp .le 7, 3) := dk_164 0 7 (dk_at dksX5_before_3 17 rfl rfl)
theorem dX5_before_92 : decode cX5_before 92 = .ok (.iconst 1, 1) := dk_4 (dk_at dksX5_before_3 20 rfl rfl)
theorem dX5_before_93 : decode cX5_before 93 = .ok (.goto 4, 3) := dk_167 0 4 (dk_at dksX5_before_3 21 rfl rfl)
theorem dX5_before_96 : decode cX5_before 96 = .ok (.iconst 0, 1) := dk_3 (dk_at dksX5_before_4 0 rfl rfl)
theorem dX5_before_97 : decode cX5_before 97 = .ok (.ireturn, 1) := dk_172 (dk_at dksX5_before_4 1 rfl rfl)
abbrev cX5_from : ByteArray := prog_13_method_31_code
def yX5_from : MethodName := ⟨RX5, "from", "()I"⟩
theorem dX5_from_0 : decode cX5_from 0 = .ok (.aload_n 0, 1) := by decide +kernel
theorem dX5_from_1 : decode cX5_from 1 = .ok (.getfield 53, 3) := by decide +kernel
theorem dX5_from_4 : decode cX5_from 4 = .ok (.ireturn, 1) := by decide +kernel
abbrev cX5_to : ByteArray := prog_13_method_32_code
def yX5_to : MethodName := ⟨RX5, "to", "()I"⟩
theorem dX5_to_0 : decode cX5_to 0 = .ok (.aload_n 0, 1) := by decide +kernel
theorem dX5_to_1 : decode cX5_to 1 = .ok (.getfield 56, 3) := by decide +kernel
theorem dX5_to_4 : decode cX5_to 4 = .ok (.ireturn, 1) := by decide +kernel
abbrev cX5_ends : ByteArray := prog_13_method_33_code
def yX5_ends : MethodName := ⟨RX5, "ends", "()I"⟩
def dkwX5_ends_2 : List UInt8 := [132, 2, 1, 167, 255, 213, 27, 172]
abbrev dktX5_ends_2 : List UInt8 := dkwX5_ends_2 ++ []
def dkwX5_ends_1 : List UInt8 := [182, 0, 165, 153, 0, 11, 27, 4, 28, 120, 128, 167, 0, 4, 27, 60, 132, 3, 1, 167, 255, 229]
abbrev dktX5_ends_1 : List UInt8 := dkwX5_ends_1 ++ dktX5_ends_2
def dkwX5_ends_0 : List UInt8 := [3, 60, 3, 61, 28, 42, 180, 0, 135, 163, 0, 41, 3, 62, 29, 28, 163, 0, 28, 42, 29, 28]
abbrev dktX5_ends_0 : List UInt8 := dkwX5_ends_0 ++ dktX5_ends_1
theorem dksX5_ends_0 : cX5_ends.data.toList.drop 0 = dktX5_ends_0 := by decide +kernel
theorem dksX5_ends_1 : cX5_ends.data.toList.drop 22 = dktX5_ends_1 := dk_seg dksX5_ends_0 22 rfl rfl
theorem dksX5_ends_2 : cX5_ends.data.toList.drop 44 = dktX5_ends_2 := dk_seg dksX5_ends_1 22 rfl rfl
theorem dX5_ends_0 : decode cX5_ends 0 = .ok (.iconst 0, 1) := dk_3 (dk_at dksX5_ends_0 0 rfl rfl)
theorem dX5_ends_1 : decode cX5_ends 1 = .ok (.istore_n 1, 1) := dk_60 (dk_at dksX5_ends_0 1 rfl rfl)
theorem dX5_ends_2 : decode cX5_ends 2 = .ok (.iconst 0, 1) := dk_3 (dk_at dksX5_ends_0 2 rfl rfl)
theorem dX5_ends_3 : decode cX5_ends 3 = .ok (.istore_n 2, 1) := dk_61 (dk_at dksX5_ends_0 3 rfl rfl)
theorem dX5_ends_4 : decode cX5_ends 4 = .ok (.iload_n 2, 1) := dk_28 (dk_at dksX5_ends_0 4 rfl rfl)
theorem dX5_ends_5 : decode cX5_ends 5 = .ok (.aload_n 0, 1) := dk_42 (dk_at dksX5_ends_0 5 rfl rfl)
theorem dX5_ends_6 : decode cX5_ends 6 = .ok (.getfield 135, 3) := dk_180 0 135 (dk_at dksX5_ends_0 6 rfl rfl)
theorem dX5_ends_9 : decode cX5_ends 9 = .ok (.if_icmp .gt 41, 3) := dk_163 0 41 (dk_at dksX5_ends_0 9 rfl rfl)
theorem dX5_ends_12 : decode cX5_ends 12 = .ok (.iconst 0, 1) := dk_3 (dk_at dksX5_ends_0 12 rfl rfl)
theorem dX5_ends_13 : decode cX5_ends 13 = .ok (.istore_n 3, 1) := dk_62 (dk_at dksX5_ends_0 13 rfl rfl)
theorem dX5_ends_14 : decode cX5_ends 14 = .ok (.iload_n 3, 1) := dk_29 (dk_at dksX5_ends_0 14 rfl rfl)
theorem dX5_ends_15 : decode cX5_ends 15 = .ok (.iload_n 2, 1) := dk_28 (dk_at dksX5_ends_0 15 rfl rfl)
theorem dX5_ends_16 : decode cX5_ends 16 = .ok (.if_icmp .gt 28, 3) := dk_163 0 28 (dk_at dksX5_ends_0 16 rfl rfl)
theorem dX5_ends_19 : decode cX5_ends 19 = .ok (.aload_n 0, 1) := dk_42 (dk_at dksX5_ends_0 19 rfl rfl)
theorem dX5_ends_20 : decode cX5_ends 20 = .ok (.iload_n 3, 1) := dk_29 (dk_at dksX5_ends_0 20 rfl rfl)
theorem dX5_ends_21 : decode cX5_ends 21 = .ok (.iload_n 2, 1) := dk_28 (dk_at dksX5_ends_0 21 rfl rfl)
theorem dX5_ends_22 : decode cX5_ends 22 = .ok (.invokevirtual 165, 3) := dk_182 0 165 (dk_at dksX5_ends_1 0 rfl rfl)
theorem dX5_ends_25 : decode cX5_ends 25 = .ok (.ifCond .eq 11, 3) := dk_153 0 11 (dk_at dksX5_ends_1 3 rfl rfl)
theorem dX5_ends_28 : decode cX5_ends 28 = .ok (.iload_n 1, 1) := dk_27 (dk_at dksX5_ends_1 6 rfl rfl)
theorem dX5_ends_29 : decode cX5_ends 29 = .ok (.iconst 1, 1) := dk_4 (dk_at dksX5_ends_1 7 rfl rfl)
theorem dX5_ends_30 : decode cX5_ends 30 = .ok (.iload_n 2, 1) := dk_28 (dk_at dksX5_ends_1 8 rfl rfl)
theorem dX5_ends_31 : decode cX5_ends 31 = .ok (.ishl, 1) := dk_120 (dk_at dksX5_ends_1 9 rfl rfl)
theorem dX5_ends_32 : decode cX5_ends 32 = .ok (.ior, 1) := dk_128 (dk_at dksX5_ends_1 10 rfl rfl)
theorem dX5_ends_33 : decode cX5_ends 33 = .ok (.goto 4, 3) := dk_167 0 4 (dk_at dksX5_ends_1 11 rfl rfl)
theorem dX5_ends_36 : decode cX5_ends 36 = .ok (.iload_n 1, 1) := dk_27 (dk_at dksX5_ends_1 14 rfl rfl)
theorem dX5_ends_37 : decode cX5_ends 37 = .ok (.istore_n 1, 1) := dk_60 (dk_at dksX5_ends_1 15 rfl rfl)
theorem dX5_ends_38 : decode cX5_ends 38 = .ok (.iinc 3 1, 3) := dk_132 3 1 (dk_at dksX5_ends_1 16 rfl rfl)
theorem dX5_ends_41 : decode cX5_ends 41 = .ok (.goto (-27), 3) := dk_167 255 229 (dk_at dksX5_ends_1 19 rfl rfl)
theorem dX5_ends_44 : decode cX5_ends 44 = .ok (.iinc 2 1, 3) := dk_132 2 1 (dk_at dksX5_ends_2 0 rfl rfl)
theorem dX5_ends_47 : decode cX5_ends 47 = .ok (.goto (-43), 3) := dk_167 255 213 (dk_at dksX5_ends_2 3 rfl rfl)
theorem dX5_ends_50 : decode cX5_ends 50 = .ok (.iload_n 1, 1) := dk_27 (dk_at dksX5_ends_2 6 rfl rfl)
theorem dX5_ends_51 : decode cX5_ends 51 = .ok (.ireturn, 1) := dk_172 (dk_at dksX5_ends_2 7 rfl rfl)
abbrev cX5_add : ByteArray := prog_13_method_34_code
def yX5_add : MethodName := ⟨RX5, "add", "()I"⟩
def dkwX5_add_5 : List UInt8 := [100, 172]
abbrev dktX5_add_5 : List UInt8 := dkwX5_add_5 ++ []
def dkwX5_add_4 : List UInt8 := [27, 46, 79, 132, 1, 1, 167, 255, 225, 42, 89, 180, 0, 173, 4, 96, 181, 0, 173, 42, 180, 0, 173, 4]
abbrev dktX5_add_4 : List UInt8 := dkwX5_add_4 ++ dktX5_add_5
def dkwX5_add_3 : List UInt8 := [42, 180, 0, 135, 162, 0, 29, 42, 180, 0, 62, 16, 12, 42, 180, 0, 173, 104, 27, 96, 42, 180, 0, 47]
abbrev dktX5_add_3 : List UInt8 := dkwX5_add_3 ++ dktX5_add_4
def dkwX5_add_2 : List UInt8 := [2, 172, 132, 1, 1, 167, 255, 234, 42, 180, 0, 59, 42, 180, 0, 173, 42, 180, 0, 135, 79, 3, 60, 27]
abbrev dktX5_add_2 : List UInt8 := dkwX5_add_2 ++ dktX5_add_3
def dkwX5_add_1 : List UInt8 := [160, 0, 5, 2, 172, 3, 60, 27, 42, 180, 0, 173, 162, 0, 20, 42, 27, 3, 182, 0, 176, 154, 0, 5]
abbrev dktX5_add_1 : List UInt8 := dkwX5_add_1 ++ dktX5_add_2
def dkwX5_add_0 : List UInt8 := [42, 180, 0, 135, 153, 0, 21, 42, 180, 0, 135, 16, 12, 163, 0, 12, 42, 180, 0, 173, 16, 20]
abbrev dktX5_add_0 : List UInt8 := dkwX5_add_0 ++ dktX5_add_1
theorem dksX5_add_0 : cX5_add.data.toList.drop 0 = dktX5_add_0 := by decide +kernel
theorem dksX5_add_1 : cX5_add.data.toList.drop 22 = dktX5_add_1 := dk_seg dksX5_add_0 22 rfl rfl
theorem dksX5_add_2 : cX5_add.data.toList.drop 46 = dktX5_add_2 := dk_seg dksX5_add_1 24 rfl rfl
theorem dksX5_add_3 : cX5_add.data.toList.drop 70 = dktX5_add_3 := dk_seg dksX5_add_2 24 rfl rfl
theorem dksX5_add_4 : cX5_add.data.toList.drop 94 = dktX5_add_4 := dk_seg dksX5_add_3 24 rfl rfl
theorem dksX5_add_5 : cX5_add.data.toList.drop 118 = dktX5_add_5 := dk_seg dksX5_add_4 24 rfl rfl
theorem dX5_add_0 : decode cX5_add 0 = .ok (.aload_n 0, 1) := dk_42 (dk_at dksX5_add_0 0 rfl rfl)
theorem dX5_add_1 : decode cX5_add 1 = .ok (.getfield 135, 3) := dk_180 0 135 (dk_at dksX5_add_0 1 rfl rfl)
theorem dX5_add_4 : decode cX5_add 4 = .ok (.ifCond .eq 21, 3) := dk_153 0 21 (dk_at dksX5_add_0 4 rfl rfl)
theorem dX5_add_7 : decode cX5_add 7 = .ok (.aload_n 0, 1) := dk_42 (dk_at dksX5_add_0 7 rfl rfl)
theorem dX5_add_8 : decode cX5_add 8 = .ok (.getfield 135, 3) := dk_180 0 135 (dk_at dksX5_add_0 8 rfl rfl)
theorem dX5_add_11 : decode cX5_add 11 = .ok (.bipush 12, 2) := dk_16 12 (dk_at dksX5_add_0 11 rfl rfl)
theorem dX5_add_13 : decode cX5_add 13 = .ok (.if_icmp .gt 12, 3) := dk_163 0 12 (dk_at dksX5_add_0 13 rfl rfl)
theorem dX5_add_16 : decode cX5_add 16 = .ok (.aload_n 0, 1) := dk_42 (dk_at dksX5_add_0 16 rfl rfl)
theorem dX5_add_17 : decode cX5_add 17 = .ok (.getfield 173, 3) := dk_180 0 173 (dk_at dksX5_add_0 17 rfl rfl)
theorem dX5_add_20 : decode cX5_add 20 = .ok (.bipush 20, 2) := dk_16 20 (dk_at dksX5_add_0 20 rfl rfl)
theorem dX5_add_22 : decode cX5_add 22 = .ok (.if_icmp .ne 5, 3) := dk_160 0 5 (dk_at dksX5_add_1 0 rfl rfl)
theorem dX5_add_25 : decode cX5_add 25 = .ok (.iconst (-1), 1) := dk_2 (dk_at dksX5_add_1 3 rfl rfl)
theorem dX5_add_26 : decode cX5_add 26 = .ok (.ireturn, 1) := dk_172 (dk_at dksX5_add_1 4 rfl rfl)
theorem dX5_add_27 : decode cX5_add 27 = .ok (.iconst 0, 1) := dk_3 (dk_at dksX5_add_1 5 rfl rfl)
theorem dX5_add_28 : decode cX5_add 28 = .ok (.istore_n 1, 1) := dk_60 (dk_at dksX5_add_1 6 rfl rfl)
theorem dX5_add_29 : decode cX5_add 29 = .ok (.iload_n 1, 1) := dk_27 (dk_at dksX5_add_1 7 rfl rfl)
theorem dX5_add_30 : decode cX5_add 30 = .ok (.aload_n 0, 1) := dk_42 (dk_at dksX5_add_1 8 rfl rfl)
theorem dX5_add_31 : decode cX5_add 31 = .ok (.getfield 173, 3) := dk_180 0 173 (dk_at dksX5_add_1 9 rfl rfl)
theorem dX5_add_34 : decode cX5_add 34 = .ok (.if_icmp .ge 20, 3) := dk_162 0 20 (dk_at dksX5_add_1 12 rfl rfl)
theorem dX5_add_37 : decode cX5_add 37 = .ok (.aload_n 0, 1) := dk_42 (dk_at dksX5_add_1 15 rfl rfl)
theorem dX5_add_38 : decode cX5_add 38 = .ok (.iload_n 1, 1) := dk_27 (dk_at dksX5_add_1 16 rfl rfl)
theorem dX5_add_39 : decode cX5_add 39 = .ok (.iconst 0, 1) := dk_3 (dk_at dksX5_add_1 17 rfl rfl)
theorem dX5_add_40 : decode cX5_add 40 = .ok (.invokevirtual 176, 3) := dk_182 0 176 (dk_at dksX5_add_1 18 rfl rfl)
theorem dX5_add_43 : decode cX5_add 43 = .ok (.ifCond .ne 5, 3) := dk_154 0 5 (dk_at dksX5_add_1 21 rfl rfl)
theorem dX5_add_46 : decode cX5_add 46 = .ok (.iconst (-1), 1) := dk_2 (dk_at dksX5_add_2 0 rfl rfl)
theorem dX5_add_47 : decode cX5_add 47 = .ok (.ireturn, 1) := dk_172 (dk_at dksX5_add_2 1 rfl rfl)
theorem dX5_add_48 : decode cX5_add 48 = .ok (.iinc 1 1, 3) := dk_132 1 1 (dk_at dksX5_add_2 2 rfl rfl)
theorem dX5_add_51 : decode cX5_add 51 = .ok (.goto (-22), 3) := dk_167 255 234 (dk_at dksX5_add_2 5 rfl rfl)
theorem dX5_add_54 : decode cX5_add 54 = .ok (.aload_n 0, 1) := dk_42 (dk_at dksX5_add_2 8 rfl rfl)
theorem dX5_add_55 : decode cX5_add 55 = .ok (.getfield 59, 3) := dk_180 0 59 (dk_at dksX5_add_2 9 rfl rfl)
theorem dX5_add_58 : decode cX5_add 58 = .ok (.aload_n 0, 1) := dk_42 (dk_at dksX5_add_2 12 rfl rfl)
theorem dX5_add_59 : decode cX5_add 59 = .ok (.getfield 173, 3) := dk_180 0 173 (dk_at dksX5_add_2 13 rfl rfl)
theorem dX5_add_62 : decode cX5_add 62 = .ok (.aload_n 0, 1) := dk_42 (dk_at dksX5_add_2 16 rfl rfl)
theorem dX5_add_63 : decode cX5_add 63 = .ok (.getfield 135, 3) := dk_180 0 135 (dk_at dksX5_add_2 17 rfl rfl)
theorem dX5_add_66 : decode cX5_add 66 = .ok (.iastore, 1) := dk_79 (dk_at dksX5_add_2 20 rfl rfl)
theorem dX5_add_67 : decode cX5_add 67 = .ok (.iconst 0, 1) := dk_3 (dk_at dksX5_add_2 21 rfl rfl)
theorem dX5_add_68 : decode cX5_add 68 = .ok (.istore_n 1, 1) := dk_60 (dk_at dksX5_add_2 22 rfl rfl)
theorem dX5_add_69 : decode cX5_add 69 = .ok (.iload_n 1, 1) := dk_27 (dk_at dksX5_add_2 23 rfl rfl)
theorem dX5_add_70 : decode cX5_add 70 = .ok (.aload_n 0, 1) := dk_42 (dk_at dksX5_add_3 0 rfl rfl)
theorem dX5_add_71 : decode cX5_add 71 = .ok (.getfield 135, 3) := dk_180 0 135 (dk_at dksX5_add_3 1 rfl rfl)
theorem dX5_add_74 : decode cX5_add 74 = .ok (.if_icmp .ge 29, 3) := dk_162 0 29 (dk_at dksX5_add_3 4 rfl rfl)
theorem dX5_add_77 : decode cX5_add 77 = .ok (.aload_n 0, 1) := dk_42 (dk_at dksX5_add_3 7 rfl rfl)
theorem dX5_add_78 : decode cX5_add 78 = .ok (.getfield 62, 3) := dk_180 0 62 (dk_at dksX5_add_3 8 rfl rfl)
theorem dX5_add_81 : decode cX5_add 81 = .ok (.bipush 12, 2) := dk_16 12 (dk_at dksX5_add_3 11 rfl rfl)
theorem dX5_add_83 : decode cX5_add 83 = .ok (.aload_n 0, 1) := dk_42 (dk_at dksX5_add_3 13 rfl rfl)
theorem dX5_add_84 : decode cX5_add 84 = .ok (.getfield 173, 3) := dk_180 0 173 (dk_at dksX5_add_3 14 rfl rfl)
theorem dX5_add_87 : decode cX5_add 87 = .ok (.imul, 1) := dk_104 (dk_at dksX5_add_3 17 rfl rfl)
theorem dX5_add_88 : decode cX5_add 88 = .ok (.iload_n 1, 1) := dk_27 (dk_at dksX5_add_3 18 rfl rfl)
theorem dX5_add_89 : decode cX5_add 89 = .ok (.iadd, 1) := dk_96 (dk_at dksX5_add_3 19 rfl rfl)
theorem dX5_add_90 : decode cX5_add 90 = .ok (.aload_n 0, 1) := dk_42 (dk_at dksX5_add_3 20 rfl rfl)
theorem dX5_add_91 : decode cX5_add 91 = .ok (.getfield 47, 3) := dk_180 0 47 (dk_at dksX5_add_3 21 rfl rfl)
theorem dX5_add_94 : decode cX5_add 94 = .ok (.iload_n 1, 1) := dk_27 (dk_at dksX5_add_4 0 rfl rfl)
theorem dX5_add_95 : decode cX5_add 95 = .ok (.iaload, 1) := dk_46 (dk_at dksX5_add_4 1 rfl rfl)
theorem dX5_add_96 : decode cX5_add 96 = .ok (.iastore, 1) := dk_79 (dk_at dksX5_add_4 2 rfl rfl)
theorem dX5_add_97 : decode cX5_add 97 = .ok (.iinc 1 1, 3) := dk_132 1 1 (dk_at dksX5_add_4 3 rfl rfl)
theorem dX5_add_100 : decode cX5_add 100 = .ok (.goto (-31), 3) := dk_167 255 225 (dk_at dksX5_add_4 6 rfl rfl)
theorem dX5_add_103 : decode cX5_add 103 = .ok (.aload_n 0, 1) := dk_42 (dk_at dksX5_add_4 9 rfl rfl)
theorem dX5_add_104 : decode cX5_add 104 = .ok (.dup, 1) := dk_89 (dk_at dksX5_add_4 10 rfl rfl)
theorem dX5_add_105 : decode cX5_add 105 = .ok (.getfield 173, 3) := dk_180 0 173 (dk_at dksX5_add_4 11 rfl rfl)
theorem dX5_add_108 : decode cX5_add 108 = .ok (.iconst 1, 1) := dk_4 (dk_at dksX5_add_4 14 rfl rfl)
theorem dX5_add_109 : decode cX5_add 109 = .ok (.iadd, 1) := dk_96 (dk_at dksX5_add_4 15 rfl rfl)
theorem dX5_add_110 : decode cX5_add 110 = .ok (.putfield 173, 3) := dk_181 0 173 (dk_at dksX5_add_4 16 rfl rfl)
theorem dX5_add_113 : decode cX5_add 113 = .ok (.aload_n 0, 1) := dk_42 (dk_at dksX5_add_4 19 rfl rfl)
theorem dX5_add_114 : decode cX5_add 114 = .ok (.getfield 173, 3) := dk_180 0 173 (dk_at dksX5_add_4 20 rfl rfl)
theorem dX5_add_117 : decode cX5_add 117 = .ok (.iconst 1, 1) := dk_4 (dk_at dksX5_add_4 23 rfl rfl)
theorem dX5_add_118 : decode cX5_add 118 = .ok (.isub, 1) := dk_100 (dk_at dksX5_add_5 0 rfl rfl)
theorem dX5_add_119 : decode cX5_add 119 = .ok (.ireturn, 1) := dk_172 (dk_at dksX5_add_5 1 rfl rfl)
abbrev cX5_distance : ByteArray := prog_13_method_37_code
def yX5_distance : MethodName := ⟨RX5, "distance", "(IZ)I"⟩
def dkwX5_distance_3 : List UInt8 := [167, 255, 204, 42, 180, 0, 65, 16, 25, 42, 180, 0, 59, 27, 46, 104, 42, 180, 0, 135, 96, 46, 172]
abbrev dktX5_distance_3 : List UInt8 := dkwX5_distance_3 ++ []
def dkwX5_distance_2 : List UInt8 := [21, 4, 96, 42, 27, 29, 21, 4, 28, 182, 0, 180, 79, 132, 4, 1, 167, 255, 223, 132, 3, 1]
abbrev dktX5_distance_2 : List UInt8 := dkwX5_distance_2 ++ dktX5_distance_3
def dkwX5_distance_1 : List UInt8 := [163, 0, 48, 3, 54, 4, 21, 4, 42, 180, 0, 135, 163, 0, 30, 42, 180, 0, 65, 16, 25, 29, 104]
abbrev dktX5_distance_1 : List UInt8 := dkwX5_distance_1 ++ dktX5_distance_2
def dkwX5_distance_0 : List UInt8 := [27, 155, 0, 11, 27, 42, 180, 0, 173, 161, 0, 5, 2, 172, 3, 62, 29, 42, 180, 0, 59, 27, 46]
abbrev dktX5_distance_0 : List UInt8 := dkwX5_distance_0 ++ dktX5_distance_1
theorem dksX5_distance_0 : cX5_distance.data.toList.drop 0 = dktX5_distance_0 := by decide +kernel
theorem dksX5_distance_1 : cX5_distance.data.toList.drop 23 = dktX5_distance_1 := dk_seg dksX5_distance_0 23 rfl rfl
theorem dksX5_distance_2 : cX5_distance.data.toList.drop 46 = dktX5_distance_2 := dk_seg dksX5_distance_1 23 rfl rfl
theorem dksX5_distance_3 : cX5_distance.data.toList.drop 68 = dktX5_distance_3 := dk_seg dksX5_distance_2 22 rfl rfl
theorem dX5_distance_0 : decode cX5_distance 0 = .ok (.iload_n 1, 1) := dk_27 (dk_at dksX5_distance_0 0 rfl rfl)
theorem dX5_distance_1 : decode cX5_distance 1 = .ok (.ifCond .lt 11, 3) := dk_155 0 11 (dk_at dksX5_distance_0 1 rfl rfl)
theorem dX5_distance_4 : decode cX5_distance 4 = .ok (.iload_n 1, 1) := dk_27 (dk_at dksX5_distance_0 4 rfl rfl)
theorem dX5_distance_5 : decode cX5_distance 5 = .ok (.aload_n 0, 1) := dk_42 (dk_at dksX5_distance_0 5 rfl rfl)
theorem dX5_distance_6 : decode cX5_distance 6 = .ok (.getfield 173, 3) := dk_180 0 173 (dk_at dksX5_distance_0 6 rfl rfl)
theorem dX5_distance_9 : decode cX5_distance 9 = .ok (.if_icmp .lt 5, 3) := dk_161 0 5 (dk_at dksX5_distance_0 9 rfl rfl)
theorem dX5_distance_12 : decode cX5_distance 12 = .ok (.iconst (-1), 1) := dk_2 (dk_at dksX5_distance_0 12 rfl rfl)
theorem dX5_distance_13 : decode cX5_distance 13 = .ok (.ireturn, 1) := dk_172 (dk_at dksX5_distance_0 13 rfl rfl)
theorem dX5_distance_14 : decode cX5_distance 14 = .ok (.iconst 0, 1) := dk_3 (dk_at dksX5_distance_0 14 rfl rfl)
theorem dX5_distance_15 : decode cX5_distance 15 = .ok (.istore_n 3, 1) := dk_62 (dk_at dksX5_distance_0 15 rfl rfl)
theorem dX5_distance_16 : decode cX5_distance 16 = .ok (.iload_n 3, 1) := dk_29 (dk_at dksX5_distance_0 16 rfl rfl)
theorem dX5_distance_17 : decode cX5_distance 17 = .ok (.aload_n 0, 1) := dk_42 (dk_at dksX5_distance_0 17 rfl rfl)
theorem dX5_distance_18 : decode cX5_distance 18 = .ok (.getfield 59, 3) := dk_180 0 59 (dk_at dksX5_distance_0 18 rfl rfl)
theorem dX5_distance_21 : decode cX5_distance 21 = .ok (.iload_n 1, 1) := dk_27 (dk_at dksX5_distance_0 21 rfl rfl)
theorem dX5_distance_22 : decode cX5_distance 22 = .ok (.iaload, 1) := dk_46 (dk_at dksX5_distance_0 22 rfl rfl)
theorem dX5_distance_23 : decode cX5_distance 23 = .ok (.if_icmp .gt 48, 3) := dk_163 0 48 (dk_at dksX5_distance_1 0 rfl rfl)
theorem dX5_distance_26 : decode cX5_distance 26 = .ok (.iconst 0, 1) := dk_3 (dk_at dksX5_distance_1 3 rfl rfl)
theorem dX5_distance_27 : decode cX5_distance 27 = .ok (.istore 4, 2) := dk_54 4 (dk_at dksX5_distance_1 4 rfl rfl)
theorem dX5_distance_29 : decode cX5_distance 29 = .ok (.iload 4, 2) := dk_21 4 (dk_at dksX5_distance_1 6 rfl rfl)
theorem dX5_distance_31 : decode cX5_distance 31 = .ok (.aload_n 0, 1) := dk_42 (dk_at dksX5_distance_1 8 rfl rfl)
theorem dX5_distance_32 : decode cX5_distance 32 = .ok (.getfield 135, 3) := dk_180 0 135 (dk_at dksX5_distance_1 9 rfl rfl)
theorem dX5_distance_35 : decode cX5_distance 35 = .ok (.if_icmp .gt 30, 3) := dk_163 0 30 (dk_at dksX5_distance_1 12 rfl rfl)
theorem dX5_distance_38 : decode cX5_distance 38 = .ok (.aload_n 0, 1) := dk_42 (dk_at dksX5_distance_1 15 rfl rfl)
theorem dX5_distance_39 : decode cX5_distance 39 = .ok (.getfield 65, 3) := dk_180 0 65 (dk_at dksX5_distance_1 16 rfl rfl)
theorem dX5_distance_42 : decode cX5_distance 42 = .ok (.bipush 25, 2) := dk_16 25 (dk_at dksX5_distance_1 19 rfl rfl)
theorem dX5_distance_44 : decode cX5_distance 44 = .ok (.iload_n 3, 1) := dk_29 (dk_at dksX5_distance_1 21 rfl rfl)
theorem dX5_distance_45 : decode cX5_distance 45 = .ok (.imul, 1) := dk_104 (dk_at dksX5_distance_1 22 rfl rfl)
theorem dX5_distance_46 : decode cX5_distance 46 = .ok (.iload 4, 2) := dk_21 4 (dk_at dksX5_distance_2 0 rfl rfl)
theorem dX5_distance_48 : decode cX5_distance 48 = .ok (.iadd, 1) := dk_96 (dk_at dksX5_distance_2 2 rfl rfl)
theorem dX5_distance_49 : decode cX5_distance 49 = .ok (.aload_n 0, 1) := dk_42 (dk_at dksX5_distance_2 3 rfl rfl)
theorem dX5_distance_50 : decode cX5_distance 50 = .ok (.iload_n 1, 1) := dk_27 (dk_at dksX5_distance_2 4 rfl rfl)
theorem dX5_distance_51 : decode cX5_distance 51 = .ok (.iload_n 3, 1) := dk_29 (dk_at dksX5_distance_2 5 rfl rfl)
theorem dX5_distance_52 : decode cX5_distance 52 = .ok (.iload 4, 2) := dk_21 4 (dk_at dksX5_distance_2 6 rfl rfl)
theorem dX5_distance_54 : decode cX5_distance 54 = .ok (.iload_n 2, 1) := dk_28 (dk_at dksX5_distance_2 8 rfl rfl)
theorem dX5_distance_55 : decode cX5_distance 55 = .ok (.invokevirtual 180, 3) := dk_182 0 180 (dk_at dksX5_distance_2 9 rfl rfl)
theorem dX5_distance_58 : decode cX5_distance 58 = .ok (.iastore, 1) := dk_79 (dk_at dksX5_distance_2 12 rfl rfl)
theorem dX5_distance_59 : decode cX5_distance 59 = .ok (.iinc 4 1, 3) := dk_132 4 1 (dk_at dksX5_distance_2 13 rfl rfl)
theorem dX5_distance_62 : decode cX5_distance 62 = .ok (.goto (-33), 3) := dk_167 255 223 (dk_at dksX5_distance_2 16 rfl rfl)
theorem dX5_distance_65 : decode cX5_distance 65 = .ok (.iinc 3 1, 3) := dk_132 3 1 (dk_at dksX5_distance_2 19 rfl rfl)
theorem dX5_distance_68 : decode cX5_distance 68 = .ok (.goto (-52), 3) := dk_167 255 204 (dk_at dksX5_distance_3 0 rfl rfl)
theorem dX5_distance_71 : decode cX5_distance 71 = .ok (.aload_n 0, 1) := dk_42 (dk_at dksX5_distance_3 3 rfl rfl)
theorem dX5_distance_72 : decode cX5_distance 72 = .ok (.getfield 65, 3) := dk_180 0 65 (dk_at dksX5_distance_3 4 rfl rfl)
theorem dX5_distance_75 : decode cX5_distance 75 = .ok (.bipush 25, 2) := dk_16 25 (dk_at dksX5_distance_3 7 rfl rfl)
theorem dX5_distance_77 : decode cX5_distance 77 = .ok (.aload_n 0, 1) := dk_42 (dk_at dksX5_distance_3 9 rfl rfl)
theorem dX5_distance_78 : decode cX5_distance 78 = .ok (.getfield 59, 3) := dk_180 0 59 (dk_at dksX5_distance_3 10 rfl rfl)
theorem dX5_distance_81 : decode cX5_distance 81 = .ok (.iload_n 1, 1) := dk_27 (dk_at dksX5_distance_3 13 rfl rfl)
theorem dX5_distance_82 : decode cX5_distance 82 = .ok (.iaload, 1) := dk_46 (dk_at dksX5_distance_3 14 rfl rfl)
theorem dX5_distance_83 : decode cX5_distance 83 = .ok (.imul, 1) := dk_104 (dk_at dksX5_distance_3 15 rfl rfl)
theorem dX5_distance_84 : decode cX5_distance 84 = .ok (.aload_n 0, 1) := dk_42 (dk_at dksX5_distance_3 16 rfl rfl)
theorem dX5_distance_85 : decode cX5_distance 85 = .ok (.getfield 135, 3) := dk_180 0 135 (dk_at dksX5_distance_3 17 rfl rfl)
theorem dX5_distance_88 : decode cX5_distance 88 = .ok (.iadd, 1) := dk_96 (dk_at dksX5_distance_3 20 rfl rfl)
theorem dX5_distance_89 : decode cX5_distance 89 = .ok (.iaload, 1) := dk_46 (dk_at dksX5_distance_3 21 rfl rfl)
theorem dX5_distance_90 : decode cX5_distance 90 = .ok (.ireturn, 1) := dk_172 (dk_at dksX5_distance_3 22 rfl rfl)
abbrev cX5_step : ByteArray := prog_13_method_36_code
def yX5_step : MethodName := ⟨RX5, "step", "(IIIZ)I"⟩
def dkwX5_step_11 : List UInt8 := [172]
abbrev dktX5_step_11 : List UInt8 := dkwX5_step_11 ++ []
def dkwX5_step_10 : List UInt8 := [100, 46, 4, 96, 54, 7, 21, 7, 21, 5, 162, 0, 8, 21, 7, 167, 0, 5, 21, 5, 54, 5, 21, 5]
abbrev dktX5_step_10 : List UInt8 := dkwX5_step_10 ++ dktX5_step_11
def dkwX5_step_9 : List UInt8 := [180, 0, 47, 29, 4, 100, 46, 160, 0, 39, 42, 180, 0, 65, 16, 25, 28, 104, 16, 50, 100, 29, 96, 5]
abbrev dktX5_step_9 : List UInt8 := dkwX5_step_9 ++ dktX5_step_10
def dkwX5_step_8 : List UInt8 := [21, 6, 46, 42, 180, 0, 47, 29, 5, 100, 46, 160, 0, 59, 42, 180, 0, 62, 21, 6, 4, 100, 46, 42]
abbrev dktX5_step_8 : List UInt8 := dkwX5_step_8 ++ dktX5_step_9
def dkwX5_step_7 : List UInt8 := [21, 5, 54, 5, 21, 4, 153, 0, 87, 28, 4, 164, 0, 82, 29, 4, 164, 0, 77, 42, 180, 0, 62]
abbrev dktX5_step_7 : List UInt8 := dkwX5_step_7 ++ dktX5_step_8
def dkwX5_step_6 : List UInt8 := [160, 0, 7, 3, 167, 0, 4, 4, 96, 54, 7, 21, 7, 21, 5, 162, 0, 8, 21, 7, 167, 0, 5]
abbrev dktX5_step_6 : List UInt8 := dkwX5_step_6 ++ dktX5_step_7
def dkwX5_step_5 : List UInt8 := [104, 16, 25, 100, 29, 96, 4, 100, 46, 42, 180, 0, 62, 21, 6, 46, 42, 180, 0, 47, 29, 4, 100, 46]
abbrev dktX5_step_5 : List UInt8 := dkwX5_step_5 ++ dktX5_step_6
def dkwX5_step_4 : List UInt8 := [21, 7, 167, 0, 5, 21, 5, 54, 5, 28, 158, 0, 65, 29, 158, 0, 61, 42, 180, 0, 65, 16, 25, 28]
abbrev dktX5_step_4 : List UInt8 := dkwX5_step_4 ++ dktX5_step_5
def dkwX5_step_3 : List UInt8 := [180, 0, 65, 16, 25, 28, 104, 29, 96, 4, 100, 46, 4, 96, 54, 7, 21, 7, 21, 5, 162, 0, 8]
abbrev dktX5_step_3 : List UInt8 := dkwX5_step_3 ++ dktX5_step_4
def dkwX5_step_2 : List UInt8 := [54, 7, 21, 7, 21, 5, 162, 0, 8, 21, 7, 167, 0, 5, 21, 5, 54, 5, 29, 158, 0, 36, 42]
abbrev dktX5_step_2 : List UInt8 := dkwX5_step_2 ++ dktX5_step_3
def dkwX5_step_1 : List UInt8 := [100, 54, 6, 28, 158, 0, 37, 42, 180, 0, 65, 16, 25, 28, 104, 16, 25, 100, 29, 96, 46, 4, 96]
abbrev dktX5_step_1 : List UInt8 := dkwX5_step_1 ++ dktX5_step_2
def dkwX5_step_0 : List UInt8 := [28, 154, 0, 11, 29, 154, 0, 7, 3, 167, 0, 6, 17, 3, 232, 54, 5, 16, 12, 27, 104, 28, 96, 4]
abbrev dktX5_step_0 : List UInt8 := dkwX5_step_0 ++ dktX5_step_1
theorem dksX5_step_0 : cX5_step.data.toList.drop 0 = dktX5_step_0 := by decide +kernel
theorem dksX5_step_1 : cX5_step.data.toList.drop 24 = dktX5_step_1 := dk_seg dksX5_step_0 24 rfl rfl
theorem dksX5_step_2 : cX5_step.data.toList.drop 47 = dktX5_step_2 := dk_seg dksX5_step_1 23 rfl rfl
theorem dksX5_step_3 : cX5_step.data.toList.drop 70 = dktX5_step_3 := dk_seg dksX5_step_2 23 rfl rfl
theorem dksX5_step_4 : cX5_step.data.toList.drop 93 = dktX5_step_4 := dk_seg dksX5_step_3 23 rfl rfl
theorem dksX5_step_5 : cX5_step.data.toList.drop 117 = dktX5_step_5 := dk_seg dksX5_step_4 24 rfl rfl
theorem dksX5_step_6 : cX5_step.data.toList.drop 141 = dktX5_step_6 := dk_seg dksX5_step_5 24 rfl rfl
theorem dksX5_step_7 : cX5_step.data.toList.drop 164 = dktX5_step_7 := dk_seg dksX5_step_6 23 rfl rfl
theorem dksX5_step_8 : cX5_step.data.toList.drop 187 = dktX5_step_8 := dk_seg dksX5_step_7 23 rfl rfl
theorem dksX5_step_9 : cX5_step.data.toList.drop 211 = dktX5_step_9 := dk_seg dksX5_step_8 24 rfl rfl
theorem dksX5_step_10 : cX5_step.data.toList.drop 235 = dktX5_step_10 := dk_seg dksX5_step_9 24 rfl rfl
theorem dksX5_step_11 : cX5_step.data.toList.drop 259 = dktX5_step_11 := dk_seg dksX5_step_10 24 rfl rfl
theorem dX5_step_0 : decode cX5_step 0 = .ok (.iload_n 2, 1) := dk_28 (dk_at dksX5_step_0 0 rfl rfl)
theorem dX5_step_1 : decode cX5_step 1 = .ok (.ifCond .ne 11, 3) := dk_154 0 11 (dk_at dksX5_step_0 1 rfl rfl)
theorem dX5_step_4 : decode cX5_step 4 = .ok (.iload_n 3, 1) := dk_29 (dk_at dksX5_step_0 4 rfl rfl)
theorem dX5_step_5 : decode cX5_step 5 = .ok (.ifCond .ne 7, 3) := dk_154 0 7 (dk_at dksX5_step_0 5 rfl rfl)
theorem dX5_step_8 : decode cX5_step 8 = .ok (.iconst 0, 1) := dk_3 (dk_at dksX5_step_0 8 rfl rfl)
theorem dX5_step_9 : decode cX5_step 9 = .ok (.goto 6, 3) := dk_167 0 6 (dk_at dksX5_step_0 9 rfl rfl)
theorem dX5_step_12 : decode cX5_step 12 = .ok (.sipush 1000, 3) := dk_17 3 232 (dk_at dksX5_step_0 12 rfl rfl)
theorem dX5_step_15 : decode cX5_step 15 = .ok (.istore 5, 2) := dk_54 5 (dk_at dksX5_step_0 15 rfl rfl)
theorem dX5_step_17 : decode cX5_step 17 = .ok (.bipush 12, 2) := dk_16 12 (dk_at dksX5_step_0 17 rfl rfl)
theorem dX5_step_19 : decode cX5_step 19 = .ok (.iload_n 1, 1) := dk_27 (dk_at dksX5_step_0 19 rfl rfl)
theorem dX5_step_20 : decode cX5_step 20 = .ok (.imul, 1) := dk_104 (dk_at dksX5_step_0 20 rfl rfl)
theorem dX5_step_21 : decode cX5_step 21 = .ok (.iload_n 2, 1) := dk_28 (dk_at dksX5_step_0 21 rfl rfl)
theorem dX5_step_22 : decode cX5_step 22 = .ok (.iadd, 1) := dk_96 (dk_at dksX5_step_0 22 rfl rfl)
theorem dX5_step_23 : decode cX5_step 23 = .ok (.iconst 1, 1) := dk_4 (dk_at dksX5_step_0 23 rfl rfl)
theorem dX5_step_24 : decode cX5_step 24 = .ok (.isub, 1) := dk_100 (dk_at dksX5_step_1 0 rfl rfl)
theorem dX5_step_25 : decode cX5_step 25 = .ok (.istore 6, 2) := dk_54 6 (dk_at dksX5_step_1 1 rfl rfl)
theorem dX5_step_27 : decode cX5_step 27 = .ok (.iload_n 2, 1) := dk_28 (dk_at dksX5_step_1 3 rfl rfl)
theorem dX5_step_28 : decode cX5_step 28 = .ok (.ifCond .le 37, 3) := dk_158 0 37 (dk_at dksX5_step_1 4 rfl rfl)
theorem dX5_step_31 : decode cX5_step 31 = .ok (.aload_n 0, 1) := dk_42 (dk_at dksX5_step_1 7 rfl rfl)
theorem dX5_step_32 : decode cX5_step 32 = .ok (.getfield 65, 3) := dk_180 0 65 (dk_at dksX5_step_1 8 rfl rfl)
theorem dX5_step_35 : decode cX5_step 35 = .ok (.bipush 25, 2) := dk_16 25 (dk_at dksX5_step_1 11 rfl rfl)
theorem dX5_step_37 : decode cX5_step 37 = .ok (.iload_n 2, 1) := dk_28 (dk_at dksX5_step_1 13 rfl rfl)
theorem dX5_step_38 : decode cX5_step 38 = .ok (.imul, 1) := dk_104 (dk_at dksX5_step_1 14 rfl rfl)
theorem dX5_step_39 : decode cX5_step 39 = .ok (.bipush 25, 2) := dk_16 25 (dk_at dksX5_step_1 15 rfl rfl)
theorem dX5_step_41 : decode cX5_step 41 = .ok (.isub, 1) := dk_100 (dk_at dksX5_step_1 17 rfl rfl)
theorem dX5_step_42 : decode cX5_step 42 = .ok (.iload_n 3, 1) := dk_29 (dk_at dksX5_step_1 18 rfl rfl)
theorem dX5_step_43 : decode cX5_step 43 = .ok (.iadd, 1) := dk_96 (dk_at dksX5_step_1 19 rfl rfl)
theorem dX5_step_44 : decode cX5_step 44 = .ok (.iaload, 1) := dk_46 (dk_at dksX5_step_1 20 rfl rfl)
theorem dX5_step_45 : decode cX5_step 45 = .ok (.iconst 1, 1) := dk_4 (dk_at dksX5_step_1 21 rfl rfl)
theorem dX5_step_46 : decode cX5_step 46 = .ok (.iadd, 1) := dk_96 (dk_at dksX5_step_1 22 rfl rfl)
theorem dX5_step_47 : decode cX5_step 47 = .ok (.istore 7, 2) := dk_54 7 (dk_at dksX5_step_2 0 rfl rfl)
theorem dX5_step_49 : decode cX5_step 49 = .ok (.iload 7, 2) := dk_21 7 (dk_at dksX5_step_2 2 rfl rfl)
theorem dX5_step_51 : decode cX5_step 51 = .ok (.iload 5, 2) := dk_21 5 (dk_at dksX5_step_2 4 rfl rfl)
theorem dX5_step_53 : decode cX5_step 53 = .ok (.if_icmp .ge 8, 3) := dk_162 0 8 (dk_at dksX5_step_2 6 rfl rfl)
theorem dX5_step_56 : decode cX5_step 56 = .ok (.iload 7, 2) := dk_21 7 (dk_at dksX5_step_2 9 rfl rfl)
theorem dX5_step_58 : decode cX5_step 58 = .ok (.goto 5, 3) := dk_167 0 5 (dk_at dksX5_step_2 11 rfl rfl)
theorem dX5_step_61 : decode cX5_step 61 = .ok (.iload 5, 2) := dk_21 5 (dk_at dksX5_step_2 14 rfl rfl)
theorem dX5_step_63 : decode cX5_step 63 = .ok (.istore 5, 2) := dk_54 5 (dk_at dksX5_step_2 16 rfl rfl)
theorem dX5_step_65 : decode cX5_step 65 = .ok (.iload_n 3, 1) := dk_29 (dk_at dksX5_step_2 18 rfl rfl)
theorem dX5_step_66 : decode cX5_step 66 = .ok (.ifCond .le 36, 3) := dk_158 0 36 (dk_at dksX5_step_2 19 rfl rfl)
theorem dX5_step_69 : decode cX5_step 69 = .ok (.aload_n 0, 1) := dk_42 (dk_at dksX5_step_2 22 rfl rfl)
theorem dX5_step_70 : decode cX5_step 70 = .ok (.getfield 65, 3) := dk_180 0 65 (dk_at dksX5_step_3 0 rfl rfl)
theorem dX5_step_73 : decode cX5_step 73 = .ok (.bipush 25, 2) := dk_16 25 (dk_at dksX5_step_3 3 rfl rfl)
theorem dX5_step_75 : decode cX5_step 75 = .ok (.iload_n 2, 1) := dk_28 (dk_at dksX5_step_3 5 rfl rfl)
theorem dX5_step_76 : decode cX5_step 76 = .ok (.imul, 1) := dk_104 (dk_at dksX5_step_3 6 rfl rfl)
theorem dX5_step_77 : decode cX5_step 77 = .ok (.iload_n 3, 1) := dk_29 (dk_at dksX5_step_3 7 rfl rfl)
theorem dX5_step_78 : decode cX5_step 78 = .ok (.iadd, 1) := dk_96 (dk_at dksX5_step_3 8 rfl rfl)
theorem dX5_step_79 : decode cX5_step 79 = .ok (.iconst 1, 1) := dk_4 (dk_at dksX5_step_3 9 rfl rfl)
theorem dX5_step_80 : decode cX5_step 80 = .ok (.isub, 1) := dk_100 (dk_at dksX5_step_3 10 rfl rfl)
theorem dX5_step_81 : decode cX5_step 81 = .ok (.iaload, 1) := dk_46 (dk_at dksX5_step_3 11 rfl rfl)
theorem dX5_step_82 : decode cX5_step 82 = .ok (.iconst 1, 1) := dk_4 (dk_at dksX5_step_3 12 rfl rfl)
theorem dX5_step_83 : decode cX5_step 83 = .ok (.iadd, 1) := dk_96 (dk_at dksX5_step_3 13 rfl rfl)
theorem dX5_step_84 : decode cX5_step 84 = .ok (.istore 7, 2) := dk_54 7 (dk_at dksX5_step_3 14 rfl rfl)
theorem dX5_step_86 : decode cX5_step 86 = .ok (.iload 7, 2) := dk_21 7 (dk_at dksX5_step_3 16 rfl rfl)
theorem dX5_step_88 : decode cX5_step 88 = .ok (.iload 5, 2) := dk_21 5 (dk_at dksX5_step_3 18 rfl rfl)
theorem dX5_step_90 : decode cX5_step 90 = .ok (.if_icmp .ge 8, 3) := dk_162 0 8 (dk_at dksX5_step_3 20 rfl rfl)
theorem dX5_step_93 : decode cX5_step 93 = .ok (.iload 7, 2) := dk_21 7 (dk_at dksX5_step_4 0 rfl rfl)
theorem dX5_step_95 : decode cX5_step 95 = .ok (.goto 5, 3) := dk_167 0 5 (dk_at dksX5_step_4 2 rfl rfl)
theorem dX5_step_98 : decode cX5_step 98 = .ok (.iload 5, 2) := dk_21 5 (dk_at dksX5_step_4 5 rfl rfl)
theorem dX5_step_100 : decode cX5_step 100 = .ok (.istore 5, 2) := dk_54 5 (dk_at dksX5_step_4 7 rfl rfl)
theorem dX5_step_102 : decode cX5_step 102 = .ok (.iload_n 2, 1) := dk_28 (dk_at dksX5_step_4 9 rfl rfl)
theorem dX5_step_103 : decode cX5_step 103 = .ok (.ifCond .le 65, 3) := dk_158 0 65 (dk_at dksX5_step_4 10 rfl rfl)
theorem dX5_step_106 : decode cX5_step 106 = .ok (.iload_n 3, 1) := dk_29 (dk_at dksX5_step_4 13 rfl rfl)
theorem dX5_step_107 : decode cX5_step 107 = .ok (.ifCond .le 61, 3) := dk_158 0 61 (dk_at dksX5_step_4 14 rfl rfl)
theorem dX5_step_110 : decode cX5_step 110 = .ok (.aload_n 0, 1) := dk_42 (dk_at dksX5_step_4 17 rfl rfl)
theorem dX5_step_111 : decode cX5_step 111 = .ok (.getfield 65, 3) := dk_180 0 65 (dk_at dksX5_step_4 18 rfl rfl)
theorem dX5_step_114 : decode cX5_step 114 = .ok (.bipush 25, 2) := dk_16 25 (dk_at dksX5_step_4 21 rfl rfl)
theorem dX5_step_116 : decode cX5_step 116 = .ok (.iload_n 2, 1) := dk_28 (dk_at dksX5_step_4 23 rfl rfl)
theorem dX5_step_117 : decode cX5_step 117 = .ok (.imul, 1) := dk_104 (dk_at dksX5_step_5 0 rfl rfl)
theorem dX5_step_118 : decode cX5_step 118 = .ok (.bipush 25, 2) := dk_16 25 (dk_at dksX5_step_5 1 rfl rfl)
theorem dX5_step_120 : decode cX5_step 120 = .ok (.isub, 1) := dk_100 (dk_at dksX5_step_5 3 rfl rfl)
theorem dX5_step_121 : decode cX5_step 121 = .ok (.iload_n 3, 1) := dk_29 (dk_at dksX5_step_5 4 rfl rfl)
theorem dX5_step_122 : decode cX5_step 122 = .ok (.iadd, 1) := dk_96 (dk_at dksX5_step_5 5 rfl rfl)
theorem dX5_step_123 : decode cX5_step 123 = .ok (.iconst 1, 1) := dk_4 (dk_at dksX5_step_5 6 rfl rfl)
theorem dX5_step_124 : decode cX5_step 124 = .ok (.isub, 1) := dk_100 (dk_at dksX5_step_5 7 rfl rfl)
theorem dX5_step_125 : decode cX5_step 125 = .ok (.iaload, 1) := dk_46 (dk_at dksX5_step_5 8 rfl rfl)
theorem dX5_step_126 : decode cX5_step 126 = .ok (.aload_n 0, 1) := dk_42 (dk_at dksX5_step_5 9 rfl rfl)
theorem dX5_step_127 : decode cX5_step 127 = .ok (.getfield 62, 3) := dk_180 0 62 (dk_at dksX5_step_5 10 rfl rfl)
theorem dX5_step_130 : decode cX5_step 130 = .ok (.iload 6, 2) := dk_21 6 (dk_at dksX5_step_5 13 rfl rfl)
theorem dX5_step_132 : decode cX5_step 132 = .ok (.iaload, 1) := dk_46 (dk_at dksX5_step_5 15 rfl rfl)
theorem dX5_step_133 : decode cX5_step 133 = .ok (.aload_n 0, 1) := dk_42 (dk_at dksX5_step_5 16 rfl rfl)
theorem dX5_step_134 : decode cX5_step 134 = .ok (.getfield 47, 3) := dk_180 0 47 (dk_at dksX5_step_5 17 rfl rfl)
theorem dX5_step_137 : decode cX5_step 137 = .ok (.iload_n 3, 1) := dk_29 (dk_at dksX5_step_5 20 rfl rfl)
theorem dX5_step_138 : decode cX5_step 138 = .ok (.iconst 1, 1) := dk_4 (dk_at dksX5_step_5 21 rfl rfl)
theorem dX5_step_139 : decode cX5_step 139 = .ok (.isub, 1) := dk_100 (dk_at dksX5_step_5 22 rfl rfl)
theorem dX5_step_140 : decode cX5_step 140 = .ok (.iaload, 1) := dk_46 (dk_at dksX5_step_5 23 rfl rfl)
theorem dX5_step_141 : decode cX5_step 141 = .ok (.if_icmp .ne 7, 3) := dk_160 0 7 (dk_at dksX5_step_6 0 rfl rfl)
theorem dX5_step_144 : decode cX5_step 144 = .ok (.iconst 0, 1) := dk_3 (dk_at dksX5_step_6 3 rfl rfl)
theorem dX5_step_145 : decode cX5_step 145 = .ok (.goto 4, 3) := dk_167 0 4 (dk_at dksX5_step_6 4 rfl rfl)
theorem dX5_step_148 : decode cX5_step 148 = .ok (.iconst 1, 1) := dk_4 (dk_at dksX5_step_6 7 rfl rfl)
theorem dX5_step_149 : decode cX5_step 149 = .ok (.iadd, 1) := dk_96 (dk_at dksX5_step_6 8 rfl rfl)
theorem dX5_step_150 : decode cX5_step 150 = .ok (.istore 7, 2) := dk_54 7 (dk_at dksX5_step_6 9 rfl rfl)
theorem dX5_step_152 : decode cX5_step 152 = .ok (.iload 7, 2) := dk_21 7 (dk_at dksX5_step_6 11 rfl rfl)
theorem dX5_step_154 : decode cX5_step 154 = .ok (.iload 5, 2) := dk_21 5 (dk_at dksX5_step_6 13 rfl rfl)
theorem dX5_step_156 : decode cX5_step 156 = .ok (.if_icmp .ge 8, 3) := dk_162 0 8 (dk_at dksX5_step_6 15 rfl rfl)
theorem dX5_step_159 : decode cX5_step 159 = .ok (.iload 7, 2) := dk_21 7 (dk_at dksX5_step_6 18 rfl rfl)
theorem dX5_step_161 : decode cX5_step 161 = .ok (.goto 5, 3) := dk_167 0 5 (dk_at dksX5_step_6 20 rfl rfl)
theorem dX5_step_164 : decode cX5_step 164 = .ok (.iload 5, 2) := dk_21 5 (dk_at dksX5_step_7 0 rfl rfl)
theorem dX5_step_166 : decode cX5_step 166 = .ok (.istore 5, 2) := dk_54 5 (dk_at dksX5_step_7 2 rfl rfl)
theorem dX5_step_168 : decode cX5_step 168 = .ok (.iload 4, 2) := dk_21 4 (dk_at dksX5_step_7 4 rfl rfl)
theorem dX5_step_170 : decode cX5_step 170 = .ok (.ifCond .eq 87, 3) := dk_153 0 87 (dk_at dksX5_step_7 6 rfl rfl)
theorem dX5_step_173 : decode cX5_step 173 = .ok (.iload_n 2, 1) := dk_28 (dk_at dksX5_step_7 9 rfl rfl)
theorem dX5_step_174 : decode cX5_step 174 = .ok (.iconst 1, 1) := dk_4 (dk_at dksX5_step_7 10 rfl rfl)
theorem dX5_step_175 : decode cX5_step 175 = .ok (.if_icmp .le 82, 3) := dk_164 0 82 (dk_at dksX5_step_7 11 rfl rfl)
theorem dX5_step_178 : decode cX5_step 178 = .ok (.iload_n 3, 1) := dk_29 (dk_at dksX5_step_7 14 rfl rfl)
theorem dX5_step_179 : decode cX5_step 179 = .ok (.iconst 1, 1) := dk_4 (dk_at dksX5_step_7 15 rfl rfl)
theorem dX5_step_180 : decode cX5_step 180 = .ok (.if_icmp .le 77, 3) := dk_164 0 77 (dk_at dksX5_step_7 16 rfl rfl)
theorem dX5_step_183 : decode cX5_step 183 = .ok (.aload_n 0, 1) := dk_42 (dk_at dksX5_step_7 19 rfl rfl)
theorem dX5_step_184 : decode cX5_step 184 = .ok (.getfield 62, 3) := dk_180 0 62 (dk_at dksX5_step_7 20 rfl rfl)
theorem dX5_step_187 : decode cX5_step 187 = .ok (.iload 6, 2) := dk_21 6 (dk_at dksX5_step_8 0 rfl rfl)
theorem dX5_step_189 : decode cX5_step 189 = .ok (.iaload, 1) := dk_46 (dk_at dksX5_step_8 2 rfl rfl)
theorem dX5_step_190 : decode cX5_step 190 = .ok (.aload_n 0, 1) := dk_42 (dk_at dksX5_step_8 3 rfl rfl)
theorem dX5_step_191 : decode cX5_step 191 = .ok (.getfield 47, 3) := dk_180 0 47 (dk_at dksX5_step_8 4 rfl rfl)
theorem dX5_step_194 : decode cX5_step 194 = .ok (.iload_n 3, 1) := dk_29 (dk_at dksX5_step_8 7 rfl rfl)
theorem dX5_step_195 : decode cX5_step 195 = .ok (.iconst 2, 1) := dk_5 (dk_at dksX5_step_8 8 rfl rfl)
theorem dX5_step_196 : decode cX5_step 196 = .ok (.isub, 1) := dk_100 (dk_at dksX5_step_8 9 rfl rfl)
theorem dX5_step_197 : decode cX5_step 197 = .ok (.iaload, 1) := dk_46 (dk_at dksX5_step_8 10 rfl rfl)
theorem dX5_step_198 : decode cX5_step 198 = .ok (.if_icmp .ne 59, 3) := dk_160 0 59 (dk_at dksX5_step_8 11 rfl rfl)
theorem dX5_step_201 : decode cX5_step 201 = .ok (.aload_n 0, 1) := dk_42 (dk_at dksX5_step_8 14 rfl rfl)
theorem dX5_step_202 : decode cX5_step 202 = .ok (.getfield 62, 3) := dk_180 0 62 (dk_at dksX5_step_8 15 rfl rfl)
theorem dX5_step_205 : decode cX5_step 205 = .ok (.iload 6, 2) := dk_21 6 (dk_at dksX5_step_8 18 rfl rfl)
theorem dX5_step_207 : decode cX5_step 207 = .ok (.iconst 1, 1) := dk_4 (dk_at dksX5_step_8 20 rfl rfl)
theorem dX5_step_208 : decode cX5_step 208 = .ok (.isub, 1) := dk_100 (dk_at dksX5_step_8 21 rfl rfl)
theorem dX5_step_209 : decode cX5_step 209 = .ok (.iaload, 1) := dk_46 (dk_at dksX5_step_8 22 rfl rfl)
theorem dX5_step_210 : decode cX5_step 210 = .ok (.aload_n 0, 1) := dk_42 (dk_at dksX5_step_8 23 rfl rfl)
theorem dX5_step_211 : decode cX5_step 211 = .ok (.getfield 47, 3) := dk_180 0 47 (dk_at dksX5_step_9 0 rfl rfl)
theorem dX5_step_214 : decode cX5_step 214 = .ok (.iload_n 3, 1) := dk_29 (dk_at dksX5_step_9 3 rfl rfl)
theorem dX5_step_215 : decode cX5_step 215 = .ok (.iconst 1, 1) := dk_4 (dk_at dksX5_step_9 4 rfl rfl)
theorem dX5_step_216 : decode cX5_step 216 = .ok (.isub, 1) := dk_100 (dk_at dksX5_step_9 5 rfl rfl)
theorem dX5_step_217 : decode cX5_step 217 = .ok (.iaload, 1) := dk_46 (dk_at dksX5_step_9 6 rfl rfl)
theorem dX5_step_218 : decode cX5_step 218 = .ok (.if_icmp .ne 39, 3) := dk_160 0 39 (dk_at dksX5_step_9 7 rfl rfl)
theorem dX5_step_221 : decode cX5_step 221 = .ok (.aload_n 0, 1) := dk_42 (dk_at dksX5_step_9 10 rfl rfl)
theorem dX5_step_222 : decode cX5_step 222 = .ok (.getfield 65, 3) := dk_180 0 65 (dk_at dksX5_step_9 11 rfl rfl)
theorem dX5_step_225 : decode cX5_step 225 = .ok (.bipush 25, 2) := dk_16 25 (dk_at dksX5_step_9 14 rfl rfl)
theorem dX5_step_227 : decode cX5_step 227 = .ok (.iload_n 2, 1) := dk_28 (dk_at dksX5_step_9 16 rfl rfl)
theorem dX5_step_228 : decode cX5_step 228 = .ok (.imul, 1) := dk_104 (dk_at dksX5_step_9 17 rfl rfl)
theorem dX5_step_229 : decode cX5_step 229 = .ok (.bipush 50, 2) := dk_16 50 (dk_at dksX5_step_9 18 rfl rfl)
theorem dX5_step_231 : decode cX5_step 231 = .ok (.isub, 1) := dk_100 (dk_at dksX5_step_9 20 rfl rfl)
theorem dX5_step_232 : decode cX5_step 232 = .ok (.iload_n 3, 1) := dk_29 (dk_at dksX5_step_9 21 rfl rfl)
theorem dX5_step_233 : decode cX5_step 233 = .ok (.iadd, 1) := dk_96 (dk_at dksX5_step_9 22 rfl rfl)
theorem dX5_step_234 : decode cX5_step 234 = .ok (.iconst 2, 1) := dk_5 (dk_at dksX5_step_9 23 rfl rfl)
theorem dX5_step_235 : decode cX5_step 235 = .ok (.isub, 1) := dk_100 (dk_at dksX5_step_10 0 rfl rfl)
theorem dX5_step_236 : decode cX5_step 236 = .ok (.iaload, 1) := dk_46 (dk_at dksX5_step_10 1 rfl rfl)
theorem dX5_step_237 : decode cX5_step 237 = .ok (.iconst 1, 1) := dk_4 (dk_at dksX5_step_10 2 rfl rfl)
theorem dX5_step_238 : decode cX5_step 238 = .ok (.iadd, 1) := dk_96 (dk_at dksX5_step_10 3 rfl rfl)
theorem dX5_step_239 : decode cX5_step 239 = .ok (.istore 7, 2) := dk_54 7 (dk_at dksX5_step_10 4 rfl rfl)
theorem dX5_step_241 : decode cX5_step 241 = .ok (.iload 7, 2) := dk_21 7 (dk_at dksX5_step_10 6 rfl rfl)
theorem dX5_step_243 : decode cX5_step 243 = .ok (.iload 5, 2) := dk_21 5 (dk_at dksX5_step_10 8 rfl rfl)
theorem dX5_step_245 : decode cX5_step 245 = .ok (.if_icmp .ge 8, 3) := dk_162 0 8 (dk_at dksX5_step_10 10 rfl rfl)
theorem dX5_step_248 : decode cX5_step 248 = .ok (.iload 7, 2) := dk_21 7 (dk_at dksX5_step_10 13 rfl rfl)
theorem dX5_step_250 : decode cX5_step 250 = .ok (.goto 5, 3) := dk_167 0 5 (dk_at dksX5_step_10 15 rfl rfl)
theorem dX5_step_253 : decode cX5_step 253 = .ok (.iload 5, 2) := dk_21 5 (dk_at dksX5_step_10 18 rfl rfl)
theorem dX5_step_255 : decode cX5_step 255 = .ok (.istore 5, 2) := dk_54 5 (dk_at dksX5_step_10 20 rfl rfl)
theorem dX5_step_257 : decode cX5_step 257 = .ok (.iload 5, 2) := dk_21 5 (dk_at dksX5_step_10 22 rfl rfl)
theorem dX5_step_259 : decode cX5_step 259 = .ok (.ireturn, 1) := dk_172 (dk_at dksX5_step_11 0 rfl rfl)
abbrev cX5_words : ByteArray := prog_13_method_35_code
def yX5_words : MethodName := ⟨RX5, "words", "()I"⟩
theorem dX5_words_0 : decode cX5_words 0 = .ok (.aload_n 0, 1) := by decide +kernel
theorem dX5_words_1 : decode cX5_words 1 = .ok (.getfield 173, 3) := by decide +kernel
theorem dX5_words_4 : decode cX5_words 4 = .ok (.ireturn, 1) := by decide +kernel
abbrev cX5_near : ByteArray := prog_13_method_38_code
def yX5_near : MethodName := ⟨RX5, "near", "(IZ)I"⟩
def dkwX5_near_1 : List UInt8 := [163, 0, 7, 4, 167, 0, 4, 3, 96, 62, 132, 4, 1, 167, 255, 225, 29, 172]
abbrev dktX5_near_1 : List UInt8 := dkwX5_near_1 ++ []
def dkwX5_near_0 : List UInt8 := [3, 62, 3, 54, 4, 21, 4, 42, 180, 0, 173, 162, 0, 28, 29, 42, 21, 4, 28, 182, 0, 176, 27]
abbrev dktX5_near_0 : List UInt8 := dkwX5_near_0 ++ dktX5_near_1
theorem dksX5_near_0 : cX5_near.data.toList.drop 0 = dktX5_near_0 := by decide +kernel
theorem dksX5_near_1 : cX5_near.data.toList.drop 23 = dktX5_near_1 := dk_seg dksX5_near_0 23 rfl rfl
theorem dX5_near_0 : decode cX5_near 0 = .ok (.iconst 0, 1) := dk_3 (dk_at dksX5_near_0 0 rfl rfl)
theorem dX5_near_1 : decode cX5_near 1 = .ok (.istore_n 3, 1) := dk_62 (dk_at dksX5_near_0 1 rfl rfl)
theorem dX5_near_2 : decode cX5_near 2 = .ok (.iconst 0, 1) := dk_3 (dk_at dksX5_near_0 2 rfl rfl)
theorem dX5_near_3 : decode cX5_near 3 = .ok (.istore 4, 2) := dk_54 4 (dk_at dksX5_near_0 3 rfl rfl)
theorem dX5_near_5 : decode cX5_near 5 = .ok (.iload 4, 2) := dk_21 4 (dk_at dksX5_near_0 5 rfl rfl)
theorem dX5_near_7 : decode cX5_near 7 = .ok (.aload_n 0, 1) := dk_42 (dk_at dksX5_near_0 7 rfl rfl)
theorem dX5_near_8 : decode cX5_near 8 = .ok (.getfield 173, 3) := dk_180 0 173 (dk_at dksX5_near_0 8 rfl rfl)
theorem dX5_near_11 : decode cX5_near 11 = .ok (.if_icmp .ge 28, 3) := dk_162 0 28 (dk_at dksX5_near_0 11 rfl rfl)
theorem dX5_near_14 : decode cX5_near 14 = .ok (.iload_n 3, 1) := dk_29 (dk_at dksX5_near_0 14 rfl rfl)
theorem dX5_near_15 : decode cX5_near 15 = .ok (.aload_n 0, 1) := dk_42 (dk_at dksX5_near_0 15 rfl rfl)
theorem dX5_near_16 : decode cX5_near 16 = .ok (.iload 4, 2) := dk_21 4 (dk_at dksX5_near_0 16 rfl rfl)
theorem dX5_near_18 : decode cX5_near 18 = .ok (.iload_n 2, 1) := dk_28 (dk_at dksX5_near_0 18 rfl rfl)
theorem dX5_near_19 : decode cX5_near 19 = .ok (.invokevirtual 176, 3) := dk_182 0 176 (dk_at dksX5_near_0 19 rfl rfl)
theorem dX5_near_22 : decode cX5_near 22 = .ok (.iload_n 1, 1) := dk_27 (dk_at dksX5_near_0 22 rfl rfl)
theorem dX5_near_23 : decode cX5_near 23 = .ok (.if_icmp .gt 7, 3) := dk_163 0 7 (dk_at dksX5_near_1 0 rfl rfl)
theorem dX5_near_26 : decode cX5_near 26 = .ok (.iconst 1, 1) := dk_4 (dk_at dksX5_near_1 3 rfl rfl)
theorem dX5_near_27 : decode cX5_near 27 = .ok (.goto 4, 3) := dk_167 0 4 (dk_at dksX5_near_1 4 rfl rfl)
theorem dX5_near_30 : decode cX5_near 30 = .ok (.iconst 0, 1) := dk_3 (dk_at dksX5_near_1 7 rfl rfl)
theorem dX5_near_31 : decode cX5_near 31 = .ok (.iadd, 1) := dk_96 (dk_at dksX5_near_1 8 rfl rfl)
theorem dX5_near_32 : decode cX5_near 32 = .ok (.istore_n 3, 1) := dk_62 (dk_at dksX5_near_1 9 rfl rfl)
theorem dX5_near_33 : decode cX5_near 33 = .ok (.iinc 4 1, 3) := dk_132 4 1 (dk_at dksX5_near_1 10 rfl rfl)
theorem dX5_near_36 : decode cX5_near 36 = .ok (.goto (-31), 3) := dk_167 255 225 (dk_at dksX5_near_1 13 rfl rfl)
theorem dX5_near_39 : decode cX5_near 39 = .ok (.iload_n 3, 1) := dk_29 (dk_at dksX5_near_1 16 rfl rfl)
theorem dX5_near_40 : decode cX5_near 40 = .ok (.ireturn, 1) := dk_172 (dk_at dksX5_near_1 17 rfl rfl)
abbrev cX5_rank : ByteArray := prog_13_method_40_code
def yX5_rank : MethodName := ⟨RX5, "rank", "(IZ)I"⟩
def dkwX5_rank_4 : List UInt8 := [2, 172]
abbrev dktX5_rank_4 : List UInt8 := dkwX5_rank_4 ++ []
def dkwX5_rank_3 : List UInt8 := [3, 96, 54, 5, 132, 6, 1, 167, 255, 201, 21, 5, 27, 160, 0, 5, 29, 172, 132, 3, 1, 167, 255, 165]
abbrev dktX5_rank_3 : List UInt8 := dkwX5_rank_3 ++ dktX5_rank_4
def dkwX5_rank_2 : List UInt8 := [161, 0, 20, 21, 7, 21, 4, 160, 0, 17, 42, 21, 6, 29, 182, 0, 184, 153, 0, 7, 4, 167, 0, 4]
abbrev dktX5_rank_2 : List UInt8 := dkwX5_rank_2 ++ dktX5_rank_3
def dkwX5_rank_1 : List UInt8 := [21, 6, 42, 180, 0, 173, 162, 0, 52, 42, 21, 6, 28, 182, 0, 176, 54, 7, 21, 5, 21, 7, 21, 4]
abbrev dktX5_rank_1 : List UInt8 := dkwX5_rank_1 ++ dktX5_rank_2
def dkwX5_rank_0 : List UInt8 := [3, 62, 29, 42, 180, 0, 173, 162, 0, 89, 42, 29, 28, 182, 0, 176, 54, 4, 3, 54, 5, 3, 54, 6]
abbrev dktX5_rank_0 : List UInt8 := dkwX5_rank_0 ++ dktX5_rank_1
theorem dksX5_rank_0 : cX5_rank.data.toList.drop 0 = dktX5_rank_0 := by decide +kernel
theorem dksX5_rank_1 : cX5_rank.data.toList.drop 24 = dktX5_rank_1 := dk_seg dksX5_rank_0 24 rfl rfl
theorem dksX5_rank_2 : cX5_rank.data.toList.drop 48 = dktX5_rank_2 := dk_seg dksX5_rank_1 24 rfl rfl
theorem dksX5_rank_3 : cX5_rank.data.toList.drop 72 = dktX5_rank_3 := dk_seg dksX5_rank_2 24 rfl rfl
theorem dksX5_rank_4 : cX5_rank.data.toList.drop 96 = dktX5_rank_4 := dk_seg dksX5_rank_3 24 rfl rfl
theorem dX5_rank_0 : decode cX5_rank 0 = .ok (.iconst 0, 1) := dk_3 (dk_at dksX5_rank_0 0 rfl rfl)
theorem dX5_rank_1 : decode cX5_rank 1 = .ok (.istore_n 3, 1) := dk_62 (dk_at dksX5_rank_0 1 rfl rfl)
theorem dX5_rank_2 : decode cX5_rank 2 = .ok (.iload_n 3, 1) := dk_29 (dk_at dksX5_rank_0 2 rfl rfl)
theorem dX5_rank_3 : decode cX5_rank 3 = .ok (.aload_n 0, 1) := dk_42 (dk_at dksX5_rank_0 3 rfl rfl)
theorem dX5_rank_4 : decode cX5_rank 4 = .ok (.getfield 173, 3) := dk_180 0 173 (dk_at dksX5_rank_0 4 rfl rfl)
theorem dX5_rank_7 : decode cX5_rank 7 = .ok (.if_icmp .ge 89, 3) := dk_162 0 89 (dk_at dksX5_rank_0 7 rfl rfl)
theorem dX5_rank_10 : decode cX5_rank 10 = .ok (.aload_n 0, 1) := dk_42 (dk_at dksX5_rank_0 10 rfl rfl)
theorem dX5_rank_11 : decode cX5_rank 11 = .ok (.iload_n 3, 1) := dk_29 (dk_at dksX5_rank_0 11 rfl rfl)
theorem dX5_rank_12 : decode cX5_rank 12 = .ok (.iload_n 2, 1) := dk_28 (dk_at dksX5_rank_0 12 rfl rfl)
theorem dX5_rank_13 : decode cX5_rank 13 = .ok (.invokevirtual 176, 3) := dk_182 0 176 (dk_at dksX5_rank_0 13 rfl rfl)
theorem dX5_rank_16 : decode cX5_rank 16 = .ok (.istore 4, 2) := dk_54 4 (dk_at dksX5_rank_0 16 rfl rfl)
theorem dX5_rank_18 : decode cX5_rank 18 = .ok (.iconst 0, 1) := dk_3 (dk_at dksX5_rank_0 18 rfl rfl)
theorem dX5_rank_19 : decode cX5_rank 19 = .ok (.istore 5, 2) := dk_54 5 (dk_at dksX5_rank_0 19 rfl rfl)
theorem dX5_rank_21 : decode cX5_rank 21 = .ok (.iconst 0, 1) := dk_3 (dk_at dksX5_rank_0 21 rfl rfl)
theorem dX5_rank_22 : decode cX5_rank 22 = .ok (.istore 6, 2) := dk_54 6 (dk_at dksX5_rank_0 22 rfl rfl)
theorem dX5_rank_24 : decode cX5_rank 24 = .ok (.iload 6, 2) := dk_21 6 (dk_at dksX5_rank_1 0 rfl rfl)
theorem dX5_rank_26 : decode cX5_rank 26 = .ok (.aload_n 0, 1) := dk_42 (dk_at dksX5_rank_1 2 rfl rfl)
theorem dX5_rank_27 : decode cX5_rank 27 = .ok (.getfield 173, 3) := dk_180 0 173 (dk_at dksX5_rank_1 3 rfl rfl)
theorem dX5_rank_30 : decode cX5_rank 30 = .ok (.if_icmp .ge 52, 3) := dk_162 0 52 (dk_at dksX5_rank_1 6 rfl rfl)
theorem dX5_rank_33 : decode cX5_rank 33 = .ok (.aload_n 0, 1) := dk_42 (dk_at dksX5_rank_1 9 rfl rfl)
theorem dX5_rank_34 : decode cX5_rank 34 = .ok (.iload 6, 2) := dk_21 6 (dk_at dksX5_rank_1 10 rfl rfl)
theorem dX5_rank_36 : decode cX5_rank 36 = .ok (.iload_n 2, 1) := dk_28 (dk_at dksX5_rank_1 12 rfl rfl)
theorem dX5_rank_37 : decode cX5_rank 37 = .ok (.invokevirtual 176, 3) := dk_182 0 176 (dk_at dksX5_rank_1 13 rfl rfl)
theorem dX5_rank_40 : decode cX5_rank 40 = .ok (.istore 7, 2) := dk_54 7 (dk_at dksX5_rank_1 16 rfl rfl)
theorem dX5_rank_42 : decode cX5_rank 42 = .ok (.iload 5, 2) := dk_21 5 (dk_at dksX5_rank_1 18 rfl rfl)
theorem dX5_rank_44 : decode cX5_rank 44 = .ok (.iload 7, 2) := dk_21 7 (dk_at dksX5_rank_1 20 rfl rfl)
theorem dX5_rank_46 : decode cX5_rank 46 = .ok (.iload 4, 2) := dk_21 4 (dk_at dksX5_rank_1 22 rfl rfl)
theorem dX5_rank_48 : decode cX5_rank 48 = .ok (.if_icmp .lt 20, 3) := dk_161 0 20 (dk_at dksX5_rank_2 0 rfl rfl)
theorem dX5_rank_51 : decode cX5_rank 51 = .ok (.iload 7, 2) := dk_21 7 (dk_at dksX5_rank_2 3 rfl rfl)
theorem dX5_rank_53 : decode cX5_rank 53 = .ok (.iload 4, 2) := dk_21 4 (dk_at dksX5_rank_2 5 rfl rfl)
theorem dX5_rank_55 : decode cX5_rank 55 = .ok (.if_icmp .ne 17, 3) := dk_160 0 17 (dk_at dksX5_rank_2 7 rfl rfl)
theorem dX5_rank_58 : decode cX5_rank 58 = .ok (.aload_n 0, 1) := dk_42 (dk_at dksX5_rank_2 10 rfl rfl)
theorem dX5_rank_59 : decode cX5_rank 59 = .ok (.iload 6, 2) := dk_21 6 (dk_at dksX5_rank_2 11 rfl rfl)
theorem dX5_rank_61 : decode cX5_rank 61 = .ok (.iload_n 3, 1) := dk_29 (dk_at dksX5_rank_2 13 rfl rfl)
theorem dX5_rank_62 : decode cX5_rank 62 = .ok (.invokevirtual 184, 3) := dk_182 0 184 (dk_at dksX5_rank_2 14 rfl rfl)
theorem dX5_rank_65 : decode cX5_rank 65 = .ok (.ifCond .eq 7, 3) := dk_153 0 7 (dk_at dksX5_rank_2 17 rfl rfl)
theorem dX5_rank_68 : decode cX5_rank 68 = .ok (.iconst 1, 1) := dk_4 (dk_at dksX5_rank_2 20 rfl rfl)
theorem dX5_rank_69 : decode cX5_rank 69 = .ok (.goto 4, 3) := dk_167 0 4 (dk_at dksX5_rank_2 21 rfl rfl)
theorem dX5_rank_72 : decode cX5_rank 72 = .ok (.iconst 0, 1) := dk_3 (dk_at dksX5_rank_3 0 rfl rfl)
theorem dX5_rank_73 : decode cX5_rank 73 = .ok (.iadd, 1) := dk_96 (dk_at dksX5_rank_3 1 rfl rfl)
theorem dX5_rank_74 : decode cX5_rank 74 = .ok (.istore 5, 2) := dk_54 5 (dk_at dksX5_rank_3 2 rfl rfl)
theorem dX5_rank_76 : decode cX5_rank 76 = .ok (.iinc 6 1, 3) := dk_132 6 1 (dk_at dksX5_rank_3 4 rfl rfl)
theorem dX5_rank_79 : decode cX5_rank 79 = .ok (.goto (-55), 3) := dk_167 255 201 (dk_at dksX5_rank_3 7 rfl rfl)
theorem dX5_rank_82 : decode cX5_rank 82 = .ok (.iload 5, 2) := dk_21 5 (dk_at dksX5_rank_3 10 rfl rfl)
theorem dX5_rank_84 : decode cX5_rank 84 = .ok (.iload_n 1, 1) := dk_27 (dk_at dksX5_rank_3 12 rfl rfl)
theorem dX5_rank_85 : decode cX5_rank 85 = .ok (.if_icmp .ne 5, 3) := dk_160 0 5 (dk_at dksX5_rank_3 13 rfl rfl)
theorem dX5_rank_88 : decode cX5_rank 88 = .ok (.iload_n 3, 1) := dk_29 (dk_at dksX5_rank_3 16 rfl rfl)
theorem dX5_rank_89 : decode cX5_rank 89 = .ok (.ireturn, 1) := dk_172 (dk_at dksX5_rank_3 17 rfl rfl)
theorem dX5_rank_90 : decode cX5_rank 90 = .ok (.iinc 3 1, 3) := dk_132 3 1 (dk_at dksX5_rank_3 18 rfl rfl)
theorem dX5_rank_93 : decode cX5_rank 93 = .ok (.goto (-91), 3) := dk_167 255 165 (dk_at dksX5_rank_3 21 rfl rfl)
theorem dX5_rank_96 : decode cX5_rank 96 = .ok (.iconst (-1), 1) := dk_2 (dk_at dksX5_rank_4 0 rfl rfl)
theorem dX5_rank_97 : decode cX5_rank 97 = .ok (.ireturn, 1) := dk_172 (dk_at dksX5_rank_4 1 rfl rfl)
abbrev cX5_earlier : ByteArray := prog_13_method_39_code
def yX5_earlier : MethodName := ⟨RX5, "earlier", "(II)Z"⟩
def dkwX5_earlier_5 : List UInt8 := [162, 0, 7, 4, 167, 0, 4, 3, 172]
abbrev dktX5_earlier_5 : List UInt8 := dkwX5_earlier_5 ++ []
def dkwX5_earlier_4 : List UInt8 := [42, 180, 0, 62, 16, 12, 27, 104, 29, 96, 46, 42, 180, 0, 62, 16, 12, 28, 104, 29, 96, 46]
abbrev dktX5_earlier_4 : List UInt8 := dkwX5_earlier_4 ++ dktX5_earlier_5
def dkwX5_earlier_3 : List UInt8 := [160, 0, 24, 42, 180, 0, 59, 27, 46, 42, 180, 0, 59, 28, 46, 162, 0, 7, 4, 167, 0, 4, 3, 172]
abbrev dktX5_earlier_3 : List UInt8 := dkwX5_earlier_3 ++ dktX5_earlier_4
def dkwX5_earlier_2 : List UInt8 := [132, 3, 1, 167, 255, 208, 29, 42, 180, 0, 59, 27, 46, 159, 0, 13, 29, 42, 180, 0, 59, 28, 46]
abbrev dktX5_earlier_2 : List UInt8 := dkwX5_earlier_2 ++ dktX5_earlier_3
def dkwX5_earlier_1 : List UInt8 := [180, 0, 62, 16, 12, 27, 104, 29, 96, 46, 42, 180, 0, 62, 16, 12, 28, 104, 29, 96, 46, 160, 0, 9]
abbrev dktX5_earlier_1 : List UInt8 := dkwX5_earlier_1 ++ dktX5_earlier_2
def dkwX5_earlier_0 : List UInt8 := [3, 62, 29, 42, 180, 0, 59, 27, 46, 162, 0, 44, 29, 42, 180, 0, 59, 28, 46, 162, 0, 34, 42]
abbrev dktX5_earlier_0 : List UInt8 := dkwX5_earlier_0 ++ dktX5_earlier_1
theorem dksX5_earlier_0 : cX5_earlier.data.toList.drop 0 = dktX5_earlier_0 := by decide +kernel
theorem dksX5_earlier_1 : cX5_earlier.data.toList.drop 23 = dktX5_earlier_1 := dk_seg dksX5_earlier_0 23 rfl rfl
theorem dksX5_earlier_2 : cX5_earlier.data.toList.drop 47 = dktX5_earlier_2 := dk_seg dksX5_earlier_1 24 rfl rfl
theorem dksX5_earlier_3 : cX5_earlier.data.toList.drop 70 = dktX5_earlier_3 := dk_seg dksX5_earlier_2 23 rfl rfl
theorem dksX5_earlier_4 : cX5_earlier.data.toList.drop 94 = dktX5_earlier_4 := dk_seg dksX5_earlier_3 24 rfl rfl
theorem dksX5_earlier_5 : cX5_earlier.data.toList.drop 116 = dktX5_earlier_5 := dk_seg dksX5_earlier_4 22 rfl rfl
theorem dX5_earlier_0 : decode cX5_earlier 0 = .ok (.iconst 0, 1) := dk_3 (dk_at dksX5_earlier_0 0 rfl rfl)
theorem dX5_earlier_1 : decode cX5_earlier 1 = .ok (.istore_n 3, 1) := dk_62 (dk_at dksX5_earlier_0 1 rfl rfl)
theorem dX5_earlier_2 : decode cX5_earlier 2 = .ok (.iload_n 3, 1) := dk_29 (dk_at dksX5_earlier_0 2 rfl rfl)
theorem dX5_earlier_3 : decode cX5_earlier 3 = .ok (.aload_n 0, 1) := dk_42 (dk_at dksX5_earlier_0 3 rfl rfl)
theorem dX5_earlier_4 : decode cX5_earlier 4 = .ok (.getfield 59, 3) := dk_180 0 59 (dk_at dksX5_earlier_0 4 rfl rfl)
theorem dX5_earlier_7 : decode cX5_earlier 7 = .ok (.iload_n 1, 1) := dk_27 (dk_at dksX5_earlier_0 7 rfl rfl)
theorem dX5_earlier_8 : decode cX5_earlier 8 = .ok (.iaload, 1) := dk_46 (dk_at dksX5_earlier_0 8 rfl rfl)
theorem dX5_earlier_9 : decode cX5_earlier 9 = .ok (.if_icmp .ge 44, 3) := dk_162 0 44 (dk_at dksX5_earlier_0 9 rfl rfl)
theorem dX5_earlier_12 : decode cX5_earlier 12 = .ok (.iload_n 3, 1) := dk_29 (dk_at dksX5_earlier_0 12 rfl rfl)
theorem dX5_earlier_13 : decode cX5_earlier 13 = .ok (.aload_n 0, 1) := dk_42 (dk_at dksX5_earlier_0 13 rfl rfl)
theorem dX5_earlier_14 : decode cX5_earlier 14 = .ok (.getfield 59, 3) := dk_180 0 59 (dk_at dksX5_earlier_0 14 rfl rfl)
theorem dX5_earlier_17 : decode cX5_earlier 17 = .ok (.iload_n 2, 1) := dk_28 (dk_at dksX5_earlier_0 17 rfl rfl)
theorem dX5_earlier_18 : decode cX5_earlier 18 = .ok (.iaload, 1) := dk_46 (dk_at dksX5_earlier_0 18 rfl rfl)
theorem dX5_earlier_19 : decode cX5_earlier 19 = .ok (.if_icmp .ge 34, 3) := dk_162 0 34 (dk_at dksX5_earlier_0 19 rfl rfl)
theorem dX5_earlier_22 : decode cX5_earlier 22 = .ok (.aload_n 0, 1) := dk_42 (dk_at dksX5_earlier_0 22 rfl rfl)
theorem dX5_earlier_23 : decode cX5_earlier 23 = .ok (.getfield 62, 3) := dk_180 0 62 (dk_at dksX5_earlier_1 0 rfl rfl)
theorem dX5_earlier_26 : decode cX5_earlier 26 = .ok (.bipush 12, 2) := dk_16 12 (dk_at dksX5_earlier_1 3 rfl rfl)
theorem dX5_earlier_28 : decode cX5_earlier 28 = .ok (.iload_n 1, 1) := dk_27 (dk_at dksX5_earlier_1 5 rfl rfl)
theorem dX5_earlier_29 : decode cX5_earlier 29 = .ok (.imul, 1) := dk_104 (dk_at dksX5_earlier_1 6 rfl rfl)
theorem dX5_earlier_30 : decode cX5_earlier 30 = .ok (.iload_n 3, 1) := dk_29 (dk_at dksX5_earlier_1 7 rfl rfl)
theorem dX5_earlier_31 : decode cX5_earlier 31 = .ok (.iadd, 1) := dk_96 (dk_at dksX5_earlier_1 8 rfl rfl)
theorem dX5_earlier_32 : decode cX5_earlier 32 = .ok (.iaload, 1) := dk_46 (dk_at dksX5_earlier_1 9 rfl rfl)
theorem dX5_earlier_33 : decode cX5_earlier 33 = .ok (.aload_n 0, 1) := dk_42 (dk_at dksX5_earlier_1 10 rfl rfl)
theorem dX5_earlier_34 : decode cX5_earlier 34 = .ok (.getfield 62, 3) := dk_180 0 62 (dk_at dksX5_earlier_1 11 rfl rfl)
theorem dX5_earlier_37 : decode cX5_earlier 37 = .ok (.bipush 12, 2) := dk_16 12 (dk_at dksX5_earlier_1 14 rfl rfl)
theorem dX5_earlier_39 : decode cX5_earlier 39 = .ok (.iload_n 2, 1) := dk_28 (dk_at dksX5_earlier_1 16 rfl rfl)
theorem dX5_earlier_40 : decode cX5_earlier 40 = .ok (.imul, 1) := dk_104 (dk_at dksX5_earlier_1 17 rfl rfl)
theorem dX5_earlier_41 : decode cX5_earlier 41 = .ok (.iload_n 3, 1) := dk_29 (dk_at dksX5_earlier_1 18 rfl rfl)
theorem dX5_earlier_42 : decode cX5_earlier 42 = .ok (.iadd, 1) := dk_96 (dk_at dksX5_earlier_1 19 rfl rfl)
theorem dX5_earlier_43 : decode cX5_earlier 43 = .ok (.iaload, 1) := dk_46 (dk_at dksX5_earlier_1 20 rfl rfl)
theorem dX5_earlier_44 : decode cX5_earlier 44 = .ok (.if_icmp .ne 9, 3) := dk_160 0 9 (dk_at dksX5_earlier_1 21 rfl rfl)
theorem dX5_earlier_47 : decode cX5_earlier 47 = .ok (.iinc 3 1, 3) := dk_132 3 1 (dk_at dksX5_earlier_2 0 rfl rfl)
theorem dX5_earlier_50 : decode cX5_earlier 50 = .ok (.goto (-48), 3) := dk_167 255 208 (dk_at dksX5_earlier_2 3 rfl rfl)
theorem dX5_earlier_53 : decode cX5_earlier 53 = .ok (.iload_n 3, 1) := dk_29 (dk_at dksX5_earlier_2 6 rfl rfl)
theorem dX5_earlier_54 : decode cX5_earlier 54 = .ok (.aload_n 0, 1) := dk_42 (dk_at dksX5_earlier_2 7 rfl rfl)
theorem dX5_earlier_55 : decode cX5_earlier 55 = .ok (.getfield 59, 3) := dk_180 0 59 (dk_at dksX5_earlier_2 8 rfl rfl)
theorem dX5_earlier_58 : decode cX5_earlier 58 = .ok (.iload_n 1, 1) := dk_27 (dk_at dksX5_earlier_2 11 rfl rfl)
theorem dX5_earlier_59 : decode cX5_earlier 59 = .ok (.iaload, 1) := dk_46 (dk_at dksX5_earlier_2 12 rfl rfl)
theorem dX5_earlier_60 : decode cX5_earlier 60 = .ok (.if_icmp .eq 13, 3) := dk_159 0 13 (dk_at dksX5_earlier_2 13 rfl rfl)
theorem dX5_earlier_63 : decode cX5_earlier 63 = .ok (.iload_n 3, 1) := dk_29 (dk_at dksX5_earlier_2 16 rfl rfl)
theorem dX5_earlier_64 : decode cX5_earlier 64 = .ok (.aload_n 0, 1) := dk_42 (dk_at dksX5_earlier_2 17 rfl rfl)
theorem dX5_earlier_65 : decode cX5_earlier 65 = .ok (.getfield 59, 3) := dk_180 0 59 (dk_at dksX5_earlier_2 18 rfl rfl)
theorem dX5_earlier_68 : decode cX5_earlier 68 = .ok (.iload_n 2, 1) := dk_28 (dk_at dksX5_earlier_2 21 rfl rfl)
theorem dX5_earlier_69 : decode cX5_earlier 69 = .ok (.iaload, 1) := dk_46 (dk_at dksX5_earlier_2 22 rfl rfl)
theorem dX5_earlier_70 : decode cX5_earlier 70 = .ok (.if_icmp .ne 24, 3) := dk_160 0 24 (dk_at dksX5_earlier_3 0 rfl rfl)
theorem dX5_earlier_73 : decode cX5_earlier 73 = .ok (.aload_n 0, 1) := dk_42 (dk_at dksX5_earlier_3 3 rfl rfl)
theorem dX5_earlier_74 : decode cX5_earlier 74 = .ok (.getfield 59, 3) := dk_180 0 59 (dk_at dksX5_earlier_3 4 rfl rfl)
theorem dX5_earlier_77 : decode cX5_earlier 77 = .ok (.iload_n 1, 1) := dk_27 (dk_at dksX5_earlier_3 7 rfl rfl)
theorem dX5_earlier_78 : decode cX5_earlier 78 = .ok (.iaload, 1) := dk_46 (dk_at dksX5_earlier_3 8 rfl rfl)
theorem dX5_earlier_79 : decode cX5_earlier 79 = .ok (.aload_n 0, 1) := dk_42 (dk_at dksX5_earlier_3 9 rfl rfl)
theorem dX5_earlier_80 : decode cX5_earlier 80 = .ok (.getfield 59, 3) := dk_180 0 59 (dk_at dksX5_earlier_3 10 rfl rfl)
theorem dX5_earlier_83 : decode cX5_earlier 83 = .ok (.iload_n 2, 1) := dk_28 (dk_at dksX5_earlier_3 13 rfl rfl)
theorem dX5_earlier_84 : decode cX5_earlier 84 = .ok (.iaload, 1) := dk_46 (dk_at dksX5_earlier_3 14 rfl rfl)
theorem dX5_earlier_85 : decode cX5_earlier 85 = .ok (.if_icmp .ge 7, 3) := dk_162 0 7 (dk_at dksX5_earlier_3 15 rfl rfl)
theorem dX5_earlier_88 : decode cX5_earlier 88 = .ok (.iconst 1, 1) := dk_4 (dk_at dksX5_earlier_3 18 rfl rfl)
theorem dX5_earlier_89 : decode cX5_earlier 89 = .ok (.goto 4, 3) := dk_167 0 4 (dk_at dksX5_earlier_3 19 rfl rfl)
theorem dX5_earlier_92 : decode cX5_earlier 92 = .ok (.iconst 0, 1) := dk_3 (dk_at dksX5_earlier_3 22 rfl rfl)
theorem dX5_earlier_93 : decode cX5_earlier 93 = .ok (.ireturn, 1) := dk_172 (dk_at dksX5_earlier_3 23 rfl rfl)
theorem dX5_earlier_94 : decode cX5_earlier 94 = .ok (.aload_n 0, 1) := dk_42 (dk_at dksX5_earlier_4 0 rfl rfl)
theorem dX5_earlier_95 : decode cX5_earlier 95 = .ok (.getfield 62, 3) := dk_180 0 62 (dk_at dksX5_earlier_4 1 rfl rfl)
theorem dX5_earlier_98 : decode cX5_earlier 98 = .ok (.bipush 12, 2) := dk_16 12 (dk_at dksX5_earlier_4 4 rfl rfl)
theorem dX5_earlier_100 : decode cX5_earlier 100 = .ok (.iload_n 1, 1) := dk_27 (dk_at dksX5_earlier_4 6 rfl rfl)
theorem dX5_earlier_101 : decode cX5_earlier 101 = .ok (.imul, 1) := dk_104 (dk_at dksX5_earlier_4 7 rfl rfl)
theorem dX5_earlier_102 : decode cX5_earlier 102 = .ok (.iload_n 3, 1) := dk_29 (dk_at dksX5_earlier_4 8 rfl rfl)
theorem dX5_earlier_103 : decode cX5_earlier 103 = .ok (.iadd, 1) := dk_96 (dk_at dksX5_earlier_4 9 rfl rfl)
theorem dX5_earlier_104 : decode cX5_earlier 104 = .ok (.iaload, 1) := dk_46 (dk_at dksX5_earlier_4 10 rfl rfl)
theorem dX5_earlier_105 : decode cX5_earlier 105 = .ok (.aload_n 0, 1) := dk_42 (dk_at dksX5_earlier_4 11 rfl rfl)
theorem dX5_earlier_106 : decode cX5_earlier 106 = .ok (.getfield 62, 3) := dk_180 0 62 (dk_at dksX5_earlier_4 12 rfl rfl)
theorem dX5_earlier_109 : decode cX5_earlier 109 = .ok (.bipush 12, 2) := dk_16 12 (dk_at dksX5_earlier_4 15 rfl rfl)
theorem dX5_earlier_111 : decode cX5_earlier 111 = .ok (.iload_n 2, 1) := dk_28 (dk_at dksX5_earlier_4 17 rfl rfl)
theorem dX5_earlier_112 : decode cX5_earlier 112 = .ok (.imul, 1) := dk_104 (dk_at dksX5_earlier_4 18 rfl rfl)
theorem dX5_earlier_113 : decode cX5_earlier 113 = .ok (.iload_n 3, 1) := dk_29 (dk_at dksX5_earlier_4 19 rfl rfl)
theorem dX5_earlier_114 : decode cX5_earlier 114 = .ok (.iadd, 1) := dk_96 (dk_at dksX5_earlier_4 20 rfl rfl)
theorem dX5_earlier_115 : decode cX5_earlier 115 = .ok (.iaload, 1) := dk_46 (dk_at dksX5_earlier_4 21 rfl rfl)
theorem dX5_earlier_116 : decode cX5_earlier 116 = .ok (.if_icmp .ge 7, 3) := dk_162 0 7 (dk_at dksX5_earlier_5 0 rfl rfl)
theorem dX5_earlier_119 : decode cX5_earlier 119 = .ok (.iconst 1, 1) := dk_4 (dk_at dksX5_earlier_5 3 rfl rfl)
theorem dX5_earlier_120 : decode cX5_earlier 120 = .ok (.goto 4, 3) := dk_167 0 4 (dk_at dksX5_earlier_5 4 rfl rfl)
theorem dX5_earlier_123 : decode cX5_earlier 123 = .ok (.iconst 0, 1) := dk_3 (dk_at dksX5_earlier_5 7 rfl rfl)
theorem dX5_earlier_124 : decode cX5_earlier 124 = .ok (.ireturn, 1) := dk_172 (dk_at dksX5_earlier_5 8 rfl rfl)
theorem q48 : (Jvm.Cond.initialized "FuzzyFinderModel") ∈ lw_all := lw_g (lw_at lw_m1 14 rfl) rfl
theorem q735 : (Jvm.Cond.selects "FuzzyFinderModel" ({ cls := "java/lang/Object", name := "getClass", desc := "()Ljava/lang/Class;" } : Jvm.MethodName) ({ cls := "java/lang/Object", name := "getClass", desc := "()Ljava/lang/Class;" } : Jvm.MethodName)) ∈ lw_all := lw_g (lw_at lw_m3 221 rfl) rfl
theorem q779 : (Jvm.Cond.instantiable "FuzzyFinderModel" (29 : Nat)) ∈ lw_all := lw_g (lw_at lw_m4 25 rfl) rfl
theorem q781 : (Jvm.Cond.instanceMethod ({ cls := "FuzzyFinderModel", name := "<init>", desc := "()V" } : Jvm.MethodName)) ∈ lw_all := lw_g (lw_at lw_m4 27 rfl) rfl
theorem q782 : (Jvm.Cond.code ({ cls := "FuzzyFinderModel", name := "<init>", desc := "()V" } : Jvm.MethodName) prog_13_method_1_code (1 : Nat) (Option.none : Option Jvm.ClassFile.FieldType)) ∈ lw_all := lw_g (lw_at lw_m4 28 rfl) rfl
theorem q783 : (Jvm.Cond.methodLink "FuzzyFinderModel" (1 : Nat) ({ cls := "java/lang/Object", name := "<init>", desc := "()V" } : Jvm.MethodName)) ∈ lw_all := lw_g (lw_at lw_m4 29 rfl) rfl
theorem q784 : (Jvm.Cond.fieldLink "FuzzyFinderModel" (68 : Nat) "FuzzyFinderModel" "typed" "I") ∈ lw_all := lw_g (lw_at lw_m4 30 rfl) rfl
theorem q785 : (Jvm.Cond.fieldLink "FuzzyFinderModel" (7 : Nat) "FuzzyFinderModel" "chars" "[I") ∈ lw_all := lw_g (lw_at lw_m4 31 rfl) rfl
theorem q786 : (Jvm.Cond.fieldLink "FuzzyFinderModel" (122 : Nat) "FuzzyFinderModel" "nodes" "I") ∈ lw_all := lw_g (lw_at lw_m4 32 rfl) rfl
theorem q787 : (Jvm.Cond.fieldLink "FuzzyFinderModel" (13 : Nat) "FuzzyFinderModel" "kind" "[I") ∈ lw_all := lw_g (lw_at lw_m4 33 rfl) rfl
theorem q788 : (Jvm.Cond.fieldLink "FuzzyFinderModel" (16 : Nat) "FuzzyFinderModel" "left" "[I") ∈ lw_all := lw_g (lw_at lw_m4 34 rfl) rfl
theorem q789 : (Jvm.Cond.fieldLink "FuzzyFinderModel" (19 : Nat) "FuzzyFinderModel" "right" "[I") ∈ lw_all := lw_g (lw_at lw_m4 35 rfl) rfl
theorem q790 : (Jvm.Cond.fieldLink "FuzzyFinderModel" (79 : Nat) "FuzzyFinderModel" "fresh" "I") ∈ lw_all := lw_g (lw_at lw_m4 36 rfl) rfl
theorem q791 : (Jvm.Cond.fieldLink "FuzzyFinderModel" (22 : Nat) "FuzzyFinderModel" "freshKind" "[I") ∈ lw_all := lw_g (lw_at lw_m4 37 rfl) rfl
theorem q792 : (Jvm.Cond.fieldLink "FuzzyFinderModel" (25 : Nat) "FuzzyFinderModel" "freshLeft" "[I") ∈ lw_all := lw_g (lw_at lw_m4 38 rfl) rfl
theorem q793 : (Jvm.Cond.fieldLink "FuzzyFinderModel" (28 : Nat) "FuzzyFinderModel" "freshRight" "[I") ∈ lw_all := lw_g (lw_at lw_m4 39 rfl) rfl
theorem q794 : (Jvm.Cond.fieldLink "FuzzyFinderModel" (85 : Nat) "FuzzyFinderModel" "waits" "I") ∈ lw_all := lw_g (lw_at lw_m4 40 rfl) rfl
theorem q795 : (Jvm.Cond.fieldLink "FuzzyFinderModel" (31 : Nat) "FuzzyFinderModel" "waiting" "[I") ∈ lw_all := lw_g (lw_at lw_m4 41 rfl) rfl
theorem q796 : (Jvm.Cond.fieldLink "FuzzyFinderModel" (82 : Nat) "FuzzyFinderModel" "wholes" "I") ∈ lw_all := lw_g (lw_at lw_m4 42 rfl) rfl
theorem q797 : (Jvm.Cond.fieldLink "FuzzyFinderModel" (34 : Nat) "FuzzyFinderModel" "whole" "[I") ∈ lw_all := lw_g (lw_at lw_m4 43 rfl) rfl
theorem q798 : (Jvm.Cond.fieldLink "FuzzyFinderModel" (99 : Nat) "FuzzyFinderModel" "letters" "I") ∈ lw_all := lw_g (lw_at lw_m4 44 rfl) rfl
theorem q799 : (Jvm.Cond.fieldLink "FuzzyFinderModel" (37 : Nat) "FuzzyFinderModel" "added" "I") ∈ lw_all := lw_g (lw_at lw_m4 45 rfl) rfl
theorem q800 : (Jvm.Cond.fieldLink "FuzzyFinderModel" (41 : Nat) "FuzzyFinderModel" "missing" "I") ∈ lw_all := lw_g (lw_at lw_m4 46 rfl) rfl
theorem q801 : (Jvm.Cond.fieldLink "FuzzyFinderModel" (44 : Nat) "FuzzyFinderModel" "wrong" "I") ∈ lw_all := lw_g (lw_at lw_m4 47 rfl) rfl
theorem q802 : (Jvm.Cond.fieldLink "FuzzyFinderModel" (132 : Nat) "FuzzyFinderModel" "most" "I") ∈ lw_all := lw_g (lw_at lw_m4 48 rfl) rfl
theorem q803 : (Jvm.Cond.fieldLink "FuzzyFinderModel" (135 : Nat) "FuzzyFinderModel" "length" "I") ∈ lw_all := lw_g (lw_at lw_m4 49 rfl) rfl
theorem q804 : (Jvm.Cond.fieldLink "FuzzyFinderModel" (47 : Nat) "FuzzyFinderModel" "text" "[I") ∈ lw_all := lw_g (lw_at lw_m4 50 rfl) rfl
theorem q805 : (Jvm.Cond.fieldLink "FuzzyFinderModel" (128 : Nat) "FuzzyFinderModel" "known" "Z") ∈ lw_all := lw_g (lw_at lw_m4 51 rfl) rfl
theorem q806 : (Jvm.Cond.fieldLink "FuzzyFinderModel" (50 : Nat) "FuzzyFinderModel" "costs" "[I") ∈ lw_all := lw_g (lw_at lw_m4 52 rfl) rfl
theorem q807 : (Jvm.Cond.fieldLink "FuzzyFinderModel" (53 : Nat) "FuzzyFinderModel" "foundFrom" "I") ∈ lw_all := lw_g (lw_at lw_m4 53 rfl) rfl
theorem q808 : (Jvm.Cond.fieldLink "FuzzyFinderModel" (56 : Nat) "FuzzyFinderModel" "foundTo" "I") ∈ lw_all := lw_g (lw_at lw_m4 54 rfl) rfl
theorem q809 : (Jvm.Cond.fieldLink "FuzzyFinderModel" (173 : Nat) "FuzzyFinderModel" "words" "I") ∈ lw_all := lw_g (lw_at lw_m4 55 rfl) rfl
theorem q810 : (Jvm.Cond.fieldLink "FuzzyFinderModel" (59 : Nat) "FuzzyFinderModel" "size" "[I") ∈ lw_all := lw_g (lw_at lw_m4 56 rfl) rfl
theorem q811 : (Jvm.Cond.fieldLink "FuzzyFinderModel" (62 : Nat) "FuzzyFinderModel" "letter" "[I") ∈ lw_all := lw_g (lw_at lw_m4 57 rfl) rfl
theorem q812 : (Jvm.Cond.fieldLink "FuzzyFinderModel" (65 : Nat) "FuzzyFinderModel" "steps" "[I") ∈ lw_all := lw_g (lw_at lw_m4 58 rfl) rfl
theorem q813 : (Jvm.Cond.lays "FuzzyFinderModel" "FuzzyFinderModel" "typed" "I") ∈ lw_all := lw_g (lw_at lw_m4 59 rfl) rfl
theorem q814 : (Jvm.Cond.soleField "FuzzyFinderModel" "typed") ∈ lw_all := lw_g (lw_at lw_m4 60 rfl) rfl
theorem q815 : (Jvm.Cond.laysFinal "FuzzyFinderModel" "FuzzyFinderModel" "chars" "[I") ∈ lw_all := lw_g (lw_at lw_m4 61 rfl) rfl
theorem q816 : (Jvm.Cond.soleField "FuzzyFinderModel" "chars") ∈ lw_all := lw_g (lw_at lw_m4 62 rfl) rfl
theorem q817 : (Jvm.Cond.lays "FuzzyFinderModel" "FuzzyFinderModel" "nodes" "I") ∈ lw_all := lw_g (lw_at lw_m4 63 rfl) rfl
theorem q818 : (Jvm.Cond.soleField "FuzzyFinderModel" "nodes") ∈ lw_all := lw_g (lw_at lw_m4 64 rfl) rfl
theorem q819 : (Jvm.Cond.laysFinal "FuzzyFinderModel" "FuzzyFinderModel" "kind" "[I") ∈ lw_all := lw_g (lw_at lw_m4 65 rfl) rfl
theorem q820 : (Jvm.Cond.soleField "FuzzyFinderModel" "kind") ∈ lw_all := lw_g (lw_at lw_m4 66 rfl) rfl
theorem q821 : (Jvm.Cond.laysFinal "FuzzyFinderModel" "FuzzyFinderModel" "left" "[I") ∈ lw_all := lw_g (lw_at lw_m4 67 rfl) rfl
theorem q822 : (Jvm.Cond.soleField "FuzzyFinderModel" "left") ∈ lw_all := lw_g (lw_at lw_m4 68 rfl) rfl
theorem q823 : (Jvm.Cond.laysFinal "FuzzyFinderModel" "FuzzyFinderModel" "right" "[I") ∈ lw_all := lw_g (lw_at lw_m4 69 rfl) rfl
theorem q824 : (Jvm.Cond.soleField "FuzzyFinderModel" "right") ∈ lw_all := lw_g (lw_at lw_m4 70 rfl) rfl
theorem q825 : (Jvm.Cond.lays "FuzzyFinderModel" "FuzzyFinderModel" "fresh" "I") ∈ lw_all := lw_g (lw_at lw_m4 71 rfl) rfl
theorem q826 : (Jvm.Cond.soleField "FuzzyFinderModel" "fresh") ∈ lw_all := lw_g (lw_at lw_m4 72 rfl) rfl
theorem q827 : (Jvm.Cond.laysFinal "FuzzyFinderModel" "FuzzyFinderModel" "freshKind" "[I") ∈ lw_all := lw_g (lw_at lw_m4 73 rfl) rfl
theorem q828 : (Jvm.Cond.soleField "FuzzyFinderModel" "freshKind") ∈ lw_all := lw_g (lw_at lw_m4 74 rfl) rfl
theorem q829 : (Jvm.Cond.laysFinal "FuzzyFinderModel" "FuzzyFinderModel" "freshLeft" "[I") ∈ lw_all := lw_g (lw_at lw_m4 75 rfl) rfl
theorem q830 : (Jvm.Cond.soleField "FuzzyFinderModel" "freshLeft") ∈ lw_all := lw_g (lw_at lw_m4 76 rfl) rfl
theorem q831 : (Jvm.Cond.laysFinal "FuzzyFinderModel" "FuzzyFinderModel" "freshRight" "[I") ∈ lw_all := lw_g (lw_at lw_m4 77 rfl) rfl
theorem q832 : (Jvm.Cond.soleField "FuzzyFinderModel" "freshRight") ∈ lw_all := lw_g (lw_at lw_m4 78 rfl) rfl
theorem q833 : (Jvm.Cond.lays "FuzzyFinderModel" "FuzzyFinderModel" "waits" "I") ∈ lw_all := lw_g (lw_at lw_m4 79 rfl) rfl
theorem q834 : (Jvm.Cond.soleField "FuzzyFinderModel" "waits") ∈ lw_all := lw_g (lw_at lw_m4 80 rfl) rfl
theorem q835 : (Jvm.Cond.laysFinal "FuzzyFinderModel" "FuzzyFinderModel" "waiting" "[I") ∈ lw_all := lw_g (lw_at lw_m4 81 rfl) rfl
theorem q836 : (Jvm.Cond.soleField "FuzzyFinderModel" "waiting") ∈ lw_all := lw_g (lw_at lw_m4 82 rfl) rfl
theorem q837 : (Jvm.Cond.lays "FuzzyFinderModel" "FuzzyFinderModel" "wholes" "I") ∈ lw_all := lw_g (lw_at lw_m4 83 rfl) rfl
theorem q838 : (Jvm.Cond.soleField "FuzzyFinderModel" "wholes") ∈ lw_all := lw_g (lw_at lw_m4 84 rfl) rfl
theorem q839 : (Jvm.Cond.laysFinal "FuzzyFinderModel" "FuzzyFinderModel" "whole" "[I") ∈ lw_all := lw_g (lw_at lw_m4 85 rfl) rfl
theorem q840 : (Jvm.Cond.soleField "FuzzyFinderModel" "whole") ∈ lw_all := lw_g (lw_at lw_m4 86 rfl) rfl
theorem q841 : (Jvm.Cond.lays "FuzzyFinderModel" "FuzzyFinderModel" "letters" "I") ∈ lw_all := lw_g (lw_at lw_m4 87 rfl) rfl
theorem q842 : (Jvm.Cond.soleField "FuzzyFinderModel" "letters") ∈ lw_all := lw_g (lw_at lw_m4 88 rfl) rfl
theorem q843 : (Jvm.Cond.lays "FuzzyFinderModel" "FuzzyFinderModel" "added" "I") ∈ lw_all := lw_g (lw_at lw_m4 89 rfl) rfl
theorem q844 : (Jvm.Cond.soleField "FuzzyFinderModel" "added") ∈ lw_all := lw_g (lw_at lw_m4 90 rfl) rfl
theorem q845 : (Jvm.Cond.lays "FuzzyFinderModel" "FuzzyFinderModel" "missing" "I") ∈ lw_all := lw_g (lw_at lw_m4 91 rfl) rfl
theorem q846 : (Jvm.Cond.soleField "FuzzyFinderModel" "missing") ∈ lw_all := lw_g (lw_at lw_m4 92 rfl) rfl
theorem q847 : (Jvm.Cond.lays "FuzzyFinderModel" "FuzzyFinderModel" "wrong" "I") ∈ lw_all := lw_g (lw_at lw_m4 93 rfl) rfl
theorem q848 : (Jvm.Cond.soleField "FuzzyFinderModel" "wrong") ∈ lw_all := lw_g (lw_at lw_m4 94 rfl) rfl
theorem q849 : (Jvm.Cond.lays "FuzzyFinderModel" "FuzzyFinderModel" "most" "I") ∈ lw_all := lw_g (lw_at lw_m4 95 rfl) rfl
theorem q850 : (Jvm.Cond.soleField "FuzzyFinderModel" "most") ∈ lw_all := lw_g (lw_at lw_m4 96 rfl) rfl
theorem q851 : (Jvm.Cond.lays "FuzzyFinderModel" "FuzzyFinderModel" "length" "I") ∈ lw_all := lw_g (lw_at lw_m4 97 rfl) rfl
theorem q852 : (Jvm.Cond.soleField "FuzzyFinderModel" "length") ∈ lw_all := lw_g (lw_at lw_m4 98 rfl) rfl
theorem q853 : (Jvm.Cond.laysFinal "FuzzyFinderModel" "FuzzyFinderModel" "text" "[I") ∈ lw_all := lw_g (lw_at lw_m4 99 rfl) rfl
theorem q854 : (Jvm.Cond.soleField "FuzzyFinderModel" "text") ∈ lw_all := lw_g (lw_at lw_m4 100 rfl) rfl
theorem q855 : (Jvm.Cond.lays "FuzzyFinderModel" "FuzzyFinderModel" "known" "Z") ∈ lw_all := lw_g (lw_at lw_m4 101 rfl) rfl
theorem q856 : (Jvm.Cond.soleField "FuzzyFinderModel" "known") ∈ lw_all := lw_g (lw_at lw_m4 102 rfl) rfl
theorem q857 : (Jvm.Cond.laysFinal "FuzzyFinderModel" "FuzzyFinderModel" "costs" "[I") ∈ lw_all := lw_g (lw_at lw_m4 103 rfl) rfl
theorem q858 : (Jvm.Cond.soleField "FuzzyFinderModel" "costs") ∈ lw_all := lw_g (lw_at lw_m4 104 rfl) rfl
theorem q859 : (Jvm.Cond.lays "FuzzyFinderModel" "FuzzyFinderModel" "foundFrom" "I") ∈ lw_all := lw_g (lw_at lw_m4 105 rfl) rfl
theorem q860 : (Jvm.Cond.soleField "FuzzyFinderModel" "foundFrom") ∈ lw_all := lw_g (lw_at lw_m4 106 rfl) rfl
theorem q861 : (Jvm.Cond.lays "FuzzyFinderModel" "FuzzyFinderModel" "foundTo" "I") ∈ lw_all := lw_g (lw_at lw_m4 107 rfl) rfl
theorem q862 : (Jvm.Cond.soleField "FuzzyFinderModel" "foundTo") ∈ lw_all := lw_g (lw_at lw_m4 108 rfl) rfl
theorem q863 : (Jvm.Cond.lays "FuzzyFinderModel" "FuzzyFinderModel" "words" "I") ∈ lw_all := lw_g (lw_at lw_m4 109 rfl) rfl
theorem q864 : (Jvm.Cond.soleField "FuzzyFinderModel" "words") ∈ lw_all := lw_g (lw_at lw_m4 110 rfl) rfl
theorem q865 : (Jvm.Cond.laysFinal "FuzzyFinderModel" "FuzzyFinderModel" "size" "[I") ∈ lw_all := lw_g (lw_at lw_m4 111 rfl) rfl
theorem q866 : (Jvm.Cond.soleField "FuzzyFinderModel" "size") ∈ lw_all := lw_g (lw_at lw_m4 112 rfl) rfl
theorem q867 : (Jvm.Cond.laysFinal "FuzzyFinderModel" "FuzzyFinderModel" "letter" "[I") ∈ lw_all := lw_g (lw_at lw_m4 113 rfl) rfl
theorem q868 : (Jvm.Cond.soleField "FuzzyFinderModel" "letter") ∈ lw_all := lw_g (lw_at lw_m4 114 rfl) rfl
theorem q869 : (Jvm.Cond.laysFinal "FuzzyFinderModel" "FuzzyFinderModel" "steps" "[I") ∈ lw_all := lw_g (lw_at lw_m4 115 rfl) rfl
theorem q870 : (Jvm.Cond.soleField "FuzzyFinderModel" "steps") ∈ lw_all := lw_g (lw_at lw_m4 116 rfl) rfl
theorem q871 : (Jvm.Cond.superclass "FuzzyFinderModel" "java/lang/Object") ∈ lw_all := lw_g (lw_at lw_m4 117 rfl) rfl
theorem q873 : (Jvm.Cond.instanceMethod ({ cls := "FuzzyFinderModel", name := "type", desc := "(C)Z" } : Jvm.MethodName)) ∈ lw_all := lw_g (lw_at lw_m4 119 rfl) rfl
theorem q874 : (Jvm.Cond.selects "FuzzyFinderModel" ({ cls := "FuzzyFinderModel", name := "type", desc := "(C)Z" } : Jvm.MethodName) ({ cls := "FuzzyFinderModel", name := "type", desc := "(C)Z" } : Jvm.MethodName)) ∈ lw_all := lw_g (lw_at lw_m4 120 rfl) rfl
theorem q875 : (Jvm.Cond.code ({ cls := "FuzzyFinderModel", name := "type", desc := "(C)Z" } : Jvm.MethodName) prog_13_method_2_code (2 : Nat) (Option.some Jvm.ClassFile.FieldType.boolean)) ∈ lw_all := lw_g (lw_at lw_m4 121 rfl) rfl
theorem q877 : (Jvm.Cond.instanceMethod ({ cls := "FuzzyFinderModel", name := "compile", desc := "()I" } : Jvm.MethodName)) ∈ lw_all := lw_g (lw_at lw_m4 123 rfl) rfl
theorem q878 : (Jvm.Cond.selects "FuzzyFinderModel" ({ cls := "FuzzyFinderModel", name := "compile", desc := "()I" } : Jvm.MethodName) ({ cls := "FuzzyFinderModel", name := "compile", desc := "()I" } : Jvm.MethodName)) ∈ lw_all := lw_g (lw_at lw_m4 124 rfl) rfl
theorem q879 : (Jvm.Cond.code ({ cls := "FuzzyFinderModel", name := "compile", desc := "()I" } : Jvm.MethodName) prog_13_method_13_code (3 : Nat) (Option.some Jvm.ClassFile.FieldType.int)) ∈ lw_all := lw_g (lw_at lw_m4 125 rfl) rfl
theorem q880 : (Jvm.Cond.methodLink "FuzzyFinderModel" (115 : Nat) ({ cls := "FuzzyFinderModel", name := "fault", desc := "()I" } : Jvm.MethodName)) ∈ lw_all := lw_g (lw_at lw_m4 126 rfl) rfl
theorem q881 : (Jvm.Cond.privateMethod ({ cls := "FuzzyFinderModel", name := "fault", desc := "()I" } : Jvm.MethodName)) ∈ lw_tbl := lw_at lw_m4 127 rfl
theorem q882 : (Jvm.Cond.instanceMethod ({ cls := "FuzzyFinderModel", name := "fault", desc := "()I" } : Jvm.MethodName)) ∈ lw_all := lw_g (lw_at lw_m4 128 rfl) rfl
theorem q883 : (Jvm.Cond.code ({ cls := "FuzzyFinderModel", name := "fault", desc := "()I" } : Jvm.MethodName) prog_13_method_5_code (6 : Nat) (Option.some Jvm.ClassFile.FieldType.int)) ∈ lw_all := lw_g (lw_at lw_m4 129 rfl) rfl
theorem q884 : (Jvm.Cond.methodLink "FuzzyFinderModel" (75 : Nat) ({ cls := "FuzzyFinderModel", name := "next", desc := "(III)I" } : Jvm.MethodName)) ∈ lw_all := lw_g (lw_at lw_m4 130 rfl) rfl
theorem q885 : (Jvm.Cond.static ({ cls := "FuzzyFinderModel", name := "next", desc := "(III)I" } : Jvm.MethodName)) ∈ lw_all := lw_g (lw_at lw_m4 131 rfl) rfl
theorem q886 : (Jvm.Cond.code ({ cls := "FuzzyFinderModel", name := "next", desc := "(III)I" } : Jvm.MethodName) prog_13_method_4_code (4 : Nat) (Option.some Jvm.ClassFile.FieldType.int)) ∈ lw_all := lw_g (lw_at lw_m4 132 rfl) rfl
theorem q887 : (Jvm.Cond.methodLink "FuzzyFinderModel" (71 : Nat) ({ cls := "FuzzyFinderModel", name := "small", desc := "(I)Z" } : Jvm.MethodName)) ∈ lw_all := lw_g (lw_at lw_m4 133 rfl) rfl
theorem q888 : (Jvm.Cond.static ({ cls := "FuzzyFinderModel", name := "small", desc := "(I)Z" } : Jvm.MethodName)) ∈ lw_all := lw_g (lw_at lw_m4 134 rfl) rfl
theorem q889 : (Jvm.Cond.code ({ cls := "FuzzyFinderModel", name := "small", desc := "(I)Z" } : Jvm.MethodName) prog_13_method_3_code (1 : Nat) (Option.some Jvm.ClassFile.FieldType.boolean)) ∈ lw_all := lw_g (lw_at lw_m4 135 rfl) rfl
theorem q890 : (Jvm.Cond.methodLink "FuzzyFinderModel" (119 : Nat) ({ cls := "FuzzyFinderModel", name := "read", desc := "()V" } : Jvm.MethodName)) ∈ lw_all := lw_g (lw_at lw_m4 136 rfl) rfl
theorem q891 : (Jvm.Cond.privateMethod ({ cls := "FuzzyFinderModel", name := "read", desc := "()V" } : Jvm.MethodName)) ∈ lw_tbl := lw_at lw_m4 137 rfl
theorem q892 : (Jvm.Cond.instanceMethod ({ cls := "FuzzyFinderModel", name := "read", desc := "()V" } : Jvm.MethodName)) ∈ lw_all := lw_g (lw_at lw_m4 138 rfl) rfl
theorem q893 : (Jvm.Cond.code ({ cls := "FuzzyFinderModel", name := "read", desc := "()V" } : Jvm.MethodName) prog_13_method_12_code (5 : Nat) (Option.none : Option Jvm.ClassFile.FieldType)) ∈ lw_all := lw_g (lw_at lw_m4 139 rfl) rfl
theorem q894 : (Jvm.Cond.methodLink "FuzzyFinderModel" (92 : Nat) ({ cls := "FuzzyFinderModel", name := "join", desc := "(I)V" } : Jvm.MethodName)) ∈ lw_all := lw_g (lw_at lw_m4 140 rfl) rfl
theorem q895 : (Jvm.Cond.privateMethod ({ cls := "FuzzyFinderModel", name := "join", desc := "(I)V" } : Jvm.MethodName)) ∈ lw_tbl := lw_at lw_m4 141 rfl
theorem q896 : (Jvm.Cond.instanceMethod ({ cls := "FuzzyFinderModel", name := "join", desc := "(I)V" } : Jvm.MethodName)) ∈ lw_all := lw_g (lw_at lw_m4 142 rfl) rfl
theorem q897 : (Jvm.Cond.code ({ cls := "FuzzyFinderModel", name := "join", desc := "(I)V" } : Jvm.MethodName) prog_13_method_7_code (4 : Nat) (Option.none : Option Jvm.ClassFile.FieldType)) ∈ lw_all := lw_g (lw_at lw_m4 143 rfl) rfl
theorem q898 : (Jvm.Cond.methodLink "FuzzyFinderModel" (88 : Nat) ({ cls := "FuzzyFinderModel", name := "make", desc := "(III)V" } : Jvm.MethodName)) ∈ lw_all := lw_g (lw_at lw_m4 144 rfl) rfl
theorem q899 : (Jvm.Cond.privateMethod ({ cls := "FuzzyFinderModel", name := "make", desc := "(III)V" } : Jvm.MethodName)) ∈ lw_tbl := lw_at lw_m4 145 rfl
theorem q900 : (Jvm.Cond.instanceMethod ({ cls := "FuzzyFinderModel", name := "make", desc := "(III)V" } : Jvm.MethodName)) ∈ lw_all := lw_g (lw_at lw_m4 146 rfl) rfl
theorem q901 : (Jvm.Cond.code ({ cls := "FuzzyFinderModel", name := "make", desc := "(III)V" } : Jvm.MethodName) prog_13_method_6_code (4 : Nat) (Option.none : Option Jvm.ClassFile.FieldType)) ∈ lw_all := lw_g (lw_at lw_m4 147 rfl) rfl
theorem q902 : (Jvm.Cond.methodLink "FuzzyFinderModel" (96 : Nat) ({ cls := "FuzzyFinderModel", name := "hold", desc := "(I)V" } : Jvm.MethodName)) ∈ lw_all := lw_g (lw_at lw_m4 148 rfl) rfl
theorem q903 : (Jvm.Cond.privateMethod ({ cls := "FuzzyFinderModel", name := "hold", desc := "(I)V" } : Jvm.MethodName)) ∈ lw_tbl := lw_at lw_m4 149 rfl
theorem q904 : (Jvm.Cond.instanceMethod ({ cls := "FuzzyFinderModel", name := "hold", desc := "(I)V" } : Jvm.MethodName)) ∈ lw_all := lw_g (lw_at lw_m4 150 rfl) rfl
theorem q905 : (Jvm.Cond.code ({ cls := "FuzzyFinderModel", name := "hold", desc := "(I)V" } : Jvm.MethodName) prog_13_method_8_code (2 : Nat) (Option.none : Option Jvm.ClassFile.FieldType)) ∈ lw_all := lw_g (lw_at lw_m4 151 rfl) rfl
theorem q906 : (Jvm.Cond.methodLink "FuzzyFinderModel" (103 : Nat) ({ cls := "FuzzyFinderModel", name := "item", desc := "(Z)V" } : Jvm.MethodName)) ∈ lw_all := lw_g (lw_at lw_m4 152 rfl) rfl
theorem q907 : (Jvm.Cond.privateMethod ({ cls := "FuzzyFinderModel", name := "item", desc := "(Z)V" } : Jvm.MethodName)) ∈ lw_tbl := lw_at lw_m4 153 rfl
theorem q908 : (Jvm.Cond.instanceMethod ({ cls := "FuzzyFinderModel", name := "item", desc := "(Z)V" } : Jvm.MethodName)) ∈ lw_all := lw_g (lw_at lw_m4 154 rfl) rfl
theorem q909 : (Jvm.Cond.code ({ cls := "FuzzyFinderModel", name := "item", desc := "(Z)V" } : Jvm.MethodName) prog_13_method_10_code (2 : Nat) (Option.none : Option Jvm.ClassFile.FieldType)) ∈ lw_all := lw_g (lw_at lw_m4 155 rfl) rfl
theorem q910 : (Jvm.Cond.methodLink "FuzzyFinderModel" (107 : Nat) ({ cls := "FuzzyFinderModel", name := "suffix", desc := "(II)V" } : Jvm.MethodName)) ∈ lw_all := lw_g (lw_at lw_m4 156 rfl) rfl
theorem q911 : (Jvm.Cond.privateMethod ({ cls := "FuzzyFinderModel", name := "suffix", desc := "(II)V" } : Jvm.MethodName)) ∈ lw_tbl := lw_at lw_m4 157 rfl
theorem q912 : (Jvm.Cond.instanceMethod ({ cls := "FuzzyFinderModel", name := "suffix", desc := "(II)V" } : Jvm.MethodName)) ∈ lw_all := lw_g (lw_at lw_m4 158 rfl) rfl
theorem q913 : (Jvm.Cond.code ({ cls := "FuzzyFinderModel", name := "suffix", desc := "(II)V" } : Jvm.MethodName) prog_13_method_9_code (3 : Nat) (Option.none : Option Jvm.ClassFile.FieldType)) ∈ lw_all := lw_g (lw_at lw_m4 159 rfl) rfl
theorem q914 : (Jvm.Cond.constant "FuzzyFinderModel" (102 : Nat) (67108863 : Int32)) ∈ lw_all := lw_g (lw_at lw_m4 160 rfl) rfl
theorem q915 : (Jvm.Cond.methodLink "FuzzyFinderModel" (111 : Nat) ({ cls := "FuzzyFinderModel", name := "set", desc := "(I)I" } : Jvm.MethodName)) ∈ lw_all := lw_g (lw_at lw_m4 161 rfl) rfl
theorem q916 : (Jvm.Cond.privateMethod ({ cls := "FuzzyFinderModel", name := "set", desc := "(I)I" } : Jvm.MethodName)) ∈ lw_tbl := lw_at lw_m4 162 rfl
theorem q917 : (Jvm.Cond.instanceMethod ({ cls := "FuzzyFinderModel", name := "set", desc := "(I)I" } : Jvm.MethodName)) ∈ lw_all := lw_g (lw_at lw_m4 163 rfl) rfl
theorem q918 : (Jvm.Cond.code ({ cls := "FuzzyFinderModel", name := "set", desc := "(I)I" } : Jvm.MethodName) prog_13_method_11_code (4 : Nat) (Option.some Jvm.ClassFile.FieldType.int)) ∈ lw_all := lw_g (lw_at lw_m4 164 rfl) rfl
theorem q919 : (Jvm.Cond.methodLink "FuzzyFinderModel" (125 : Nat) ({ cls := "FuzzyFinderModel", name := "changed", desc := "()V" } : Jvm.MethodName)) ∈ lw_all := lw_g (lw_at lw_m4 165 rfl) rfl
theorem q920 : (Jvm.Cond.privateMethod ({ cls := "FuzzyFinderModel", name := "changed", desc := "()V" } : Jvm.MethodName)) ∈ lw_tbl := lw_at lw_m4 166 rfl
theorem q921 : (Jvm.Cond.instanceMethod ({ cls := "FuzzyFinderModel", name := "changed", desc := "()V" } : Jvm.MethodName)) ∈ lw_all := lw_g (lw_at lw_m4 167 rfl) rfl
theorem q922 : (Jvm.Cond.code ({ cls := "FuzzyFinderModel", name := "changed", desc := "()V" } : Jvm.MethodName) prog_13_method_15_code (1 : Nat) (Option.none : Option Jvm.ClassFile.FieldType)) ∈ lw_all := lw_g (lw_at lw_m4 168 rfl) rfl
theorem q924 : (Jvm.Cond.instanceMethod ({ cls := "FuzzyFinderModel", name := "nodes", desc := "()I" } : Jvm.MethodName)) ∈ lw_all := lw_g (lw_at lw_m4 170 rfl) rfl
theorem q925 : (Jvm.Cond.selects "FuzzyFinderModel" ({ cls := "FuzzyFinderModel", name := "nodes", desc := "()I" } : Jvm.MethodName) ({ cls := "FuzzyFinderModel", name := "nodes", desc := "()I" } : Jvm.MethodName)) ∈ lw_all := lw_g (lw_at lw_m4 171 rfl) rfl
theorem q926 : (Jvm.Cond.code ({ cls := "FuzzyFinderModel", name := "nodes", desc := "()I" } : Jvm.MethodName) prog_13_method_14_code (1 : Nat) (Option.some Jvm.ClassFile.FieldType.int)) ∈ lw_all := lw_g (lw_at lw_m4 172 rfl) rfl
theorem q928 : (Jvm.Cond.instanceMethod ({ cls := "FuzzyFinderModel", name := "weights", desc := "(III)Z" } : Jvm.MethodName)) ∈ lw_all := lw_g (lw_at lw_m4 174 rfl) rfl
theorem q929 : (Jvm.Cond.selects "FuzzyFinderModel" ({ cls := "FuzzyFinderModel", name := "weights", desc := "(III)Z" } : Jvm.MethodName) ({ cls := "FuzzyFinderModel", name := "weights", desc := "(III)Z" } : Jvm.MethodName)) ∈ lw_all := lw_g (lw_at lw_m4 175 rfl) rfl
theorem q930 : (Jvm.Cond.code ({ cls := "FuzzyFinderModel", name := "weights", desc := "(III)Z" } : Jvm.MethodName) prog_13_method_16_code (4 : Nat) (Option.some Jvm.ClassFile.FieldType.boolean)) ∈ lw_all := lw_g (lw_at lw_m4 176 rfl) rfl
theorem q932 : (Jvm.Cond.instanceMethod ({ cls := "FuzzyFinderModel", name := "bound", desc := "(I)Z" } : Jvm.MethodName)) ∈ lw_all := lw_g (lw_at lw_m4 178 rfl) rfl
theorem q933 : (Jvm.Cond.selects "FuzzyFinderModel" ({ cls := "FuzzyFinderModel", name := "bound", desc := "(I)Z" } : Jvm.MethodName) ({ cls := "FuzzyFinderModel", name := "bound", desc := "(I)Z" } : Jvm.MethodName)) ∈ lw_all := lw_g (lw_at lw_m4 179 rfl) rfl
theorem q934 : (Jvm.Cond.code ({ cls := "FuzzyFinderModel", name := "bound", desc := "(I)Z" } : Jvm.MethodName) prog_13_method_17_code (2 : Nat) (Option.some Jvm.ClassFile.FieldType.boolean)) ∈ lw_all := lw_g (lw_at lw_m4 180 rfl) rfl
theorem q936 : (Jvm.Cond.instanceMethod ({ cls := "FuzzyFinderModel", name := "write", desc := "(C)Z" } : Jvm.MethodName)) ∈ lw_all := lw_g (lw_at lw_m4 182 rfl) rfl
theorem q937 : (Jvm.Cond.selects "FuzzyFinderModel" ({ cls := "FuzzyFinderModel", name := "write", desc := "(C)Z" } : Jvm.MethodName) ({ cls := "FuzzyFinderModel", name := "write", desc := "(C)Z" } : Jvm.MethodName)) ∈ lw_all := lw_g (lw_at lw_m4 183 rfl) rfl
theorem q938 : (Jvm.Cond.code ({ cls := "FuzzyFinderModel", name := "write", desc := "(C)Z" } : Jvm.MethodName) prog_13_method_18_code (2 : Nat) (Option.some Jvm.ClassFile.FieldType.boolean)) ∈ lw_all := lw_g (lw_at lw_m4 184 rfl) rfl
theorem q940 : (Jvm.Cond.instanceMethod ({ cls := "FuzzyFinderModel", name := "erase", desc := "()V" } : Jvm.MethodName)) ∈ lw_all := lw_g (lw_at lw_m4 186 rfl) rfl
theorem q941 : (Jvm.Cond.selects "FuzzyFinderModel" ({ cls := "FuzzyFinderModel", name := "erase", desc := "()V" } : Jvm.MethodName) ({ cls := "FuzzyFinderModel", name := "erase", desc := "()V" } : Jvm.MethodName)) ∈ lw_all := lw_g (lw_at lw_m4 187 rfl) rfl
theorem q942 : (Jvm.Cond.code ({ cls := "FuzzyFinderModel", name := "erase", desc := "()V" } : Jvm.MethodName) prog_13_method_19_code (1 : Nat) (Option.none : Option Jvm.ClassFile.FieldType)) ∈ lw_all := lw_g (lw_at lw_m4 188 rfl) rfl
theorem q944 : (Jvm.Cond.instanceMethod ({ cls := "FuzzyFinderModel", name := "cost", desc := "(II)I" } : Jvm.MethodName)) ∈ lw_all := lw_g (lw_at lw_m4 190 rfl) rfl
theorem q945 : (Jvm.Cond.selects "FuzzyFinderModel" ({ cls := "FuzzyFinderModel", name := "cost", desc := "(II)I" } : Jvm.MethodName) ({ cls := "FuzzyFinderModel", name := "cost", desc := "(II)I" } : Jvm.MethodName)) ∈ lw_all := lw_g (lw_at lw_m4 191 rfl) rfl
theorem q946 : (Jvm.Cond.code ({ cls := "FuzzyFinderModel", name := "cost", desc := "(II)I" } : Jvm.MethodName) prog_13_method_27_code (4 : Nat) (Option.some Jvm.ClassFile.FieldType.int)) ∈ lw_all := lw_g (lw_at lw_m4 192 rfl) rfl
theorem q947 : (Jvm.Cond.methodLink "FuzzyFinderModel" (159 : Nat) ({ cls := "FuzzyFinderModel", name := "work", desc := "()V" } : Jvm.MethodName)) ∈ lw_all := lw_g (lw_at lw_m4 193 rfl) rfl
theorem q948 : (Jvm.Cond.privateMethod ({ cls := "FuzzyFinderModel", name := "work", desc := "()V" } : Jvm.MethodName)) ∈ lw_tbl := lw_at lw_m4 194 rfl
theorem q949 : (Jvm.Cond.instanceMethod ({ cls := "FuzzyFinderModel", name := "work", desc := "()V" } : Jvm.MethodName)) ∈ lw_all := lw_g (lw_at lw_m4 195 rfl) rfl
theorem q950 : (Jvm.Cond.code ({ cls := "FuzzyFinderModel", name := "work", desc := "()V" } : Jvm.MethodName) prog_13_method_26_code (5 : Nat) (Option.none : Option Jvm.ClassFile.FieldType)) ∈ lw_all := lw_g (lw_at lw_m4 196 rfl) rfl
theorem q951 : (Jvm.Cond.methodLink "FuzzyFinderModel" (156 : Nat) ({ cls := "FuzzyFinderModel", name := "ofNode", desc := "(III)I" } : Jvm.MethodName)) ∈ lw_all := lw_g (lw_at lw_m4 197 rfl) rfl
theorem q952 : (Jvm.Cond.privateMethod ({ cls := "FuzzyFinderModel", name := "ofNode", desc := "(III)I" } : Jvm.MethodName)) ∈ lw_tbl := lw_at lw_m4 198 rfl
theorem q953 : (Jvm.Cond.instanceMethod ({ cls := "FuzzyFinderModel", name := "ofNode", desc := "(III)I" } : Jvm.MethodName)) ∈ lw_all := lw_g (lw_at lw_m4 199 rfl) rfl
theorem q954 : (Jvm.Cond.code ({ cls := "FuzzyFinderModel", name := "ofNode", desc := "(III)I" } : Jvm.MethodName) prog_13_method_25_code (6 : Nat) (Option.some Jvm.ClassFile.FieldType.int)) ∈ lw_all := lw_g (lw_at lw_m4 200 rfl) rfl
theorem q955 : (Jvm.Cond.methodLink "FuzzyFinderModel" (146 : Nat) ({ cls := "FuzzyFinderModel", name := "ofSet", desc := "(III)I" } : Jvm.MethodName)) ∈ lw_all := lw_g (lw_at lw_m4 201 rfl) rfl
theorem q956 : (Jvm.Cond.privateMethod ({ cls := "FuzzyFinderModel", name := "ofSet", desc := "(III)I" } : Jvm.MethodName)) ∈ lw_tbl := lw_at lw_m4 202 rfl
theorem q957 : (Jvm.Cond.instanceMethod ({ cls := "FuzzyFinderModel", name := "ofSet", desc := "(III)I" } : Jvm.MethodName)) ∈ lw_all := lw_g (lw_at lw_m4 203 rfl) rfl
theorem q958 : (Jvm.Cond.code ({ cls := "FuzzyFinderModel", name := "ofSet", desc := "(III)I" } : Jvm.MethodName) prog_13_method_22_code (8 : Nat) (Option.some Jvm.ClassFile.FieldType.int)) ∈ lw_all := lw_g (lw_at lw_m4 204 rfl) rfl
theorem q959 : (Jvm.Cond.methodLink "FuzzyFinderModel" (149 : Nat) ({ cls := "FuzzyFinderModel", name := "ofRow", desc := "(IIII)I" } : Jvm.MethodName)) ∈ lw_all := lw_g (lw_at lw_m4 205 rfl) rfl
theorem q960 : (Jvm.Cond.privateMethod ({ cls := "FuzzyFinderModel", name := "ofRow", desc := "(IIII)I" } : Jvm.MethodName)) ∈ lw_tbl := lw_at lw_m4 206 rfl
theorem q961 : (Jvm.Cond.instanceMethod ({ cls := "FuzzyFinderModel", name := "ofRow", desc := "(IIII)I" } : Jvm.MethodName)) ∈ lw_all := lw_g (lw_at lw_m4 207 rfl) rfl
theorem q962 : (Jvm.Cond.code ({ cls := "FuzzyFinderModel", name := "ofRow", desc := "(IIII)I" } : Jvm.MethodName) prog_13_method_23_code (8 : Nat) (Option.some Jvm.ClassFile.FieldType.int)) ∈ lw_all := lw_g (lw_at lw_m4 208 rfl) rfl
theorem q963 : (Jvm.Cond.constant "FuzzyFinderModel" (138 : Nat) (1000000 : Int32)) ∈ lw_all := lw_g (lw_at lw_m4 209 rfl) rfl
theorem q964 : (Jvm.Cond.methodLink "FuzzyFinderModel" (139 : Nat) ({ cls := "FuzzyFinderModel", name := "costOf", desc := "(III)I" } : Jvm.MethodName)) ∈ lw_all := lw_g (lw_at lw_m4 210 rfl) rfl
theorem q965 : (Jvm.Cond.privateMethod ({ cls := "FuzzyFinderModel", name := "costOf", desc := "(III)I" } : Jvm.MethodName)) ∈ lw_tbl := lw_at lw_m4 211 rfl
theorem q966 : (Jvm.Cond.instanceMethod ({ cls := "FuzzyFinderModel", name := "costOf", desc := "(III)I" } : Jvm.MethodName)) ∈ lw_all := lw_g (lw_at lw_m4 212 rfl) rfl
theorem q967 : (Jvm.Cond.code ({ cls := "FuzzyFinderModel", name := "costOf", desc := "(III)I" } : Jvm.MethodName) prog_13_method_20_code (4 : Nat) (Option.some Jvm.ClassFile.FieldType.int)) ∈ lw_all := lw_g (lw_at lw_m4 213 rfl) rfl
theorem q968 : (Jvm.Cond.methodLink "FuzzyFinderModel" (142 : Nat) ({ cls := "FuzzyFinderModel", name := "sum", desc := "(II)I" } : Jvm.MethodName)) ∈ lw_all := lw_g (lw_at lw_m4 214 rfl) rfl
theorem q969 : (Jvm.Cond.static ({ cls := "FuzzyFinderModel", name := "sum", desc := "(II)I" } : Jvm.MethodName)) ∈ lw_all := lw_g (lw_at lw_m4 215 rfl) rfl
theorem q970 : (Jvm.Cond.code ({ cls := "FuzzyFinderModel", name := "sum", desc := "(II)I" } : Jvm.MethodName) prog_13_method_21_code (2 : Nat) (Option.some Jvm.ClassFile.FieldType.int)) ∈ lw_all := lw_g (lw_at lw_m4 216 rfl) rfl
theorem q971 : (Jvm.Cond.methodLink "FuzzyFinderModel" (153 : Nat) ({ cls := "FuzzyFinderModel", name := "ofPlus", desc := "(IIII)I" } : Jvm.MethodName)) ∈ lw_all := lw_g (lw_at lw_m4 217 rfl) rfl
theorem q972 : (Jvm.Cond.privateMethod ({ cls := "FuzzyFinderModel", name := "ofPlus", desc := "(IIII)I" } : Jvm.MethodName)) ∈ lw_tbl := lw_at lw_m4 218 rfl
theorem q973 : (Jvm.Cond.instanceMethod ({ cls := "FuzzyFinderModel", name := "ofPlus", desc := "(IIII)I" } : Jvm.MethodName)) ∈ lw_all := lw_g (lw_at lw_m4 219 rfl) rfl
theorem q974 : (Jvm.Cond.code ({ cls := "FuzzyFinderModel", name := "ofPlus", desc := "(IIII)I" } : Jvm.MethodName) prog_13_method_24_code (8 : Nat) (Option.some Jvm.ClassFile.FieldType.int)) ∈ lw_all := lw_g (lw_at lw_m4 220 rfl) rfl
theorem q976 : (Jvm.Cond.instanceMethod ({ cls := "FuzzyFinderModel", name := "find", desc := "(Z)I" } : Jvm.MethodName)) ∈ lw_all := lw_g (lw_at lw_m4 222 rfl) rfl
theorem q977 : (Jvm.Cond.selects "FuzzyFinderModel" ({ cls := "FuzzyFinderModel", name := "find", desc := "(Z)I" } : Jvm.MethodName) ({ cls := "FuzzyFinderModel", name := "find", desc := "(Z)I" } : Jvm.MethodName)) ∈ lw_all := lw_g (lw_at lw_m4 223 rfl) rfl
theorem q978 : (Jvm.Cond.code ({ cls := "FuzzyFinderModel", name := "find", desc := "(Z)I" } : Jvm.MethodName) prog_13_method_30_code (4 : Nat) (Option.some Jvm.ClassFile.FieldType.int)) ∈ lw_all := lw_g (lw_at lw_m4 224 rfl) rfl
theorem q979 : (Jvm.Cond.methodLink "FuzzyFinderModel" (165 : Nat) ({ cls := "FuzzyFinderModel", name := "matches", desc := "(II)Z" } : Jvm.MethodName)) ∈ lw_all := lw_g (lw_at lw_m4 225 rfl) rfl
theorem q980 : (Jvm.Cond.privateMethod ({ cls := "FuzzyFinderModel", name := "matches", desc := "(II)Z" } : Jvm.MethodName)) ∈ lw_tbl := lw_at lw_m4 226 rfl
theorem q981 : (Jvm.Cond.instanceMethod ({ cls := "FuzzyFinderModel", name := "matches", desc := "(II)Z" } : Jvm.MethodName)) ∈ lw_all := lw_g (lw_at lw_m4 227 rfl) rfl
theorem q982 : (Jvm.Cond.code ({ cls := "FuzzyFinderModel", name := "matches", desc := "(II)Z" } : Jvm.MethodName) prog_13_method_28_code (4 : Nat) (Option.some Jvm.ClassFile.FieldType.boolean)) ∈ lw_all := lw_g (lw_at lw_m4 228 rfl) rfl
theorem q983 : (Jvm.Cond.methodLink "FuzzyFinderModel" (162 : Nat) ({ cls := "FuzzyFinderModel", name := "cost", desc := "(II)I" } : Jvm.MethodName)) ∈ lw_all := lw_g (lw_at lw_m4 229 rfl) rfl
theorem q984 : (Jvm.Cond.methodLink "FuzzyFinderModel" (169 : Nat) ({ cls := "FuzzyFinderModel", name := "before", desc := "(ZIIII)Z" } : Jvm.MethodName)) ∈ lw_all := lw_g (lw_at lw_m4 230 rfl) rfl
theorem q985 : (Jvm.Cond.privateMethod ({ cls := "FuzzyFinderModel", name := "before", desc := "(ZIIII)Z" } : Jvm.MethodName)) ∈ lw_tbl := lw_at lw_m4 231 rfl
theorem q986 : (Jvm.Cond.instanceMethod ({ cls := "FuzzyFinderModel", name := "before", desc := "(ZIIII)Z" } : Jvm.MethodName)) ∈ lw_all := lw_g (lw_at lw_m4 232 rfl) rfl
theorem q987 : (Jvm.Cond.code ({ cls := "FuzzyFinderModel", name := "before", desc := "(ZIIII)Z" } : Jvm.MethodName) prog_13_method_29_code (8 : Nat) (Option.some Jvm.ClassFile.FieldType.boolean)) ∈ lw_all := lw_g (lw_at lw_m4 233 rfl) rfl
theorem q989 : (Jvm.Cond.instanceMethod ({ cls := "FuzzyFinderModel", name := "from", desc := "()I" } : Jvm.MethodName)) ∈ lw_all := lw_g (lw_at lw_m4 235 rfl) rfl
theorem q990 : (Jvm.Cond.selects "FuzzyFinderModel" ({ cls := "FuzzyFinderModel", name := "from", desc := "()I" } : Jvm.MethodName) ({ cls := "FuzzyFinderModel", name := "from", desc := "()I" } : Jvm.MethodName)) ∈ lw_all := lw_g (lw_at lw_m4 236 rfl) rfl
theorem q991 : (Jvm.Cond.code ({ cls := "FuzzyFinderModel", name := "from", desc := "()I" } : Jvm.MethodName) prog_13_method_31_code (1 : Nat) (Option.some Jvm.ClassFile.FieldType.int)) ∈ lw_all := lw_g (lw_at lw_m4 237 rfl) rfl
theorem q993 : (Jvm.Cond.instanceMethod ({ cls := "FuzzyFinderModel", name := "to", desc := "()I" } : Jvm.MethodName)) ∈ lw_all := lw_g (lw_at lw_m4 239 rfl) rfl
theorem q994 : (Jvm.Cond.selects "FuzzyFinderModel" ({ cls := "FuzzyFinderModel", name := "to", desc := "()I" } : Jvm.MethodName) ({ cls := "FuzzyFinderModel", name := "to", desc := "()I" } : Jvm.MethodName)) ∈ lw_all := lw_g (lw_at lw_m5 0 rfl) rfl
theorem q995 : (Jvm.Cond.code ({ cls := "FuzzyFinderModel", name := "to", desc := "()I" } : Jvm.MethodName) prog_13_method_32_code (1 : Nat) (Option.some Jvm.ClassFile.FieldType.int)) ∈ lw_all := lw_g (lw_at lw_m5 1 rfl) rfl
theorem q997 : (Jvm.Cond.instanceMethod ({ cls := "FuzzyFinderModel", name := "ends", desc := "()I" } : Jvm.MethodName)) ∈ lw_all := lw_g (lw_at lw_m5 3 rfl) rfl
theorem q998 : (Jvm.Cond.selects "FuzzyFinderModel" ({ cls := "FuzzyFinderModel", name := "ends", desc := "()I" } : Jvm.MethodName) ({ cls := "FuzzyFinderModel", name := "ends", desc := "()I" } : Jvm.MethodName)) ∈ lw_all := lw_g (lw_at lw_m5 4 rfl) rfl
theorem q999 : (Jvm.Cond.code ({ cls := "FuzzyFinderModel", name := "ends", desc := "()I" } : Jvm.MethodName) prog_13_method_33_code (4 : Nat) (Option.some Jvm.ClassFile.FieldType.int)) ∈ lw_all := lw_g (lw_at lw_m5 5 rfl) rfl
theorem q1001 : (Jvm.Cond.instanceMethod ({ cls := "FuzzyFinderModel", name := "add", desc := "()I" } : Jvm.MethodName)) ∈ lw_all := lw_g (lw_at lw_m5 7 rfl) rfl
theorem q1002 : (Jvm.Cond.selects "FuzzyFinderModel" ({ cls := "FuzzyFinderModel", name := "add", desc := "()I" } : Jvm.MethodName) ({ cls := "FuzzyFinderModel", name := "add", desc := "()I" } : Jvm.MethodName)) ∈ lw_all := lw_g (lw_at lw_m5 8 rfl) rfl
theorem q1003 : (Jvm.Cond.code ({ cls := "FuzzyFinderModel", name := "add", desc := "()I" } : Jvm.MethodName) prog_13_method_34_code (2 : Nat) (Option.some Jvm.ClassFile.FieldType.int)) ∈ lw_all := lw_g (lw_at lw_m5 9 rfl) rfl
theorem q1004 : (Jvm.Cond.methodLink "FuzzyFinderModel" (176 : Nat) ({ cls := "FuzzyFinderModel", name := "distance", desc := "(IZ)I" } : Jvm.MethodName)) ∈ lw_all := lw_g (lw_at lw_m5 10 rfl) rfl
theorem q1005 : (Jvm.Cond.instanceMethod ({ cls := "FuzzyFinderModel", name := "distance", desc := "(IZ)I" } : Jvm.MethodName)) ∈ lw_all := lw_g (lw_at lw_m5 11 rfl) rfl
theorem q1006 : (Jvm.Cond.selects "FuzzyFinderModel" ({ cls := "FuzzyFinderModel", name := "distance", desc := "(IZ)I" } : Jvm.MethodName) ({ cls := "FuzzyFinderModel", name := "distance", desc := "(IZ)I" } : Jvm.MethodName)) ∈ lw_all := lw_g (lw_at lw_m5 12 rfl) rfl
theorem q1007 : (Jvm.Cond.code ({ cls := "FuzzyFinderModel", name := "distance", desc := "(IZ)I" } : Jvm.MethodName) prog_13_method_37_code (5 : Nat) (Option.some Jvm.ClassFile.FieldType.int)) ∈ lw_all := lw_g (lw_at lw_m5 13 rfl) rfl
theorem q1008 : (Jvm.Cond.methodLink "FuzzyFinderModel" (180 : Nat) ({ cls := "FuzzyFinderModel", name := "step", desc := "(IIIZ)I" } : Jvm.MethodName)) ∈ lw_all := lw_g (lw_at lw_m5 14 rfl) rfl
theorem q1009 : (Jvm.Cond.privateMethod ({ cls := "FuzzyFinderModel", name := "step", desc := "(IIIZ)I" } : Jvm.MethodName)) ∈ lw_tbl := lw_at lw_m5 15 rfl
theorem q1010 : (Jvm.Cond.instanceMethod ({ cls := "FuzzyFinderModel", name := "step", desc := "(IIIZ)I" } : Jvm.MethodName)) ∈ lw_all := lw_g (lw_at lw_m5 16 rfl) rfl
theorem q1011 : (Jvm.Cond.code ({ cls := "FuzzyFinderModel", name := "step", desc := "(IIIZ)I" } : Jvm.MethodName) prog_13_method_36_code (8 : Nat) (Option.some Jvm.ClassFile.FieldType.int)) ∈ lw_all := lw_g (lw_at lw_m5 17 rfl) rfl
theorem q1013 : (Jvm.Cond.instanceMethod ({ cls := "FuzzyFinderModel", name := "words", desc := "()I" } : Jvm.MethodName)) ∈ lw_all := lw_g (lw_at lw_m5 19 rfl) rfl
theorem q1014 : (Jvm.Cond.selects "FuzzyFinderModel" ({ cls := "FuzzyFinderModel", name := "words", desc := "()I" } : Jvm.MethodName) ({ cls := "FuzzyFinderModel", name := "words", desc := "()I" } : Jvm.MethodName)) ∈ lw_all := lw_g (lw_at lw_m5 20 rfl) rfl
theorem q1015 : (Jvm.Cond.code ({ cls := "FuzzyFinderModel", name := "words", desc := "()I" } : Jvm.MethodName) prog_13_method_35_code (1 : Nat) (Option.some Jvm.ClassFile.FieldType.int)) ∈ lw_all := lw_g (lw_at lw_m5 21 rfl) rfl
theorem q1018 : (Jvm.Cond.instanceMethod ({ cls := "FuzzyFinderModel", name := "near", desc := "(IZ)I" } : Jvm.MethodName)) ∈ lw_all := lw_g (lw_at lw_m5 24 rfl) rfl
theorem q1019 : (Jvm.Cond.selects "FuzzyFinderModel" ({ cls := "FuzzyFinderModel", name := "near", desc := "(IZ)I" } : Jvm.MethodName) ({ cls := "FuzzyFinderModel", name := "near", desc := "(IZ)I" } : Jvm.MethodName)) ∈ lw_all := lw_g (lw_at lw_m5 25 rfl) rfl
theorem q1020 : (Jvm.Cond.code ({ cls := "FuzzyFinderModel", name := "near", desc := "(IZ)I" } : Jvm.MethodName) prog_13_method_38_code (5 : Nat) (Option.some Jvm.ClassFile.FieldType.int)) ∈ lw_all := lw_g (lw_at lw_m5 26 rfl) rfl
theorem q1022 : (Jvm.Cond.instanceMethod ({ cls := "FuzzyFinderModel", name := "rank", desc := "(IZ)I" } : Jvm.MethodName)) ∈ lw_all := lw_g (lw_at lw_m5 28 rfl) rfl
theorem q1023 : (Jvm.Cond.selects "FuzzyFinderModel" ({ cls := "FuzzyFinderModel", name := "rank", desc := "(IZ)I" } : Jvm.MethodName) ({ cls := "FuzzyFinderModel", name := "rank", desc := "(IZ)I" } : Jvm.MethodName)) ∈ lw_all := lw_g (lw_at lw_m5 29 rfl) rfl
theorem q1024 : (Jvm.Cond.code ({ cls := "FuzzyFinderModel", name := "rank", desc := "(IZ)I" } : Jvm.MethodName) prog_13_method_40_code (8 : Nat) (Option.some Jvm.ClassFile.FieldType.int)) ∈ lw_all := lw_g (lw_at lw_m5 30 rfl) rfl
theorem q1025 : (Jvm.Cond.methodLink "FuzzyFinderModel" (184 : Nat) ({ cls := "FuzzyFinderModel", name := "earlier", desc := "(II)Z" } : Jvm.MethodName)) ∈ lw_all := lw_g (lw_at lw_m5 31 rfl) rfl
theorem q1026 : (Jvm.Cond.privateMethod ({ cls := "FuzzyFinderModel", name := "earlier", desc := "(II)Z" } : Jvm.MethodName)) ∈ lw_tbl := lw_at lw_m5 32 rfl
theorem q1027 : (Jvm.Cond.instanceMethod ({ cls := "FuzzyFinderModel", name := "earlier", desc := "(II)Z" } : Jvm.MethodName)) ∈ lw_all := lw_g (lw_at lw_m5 33 rfl) rfl
theorem q1028 : (Jvm.Cond.code ({ cls := "FuzzyFinderModel", name := "earlier", desc := "(II)Z" } : Jvm.MethodName) prog_13_method_39_code (4 : Nat) (Option.some Jvm.ClassFile.FieldType.boolean)) ∈ lw_all := lw_g (lw_at lw_m5 34 rfl) rfl
theorem q1044 : (Jvm.Cond.castable "FuzzyFinderModel" "java/lang/Object") ∈ lw_tbl := lw_at lw_m5 50 rfl
theorem in_X5 : ∀ w ∈ wsX50, w ∈ lw_all := lw_in wsX50 [813, 815, 817, 819, 821, 823, 825, 827, 829, 831, 833, 835, 837, 839, 841, 843, 845, 847, 849, 851, 853, 855, 857, 859, 861, 863, 865, 867, 869] (by decide +kernel) (by decide +kernel)
