/-! CardBowl$Reader -/
set_option maxRecDepth 100000
def RX13 : String := "CardBowl$Reader"
def TX13 : u_T := fun k => match k with
  | 0 => ("CardBowl$Reader", "days", "[Ljava/lang/String;", true)
  | 1 => ("CardBowl$Reader", "payings", "[Ljava/lang/String;", true)
  | 2 => ("CardBowl$Reader", "signs", "[Ljava/lang/String;", true)
  | 3 => ("CardBowl$Reader", "parts", "[Ljava/lang/String;", true)
  | 4 => ("CardBowl$Reader", "text", "[B", true)
  | 5 => ("CardBowl$Reader", "size", "I", true)
  | 6 => ("CardBowl$Reader", "town", "LCardBowl$Town;", true)
  | 7 => ("CardBowl$Reader", "at", "I", false)
  | 8 => ("CardBowl$Reader", "from", "I", false)
  | 9 => ("CardBowl$Reader", "token", "I", false)
  | 10 => ("CardBowl$Reader", "place", "I", false)
  | _ => ("CardBowl$Reader", "value", "I", false)
def tyX13 : Nat → FieldType := fun k => match k with
  | 0 => .array (.object "java/lang/String")
  | 1 => .array (.object "java/lang/String")
  | 2 => .array (.object "java/lang/String")
  | 3 => .array (.object "java/lang/String")
  | 4 => .array .byte
  | 5 => .int
  | 6 => .object "CardBowl$Town"
  | 7 => .int
  | 8 => .int
  | 9 => .int
  | 10 => .int
  | _ => .int
abbrev wsX130 : List Cond := u_ws RX13 TX13 12
theorem nmX13 : ∀ a, a < 12 → ∀ b, b < 12 → a ≠ b → (TX13 a).2.1 ≠ (TX13 b).2.1 := by decide +kernel
theorem tyX13_ok : ∀ k, k < 12 → parseFieldDescriptor (TX13 k).2.2.1 = some (tyX13 k) := by decide +kernel
abbrev cX13_init : ByteArray := prog_15_method_1_code
def yX13_init : MethodName := ⟨RX13, "<init>", "([BI)V"⟩
def dkwX13_init_6 : List UInt8 := [181, 0, 67, 42, 43, 181, 0, 71, 42, 28, 181, 0, 75, 177]
abbrev dktX13_init_6 : List UInt8 := dkwX13_init_6 ++ []
def dkwX13_init_5 : List UInt8 := [18, 55, 83, 89, 6, 18, 57, 83, 89, 7, 18, 59, 83, 181, 0, 61, 42, 187, 0, 64, 89, 183, 0, 66]
abbrev dktX13_init_5 : List UInt8 := dkwX13_init_5 ++ dktX13_init_6
def dkwX13_init_4 : List UInt8 := [18, 46, 83, 181, 0, 48, 42, 8, 189, 0, 9, 89, 3, 18, 51, 83, 89, 4, 18, 53, 83, 89, 5]
abbrev dktX13_init_4 : List UInt8 := dkwX13_init_4 ++ dktX13_init_5
def dkwX13_init_3 : List UInt8 := [6, 18, 37, 83, 181, 0, 39, 42, 6, 189, 0, 9, 89, 3, 18, 42, 83, 89, 4, 18, 44, 83, 89, 5]
abbrev dktX13_init_3 : List UInt8 := dkwX13_init_3 ++ dktX13_init_4
def dkwX13_init_2 : List UInt8 := [181, 0, 25, 42, 7, 189, 0, 9, 89, 3, 18, 31, 83, 89, 4, 18, 33, 83, 89, 5, 18, 35, 83, 89]
abbrev dktX13_init_2 : List UInt8 := dkwX13_init_2 ++ dktX13_init_3
def dkwX13_init_1 : List UInt8 := [83, 89, 6, 18, 17, 83, 89, 7, 18, 19, 83, 89, 8, 18, 21, 83, 89, 16, 6, 18, 23, 83]
abbrev dktX13_init_1 : List UInt8 := dkwX13_init_1 ++ dktX13_init_2
def dkwX13_init_0 : List UInt8 := [42, 183, 0, 3, 42, 16, 7, 189, 0, 9, 89, 3, 18, 11, 83, 89, 4, 18, 13, 83, 89, 5, 18, 15]
abbrev dktX13_init_0 : List UInt8 := dkwX13_init_0 ++ dktX13_init_1
theorem dksX13_init_0 : cX13_init.data.toList.drop 0 = dktX13_init_0 := by decide +kernel
theorem dksX13_init_1 : cX13_init.data.toList.drop 24 = dktX13_init_1 := dk_seg dksX13_init_0 24 rfl rfl
theorem dksX13_init_2 : cX13_init.data.toList.drop 46 = dktX13_init_2 := dk_seg dksX13_init_1 22 rfl rfl
theorem dksX13_init_3 : cX13_init.data.toList.drop 70 = dktX13_init_3 := dk_seg dksX13_init_2 24 rfl rfl
theorem dksX13_init_4 : cX13_init.data.toList.drop 94 = dktX13_init_4 := dk_seg dksX13_init_3 24 rfl rfl
theorem dksX13_init_5 : cX13_init.data.toList.drop 117 = dktX13_init_5 := dk_seg dksX13_init_4 23 rfl rfl
theorem dksX13_init_6 : cX13_init.data.toList.drop 141 = dktX13_init_6 := dk_seg dksX13_init_5 24 rfl rfl
theorem dX13_init_0 : decode cX13_init 0 = .ok (.aload_n 0, 1) := dk_42 (dk_at dksX13_init_0 0 rfl rfl)
theorem dX13_init_1 : decode cX13_init 1 = .ok (.invokespecial 3, 3) := dk_183 0 3 (dk_at dksX13_init_0 1 rfl rfl)
theorem dX13_init_4 : decode cX13_init 4 = .ok (.aload_n 0, 1) := dk_42 (dk_at dksX13_init_0 4 rfl rfl)
theorem dX13_init_5 : decode cX13_init 5 = .ok (.bipush 7, 2) := dk_16 7 (dk_at dksX13_init_0 5 rfl rfl)
theorem dX13_init_7 : decode cX13_init 7 = .ok (.anewarray 9, 3) := dk_189 0 9 (dk_at dksX13_init_0 7 rfl rfl)
theorem dX13_init_10 : decode cX13_init 10 = .ok (.dup, 1) := dk_89 (dk_at dksX13_init_0 10 rfl rfl)
theorem dX13_init_11 : decode cX13_init 11 = .ok (.iconst 0, 1) := dk_3 (dk_at dksX13_init_0 11 rfl rfl)
theorem dX13_init_12 : decode cX13_init 12 = .ok (.ldc 11, 2) := dk_18 11 (dk_at dksX13_init_0 12 rfl rfl)
theorem dX13_init_14 : decode cX13_init 14 = .ok (.aastore, 1) := dk_83 (dk_at dksX13_init_0 14 rfl rfl)
theorem dX13_init_15 : decode cX13_init 15 = .ok (.dup, 1) := dk_89 (dk_at dksX13_init_0 15 rfl rfl)
theorem dX13_init_16 : decode cX13_init 16 = .ok (.iconst 1, 1) := dk_4 (dk_at dksX13_init_0 16 rfl rfl)
theorem dX13_init_17 : decode cX13_init 17 = .ok (.ldc 13, 2) := dk_18 13 (dk_at dksX13_init_0 17 rfl rfl)
theorem dX13_init_19 : decode cX13_init 19 = .ok (.aastore, 1) := dk_83 (dk_at dksX13_init_0 19 rfl rfl)
theorem dX13_init_20 : decode cX13_init 20 = .ok (.dup, 1) := dk_89 (dk_at dksX13_init_0 20 rfl rfl)
theorem dX13_init_21 : decode cX13_init 21 = .ok (.iconst 2, 1) := dk_5 (dk_at dksX13_init_0 21 rfl rfl)
theorem dX13_init_22 : decode cX13_init 22 = .ok (.ldc 15, 2) := dk_18 15 (dk_at dksX13_init_0 22 rfl rfl)
theorem dX13_init_24 : decode cX13_init 24 = .ok (.aastore, 1) := dk_83 (dk_at dksX13_init_1 0 rfl rfl)
theorem dX13_init_25 : decode cX13_init 25 = .ok (.dup, 1) := dk_89 (dk_at dksX13_init_1 1 rfl rfl)
theorem dX13_init_26 : decode cX13_init 26 = .ok (.iconst 3, 1) := dk_6 (dk_at dksX13_init_1 2 rfl rfl)
theorem dX13_init_27 : decode cX13_init 27 = .ok (.ldc 17, 2) := dk_18 17 (dk_at dksX13_init_1 3 rfl rfl)
theorem dX13_init_29 : decode cX13_init 29 = .ok (.aastore, 1) := dk_83 (dk_at dksX13_init_1 5 rfl rfl)
theorem dX13_init_30 : decode cX13_init 30 = .ok (.dup, 1) := dk_89 (dk_at dksX13_init_1 6 rfl rfl)
theorem dX13_init_31 : decode cX13_init 31 = .ok (.iconst 4, 1) := dk_7 (dk_at dksX13_init_1 7 rfl rfl)
theorem dX13_init_32 : decode cX13_init 32 = .ok (.ldc 19, 2) := dk_18 19 (dk_at dksX13_init_1 8 rfl rfl)
theorem dX13_init_34 : decode cX13_init 34 = .ok (.aastore, 1) := dk_83 (dk_at dksX13_init_1 10 rfl rfl)
theorem dX13_init_35 : decode cX13_init 35 = .ok (.dup, 1) := dk_89 (dk_at dksX13_init_1 11 rfl rfl)
theorem dX13_init_36 : decode cX13_init 36 = .ok (.iconst 5, 1) := dk_8 (dk_at dksX13_init_1 12 rfl rfl)
theorem dX13_init_37 : decode cX13_init 37 = .ok (.ldc 21, 2) := dk_18 21 (dk_at dksX13_init_1 13 rfl rfl)
theorem dX13_init_39 : decode cX13_init 39 = .ok (.aastore, 1) := dk_83 (dk_at dksX13_init_1 15 rfl rfl)
theorem dX13_init_40 : decode cX13_init 40 = .ok (.dup, 1) := dk_89 (dk_at dksX13_init_1 16 rfl rfl)
theorem dX13_init_41 : decode cX13_init 41 = .ok (.bipush 6, 2) := dk_16 6 (dk_at dksX13_init_1 17 rfl rfl)
theorem dX13_init_43 : decode cX13_init 43 = .ok (.ldc 23, 2) := dk_18 23 (dk_at dksX13_init_1 19 rfl rfl)
theorem dX13_init_45 : decode cX13_init 45 = .ok (.aastore, 1) := dk_83 (dk_at dksX13_init_1 21 rfl rfl)
theorem dX13_init_46 : decode cX13_init 46 = .ok (.putfield 25, 3) := dk_181 0 25 (dk_at dksX13_init_2 0 rfl rfl)
theorem dX13_init_49 : decode cX13_init 49 = .ok (.aload_n 0, 1) := dk_42 (dk_at dksX13_init_2 3 rfl rfl)
theorem dX13_init_50 : decode cX13_init 50 = .ok (.iconst 4, 1) := dk_7 (dk_at dksX13_init_2 4 rfl rfl)
theorem dX13_init_51 : decode cX13_init 51 = .ok (.anewarray 9, 3) := dk_189 0 9 (dk_at dksX13_init_2 5 rfl rfl)
theorem dX13_init_54 : decode cX13_init 54 = .ok (.dup, 1) := dk_89 (dk_at dksX13_init_2 8 rfl rfl)
theorem dX13_init_55 : decode cX13_init 55 = .ok (.iconst 0, 1) := dk_3 (dk_at dksX13_init_2 9 rfl rfl)
theorem dX13_init_56 : decode cX13_init 56 = .ok (.ldc 31, 2) := dk_18 31 (dk_at dksX13_init_2 10 rfl rfl)
theorem dX13_init_58 : decode cX13_init 58 = .ok (.aastore, 1) := dk_83 (dk_at dksX13_init_2 12 rfl rfl)
theorem dX13_init_59 : decode cX13_init 59 = .ok (.dup, 1) := dk_89 (dk_at dksX13_init_2 13 rfl rfl)
theorem dX13_init_60 : decode cX13_init 60 = .ok (.iconst 1, 1) := dk_4 (dk_at dksX13_init_2 14 rfl rfl)
theorem dX13_init_61 : decode cX13_init 61 = .ok (.ldc 33, 2) := dk_18 33 (dk_at dksX13_init_2 15 rfl rfl)
theorem dX13_init_63 : decode cX13_init 63 = .ok (.aastore, 1) := dk_83 (dk_at dksX13_init_2 17 rfl rfl)
theorem dX13_init_64 : decode cX13_init 64 = .ok (.dup, 1) := dk_89 (dk_at dksX13_init_2 18 rfl rfl)
theorem dX13_init_65 : decode cX13_init 65 = .ok (.iconst 2, 1) := dk_5 (dk_at dksX13_init_2 19 rfl rfl)
theorem dX13_init_66 : decode cX13_init 66 = .ok (.ldc 35, 2) := dk_18 35 (dk_at dksX13_init_2 20 rfl rfl)
theorem dX13_init_68 : decode cX13_init 68 = .ok (.aastore, 1) := dk_83 (dk_at dksX13_init_2 22 rfl rfl)
theorem dX13_init_69 : decode cX13_init 69 = .ok (.dup, 1) := dk_89 (dk_at dksX13_init_2 23 rfl rfl)
theorem dX13_init_70 : decode cX13_init 70 = .ok (.iconst 3, 1) := dk_6 (dk_at dksX13_init_3 0 rfl rfl)
theorem dX13_init_71 : decode cX13_init 71 = .ok (.ldc 37, 2) := dk_18 37 (dk_at dksX13_init_3 1 rfl rfl)
theorem dX13_init_73 : decode cX13_init 73 = .ok (.aastore, 1) := dk_83 (dk_at dksX13_init_3 3 rfl rfl)
theorem dX13_init_74 : decode cX13_init 74 = .ok (.putfield 39, 3) := dk_181 0 39 (dk_at dksX13_init_3 4 rfl rfl)
theorem dX13_init_77 : decode cX13_init 77 = .ok (.aload_n 0, 1) := dk_42 (dk_at dksX13_init_3 7 rfl rfl)
theorem dX13_init_78 : decode cX13_init 78 = .ok (.iconst 3, 1) := dk_6 (dk_at dksX13_init_3 8 rfl rfl)
theorem dX13_init_79 : decode cX13_init 79 = .ok (.anewarray 9, 3) := dk_189 0 9 (dk_at dksX13_init_3 9 rfl rfl)
theorem dX13_init_82 : decode cX13_init 82 = .ok (.dup, 1) := dk_89 (dk_at dksX13_init_3 12 rfl rfl)
theorem dX13_init_83 : decode cX13_init 83 = .ok (.iconst 0, 1) := dk_3 (dk_at dksX13_init_3 13 rfl rfl)
theorem dX13_init_84 : decode cX13_init 84 = .ok (.ldc 42, 2) := dk_18 42 (dk_at dksX13_init_3 14 rfl rfl)
theorem dX13_init_86 : decode cX13_init 86 = .ok (.aastore, 1) := dk_83 (dk_at dksX13_init_3 16 rfl rfl)
theorem dX13_init_87 : decode cX13_init 87 = .ok (.dup, 1) := dk_89 (dk_at dksX13_init_3 17 rfl rfl)
theorem dX13_init_88 : decode cX13_init 88 = .ok (.iconst 1, 1) := dk_4 (dk_at dksX13_init_3 18 rfl rfl)
theorem dX13_init_89 : decode cX13_init 89 = .ok (.ldc 44, 2) := dk_18 44 (dk_at dksX13_init_3 19 rfl rfl)
theorem dX13_init_91 : decode cX13_init 91 = .ok (.aastore, 1) := dk_83 (dk_at dksX13_init_3 21 rfl rfl)
theorem dX13_init_92 : decode cX13_init 92 = .ok (.dup, 1) := dk_89 (dk_at dksX13_init_3 22 rfl rfl)
theorem dX13_init_93 : decode cX13_init 93 = .ok (.iconst 2, 1) := dk_5 (dk_at dksX13_init_3 23 rfl rfl)
theorem dX13_init_94 : decode cX13_init 94 = .ok (.ldc 46, 2) := dk_18 46 (dk_at dksX13_init_4 0 rfl rfl)
theorem dX13_init_96 : decode cX13_init 96 = .ok (.aastore, 1) := dk_83 (dk_at dksX13_init_4 2 rfl rfl)
theorem dX13_init_97 : decode cX13_init 97 = .ok (.putfield 48, 3) := dk_181 0 48 (dk_at dksX13_init_4 3 rfl rfl)
theorem dX13_init_100 : decode cX13_init 100 = .ok (.aload_n 0, 1) := dk_42 (dk_at dksX13_init_4 6 rfl rfl)
theorem dX13_init_101 : decode cX13_init 101 = .ok (.iconst 5, 1) := dk_8 (dk_at dksX13_init_4 7 rfl rfl)
theorem dX13_init_102 : decode cX13_init 102 = .ok (.anewarray 9, 3) := dk_189 0 9 (dk_at dksX13_init_4 8 rfl rfl)
theorem dX13_init_105 : decode cX13_init 105 = .ok (.dup, 1) := dk_89 (dk_at dksX13_init_4 11 rfl rfl)
theorem dX13_init_106 : decode cX13_init 106 = .ok (.iconst 0, 1) := dk_3 (dk_at dksX13_init_4 12 rfl rfl)
theorem dX13_init_107 : decode cX13_init 107 = .ok (.ldc 51, 2) := dk_18 51 (dk_at dksX13_init_4 13 rfl rfl)
theorem dX13_init_109 : decode cX13_init 109 = .ok (.aastore, 1) := dk_83 (dk_at dksX13_init_4 15 rfl rfl)
theorem dX13_init_110 : decode cX13_init 110 = .ok (.dup, 1) := dk_89 (dk_at dksX13_init_4 16 rfl rfl)
theorem dX13_init_111 : decode cX13_init 111 = .ok (.iconst 1, 1) := dk_4 (dk_at dksX13_init_4 17 rfl rfl)
theorem dX13_init_112 : decode cX13_init 112 = .ok (.ldc 53, 2) := dk_18 53 (dk_at dksX13_init_4 18 rfl rfl)
theorem dX13_init_114 : decode cX13_init 114 = .ok (.aastore, 1) := dk_83 (dk_at dksX13_init_4 20 rfl rfl)
theorem dX13_init_115 : decode cX13_init 115 = .ok (.dup, 1) := dk_89 (dk_at dksX13_init_4 21 rfl rfl)
theorem dX13_init_116 : decode cX13_init 116 = .ok (.iconst 2, 1) := dk_5 (dk_at dksX13_init_4 22 rfl rfl)
theorem dX13_init_117 : decode cX13_init 117 = .ok (.ldc 55, 2) := dk_18 55 (dk_at dksX13_init_5 0 rfl rfl)
theorem dX13_init_119 : decode cX13_init 119 = .ok (.aastore, 1) := dk_83 (dk_at dksX13_init_5 2 rfl rfl)
theorem dX13_init_120 : decode cX13_init 120 = .ok (.dup, 1) := dk_89 (dk_at dksX13_init_5 3 rfl rfl)
theorem dX13_init_121 : decode cX13_init 121 = .ok (.iconst 3, 1) := dk_6 (dk_at dksX13_init_5 4 rfl rfl)
theorem dX13_init_122 : decode cX13_init 122 = .ok (.ldc 57, 2) := dk_18 57 (dk_at dksX13_init_5 5 rfl rfl)
theorem dX13_init_124 : decode cX13_init 124 = .ok (.aastore, 1) := dk_83 (dk_at dksX13_init_5 7 rfl rfl)
theorem dX13_init_125 : decode cX13_init 125 = .ok (.dup, 1) := dk_89 (dk_at dksX13_init_5 8 rfl rfl)
theorem dX13_init_126 : decode cX13_init 126 = .ok (.iconst 4, 1) := dk_7 (dk_at dksX13_init_5 9 rfl rfl)
theorem dX13_init_127 : decode cX13_init 127 = .ok (.ldc 59, 2) := dk_18 59 (dk_at dksX13_init_5 10 rfl rfl)
theorem dX13_init_129 : decode cX13_init 129 = .ok (.aastore, 1) := dk_83 (dk_at dksX13_init_5 12 rfl rfl)
theorem dX13_init_130 : decode cX13_init 130 = .ok (.putfield 61, 3) := dk_181 0 61 (dk_at dksX13_init_5 13 rfl rfl)
theorem dX13_init_133 : decode cX13_init 133 = .ok (.aload_n 0, 1) := dk_42 (dk_at dksX13_init_5 16 rfl rfl)
theorem dX13_init_134 : decode cX13_init 134 = .ok (.new 64, 3) := dk_187 0 64 (dk_at dksX13_init_5 17 rfl rfl)
theorem dX13_init_137 : decode cX13_init 137 = .ok (.dup, 1) := dk_89 (dk_at dksX13_init_5 20 rfl rfl)
theorem dX13_init_138 : decode cX13_init 138 = .ok (.invokespecial 66, 3) := dk_183 0 66 (dk_at dksX13_init_5 21 rfl rfl)
theorem dX13_init_141 : decode cX13_init 141 = .ok (.putfield 67, 3) := dk_181 0 67 (dk_at dksX13_init_6 0 rfl rfl)
theorem dX13_init_144 : decode cX13_init 144 = .ok (.aload_n 0, 1) := dk_42 (dk_at dksX13_init_6 3 rfl rfl)
theorem dX13_init_145 : decode cX13_init 145 = .ok (.aload_n 1, 1) := dk_43 (dk_at dksX13_init_6 4 rfl rfl)
theorem dX13_init_146 : decode cX13_init 146 = .ok (.putfield 71, 3) := dk_181 0 71 (dk_at dksX13_init_6 5 rfl rfl)
theorem dX13_init_149 : decode cX13_init 149 = .ok (.aload_n 0, 1) := dk_42 (dk_at dksX13_init_6 8 rfl rfl)
theorem dX13_init_150 : decode cX13_init 150 = .ok (.iload_n 2, 1) := dk_28 (dk_at dksX13_init_6 9 rfl rfl)
theorem dX13_init_151 : decode cX13_init 151 = .ok (.putfield 75, 3) := dk_181 0 75 (dk_at dksX13_init_6 10 rfl rfl)
theorem dX13_init_154 : decode cX13_init 154 = .ok (.return_, 1) := dk_177 (dk_at dksX13_init_6 13 rfl rfl)
abbrev cX13_whole : ByteArray := prog_15_method_19_code
def yX13_whole : MethodName := ⟨RX13, "whole", "()LCardBowl$Town;"⟩
def dkwX13_whole_0 : List UInt8 := [42, 182, 0, 121, 42, 180, 0, 91, 153, 0, 10, 42, 182, 1, 17, 167, 255, 245, 42, 180, 0, 67, 176]
abbrev dktX13_whole_0 : List UInt8 := dkwX13_whole_0 ++ []
theorem dksX13_whole_0 : cX13_whole.data.toList.drop 0 = dktX13_whole_0 := by decide +kernel
theorem dX13_whole_0 : decode cX13_whole 0 = .ok (.aload_n 0, 1) := dk_42 (dk_at dksX13_whole_0 0 rfl rfl)
theorem dX13_whole_1 : decode cX13_whole 1 = .ok (.invokevirtual 121, 3) := dk_182 0 121 (dk_at dksX13_whole_0 1 rfl rfl)
theorem dX13_whole_4 : decode cX13_whole 4 = .ok (.aload_n 0, 1) := dk_42 (dk_at dksX13_whole_0 4 rfl rfl)
theorem dX13_whole_5 : decode cX13_whole 5 = .ok (.getfield 91, 3) := dk_180 0 91 (dk_at dksX13_whole_0 5 rfl rfl)
theorem dX13_whole_8 : decode cX13_whole 8 = .ok (.ifCond .eq 10, 3) := dk_153 0 10 (dk_at dksX13_whole_0 8 rfl rfl)
theorem dX13_whole_11 : decode cX13_whole 11 = .ok (.aload_n 0, 1) := dk_42 (dk_at dksX13_whole_0 11 rfl rfl)
theorem dX13_whole_12 : decode cX13_whole 12 = .ok (.invokevirtual 273, 3) := dk_182 1 17 (dk_at dksX13_whole_0 12 rfl rfl)
theorem dX13_whole_15 : decode cX13_whole 15 = .ok (.goto (-11), 3) := dk_167 255 245 (dk_at dksX13_whole_0 15 rfl rfl)
theorem dX13_whole_18 : decode cX13_whole 18 = .ok (.aload_n 0, 1) := dk_42 (dk_at dksX13_whole_0 18 rfl rfl)
theorem dX13_whole_19 : decode cX13_whole 19 = .ok (.getfield 67, 3) := dk_180 0 67 (dk_at dksX13_whole_0 19 rfl rfl)
theorem dX13_whole_22 : decode cX13_whole 22 = .ok (.areturn, 1) := dk_176 (dk_at dksX13_whole_0 22 rfl rfl)
abbrev cX13_next : ByteArray := prog_15_method_3_code
def yX13_next : MethodName := ⟨RX13, "next", "()V"⟩
def dkwX13_next_10 : List UInt8 := [181, 0, 79, 177]
abbrev dktX13_next_10 : List UInt8 := dkwX13_next_10 ++ []
def dkwX13_next_9 : List UInt8 := [180, 0, 79, 51, 16, 59, 160, 0, 7, 6, 167, 0, 4, 7, 181, 0, 91, 42, 89, 180, 0, 79, 4, 96]
abbrev dktX13_next_9 : List UInt8 := dkwX13_next_9 ++ dktX13_next_10
def dkwX13_next_8 : List UInt8 := [181, 0, 88, 42, 89, 180, 0, 79, 4, 96, 181, 0, 79, 167, 255, 205, 42, 42, 180, 0, 71, 42]
abbrev dktX13_next_8 : List UInt8 := dkwX13_next_8 ++ dktX13_next_9
def dkwX13_next_7 : List UInt8 := [16, 10, 42, 180, 0, 88, 104, 42, 180, 0, 71, 42, 180, 0, 79, 51, 96, 16, 48, 100, 184, 0, 98]
abbrev dktX13_next_7 : List UInt8 := dkwX13_next_7 ++ dktX13_next_8
def dkwX13_next_6 : List UInt8 := [153, 0, 62, 42, 5, 181, 0, 91, 42, 16, 48, 16, 57, 182, 0, 94, 153, 0, 79, 42, 17, 3, 232]
abbrev dktX13_next_6 : List UInt8 := dkwX13_next_6 ++ dktX13_next_7
def dkwX13_next_5 : List UInt8 := [153, 0, 119, 42, 89, 180, 0, 79, 4, 96, 181, 0, 79, 167, 255, 235, 42, 16, 48, 16, 57, 182, 0, 94]
abbrev dktX13_next_5 : List UInt8 := dkwX13_next_5 ++ dktX13_next_6
def dkwX13_next_4 : List UInt8 := [16, 97, 16, 122, 182, 0, 94, 153, 0, 32, 42, 4, 181, 0, 91, 42, 16, 97, 16, 122, 182, 0, 94]
abbrev dktX13_next_4 : List UInt8 := dkwX13_next_4 ++ dktX13_next_5
def dkwX13_next_3 : List UInt8 := [181, 0, 88, 42, 180, 0, 79, 42, 180, 0, 75, 160, 0, 11, 42, 3, 181, 0, 91, 167, 0, 146, 42]
abbrev dktX13_next_3 : List UInt8 := dkwX13_next_3 ++ dktX13_next_4
def dkwX13_next_2 : List UInt8 := [181, 0, 79, 167, 255, 207, 42, 42, 180, 0, 79, 181, 0, 82, 42, 42, 180, 0, 79, 181, 0, 85, 42, 3]
abbrev dktX13_next_2 : List UInt8 := dkwX13_next_2 ++ dktX13_next_3
def dkwX13_next_1 : List UInt8 := [159, 0, 17, 42, 180, 0, 71, 42, 180, 0, 79, 51, 16, 10, 160, 0, 16, 42, 89, 180, 0, 79, 4, 96]
abbrev dktX13_next_1 : List UInt8 := dkwX13_next_1 ++ dktX13_next_2
def dkwX13_next_0 : List UInt8 := [42, 180, 0, 79, 42, 180, 0, 75, 162, 0, 44, 42, 180, 0, 71, 42, 180, 0, 79, 51, 16, 32]
abbrev dktX13_next_0 : List UInt8 := dkwX13_next_0 ++ dktX13_next_1
theorem dksX13_next_0 : cX13_next.data.toList.drop 0 = dktX13_next_0 := by decide +kernel
theorem dksX13_next_1 : cX13_next.data.toList.drop 22 = dktX13_next_1 := dk_seg dksX13_next_0 22 rfl rfl
theorem dksX13_next_2 : cX13_next.data.toList.drop 46 = dktX13_next_2 := dk_seg dksX13_next_1 24 rfl rfl
theorem dksX13_next_3 : cX13_next.data.toList.drop 70 = dktX13_next_3 := dk_seg dksX13_next_2 24 rfl rfl
theorem dksX13_next_4 : cX13_next.data.toList.drop 93 = dktX13_next_4 := dk_seg dksX13_next_3 23 rfl rfl
theorem dksX13_next_5 : cX13_next.data.toList.drop 116 = dktX13_next_5 := dk_seg dksX13_next_4 23 rfl rfl
theorem dksX13_next_6 : cX13_next.data.toList.drop 140 = dktX13_next_6 := dk_seg dksX13_next_5 24 rfl rfl
theorem dksX13_next_7 : cX13_next.data.toList.drop 163 = dktX13_next_7 := dk_seg dksX13_next_6 23 rfl rfl
theorem dksX13_next_8 : cX13_next.data.toList.drop 186 = dktX13_next_8 := dk_seg dksX13_next_7 23 rfl rfl
theorem dksX13_next_9 : cX13_next.data.toList.drop 208 = dktX13_next_9 := dk_seg dksX13_next_8 22 rfl rfl
theorem dksX13_next_10 : cX13_next.data.toList.drop 232 = dktX13_next_10 := dk_seg dksX13_next_9 24 rfl rfl
theorem dX13_next_0 : decode cX13_next 0 = .ok (.aload_n 0, 1) := dk_42 (dk_at dksX13_next_0 0 rfl rfl)
theorem dX13_next_1 : decode cX13_next 1 = .ok (.getfield 79, 3) := dk_180 0 79 (dk_at dksX13_next_0 1 rfl rfl)
theorem dX13_next_4 : decode cX13_next 4 = .ok (.aload_n 0, 1) := dk_42 (dk_at dksX13_next_0 4 rfl rfl)
theorem dX13_next_5 : decode cX13_next 5 = .ok (.getfield 75, 3) := dk_180 0 75 (dk_at dksX13_next_0 5 rfl rfl)
theorem dX13_next_8 : decode cX13_next 8 = .ok (.if_icmp .ge 44, 3) := dk_162 0 44 (dk_at dksX13_next_0 8 rfl rfl)
theorem dX13_next_11 : decode cX13_next 11 = .ok (.aload_n 0, 1) := dk_42 (dk_at dksX13_next_0 11 rfl rfl)
theorem dX13_next_12 : decode cX13_next 12 = .ok (.getfield 71, 3) := dk_180 0 71 (dk_at dksX13_next_0 12 rfl rfl)
theorem dX13_next_15 : decode cX13_next 15 = .ok (.aload_n 0, 1) := dk_42 (dk_at dksX13_next_0 15 rfl rfl)
theorem dX13_next_16 : decode cX13_next 16 = .ok (.getfield 79, 3) := dk_180 0 79 (dk_at dksX13_next_0 16 rfl rfl)
theorem dX13_next_19 : decode cX13_next 19 = .ok (.baload, 1) := dk_51 (dk_at dksX13_next_0 19 rfl rfl)
theorem dX13_next_20 : decode cX13_next 20 = .ok (.bipush 32, 2) := dk_16 32 (dk_at dksX13_next_0 20 rfl rfl)
theorem dX13_next_22 : decode cX13_next 22 = .ok (.if_icmp .eq 17, 3) := dk_159 0 17 (dk_at dksX13_next_1 0 rfl rfl)
theorem dX13_next_25 : decode cX13_next 25 = .ok (.aload_n 0, 1) := dk_42 (dk_at dksX13_next_1 3 rfl rfl)
theorem dX13_next_26 : decode cX13_next 26 = .ok (.getfield 71, 3) := dk_180 0 71 (dk_at dksX13_next_1 4 rfl rfl)
theorem dX13_next_29 : decode cX13_next 29 = .ok (.aload_n 0, 1) := dk_42 (dk_at dksX13_next_1 7 rfl rfl)
theorem dX13_next_30 : decode cX13_next 30 = .ok (.getfield 79, 3) := dk_180 0 79 (dk_at dksX13_next_1 8 rfl rfl)
theorem dX13_next_33 : decode cX13_next 33 = .ok (.baload, 1) := dk_51 (dk_at dksX13_next_1 11 rfl rfl)
theorem dX13_next_34 : decode cX13_next 34 = .ok (.bipush 10, 2) := dk_16 10 (dk_at dksX13_next_1 12 rfl rfl)
theorem dX13_next_36 : decode cX13_next 36 = .ok (.if_icmp .ne 16, 3) := dk_160 0 16 (dk_at dksX13_next_1 14 rfl rfl)
theorem dX13_next_39 : decode cX13_next 39 = .ok (.aload_n 0, 1) := dk_42 (dk_at dksX13_next_1 17 rfl rfl)
theorem dX13_next_40 : decode cX13_next 40 = .ok (.dup, 1) := dk_89 (dk_at dksX13_next_1 18 rfl rfl)
theorem dX13_next_41 : decode cX13_next 41 = .ok (.getfield 79, 3) := dk_180 0 79 (dk_at dksX13_next_1 19 rfl rfl)
theorem dX13_next_44 : decode cX13_next 44 = .ok (.iconst 1, 1) := dk_4 (dk_at dksX13_next_1 22 rfl rfl)
theorem dX13_next_45 : decode cX13_next 45 = .ok (.iadd, 1) := dk_96 (dk_at dksX13_next_1 23 rfl rfl)
theorem dX13_next_46 : decode cX13_next 46 = .ok (.putfield 79, 3) := dk_181 0 79 (dk_at dksX13_next_2 0 rfl rfl)
theorem dX13_next_49 : decode cX13_next 49 = .ok (.goto (-49), 3) := dk_167 255 207 (dk_at dksX13_next_2 3 rfl rfl)
theorem dX13_next_52 : decode cX13_next 52 = .ok (.aload_n 0, 1) := dk_42 (dk_at dksX13_next_2 6 rfl rfl)
theorem dX13_next_53 : decode cX13_next 53 = .ok (.aload_n 0, 1) := dk_42 (dk_at dksX13_next_2 7 rfl rfl)
theorem dX13_next_54 : decode cX13_next 54 = .ok (.getfield 79, 3) := dk_180 0 79 (dk_at dksX13_next_2 8 rfl rfl)
theorem dX13_next_57 : decode cX13_next 57 = .ok (.putfield 82, 3) := dk_181 0 82 (dk_at dksX13_next_2 11 rfl rfl)
theorem dX13_next_60 : decode cX13_next 60 = .ok (.aload_n 0, 1) := dk_42 (dk_at dksX13_next_2 14 rfl rfl)
theorem dX13_next_61 : decode cX13_next 61 = .ok (.aload_n 0, 1) := dk_42 (dk_at dksX13_next_2 15 rfl rfl)
theorem dX13_next_62 : decode cX13_next 62 = .ok (.getfield 79, 3) := dk_180 0 79 (dk_at dksX13_next_2 16 rfl rfl)
theorem dX13_next_65 : decode cX13_next 65 = .ok (.putfield 85, 3) := dk_181 0 85 (dk_at dksX13_next_2 19 rfl rfl)
theorem dX13_next_68 : decode cX13_next 68 = .ok (.aload_n 0, 1) := dk_42 (dk_at dksX13_next_2 22 rfl rfl)
theorem dX13_next_69 : decode cX13_next 69 = .ok (.iconst 0, 1) := dk_3 (dk_at dksX13_next_2 23 rfl rfl)
theorem dX13_next_70 : decode cX13_next 70 = .ok (.putfield 88, 3) := dk_181 0 88 (dk_at dksX13_next_3 0 rfl rfl)
theorem dX13_next_73 : decode cX13_next 73 = .ok (.aload_n 0, 1) := dk_42 (dk_at dksX13_next_3 3 rfl rfl)
theorem dX13_next_74 : decode cX13_next 74 = .ok (.getfield 79, 3) := dk_180 0 79 (dk_at dksX13_next_3 4 rfl rfl)
theorem dX13_next_77 : decode cX13_next 77 = .ok (.aload_n 0, 1) := dk_42 (dk_at dksX13_next_3 7 rfl rfl)
theorem dX13_next_78 : decode cX13_next 78 = .ok (.getfield 75, 3) := dk_180 0 75 (dk_at dksX13_next_3 8 rfl rfl)
theorem dX13_next_81 : decode cX13_next 81 = .ok (.if_icmp .ne 11, 3) := dk_160 0 11 (dk_at dksX13_next_3 11 rfl rfl)
theorem dX13_next_84 : decode cX13_next 84 = .ok (.aload_n 0, 1) := dk_42 (dk_at dksX13_next_3 14 rfl rfl)
theorem dX13_next_85 : decode cX13_next 85 = .ok (.iconst 0, 1) := dk_3 (dk_at dksX13_next_3 15 rfl rfl)
theorem dX13_next_86 : decode cX13_next 86 = .ok (.putfield 91, 3) := dk_181 0 91 (dk_at dksX13_next_3 16 rfl rfl)
theorem dX13_next_89 : decode cX13_next 89 = .ok (.goto 146, 3) := dk_167 0 146 (dk_at dksX13_next_3 19 rfl rfl)
theorem dX13_next_92 : decode cX13_next 92 = .ok (.aload_n 0, 1) := dk_42 (dk_at dksX13_next_3 22 rfl rfl)
theorem dX13_next_93 : decode cX13_next 93 = .ok (.bipush 97, 2) := dk_16 97 (dk_at dksX13_next_4 0 rfl rfl)
theorem dX13_next_95 : decode cX13_next 95 = .ok (.bipush 122, 2) := dk_16 122 (dk_at dksX13_next_4 2 rfl rfl)
theorem dX13_next_97 : decode cX13_next 97 = .ok (.invokevirtual 94, 3) := dk_182 0 94 (dk_at dksX13_next_4 4 rfl rfl)
theorem dX13_next_100 : decode cX13_next 100 = .ok (.ifCond .eq 32, 3) := dk_153 0 32 (dk_at dksX13_next_4 7 rfl rfl)
theorem dX13_next_103 : decode cX13_next 103 = .ok (.aload_n 0, 1) := dk_42 (dk_at dksX13_next_4 10 rfl rfl)
theorem dX13_next_104 : decode cX13_next 104 = .ok (.iconst 1, 1) := dk_4 (dk_at dksX13_next_4 11 rfl rfl)
theorem dX13_next_105 : decode cX13_next 105 = .ok (.putfield 91, 3) := dk_181 0 91 (dk_at dksX13_next_4 12 rfl rfl)
theorem dX13_next_108 : decode cX13_next 108 = .ok (.aload_n 0, 1) := dk_42 (dk_at dksX13_next_4 15 rfl rfl)
theorem dX13_next_109 : decode cX13_next 109 = .ok (.bipush 97, 2) := dk_16 97 (dk_at dksX13_next_4 16 rfl rfl)
theorem dX13_next_111 : decode cX13_next 111 = .ok (.bipush 122, 2) := dk_16 122 (dk_at dksX13_next_4 18 rfl rfl)
theorem dX13_next_113 : decode cX13_next 113 = .ok (.invokevirtual 94, 3) := dk_182 0 94 (dk_at dksX13_next_4 20 rfl rfl)
theorem dX13_next_116 : decode cX13_next 116 = .ok (.ifCond .eq 119, 3) := dk_153 0 119 (dk_at dksX13_next_5 0 rfl rfl)
theorem dX13_next_119 : decode cX13_next 119 = .ok (.aload_n 0, 1) := dk_42 (dk_at dksX13_next_5 3 rfl rfl)
theorem dX13_next_120 : decode cX13_next 120 = .ok (.dup, 1) := dk_89 (dk_at dksX13_next_5 4 rfl rfl)
theorem dX13_next_121 : decode cX13_next 121 = .ok (.getfield 79, 3) := dk_180 0 79 (dk_at dksX13_next_5 5 rfl rfl)
theorem dX13_next_124 : decode cX13_next 124 = .ok (.iconst 1, 1) := dk_4 (dk_at dksX13_next_5 8 rfl rfl)
theorem dX13_next_125 : decode cX13_next 125 = .ok (.iadd, 1) := dk_96 (dk_at dksX13_next_5 9 rfl rfl)
theorem dX13_next_126 : decode cX13_next 126 = .ok (.putfield 79, 3) := dk_181 0 79 (dk_at dksX13_next_5 10 rfl rfl)
theorem dX13_next_129 : decode cX13_next 129 = .ok (.goto (-21), 3) := dk_167 255 235 (dk_at dksX13_next_5 13 rfl rfl)
theorem dX13_next_132 : decode cX13_next 132 = .ok (.aload_n 0, 1) := dk_42 (dk_at dksX13_next_5 16 rfl rfl)
theorem dX13_next_133 : decode cX13_next 133 = .ok (.bipush 48, 2) := dk_16 48 (dk_at dksX13_next_5 17 rfl rfl)
theorem dX13_next_135 : decode cX13_next 135 = .ok (.bipush 57, 2) := dk_16 57 (dk_at dksX13_next_5 19 rfl rfl)
theorem dX13_next_137 : decode cX13_next 137 = .ok (.invokevirtual 94, 3) := dk_182 0 94 (dk_at dksX13_next_5 21 rfl rfl)
theorem dX13_next_140 : decode cX13_next 140 = .ok (.ifCond .eq 62, 3) := dk_153 0 62 (dk_at dksX13_next_6 0 rfl rfl)
theorem dX13_next_143 : decode cX13_next 143 = .ok (.aload_n 0, 1) := dk_42 (dk_at dksX13_next_6 3 rfl rfl)
theorem dX13_next_144 : decode cX13_next 144 = .ok (.iconst 2, 1) := dk_5 (dk_at dksX13_next_6 4 rfl rfl)
theorem dX13_next_145 : decode cX13_next 145 = .ok (.putfield 91, 3) := dk_181 0 91 (dk_at dksX13_next_6 5 rfl rfl)
theorem dX13_next_148 : decode cX13_next 148 = .ok (.aload_n 0, 1) := dk_42 (dk_at dksX13_next_6 8 rfl rfl)
theorem dX13_next_149 : decode cX13_next 149 = .ok (.bipush 48, 2) := dk_16 48 (dk_at dksX13_next_6 9 rfl rfl)
theorem dX13_next_151 : decode cX13_next 151 = .ok (.bipush 57, 2) := dk_16 57 (dk_at dksX13_next_6 11 rfl rfl)
theorem dX13_next_153 : decode cX13_next 153 = .ok (.invokevirtual 94, 3) := dk_182 0 94 (dk_at dksX13_next_6 13 rfl rfl)
theorem dX13_next_156 : decode cX13_next 156 = .ok (.ifCond .eq 79, 3) := dk_153 0 79 (dk_at dksX13_next_6 16 rfl rfl)
theorem dX13_next_159 : decode cX13_next 159 = .ok (.aload_n 0, 1) := dk_42 (dk_at dksX13_next_6 19 rfl rfl)
theorem dX13_next_160 : decode cX13_next 160 = .ok (.sipush 1000, 3) := dk_17 3 232 (dk_at dksX13_next_6 20 rfl rfl)
theorem dX13_next_163 : decode cX13_next 163 = .ok (.bipush 10, 2) := dk_16 10 (dk_at dksX13_next_7 0 rfl rfl)
theorem dX13_next_165 : decode cX13_next 165 = .ok (.aload_n 0, 1) := dk_42 (dk_at dksX13_next_7 2 rfl rfl)
theorem dX13_next_166 : decode cX13_next 166 = .ok (.getfield 88, 3) := dk_180 0 88 (dk_at dksX13_next_7 3 rfl rfl)
theorem dX13_next_169 : decode cX13_next 169 = .ok (.imul, 1) := dk_104 (dk_at dksX13_next_7 6 rfl rfl)
theorem dX13_next_170 : decode cX13_next 170 = .ok (.aload_n 0, 1) := dk_42 (dk_at dksX13_next_7 7 rfl rfl)
theorem dX13_next_171 : decode cX13_next 171 = .ok (.getfield 71, 3) := dk_180 0 71 (dk_at dksX13_next_7 8 rfl rfl)
theorem dX13_next_174 : decode cX13_next 174 = .ok (.aload_n 0, 1) := dk_42 (dk_at dksX13_next_7 11 rfl rfl)
theorem dX13_next_175 : decode cX13_next 175 = .ok (.getfield 79, 3) := dk_180 0 79 (dk_at dksX13_next_7 12 rfl rfl)
theorem dX13_next_178 : decode cX13_next 178 = .ok (.baload, 1) := dk_51 (dk_at dksX13_next_7 15 rfl rfl)
theorem dX13_next_179 : decode cX13_next 179 = .ok (.iadd, 1) := dk_96 (dk_at dksX13_next_7 16 rfl rfl)
theorem dX13_next_180 : decode cX13_next 180 = .ok (.bipush 48, 2) := dk_16 48 (dk_at dksX13_next_7 17 rfl rfl)
theorem dX13_next_182 : decode cX13_next 182 = .ok (.isub, 1) := dk_100 (dk_at dksX13_next_7 19 rfl rfl)
theorem dX13_next_183 : decode cX13_next 183 = .ok (.invokestatic 98, 3) := dk_184 0 98 (dk_at dksX13_next_7 20 rfl rfl)
theorem dX13_next_186 : decode cX13_next 186 = .ok (.putfield 88, 3) := dk_181 0 88 (dk_at dksX13_next_8 0 rfl rfl)
theorem dX13_next_189 : decode cX13_next 189 = .ok (.aload_n 0, 1) := dk_42 (dk_at dksX13_next_8 3 rfl rfl)
theorem dX13_next_190 : decode cX13_next 190 = .ok (.dup, 1) := dk_89 (dk_at dksX13_next_8 4 rfl rfl)
theorem dX13_next_191 : decode cX13_next 191 = .ok (.getfield 79, 3) := dk_180 0 79 (dk_at dksX13_next_8 5 rfl rfl)
theorem dX13_next_194 : decode cX13_next 194 = .ok (.iconst 1, 1) := dk_4 (dk_at dksX13_next_8 8 rfl rfl)
theorem dX13_next_195 : decode cX13_next 195 = .ok (.iadd, 1) := dk_96 (dk_at dksX13_next_8 9 rfl rfl)
theorem dX13_next_196 : decode cX13_next 196 = .ok (.putfield 79, 3) := dk_181 0 79 (dk_at dksX13_next_8 10 rfl rfl)
theorem dX13_next_199 : decode cX13_next 199 = .ok (.goto (-51), 3) := dk_167 255 205 (dk_at dksX13_next_8 13 rfl rfl)
theorem dX13_next_202 : decode cX13_next 202 = .ok (.aload_n 0, 1) := dk_42 (dk_at dksX13_next_8 16 rfl rfl)
theorem dX13_next_203 : decode cX13_next 203 = .ok (.aload_n 0, 1) := dk_42 (dk_at dksX13_next_8 17 rfl rfl)
theorem dX13_next_204 : decode cX13_next 204 = .ok (.getfield 71, 3) := dk_180 0 71 (dk_at dksX13_next_8 18 rfl rfl)
theorem dX13_next_207 : decode cX13_next 207 = .ok (.aload_n 0, 1) := dk_42 (dk_at dksX13_next_8 21 rfl rfl)
theorem dX13_next_208 : decode cX13_next 208 = .ok (.getfield 79, 3) := dk_180 0 79 (dk_at dksX13_next_9 0 rfl rfl)
theorem dX13_next_211 : decode cX13_next 211 = .ok (.baload, 1) := dk_51 (dk_at dksX13_next_9 3 rfl rfl)
theorem dX13_next_212 : decode cX13_next 212 = .ok (.bipush 59, 2) := dk_16 59 (dk_at dksX13_next_9 4 rfl rfl)
theorem dX13_next_214 : decode cX13_next 214 = .ok (.if_icmp .ne 7, 3) := dk_160 0 7 (dk_at dksX13_next_9 6 rfl rfl)
theorem dX13_next_217 : decode cX13_next 217 = .ok (.iconst 3, 1) := dk_6 (dk_at dksX13_next_9 9 rfl rfl)
theorem dX13_next_218 : decode cX13_next 218 = .ok (.goto 4, 3) := dk_167 0 4 (dk_at dksX13_next_9 10 rfl rfl)
theorem dX13_next_221 : decode cX13_next 221 = .ok (.iconst 4, 1) := dk_7 (dk_at dksX13_next_9 13 rfl rfl)
theorem dX13_next_222 : decode cX13_next 222 = .ok (.putfield 91, 3) := dk_181 0 91 (dk_at dksX13_next_9 14 rfl rfl)
theorem dX13_next_225 : decode cX13_next 225 = .ok (.aload_n 0, 1) := dk_42 (dk_at dksX13_next_9 17 rfl rfl)
theorem dX13_next_226 : decode cX13_next 226 = .ok (.dup, 1) := dk_89 (dk_at dksX13_next_9 18 rfl rfl)
theorem dX13_next_227 : decode cX13_next 227 = .ok (.getfield 79, 3) := dk_180 0 79 (dk_at dksX13_next_9 19 rfl rfl)
theorem dX13_next_230 : decode cX13_next 230 = .ok (.iconst 1, 1) := dk_4 (dk_at dksX13_next_9 22 rfl rfl)
theorem dX13_next_231 : decode cX13_next 231 = .ok (.iadd, 1) := dk_96 (dk_at dksX13_next_9 23 rfl rfl)
theorem dX13_next_232 : decode cX13_next 232 = .ok (.putfield 79, 3) := dk_181 0 79 (dk_at dksX13_next_10 0 rfl rfl)
theorem dX13_next_235 : decode cX13_next 235 = .ok (.return_, 1) := dk_177 (dk_at dksX13_next_10 3 rfl rfl)
abbrev cX13_isAt : ByteArray := prog_15_method_2_code
def yX13_isAt : MethodName := ⟨RX13, "isAt", "(II)Z"⟩
def dkwX13_isAt_1 : List UInt8 := [42, 180, 0, 71, 42, 180, 0, 79, 51, 28, 163, 0, 7, 4, 167, 0, 4, 3, 172]
abbrev dktX13_isAt_1 : List UInt8 := dkwX13_isAt_1 ++ []
def dkwX13_isAt_0 : List UInt8 := [42, 180, 0, 79, 42, 180, 0, 75, 162, 0, 33, 42, 180, 0, 71, 42, 180, 0, 79, 51, 27, 161, 0, 20]
abbrev dktX13_isAt_0 : List UInt8 := dkwX13_isAt_0 ++ dktX13_isAt_1
theorem dksX13_isAt_0 : cX13_isAt.data.toList.drop 0 = dktX13_isAt_0 := by decide +kernel
theorem dksX13_isAt_1 : cX13_isAt.data.toList.drop 24 = dktX13_isAt_1 := dk_seg dksX13_isAt_0 24 rfl rfl
theorem dX13_isAt_0 : decode cX13_isAt 0 = .ok (.aload_n 0, 1) := dk_42 (dk_at dksX13_isAt_0 0 rfl rfl)
theorem dX13_isAt_1 : decode cX13_isAt 1 = .ok (.getfield 79, 3) := dk_180 0 79 (dk_at dksX13_isAt_0 1 rfl rfl)
theorem dX13_isAt_4 : decode cX13_isAt 4 = .ok (.aload_n 0, 1) := dk_42 (dk_at dksX13_isAt_0 4 rfl rfl)
theorem dX13_isAt_5 : decode cX13_isAt 5 = .ok (.getfield 75, 3) := dk_180 0 75 (dk_at dksX13_isAt_0 5 rfl rfl)
theorem dX13_isAt_8 : decode cX13_isAt 8 = .ok (.if_icmp .ge 33, 3) := dk_162 0 33 (dk_at dksX13_isAt_0 8 rfl rfl)
theorem dX13_isAt_11 : decode cX13_isAt 11 = .ok (.aload_n 0, 1) := dk_42 (dk_at dksX13_isAt_0 11 rfl rfl)
theorem dX13_isAt_12 : decode cX13_isAt 12 = .ok (.getfield 71, 3) := dk_180 0 71 (dk_at dksX13_isAt_0 12 rfl rfl)
theorem dX13_isAt_15 : decode cX13_isAt 15 = .ok (.aload_n 0, 1) := dk_42 (dk_at dksX13_isAt_0 15 rfl rfl)
theorem dX13_isAt_16 : decode cX13_isAt 16 = .ok (.getfield 79, 3) := dk_180 0 79 (dk_at dksX13_isAt_0 16 rfl rfl)
theorem dX13_isAt_19 : decode cX13_isAt 19 = .ok (.baload, 1) := dk_51 (dk_at dksX13_isAt_0 19 rfl rfl)
theorem dX13_isAt_20 : decode cX13_isAt 20 = .ok (.iload_n 1, 1) := dk_27 (dk_at dksX13_isAt_0 20 rfl rfl)
theorem dX13_isAt_21 : decode cX13_isAt 21 = .ok (.if_icmp .lt 20, 3) := dk_161 0 20 (dk_at dksX13_isAt_0 21 rfl rfl)
theorem dX13_isAt_24 : decode cX13_isAt 24 = .ok (.aload_n 0, 1) := dk_42 (dk_at dksX13_isAt_1 0 rfl rfl)
theorem dX13_isAt_25 : decode cX13_isAt 25 = .ok (.getfield 71, 3) := dk_180 0 71 (dk_at dksX13_isAt_1 1 rfl rfl)
theorem dX13_isAt_28 : decode cX13_isAt 28 = .ok (.aload_n 0, 1) := dk_42 (dk_at dksX13_isAt_1 4 rfl rfl)
theorem dX13_isAt_29 : decode cX13_isAt 29 = .ok (.getfield 79, 3) := dk_180 0 79 (dk_at dksX13_isAt_1 5 rfl rfl)
theorem dX13_isAt_32 : decode cX13_isAt 32 = .ok (.baload, 1) := dk_51 (dk_at dksX13_isAt_1 8 rfl rfl)
theorem dX13_isAt_33 : decode cX13_isAt 33 = .ok (.iload_n 2, 1) := dk_28 (dk_at dksX13_isAt_1 9 rfl rfl)
theorem dX13_isAt_34 : decode cX13_isAt 34 = .ok (.if_icmp .gt 7, 3) := dk_163 0 7 (dk_at dksX13_isAt_1 10 rfl rfl)
theorem dX13_isAt_37 : decode cX13_isAt 37 = .ok (.iconst 1, 1) := dk_4 (dk_at dksX13_isAt_1 13 rfl rfl)
theorem dX13_isAt_38 : decode cX13_isAt 38 = .ok (.goto 4, 3) := dk_167 0 4 (dk_at dksX13_isAt_1 14 rfl rfl)
theorem dX13_isAt_41 : decode cX13_isAt 41 = .ok (.iconst 0, 1) := dk_3 (dk_at dksX13_isAt_1 17 rfl rfl)
theorem dX13_isAt_42 : decode cX13_isAt 42 = .ok (.ireturn, 1) := dk_172 (dk_at dksX13_isAt_1 18 rfl rfl)
abbrev cX13_line : ByteArray := prog_15_method_18_code
def yX13_line : MethodName := ⟨RX13, "line", "()V"⟩
def dkwX13_line_7 : List UInt8 := [180, 0, 91, 6, 159, 0, 8, 42, 4, 182, 0, 127, 42, 182, 0, 121, 177]
abbrev dktX13_line_7 : List UInt8 := dkwX13_line_7 ++ []
def dkwX13_line_6 : List UInt8 := [181, 1, 9, 167, 0, 20, 42, 180, 0, 67, 42, 19, 1, 12, 4, 16, 9, 182, 0, 150, 181, 1, 14, 42]
abbrev dktX13_line_6 : List UInt8 := dkwX13_line_6 ++ dktX13_line_7
def dkwX13_line_5 : List UInt8 := [19, 1, 7, 182, 0, 117, 153, 0, 23, 42, 180, 0, 67, 42, 19, 1, 7, 3, 16, 99, 182, 0, 150]
abbrev dktX13_line_5 : List UInt8 := dkwX13_line_5 ++ dktX13_line_6
def dkwX13_line_4 : List UInt8 := [182, 1, 1, 167, 0, 67, 42, 19, 1, 3, 182, 0, 124, 153, 0, 10, 42, 182, 1, 5, 167, 0, 50, 42]
abbrev dktX13_line_4 : List UInt8 := dkwX13_line_4 ++ dktX13_line_5
def dkwX13_line_3 : List UInt8 := [42, 182, 0, 121, 42, 27, 182, 0, 254, 167, 0, 83, 42, 18, 250, 182, 0, 124, 153, 0, 10, 42]
abbrev dktX13_line_3 : List UInt8 := dkwX13_line_3 ++ dktX13_line_4
def dkwX13_line_2 : List UInt8 := [185, 0, 252, 1, 0, 16, 24, 160, 0, 8, 42, 6, 182, 0, 127, 27, 42, 180, 0, 39, 190, 162, 0, 15]
abbrev dktX13_line_2 : List UInt8 := dkwX13_line_2 ++ dktX13_line_3
def dkwX13_line_1 : List UInt8 := [182, 0, 193, 16, 16, 159, 0, 29, 27, 42, 180, 0, 39, 190, 162, 0, 25, 42, 180, 0, 67, 180, 0, 247]
abbrev dktX13_line_1 : List UInt8 := dkwX13_line_1 ++ dktX13_line_2
def dkwX13_line_0 : List UInt8 := [42, 42, 180, 0, 39, 182, 0, 142, 60, 42, 18, 250, 182, 0, 117, 153, 0, 15, 42, 180, 0, 67]
abbrev dktX13_line_0 : List UInt8 := dkwX13_line_0 ++ dktX13_line_1
theorem dksX13_line_0 : cX13_line.data.toList.drop 0 = dktX13_line_0 := by decide +kernel
theorem dksX13_line_1 : cX13_line.data.toList.drop 22 = dktX13_line_1 := dk_seg dksX13_line_0 22 rfl rfl
theorem dksX13_line_2 : cX13_line.data.toList.drop 46 = dktX13_line_2 := dk_seg dksX13_line_1 24 rfl rfl
theorem dksX13_line_3 : cX13_line.data.toList.drop 70 = dktX13_line_3 := dk_seg dksX13_line_2 24 rfl rfl
theorem dksX13_line_4 : cX13_line.data.toList.drop 92 = dktX13_line_4 := dk_seg dksX13_line_3 22 rfl rfl
theorem dksX13_line_5 : cX13_line.data.toList.drop 116 = dktX13_line_5 := dk_seg dksX13_line_4 24 rfl rfl
theorem dksX13_line_6 : cX13_line.data.toList.drop 139 = dktX13_line_6 := dk_seg dksX13_line_5 23 rfl rfl
theorem dksX13_line_7 : cX13_line.data.toList.drop 163 = dktX13_line_7 := dk_seg dksX13_line_6 24 rfl rfl
theorem dX13_line_0 : decode cX13_line 0 = .ok (.aload_n 0, 1) := dk_42 (dk_at dksX13_line_0 0 rfl rfl)
theorem dX13_line_1 : decode cX13_line 1 = .ok (.aload_n 0, 1) := dk_42 (dk_at dksX13_line_0 1 rfl rfl)
theorem dX13_line_2 : decode cX13_line 2 = .ok (.getfield 39, 3) := dk_180 0 39 (dk_at dksX13_line_0 2 rfl rfl)
theorem dX13_line_5 : decode cX13_line 5 = .ok (.invokevirtual 142, 3) := dk_182 0 142 (dk_at dksX13_line_0 5 rfl rfl)
theorem dX13_line_8 : decode cX13_line 8 = .ok (.istore_n 1, 1) := dk_60 (dk_at dksX13_line_0 8 rfl rfl)
theorem dX13_line_9 : decode cX13_line 9 = .ok (.aload_n 0, 1) := dk_42 (dk_at dksX13_line_0 9 rfl rfl)
theorem dX13_line_10 : decode cX13_line 10 = .ok (.ldc 250, 2) := dk_18 250 (dk_at dksX13_line_0 10 rfl rfl)
theorem dX13_line_12 : decode cX13_line 12 = .ok (.invokevirtual 117, 3) := dk_182 0 117 (dk_at dksX13_line_0 12 rfl rfl)
theorem dX13_line_15 : decode cX13_line 15 = .ok (.ifCond .eq 15, 3) := dk_153 0 15 (dk_at dksX13_line_0 15 rfl rfl)
theorem dX13_line_18 : decode cX13_line 18 = .ok (.aload_n 0, 1) := dk_42 (dk_at dksX13_line_0 18 rfl rfl)
theorem dX13_line_19 : decode cX13_line 19 = .ok (.getfield 67, 3) := dk_180 0 67 (dk_at dksX13_line_0 19 rfl rfl)
theorem dX13_line_22 : decode cX13_line 22 = .ok (.invokevirtual 193, 3) := dk_182 0 193 (dk_at dksX13_line_1 0 rfl rfl)
theorem dX13_line_25 : decode cX13_line 25 = .ok (.bipush 16, 2) := dk_16 16 (dk_at dksX13_line_1 3 rfl rfl)
theorem dX13_line_27 : decode cX13_line 27 = .ok (.if_icmp .eq 29, 3) := dk_159 0 29 (dk_at dksX13_line_1 5 rfl rfl)
theorem dX13_line_30 : decode cX13_line 30 = .ok (.iload_n 1, 1) := dk_27 (dk_at dksX13_line_1 8 rfl rfl)
theorem dX13_line_31 : decode cX13_line 31 = .ok (.aload_n 0, 1) := dk_42 (dk_at dksX13_line_1 9 rfl rfl)
theorem dX13_line_32 : decode cX13_line 32 = .ok (.getfield 39, 3) := dk_180 0 39 (dk_at dksX13_line_1 10 rfl rfl)
theorem dX13_line_35 : decode cX13_line 35 = .ok (.arraylength, 1) := dk_190 (dk_at dksX13_line_1 13 rfl rfl)
theorem dX13_line_36 : decode cX13_line 36 = .ok (.if_icmp .ge 25, 3) := dk_162 0 25 (dk_at dksX13_line_1 14 rfl rfl)
theorem dX13_line_39 : decode cX13_line 39 = .ok (.aload_n 0, 1) := dk_42 (dk_at dksX13_line_1 17 rfl rfl)
theorem dX13_line_40 : decode cX13_line 40 = .ok (.getfield 67, 3) := dk_180 0 67 (dk_at dksX13_line_1 18 rfl rfl)
theorem dX13_line_43 : decode cX13_line 43 = .ok (.getfield 247, 3) := dk_180 0 247 (dk_at dksX13_line_1 21 rfl rfl)
theorem dX13_line_46 : decode cX13_line 46 = .ok (.invokeinterface 252 1, 5) := by decide +kernel
theorem dX13_line_51 : decode cX13_line 51 = .ok (.bipush 24, 2) := dk_16 24 (dk_at dksX13_line_2 5 rfl rfl)
theorem dX13_line_53 : decode cX13_line 53 = .ok (.if_icmp .ne 8, 3) := dk_160 0 8 (dk_at dksX13_line_2 7 rfl rfl)
theorem dX13_line_56 : decode cX13_line 56 = .ok (.aload_n 0, 1) := dk_42 (dk_at dksX13_line_2 10 rfl rfl)
theorem dX13_line_57 : decode cX13_line 57 = .ok (.iconst 3, 1) := dk_6 (dk_at dksX13_line_2 11 rfl rfl)
theorem dX13_line_58 : decode cX13_line 58 = .ok (.invokevirtual 127, 3) := dk_182 0 127 (dk_at dksX13_line_2 12 rfl rfl)
theorem dX13_line_61 : decode cX13_line 61 = .ok (.iload_n 1, 1) := dk_27 (dk_at dksX13_line_2 15 rfl rfl)
theorem dX13_line_62 : decode cX13_line 62 = .ok (.aload_n 0, 1) := dk_42 (dk_at dksX13_line_2 16 rfl rfl)
theorem dX13_line_63 : decode cX13_line 63 = .ok (.getfield 39, 3) := dk_180 0 39 (dk_at dksX13_line_2 17 rfl rfl)
theorem dX13_line_66 : decode cX13_line 66 = .ok (.arraylength, 1) := dk_190 (dk_at dksX13_line_2 20 rfl rfl)
theorem dX13_line_67 : decode cX13_line 67 = .ok (.if_icmp .ge 15, 3) := dk_162 0 15 (dk_at dksX13_line_2 21 rfl rfl)
theorem dX13_line_70 : decode cX13_line 70 = .ok (.aload_n 0, 1) := dk_42 (dk_at dksX13_line_3 0 rfl rfl)
theorem dX13_line_71 : decode cX13_line 71 = .ok (.invokevirtual 121, 3) := dk_182 0 121 (dk_at dksX13_line_3 1 rfl rfl)
theorem dX13_line_74 : decode cX13_line 74 = .ok (.aload_n 0, 1) := dk_42 (dk_at dksX13_line_3 4 rfl rfl)
theorem dX13_line_75 : decode cX13_line 75 = .ok (.iload_n 1, 1) := dk_27 (dk_at dksX13_line_3 5 rfl rfl)
theorem dX13_line_76 : decode cX13_line 76 = .ok (.invokevirtual 254, 3) := dk_182 0 254 (dk_at dksX13_line_3 6 rfl rfl)
theorem dX13_line_79 : decode cX13_line 79 = .ok (.goto 83, 3) := dk_167 0 83 (dk_at dksX13_line_3 9 rfl rfl)
theorem dX13_line_82 : decode cX13_line 82 = .ok (.aload_n 0, 1) := dk_42 (dk_at dksX13_line_3 12 rfl rfl)
theorem dX13_line_83 : decode cX13_line 83 = .ok (.ldc 250, 2) := dk_18 250 (dk_at dksX13_line_3 13 rfl rfl)
theorem dX13_line_85 : decode cX13_line 85 = .ok (.invokevirtual 124, 3) := dk_182 0 124 (dk_at dksX13_line_3 15 rfl rfl)
theorem dX13_line_88 : decode cX13_line 88 = .ok (.ifCond .eq 10, 3) := dk_153 0 10 (dk_at dksX13_line_3 18 rfl rfl)
theorem dX13_line_91 : decode cX13_line 91 = .ok (.aload_n 0, 1) := dk_42 (dk_at dksX13_line_3 21 rfl rfl)
theorem dX13_line_92 : decode cX13_line 92 = .ok (.invokevirtual 257, 3) := dk_182 1 1 (dk_at dksX13_line_4 0 rfl rfl)
theorem dX13_line_95 : decode cX13_line 95 = .ok (.goto 67, 3) := dk_167 0 67 (dk_at dksX13_line_4 3 rfl rfl)
theorem dX13_line_98 : decode cX13_line 98 = .ok (.aload_n 0, 1) := dk_42 (dk_at dksX13_line_4 6 rfl rfl)
theorem dX13_line_99 : decode cX13_line 99 = .ok (.ldc_w 259, 3) := dk_19 1 3 (dk_at dksX13_line_4 7 rfl rfl)
theorem dX13_line_102 : decode cX13_line 102 = .ok (.invokevirtual 124, 3) := dk_182 0 124 (dk_at dksX13_line_4 10 rfl rfl)
theorem dX13_line_105 : decode cX13_line 105 = .ok (.ifCond .eq 10, 3) := dk_153 0 10 (dk_at dksX13_line_4 13 rfl rfl)
theorem dX13_line_108 : decode cX13_line 108 = .ok (.aload_n 0, 1) := dk_42 (dk_at dksX13_line_4 16 rfl rfl)
theorem dX13_line_109 : decode cX13_line 109 = .ok (.invokevirtual 261, 3) := dk_182 1 5 (dk_at dksX13_line_4 17 rfl rfl)
theorem dX13_line_112 : decode cX13_line 112 = .ok (.goto 50, 3) := dk_167 0 50 (dk_at dksX13_line_4 20 rfl rfl)
theorem dX13_line_115 : decode cX13_line 115 = .ok (.aload_n 0, 1) := dk_42 (dk_at dksX13_line_4 23 rfl rfl)
theorem dX13_line_116 : decode cX13_line 116 = .ok (.ldc_w 263, 3) := dk_19 1 7 (dk_at dksX13_line_5 0 rfl rfl)
theorem dX13_line_119 : decode cX13_line 119 = .ok (.invokevirtual 117, 3) := dk_182 0 117 (dk_at dksX13_line_5 3 rfl rfl)
theorem dX13_line_122 : decode cX13_line 122 = .ok (.ifCond .eq 23, 3) := dk_153 0 23 (dk_at dksX13_line_5 6 rfl rfl)
theorem dX13_line_125 : decode cX13_line 125 = .ok (.aload_n 0, 1) := dk_42 (dk_at dksX13_line_5 9 rfl rfl)
theorem dX13_line_126 : decode cX13_line 126 = .ok (.getfield 67, 3) := dk_180 0 67 (dk_at dksX13_line_5 10 rfl rfl)
theorem dX13_line_129 : decode cX13_line 129 = .ok (.aload_n 0, 1) := dk_42 (dk_at dksX13_line_5 13 rfl rfl)
theorem dX13_line_130 : decode cX13_line 130 = .ok (.ldc_w 263, 3) := dk_19 1 7 (dk_at dksX13_line_5 14 rfl rfl)
theorem dX13_line_133 : decode cX13_line 133 = .ok (.iconst 0, 1) := dk_3 (dk_at dksX13_line_5 17 rfl rfl)
theorem dX13_line_134 : decode cX13_line 134 = .ok (.bipush 99, 2) := dk_16 99 (dk_at dksX13_line_5 18 rfl rfl)
theorem dX13_line_136 : decode cX13_line 136 = .ok (.invokevirtual 150, 3) := dk_182 0 150 (dk_at dksX13_line_5 20 rfl rfl)
theorem dX13_line_139 : decode cX13_line 139 = .ok (.putfield 265, 3) := dk_181 1 9 (dk_at dksX13_line_6 0 rfl rfl)
theorem dX13_line_142 : decode cX13_line 142 = .ok (.goto 20, 3) := dk_167 0 20 (dk_at dksX13_line_6 3 rfl rfl)
theorem dX13_line_145 : decode cX13_line 145 = .ok (.aload_n 0, 1) := dk_42 (dk_at dksX13_line_6 6 rfl rfl)
theorem dX13_line_146 : decode cX13_line 146 = .ok (.getfield 67, 3) := dk_180 0 67 (dk_at dksX13_line_6 7 rfl rfl)
theorem dX13_line_149 : decode cX13_line 149 = .ok (.aload_n 0, 1) := dk_42 (dk_at dksX13_line_6 10 rfl rfl)
theorem dX13_line_150 : decode cX13_line 150 = .ok (.ldc_w 268, 3) := dk_19 1 12 (dk_at dksX13_line_6 11 rfl rfl)
theorem dX13_line_153 : decode cX13_line 153 = .ok (.iconst 1, 1) := dk_4 (dk_at dksX13_line_6 14 rfl rfl)
theorem dX13_line_154 : decode cX13_line 154 = .ok (.bipush 9, 2) := dk_16 9 (dk_at dksX13_line_6 15 rfl rfl)
theorem dX13_line_156 : decode cX13_line 156 = .ok (.invokevirtual 150, 3) := dk_182 0 150 (dk_at dksX13_line_6 17 rfl rfl)
theorem dX13_line_159 : decode cX13_line 159 = .ok (.putfield 270, 3) := dk_181 1 14 (dk_at dksX13_line_6 20 rfl rfl)
theorem dX13_line_162 : decode cX13_line 162 = .ok (.aload_n 0, 1) := dk_42 (dk_at dksX13_line_6 23 rfl rfl)
theorem dX13_line_163 : decode cX13_line 163 = .ok (.getfield 91, 3) := dk_180 0 91 (dk_at dksX13_line_7 0 rfl rfl)
theorem dX13_line_166 : decode cX13_line 166 = .ok (.iconst 3, 1) := dk_6 (dk_at dksX13_line_7 3 rfl rfl)
theorem dX13_line_167 : decode cX13_line 167 = .ok (.if_icmp .eq 8, 3) := dk_159 0 8 (dk_at dksX13_line_7 4 rfl rfl)
theorem dX13_line_170 : decode cX13_line 170 = .ok (.aload_n 0, 1) := dk_42 (dk_at dksX13_line_7 7 rfl rfl)
theorem dX13_line_171 : decode cX13_line 171 = .ok (.iconst 1, 1) := dk_4 (dk_at dksX13_line_7 8 rfl rfl)
theorem dX13_line_172 : decode cX13_line 172 = .ok (.invokevirtual 127, 3) := dk_182 0 127 (dk_at dksX13_line_7 9 rfl rfl)
theorem dX13_line_175 : decode cX13_line 175 = .ok (.aload_n 0, 1) := dk_42 (dk_at dksX13_line_7 12 rfl rfl)
theorem dX13_line_176 : decode cX13_line 176 = .ok (.invokevirtual 121, 3) := dk_182 0 121 (dk_at dksX13_line_7 13 rfl rfl)
theorem dX13_line_179 : decode cX13_line 179 = .ok (.return_, 1) := dk_177 (dk_at dksX13_line_7 16 rfl rfl)
abbrev cX13_which : ByteArray := prog_15_method_10_code
def yX13_which : MethodName := ⟨RX13, "which", "([Ljava/lang/String;)I"⟩
def dkwX13_which_1 : List UInt8 := [28, 172]
abbrev dktX13_which_1 : List UInt8 := dkwX13_which_1 ++ []
def dkwX13_which_0 : List UInt8 := [3, 61, 28, 43, 190, 162, 0, 19, 42, 43, 28, 50, 182, 0, 117, 154, 0, 9, 132, 2, 1, 167, 255, 237]
abbrev dktX13_which_0 : List UInt8 := dkwX13_which_0 ++ dktX13_which_1
theorem dksX13_which_0 : cX13_which.data.toList.drop 0 = dktX13_which_0 := by decide +kernel
theorem dksX13_which_1 : cX13_which.data.toList.drop 24 = dktX13_which_1 := dk_seg dksX13_which_0 24 rfl rfl
theorem dX13_which_0 : decode cX13_which 0 = .ok (.iconst 0, 1) := dk_3 (dk_at dksX13_which_0 0 rfl rfl)
theorem dX13_which_1 : decode cX13_which 1 = .ok (.istore_n 2, 1) := dk_61 (dk_at dksX13_which_0 1 rfl rfl)
theorem dX13_which_2 : decode cX13_which 2 = .ok (.iload_n 2, 1) := dk_28 (dk_at dksX13_which_0 2 rfl rfl)
theorem dX13_which_3 : decode cX13_which 3 = .ok (.aload_n 1, 1) := dk_43 (dk_at dksX13_which_0 3 rfl rfl)
theorem dX13_which_4 : decode cX13_which 4 = .ok (.arraylength, 1) := dk_190 (dk_at dksX13_which_0 4 rfl rfl)
theorem dX13_which_5 : decode cX13_which 5 = .ok (.if_icmp .ge 19, 3) := dk_162 0 19 (dk_at dksX13_which_0 5 rfl rfl)
theorem dX13_which_8 : decode cX13_which 8 = .ok (.aload_n 0, 1) := dk_42 (dk_at dksX13_which_0 8 rfl rfl)
theorem dX13_which_9 : decode cX13_which 9 = .ok (.aload_n 1, 1) := dk_43 (dk_at dksX13_which_0 9 rfl rfl)
theorem dX13_which_10 : decode cX13_which 10 = .ok (.iload_n 2, 1) := dk_28 (dk_at dksX13_which_0 10 rfl rfl)
theorem dX13_which_11 : decode cX13_which 11 = .ok (.aaload, 1) := dk_50 (dk_at dksX13_which_0 11 rfl rfl)
theorem dX13_which_12 : decode cX13_which 12 = .ok (.invokevirtual 117, 3) := dk_182 0 117 (dk_at dksX13_which_0 12 rfl rfl)
theorem dX13_which_15 : decode cX13_which 15 = .ok (.ifCond .ne 9, 3) := dk_154 0 9 (dk_at dksX13_which_0 15 rfl rfl)
theorem dX13_which_18 : decode cX13_which 18 = .ok (.iinc 2 1, 3) := dk_132 2 1 (dk_at dksX13_which_0 18 rfl rfl)
theorem dX13_which_21 : decode cX13_which 21 = .ok (.goto (-19), 3) := dk_167 255 237 (dk_at dksX13_which_0 21 rfl rfl)
theorem dX13_which_24 : decode cX13_which 24 = .ok (.iload_n 2, 1) := dk_28 (dk_at dksX13_which_1 0 rfl rfl)
theorem dX13_which_25 : decode cX13_which 25 = .ok (.ireturn, 1) := dk_172 (dk_at dksX13_which_1 1 rfl rfl)
abbrev cX13_is : ByteArray := prog_15_method_5_code
def yX13_is : MethodName := ⟨RX13, "is", "(Ljava/lang/String;)Z"⟩
def dkwX13_is_3 : List UInt8 := [167, 255, 216, 28, 172]
abbrev dktX13_is_3 : List UInt8 := dkwX13_is_3 ++ []
def dkwX13_is_2 : List UInt8 := [42, 180, 0, 85, 29, 96, 51, 43, 29, 182, 0, 113, 160, 0, 7, 4, 167, 0, 4, 3, 61, 132, 3, 1]
abbrev dktX13_is_2 : List UInt8 := dkwX13_is_2 ++ dktX13_is_3
def dkwX13_is_1 : List UInt8 := [4, 167, 0, 4, 3, 61, 3, 62, 29, 43, 182, 0, 109, 162, 0, 38, 28, 153, 0, 34, 42, 180, 0, 71]
abbrev dktX13_is_1 : List UInt8 := dkwX13_is_1 ++ dktX13_is_2
def dkwX13_is_0 : List UInt8 := [42, 180, 0, 91, 4, 160, 0, 23, 42, 180, 0, 79, 42, 180, 0, 85, 100, 43, 182, 0, 109, 160, 0, 7]
abbrev dktX13_is_0 : List UInt8 := dkwX13_is_0 ++ dktX13_is_1
theorem dksX13_is_0 : cX13_is.data.toList.drop 0 = dktX13_is_0 := by decide +kernel
theorem dksX13_is_1 : cX13_is.data.toList.drop 24 = dktX13_is_1 := dk_seg dksX13_is_0 24 rfl rfl
theorem dksX13_is_2 : cX13_is.data.toList.drop 48 = dktX13_is_2 := dk_seg dksX13_is_1 24 rfl rfl
theorem dksX13_is_3 : cX13_is.data.toList.drop 72 = dktX13_is_3 := dk_seg dksX13_is_2 24 rfl rfl
theorem dX13_is_0 : decode cX13_is 0 = .ok (.aload_n 0, 1) := dk_42 (dk_at dksX13_is_0 0 rfl rfl)
theorem dX13_is_1 : decode cX13_is 1 = .ok (.getfield 91, 3) := dk_180 0 91 (dk_at dksX13_is_0 1 rfl rfl)
theorem dX13_is_4 : decode cX13_is 4 = .ok (.iconst 1, 1) := dk_4 (dk_at dksX13_is_0 4 rfl rfl)
theorem dX13_is_5 : decode cX13_is 5 = .ok (.if_icmp .ne 23, 3) := dk_160 0 23 (dk_at dksX13_is_0 5 rfl rfl)
theorem dX13_is_8 : decode cX13_is 8 = .ok (.aload_n 0, 1) := dk_42 (dk_at dksX13_is_0 8 rfl rfl)
theorem dX13_is_9 : decode cX13_is 9 = .ok (.getfield 79, 3) := dk_180 0 79 (dk_at dksX13_is_0 9 rfl rfl)
theorem dX13_is_12 : decode cX13_is 12 = .ok (.aload_n 0, 1) := dk_42 (dk_at dksX13_is_0 12 rfl rfl)
theorem dX13_is_13 : decode cX13_is 13 = .ok (.getfield 85, 3) := dk_180 0 85 (dk_at dksX13_is_0 13 rfl rfl)
theorem dX13_is_16 : decode cX13_is 16 = .ok (.isub, 1) := dk_100 (dk_at dksX13_is_0 16 rfl rfl)
theorem dX13_is_17 : decode cX13_is 17 = .ok (.aload_n 1, 1) := dk_43 (dk_at dksX13_is_0 17 rfl rfl)
theorem dX13_is_18 : decode cX13_is 18 = .ok (.invokevirtual 109, 3) := dk_182 0 109 (dk_at dksX13_is_0 18 rfl rfl)
theorem dX13_is_21 : decode cX13_is 21 = .ok (.if_icmp .ne 7, 3) := dk_160 0 7 (dk_at dksX13_is_0 21 rfl rfl)
theorem dX13_is_24 : decode cX13_is 24 = .ok (.iconst 1, 1) := dk_4 (dk_at dksX13_is_1 0 rfl rfl)
theorem dX13_is_25 : decode cX13_is 25 = .ok (.goto 4, 3) := dk_167 0 4 (dk_at dksX13_is_1 1 rfl rfl)
theorem dX13_is_28 : decode cX13_is 28 = .ok (.iconst 0, 1) := dk_3 (dk_at dksX13_is_1 4 rfl rfl)
theorem dX13_is_29 : decode cX13_is 29 = .ok (.istore_n 2, 1) := dk_61 (dk_at dksX13_is_1 5 rfl rfl)
theorem dX13_is_30 : decode cX13_is 30 = .ok (.iconst 0, 1) := dk_3 (dk_at dksX13_is_1 6 rfl rfl)
theorem dX13_is_31 : decode cX13_is 31 = .ok (.istore_n 3, 1) := dk_62 (dk_at dksX13_is_1 7 rfl rfl)
theorem dX13_is_32 : decode cX13_is 32 = .ok (.iload_n 3, 1) := dk_29 (dk_at dksX13_is_1 8 rfl rfl)
theorem dX13_is_33 : decode cX13_is 33 = .ok (.aload_n 1, 1) := dk_43 (dk_at dksX13_is_1 9 rfl rfl)
theorem dX13_is_34 : decode cX13_is 34 = .ok (.invokevirtual 109, 3) := dk_182 0 109 (dk_at dksX13_is_1 10 rfl rfl)
theorem dX13_is_37 : decode cX13_is 37 = .ok (.if_icmp .ge 38, 3) := dk_162 0 38 (dk_at dksX13_is_1 13 rfl rfl)
theorem dX13_is_40 : decode cX13_is 40 = .ok (.iload_n 2, 1) := dk_28 (dk_at dksX13_is_1 16 rfl rfl)
theorem dX13_is_41 : decode cX13_is 41 = .ok (.ifCond .eq 34, 3) := dk_153 0 34 (dk_at dksX13_is_1 17 rfl rfl)
theorem dX13_is_44 : decode cX13_is 44 = .ok (.aload_n 0, 1) := dk_42 (dk_at dksX13_is_1 20 rfl rfl)
theorem dX13_is_45 : decode cX13_is 45 = .ok (.getfield 71, 3) := dk_180 0 71 (dk_at dksX13_is_1 21 rfl rfl)
theorem dX13_is_48 : decode cX13_is 48 = .ok (.aload_n 0, 1) := dk_42 (dk_at dksX13_is_2 0 rfl rfl)
theorem dX13_is_49 : decode cX13_is 49 = .ok (.getfield 85, 3) := dk_180 0 85 (dk_at dksX13_is_2 1 rfl rfl)
theorem dX13_is_52 : decode cX13_is 52 = .ok (.iload_n 3, 1) := dk_29 (dk_at dksX13_is_2 4 rfl rfl)
theorem dX13_is_53 : decode cX13_is 53 = .ok (.iadd, 1) := dk_96 (dk_at dksX13_is_2 5 rfl rfl)
theorem dX13_is_54 : decode cX13_is 54 = .ok (.baload, 1) := dk_51 (dk_at dksX13_is_2 6 rfl rfl)
theorem dX13_is_55 : decode cX13_is 55 = .ok (.aload_n 1, 1) := dk_43 (dk_at dksX13_is_2 7 rfl rfl)
theorem dX13_is_56 : decode cX13_is 56 = .ok (.iload_n 3, 1) := dk_29 (dk_at dksX13_is_2 8 rfl rfl)
theorem dX13_is_57 : decode cX13_is 57 = .ok (.invokevirtual 113, 3) := dk_182 0 113 (dk_at dksX13_is_2 9 rfl rfl)
theorem dX13_is_60 : decode cX13_is 60 = .ok (.if_icmp .ne 7, 3) := dk_160 0 7 (dk_at dksX13_is_2 12 rfl rfl)
theorem dX13_is_63 : decode cX13_is 63 = .ok (.iconst 1, 1) := dk_4 (dk_at dksX13_is_2 15 rfl rfl)
theorem dX13_is_64 : decode cX13_is 64 = .ok (.goto 4, 3) := dk_167 0 4 (dk_at dksX13_is_2 16 rfl rfl)
theorem dX13_is_67 : decode cX13_is 67 = .ok (.iconst 0, 1) := dk_3 (dk_at dksX13_is_2 19 rfl rfl)
theorem dX13_is_68 : decode cX13_is 68 = .ok (.istore_n 2, 1) := dk_61 (dk_at dksX13_is_2 20 rfl rfl)
theorem dX13_is_69 : decode cX13_is 69 = .ok (.iinc 3 1, 3) := dk_132 3 1 (dk_at dksX13_is_2 21 rfl rfl)
theorem dX13_is_72 : decode cX13_is 72 = .ok (.goto (-40), 3) := dk_167 255 216 (dk_at dksX13_is_3 0 rfl rfl)
theorem dX13_is_75 : decode cX13_is 75 = .ok (.iload_n 2, 1) := dk_28 (dk_at dksX13_is_3 3 rfl rfl)
theorem dX13_is_76 : decode cX13_is 76 = .ok (.ireturn, 1) := dk_172 (dk_at dksX13_is_3 4 rfl rfl)
abbrev cX13_fails : ByteArray := prog_15_method_4_code
def yX13_fails : MethodName := ⟨RX13, "fails", "(I)V"⟩
def dkwX13_fails_0 : List UInt8 := [187, 0, 104, 89, 27, 42, 180, 0, 82, 183, 0, 106, 191]
abbrev dktX13_fails_0 : List UInt8 := dkwX13_fails_0 ++ []
theorem dksX13_fails_0 : cX13_fails.data.toList.drop 0 = dktX13_fails_0 := by decide +kernel
theorem dX13_fails_0 : decode cX13_fails 0 = .ok (.new 104, 3) := dk_187 0 104 (dk_at dksX13_fails_0 0 rfl rfl)
theorem dX13_fails_3 : decode cX13_fails 3 = .ok (.dup, 1) := dk_89 (dk_at dksX13_fails_0 3 rfl rfl)
theorem dX13_fails_4 : decode cX13_fails 4 = .ok (.iload_n 1, 1) := dk_27 (dk_at dksX13_fails_0 4 rfl rfl)
theorem dX13_fails_5 : decode cX13_fails 5 = .ok (.aload_n 0, 1) := dk_42 (dk_at dksX13_fails_0 5 rfl rfl)
theorem dX13_fails_6 : decode cX13_fails 6 = .ok (.getfield 82, 3) := dk_180 0 82 (dk_at dksX13_fails_0 6 rfl rfl)
theorem dX13_fails_9 : decode cX13_fails 9 = .ok (.invokespecial 106, 3) := dk_183 0 106 (dk_at dksX13_fails_0 9 rfl rfl)
theorem dX13_fails_12 : decode cX13_fails 12 = .ok (.athrow, 1) := dk_191 (dk_at dksX13_fails_0 12 rfl rfl)
abbrev cX13_rule : ByteArray := prog_15_method_17_code
def yX13_rule : MethodName := ⟨RX13, "rule", "(I)V"⟩
def dkwX13_rule_4 : List UInt8 := [180, 0, 67, 180, 0, 247, 45, 185, 0, 187, 2, 0, 87, 177]
abbrev dktX13_rule_4 : List UInt8 := dkwX13_rule_4 ++ []
def dkwX13_rule_3 : List UInt8 := [42, 182, 0, 236, 183, 0, 244, 185, 0, 187, 2, 0, 87, 42, 18, 245, 182, 0, 124, 154, 255, 209, 42]
abbrev dktX13_rule_3 : List UInt8 := dkwX13_rule_3 ++ dktX13_rule_4
def dkwX13_rule_2 : List UInt8 := [58, 4, 42, 42, 180, 0, 48, 182, 0, 165, 54, 5, 45, 180, 0, 239, 187, 0, 242, 89, 25, 4, 21, 5]
abbrev dktX13_rule_2 : List UInt8 := dkwX13_rule_2 ++ dktX13_rule_3
def dkwX13_rule_1 : List UInt8 := [3, 16, 99, 182, 0, 150, 183, 0, 231, 78, 42, 18, 234, 182, 0, 124, 153, 0, 53, 42, 182, 0, 236]
abbrev dktX13_rule_1 : List UInt8 := dkwX13_rule_1 ++ dktX13_rule_2
def dkwX13_rule_0 : List UInt8 := [42, 18, 225, 182, 0, 135, 42, 42, 180, 0, 39, 182, 0, 165, 61, 187, 0, 227, 89, 27, 28, 42, 18, 229]
abbrev dktX13_rule_0 : List UInt8 := dkwX13_rule_0 ++ dktX13_rule_1
theorem dksX13_rule_0 : cX13_rule.data.toList.drop 0 = dktX13_rule_0 := by decide +kernel
theorem dksX13_rule_1 : cX13_rule.data.toList.drop 24 = dktX13_rule_1 := dk_seg dksX13_rule_0 24 rfl rfl
theorem dksX13_rule_2 : cX13_rule.data.toList.drop 47 = dktX13_rule_2 := dk_seg dksX13_rule_1 23 rfl rfl
theorem dksX13_rule_3 : cX13_rule.data.toList.drop 71 = dktX13_rule_3 := dk_seg dksX13_rule_2 24 rfl rfl
theorem dksX13_rule_4 : cX13_rule.data.toList.drop 94 = dktX13_rule_4 := dk_seg dksX13_rule_3 23 rfl rfl
theorem dX13_rule_0 : decode cX13_rule 0 = .ok (.aload_n 0, 1) := dk_42 (dk_at dksX13_rule_0 0 rfl rfl)
theorem dX13_rule_1 : decode cX13_rule 1 = .ok (.ldc 225, 2) := dk_18 225 (dk_at dksX13_rule_0 1 rfl rfl)
theorem dX13_rule_3 : decode cX13_rule 3 = .ok (.invokevirtual 135, 3) := dk_182 0 135 (dk_at dksX13_rule_0 3 rfl rfl)
theorem dX13_rule_6 : decode cX13_rule 6 = .ok (.aload_n 0, 1) := dk_42 (dk_at dksX13_rule_0 6 rfl rfl)
theorem dX13_rule_7 : decode cX13_rule 7 = .ok (.aload_n 0, 1) := dk_42 (dk_at dksX13_rule_0 7 rfl rfl)
theorem dX13_rule_8 : decode cX13_rule 8 = .ok (.getfield 39, 3) := dk_180 0 39 (dk_at dksX13_rule_0 8 rfl rfl)
theorem dX13_rule_11 : decode cX13_rule 11 = .ok (.invokevirtual 165, 3) := dk_182 0 165 (dk_at dksX13_rule_0 11 rfl rfl)
theorem dX13_rule_14 : decode cX13_rule 14 = .ok (.istore_n 2, 1) := dk_61 (dk_at dksX13_rule_0 14 rfl rfl)
theorem dX13_rule_15 : decode cX13_rule 15 = .ok (.new 227, 3) := dk_187 0 227 (dk_at dksX13_rule_0 15 rfl rfl)
theorem dX13_rule_18 : decode cX13_rule 18 = .ok (.dup, 1) := dk_89 (dk_at dksX13_rule_0 18 rfl rfl)
theorem dX13_rule_19 : decode cX13_rule 19 = .ok (.iload_n 1, 1) := dk_27 (dk_at dksX13_rule_0 19 rfl rfl)
theorem dX13_rule_20 : decode cX13_rule 20 = .ok (.iload_n 2, 1) := dk_28 (dk_at dksX13_rule_0 20 rfl rfl)
theorem dX13_rule_21 : decode cX13_rule 21 = .ok (.aload_n 0, 1) := dk_42 (dk_at dksX13_rule_0 21 rfl rfl)
theorem dX13_rule_22 : decode cX13_rule 22 = .ok (.ldc 229, 2) := dk_18 229 (dk_at dksX13_rule_0 22 rfl rfl)
theorem dX13_rule_24 : decode cX13_rule 24 = .ok (.iconst 0, 1) := dk_3 (dk_at dksX13_rule_1 0 rfl rfl)
theorem dX13_rule_25 : decode cX13_rule 25 = .ok (.bipush 99, 2) := dk_16 99 (dk_at dksX13_rule_1 1 rfl rfl)
theorem dX13_rule_27 : decode cX13_rule 27 = .ok (.invokevirtual 150, 3) := dk_182 0 150 (dk_at dksX13_rule_1 3 rfl rfl)
theorem dX13_rule_30 : decode cX13_rule 30 = .ok (.invokespecial 231, 3) := dk_183 0 231 (dk_at dksX13_rule_1 6 rfl rfl)
theorem dX13_rule_33 : decode cX13_rule 33 = .ok (.astore_n 3, 1) := dk_78 (dk_at dksX13_rule_1 9 rfl rfl)
theorem dX13_rule_34 : decode cX13_rule 34 = .ok (.aload_n 0, 1) := dk_42 (dk_at dksX13_rule_1 10 rfl rfl)
theorem dX13_rule_35 : decode cX13_rule 35 = .ok (.ldc 234, 2) := dk_18 234 (dk_at dksX13_rule_1 11 rfl rfl)
theorem dX13_rule_37 : decode cX13_rule 37 = .ok (.invokevirtual 124, 3) := dk_182 0 124 (dk_at dksX13_rule_1 13 rfl rfl)
theorem dX13_rule_40 : decode cX13_rule 40 = .ok (.ifCond .eq 53, 3) := dk_153 0 53 (dk_at dksX13_rule_1 16 rfl rfl)
theorem dX13_rule_43 : decode cX13_rule 43 = .ok (.aload_n 0, 1) := dk_42 (dk_at dksX13_rule_1 19 rfl rfl)
theorem dX13_rule_44 : decode cX13_rule 44 = .ok (.invokevirtual 236, 3) := dk_182 0 236 (dk_at dksX13_rule_1 20 rfl rfl)
theorem dX13_rule_47 : decode cX13_rule 47 = .ok (.astore 4, 2) := dk_58 4 (dk_at dksX13_rule_2 0 rfl rfl)
theorem dX13_rule_49 : decode cX13_rule 49 = .ok (.aload_n 0, 1) := dk_42 (dk_at dksX13_rule_2 2 rfl rfl)
theorem dX13_rule_50 : decode cX13_rule 50 = .ok (.aload_n 0, 1) := dk_42 (dk_at dksX13_rule_2 3 rfl rfl)
theorem dX13_rule_51 : decode cX13_rule 51 = .ok (.getfield 48, 3) := dk_180 0 48 (dk_at dksX13_rule_2 4 rfl rfl)
theorem dX13_rule_54 : decode cX13_rule 54 = .ok (.invokevirtual 165, 3) := dk_182 0 165 (dk_at dksX13_rule_2 7 rfl rfl)
theorem dX13_rule_57 : decode cX13_rule 57 = .ok (.istore 5, 2) := dk_54 5 (dk_at dksX13_rule_2 10 rfl rfl)
theorem dX13_rule_59 : decode cX13_rule 59 = .ok (.aload_n 3, 1) := dk_45 (dk_at dksX13_rule_2 12 rfl rfl)
theorem dX13_rule_60 : decode cX13_rule 60 = .ok (.getfield 239, 3) := dk_180 0 239 (dk_at dksX13_rule_2 13 rfl rfl)
theorem dX13_rule_63 : decode cX13_rule 63 = .ok (.new 242, 3) := dk_187 0 242 (dk_at dksX13_rule_2 16 rfl rfl)
theorem dX13_rule_66 : decode cX13_rule 66 = .ok (.dup, 1) := dk_89 (dk_at dksX13_rule_2 19 rfl rfl)
theorem dX13_rule_67 : decode cX13_rule 67 = .ok (.aload 4, 2) := dk_25 4 (dk_at dksX13_rule_2 20 rfl rfl)
theorem dX13_rule_69 : decode cX13_rule 69 = .ok (.iload 5, 2) := dk_21 5 (dk_at dksX13_rule_2 22 rfl rfl)
theorem dX13_rule_71 : decode cX13_rule 71 = .ok (.aload_n 0, 1) := dk_42 (dk_at dksX13_rule_3 0 rfl rfl)
theorem dX13_rule_72 : decode cX13_rule 72 = .ok (.invokevirtual 236, 3) := dk_182 0 236 (dk_at dksX13_rule_3 1 rfl rfl)
theorem dX13_rule_75 : decode cX13_rule 75 = .ok (.invokespecial 244, 3) := dk_183 0 244 (dk_at dksX13_rule_3 4 rfl rfl)
theorem dX13_rule_78 : decode cX13_rule 78 = .ok (.invokeinterface 187 2, 5) := by decide +kernel
theorem dX13_rule_83 : decode cX13_rule 83 = .ok (.pop, 1) := dk_87 (dk_at dksX13_rule_3 12 rfl rfl)
theorem dX13_rule_84 : decode cX13_rule 84 = .ok (.aload_n 0, 1) := dk_42 (dk_at dksX13_rule_3 13 rfl rfl)
theorem dX13_rule_85 : decode cX13_rule 85 = .ok (.ldc 245, 2) := dk_18 245 (dk_at dksX13_rule_3 14 rfl rfl)
theorem dX13_rule_87 : decode cX13_rule 87 = .ok (.invokevirtual 124, 3) := dk_182 0 124 (dk_at dksX13_rule_3 16 rfl rfl)
theorem dX13_rule_90 : decode cX13_rule 90 = .ok (.ifCond .ne (-47), 3) := dk_154 255 209 (dk_at dksX13_rule_3 19 rfl rfl)
theorem dX13_rule_93 : decode cX13_rule 93 = .ok (.aload_n 0, 1) := dk_42 (dk_at dksX13_rule_3 22 rfl rfl)
theorem dX13_rule_94 : decode cX13_rule 94 = .ok (.getfield 67, 3) := dk_180 0 67 (dk_at dksX13_rule_4 0 rfl rfl)
theorem dX13_rule_97 : decode cX13_rule 97 = .ok (.getfield 247, 3) := dk_180 0 247 (dk_at dksX13_rule_4 3 rfl rfl)
theorem dX13_rule_100 : decode cX13_rule 100 = .ok (.aload_n 3, 1) := dk_45 (dk_at dksX13_rule_4 6 rfl rfl)
theorem dX13_rule_101 : decode cX13_rule 101 = .ok (.invokeinterface 187 2, 5) := by decide +kernel
theorem dX13_rule_106 : decode cX13_rule 106 = .ok (.pop, 1) := dk_87 (dk_at dksX13_rule_4 12 rfl rfl)
theorem dX13_rule_107 : decode cX13_rule 107 = .ok (.return_, 1) := dk_177 (dk_at dksX13_rule_4 13 rfl rfl)
abbrev cX13_word : ByteArray := prog_15_method_7_code
def yX13_word : MethodName := ⟨RX13, "word", "(Ljava/lang/String;)V"⟩
def dkwX13_word_0 : List UInt8 := [42, 43, 182, 0, 124, 154, 0, 8, 42, 4, 182, 0, 127, 177]
abbrev dktX13_word_0 : List UInt8 := dkwX13_word_0 ++ []
theorem dksX13_word_0 : cX13_word.data.toList.drop 0 = dktX13_word_0 := by decide +kernel
theorem dX13_word_0 : decode cX13_word 0 = .ok (.aload_n 0, 1) := dk_42 (dk_at dksX13_word_0 0 rfl rfl)
theorem dX13_word_1 : decode cX13_word 1 = .ok (.aload_n 1, 1) := dk_43 (dk_at dksX13_word_0 1 rfl rfl)
theorem dX13_word_2 : decode cX13_word 2 = .ok (.invokevirtual 124, 3) := dk_182 0 124 (dk_at dksX13_word_0 2 rfl rfl)
theorem dX13_word_5 : decode cX13_word 5 = .ok (.ifCond .ne 8, 3) := dk_154 0 8 (dk_at dksX13_word_0 5 rfl rfl)
theorem dX13_word_8 : decode cX13_word 8 = .ok (.aload_n 0, 1) := dk_42 (dk_at dksX13_word_0 8 rfl rfl)
theorem dX13_word_9 : decode cX13_word 9 = .ok (.iconst 1, 1) := dk_4 (dk_at dksX13_word_0 9 rfl rfl)
theorem dX13_word_10 : decode cX13_word 10 = .ok (.invokevirtual 127, 3) := dk_182 0 127 (dk_at dksX13_word_0 10 rfl rfl)
theorem dX13_word_13 : decode cX13_word 13 = .ok (.return_, 1) := dk_177 (dk_at dksX13_word_0 13 rfl rfl)
abbrev cX13_takes : ByteArray := prog_15_method_6_code
def yX13_takes : MethodName := ⟨RX13, "takes", "(Ljava/lang/String;)Z"⟩
def dkwX13_takes_0 : List UInt8 := [42, 43, 182, 0, 117, 61, 28, 153, 0, 7, 42, 182, 0, 121, 28, 172]
abbrev dktX13_takes_0 : List UInt8 := dkwX13_takes_0 ++ []
theorem dksX13_takes_0 : cX13_takes.data.toList.drop 0 = dktX13_takes_0 := by decide +kernel
theorem dX13_takes_0 : decode cX13_takes 0 = .ok (.aload_n 0, 1) := dk_42 (dk_at dksX13_takes_0 0 rfl rfl)
theorem dX13_takes_1 : decode cX13_takes 1 = .ok (.aload_n 1, 1) := dk_43 (dk_at dksX13_takes_0 1 rfl rfl)
theorem dX13_takes_2 : decode cX13_takes 2 = .ok (.invokevirtual 117, 3) := dk_182 0 117 (dk_at dksX13_takes_0 2 rfl rfl)
theorem dX13_takes_5 : decode cX13_takes 5 = .ok (.istore_n 2, 1) := dk_61 (dk_at dksX13_takes_0 5 rfl rfl)
theorem dX13_takes_6 : decode cX13_takes 6 = .ok (.iload_n 2, 1) := dk_28 (dk_at dksX13_takes_0 6 rfl rfl)
theorem dX13_takes_7 : decode cX13_takes 7 = .ok (.ifCond .eq 7, 3) := dk_153 0 7 (dk_at dksX13_takes_0 7 rfl rfl)
theorem dX13_takes_10 : decode cX13_takes 10 = .ok (.aload_n 0, 1) := dk_42 (dk_at dksX13_takes_0 10 rfl rfl)
theorem dX13_takes_11 : decode cX13_takes 11 = .ok (.invokevirtual 121, 3) := dk_182 0 121 (dk_at dksX13_takes_0 11 rfl rfl)
theorem dX13_takes_14 : decode cX13_takes 14 = .ok (.iload_n 2, 1) := dk_28 (dk_at dksX13_takes_0 14 rfl rfl)
theorem dX13_takes_15 : decode cX13_takes 15 = .ok (.ireturn, 1) := dk_172 (dk_at dksX13_takes_0 15 rfl rfl)
abbrev cX13_oneOf : ByteArray := prog_15_method_11_code
def yX13_oneOf : MethodName := ⟨RX13, "oneOf", "([Ljava/lang/String;)I"⟩
def dkwX13_oneOf_0 : List UInt8 := [42, 43, 182, 0, 142, 61, 28, 43, 190, 160, 0, 8, 42, 4, 182, 0, 127, 42, 182, 0, 121, 28, 172]
abbrev dktX13_oneOf_0 : List UInt8 := dkwX13_oneOf_0 ++ []
theorem dksX13_oneOf_0 : cX13_oneOf.data.toList.drop 0 = dktX13_oneOf_0 := by decide +kernel
theorem dX13_oneOf_0 : decode cX13_oneOf 0 = .ok (.aload_n 0, 1) := dk_42 (dk_at dksX13_oneOf_0 0 rfl rfl)
theorem dX13_oneOf_1 : decode cX13_oneOf 1 = .ok (.aload_n 1, 1) := dk_43 (dk_at dksX13_oneOf_0 1 rfl rfl)
theorem dX13_oneOf_2 : decode cX13_oneOf 2 = .ok (.invokevirtual 142, 3) := dk_182 0 142 (dk_at dksX13_oneOf_0 2 rfl rfl)
theorem dX13_oneOf_5 : decode cX13_oneOf 5 = .ok (.istore_n 2, 1) := dk_61 (dk_at dksX13_oneOf_0 5 rfl rfl)
theorem dX13_oneOf_6 : decode cX13_oneOf 6 = .ok (.iload_n 2, 1) := dk_28 (dk_at dksX13_oneOf_0 6 rfl rfl)
theorem dX13_oneOf_7 : decode cX13_oneOf 7 = .ok (.aload_n 1, 1) := dk_43 (dk_at dksX13_oneOf_0 7 rfl rfl)
theorem dX13_oneOf_8 : decode cX13_oneOf 8 = .ok (.arraylength, 1) := dk_190 (dk_at dksX13_oneOf_0 8 rfl rfl)
theorem dX13_oneOf_9 : decode cX13_oneOf 9 = .ok (.if_icmp .ne 8, 3) := dk_160 0 8 (dk_at dksX13_oneOf_0 9 rfl rfl)
theorem dX13_oneOf_12 : decode cX13_oneOf 12 = .ok (.aload_n 0, 1) := dk_42 (dk_at dksX13_oneOf_0 12 rfl rfl)
theorem dX13_oneOf_13 : decode cX13_oneOf 13 = .ok (.iconst 1, 1) := dk_4 (dk_at dksX13_oneOf_0 13 rfl rfl)
theorem dX13_oneOf_14 : decode cX13_oneOf 14 = .ok (.invokevirtual 127, 3) := dk_182 0 127 (dk_at dksX13_oneOf_0 14 rfl rfl)
theorem dX13_oneOf_17 : decode cX13_oneOf 17 = .ok (.aload_n 0, 1) := dk_42 (dk_at dksX13_oneOf_0 17 rfl rfl)
theorem dX13_oneOf_18 : decode cX13_oneOf 18 = .ok (.invokevirtual 121, 3) := dk_182 0 121 (dk_at dksX13_oneOf_0 18 rfl rfl)
theorem dX13_oneOf_21 : decode cX13_oneOf 21 = .ok (.iload_n 2, 1) := dk_28 (dk_at dksX13_oneOf_0 21 rfl rfl)
theorem dX13_oneOf_22 : decode cX13_oneOf 22 = .ok (.ireturn, 1) := dk_172 (dk_at dksX13_oneOf_0 22 rfl rfl)
abbrev cX13_number : ByteArray := prog_15_method_9_code
def yX13_number : MethodName := ⟨RX13, "number", "(Ljava/lang/String;II)I"⟩
def dkwX13_number_0 : List UInt8 := [42, 43, 182, 0, 135, 42, 28, 29, 182, 0, 139, 172]
abbrev dktX13_number_0 : List UInt8 := dkwX13_number_0 ++ []
theorem dksX13_number_0 : cX13_number.data.toList.drop 0 = dktX13_number_0 := by decide +kernel
theorem dX13_number_0 : decode cX13_number 0 = .ok (.aload_n 0, 1) := dk_42 (dk_at dksX13_number_0 0 rfl rfl)
theorem dX13_number_1 : decode cX13_number 1 = .ok (.aload_n 1, 1) := dk_43 (dk_at dksX13_number_0 1 rfl rfl)
theorem dX13_number_2 : decode cX13_number 2 = .ok (.invokevirtual 135, 3) := dk_182 0 135 (dk_at dksX13_number_0 2 rfl rfl)
theorem dX13_number_5 : decode cX13_number 5 = .ok (.aload_n 0, 1) := dk_42 (dk_at dksX13_number_0 5 rfl rfl)
theorem dX13_number_6 : decode cX13_number 6 = .ok (.iload_n 2, 1) := dk_28 (dk_at dksX13_number_0 6 rfl rfl)
theorem dX13_number_7 : decode cX13_number 7 = .ok (.iload_n 3, 1) := dk_29 (dk_at dksX13_number_0 7 rfl rfl)
theorem dX13_number_8 : decode cX13_number 8 = .ok (.invokevirtual 139, 3) := dk_182 0 139 (dk_at dksX13_number_0 8 rfl rfl)
theorem dX13_number_11 : decode cX13_number 11 = .ok (.ireturn, 1) := dk_172 (dk_at dksX13_number_0 11 rfl rfl)
abbrev cX13_number_2 : ByteArray := prog_15_method_8_code
def yX13_number_2 : MethodName := ⟨RX13, "number", "(II)I"⟩
def dkwX13_number_2_1 : List UInt8 := [184, 0, 131, 154, 0, 8, 42, 5, 182, 0, 127, 42, 180, 0, 88, 62, 42, 182, 0, 121, 29, 172]
abbrev dktX13_number_2_1 : List UInt8 := dkwX13_number_2_1 ++ []
def dkwX13_number_2_0 : List UInt8 := [42, 180, 0, 91, 5, 159, 0, 8, 42, 4, 182, 0, 127, 42, 180, 0, 88, 133, 27, 133, 28, 133]
abbrev dktX13_number_2_0 : List UInt8 := dkwX13_number_2_0 ++ dktX13_number_2_1
theorem dksX13_number_2_0 : cX13_number_2.data.toList.drop 0 = dktX13_number_2_0 := by decide +kernel
theorem dksX13_number_2_1 : cX13_number_2.data.toList.drop 22 = dktX13_number_2_1 := dk_seg dksX13_number_2_0 22 rfl rfl
theorem dX13_number_2_0 : decode cX13_number_2 0 = .ok (.aload_n 0, 1) := dk_42 (dk_at dksX13_number_2_0 0 rfl rfl)
theorem dX13_number_2_1 : decode cX13_number_2 1 = .ok (.getfield 91, 3) := dk_180 0 91 (dk_at dksX13_number_2_0 1 rfl rfl)
theorem dX13_number_2_4 : decode cX13_number_2 4 = .ok (.iconst 2, 1) := dk_5 (dk_at dksX13_number_2_0 4 rfl rfl)
theorem dX13_number_2_5 : decode cX13_number_2 5 = .ok (.if_icmp .eq 8, 3) := dk_159 0 8 (dk_at dksX13_number_2_0 5 rfl rfl)
theorem dX13_number_2_8 : decode cX13_number_2 8 = .ok (.aload_n 0, 1) := dk_42 (dk_at dksX13_number_2_0 8 rfl rfl)
theorem dX13_number_2_9 : decode cX13_number_2 9 = .ok (.iconst 1, 1) := dk_4 (dk_at dksX13_number_2_0 9 rfl rfl)
theorem dX13_number_2_10 : decode cX13_number_2 10 = .ok (.invokevirtual 127, 3) := dk_182 0 127 (dk_at dksX13_number_2_0 10 rfl rfl)
theorem dX13_number_2_13 : decode cX13_number_2 13 = .ok (.aload_n 0, 1) := dk_42 (dk_at dksX13_number_2_0 13 rfl rfl)
theorem dX13_number_2_14 : decode cX13_number_2 14 = .ok (.getfield 88, 3) := dk_180 0 88 (dk_at dksX13_number_2_0 14 rfl rfl)
theorem dX13_number_2_17 : decode cX13_number_2 17 = .ok (.i2l, 1) := dk_133 (dk_at dksX13_number_2_0 17 rfl rfl)
theorem dX13_number_2_18 : decode cX13_number_2 18 = .ok (.iload_n 1, 1) := dk_27 (dk_at dksX13_number_2_0 18 rfl rfl)
theorem dX13_number_2_19 : decode cX13_number_2 19 = .ok (.i2l, 1) := dk_133 (dk_at dksX13_number_2_0 19 rfl rfl)
theorem dX13_number_2_20 : decode cX13_number_2 20 = .ok (.iload_n 2, 1) := dk_28 (dk_at dksX13_number_2_0 20 rfl rfl)
theorem dX13_number_2_21 : decode cX13_number_2 21 = .ok (.i2l, 1) := dk_133 (dk_at dksX13_number_2_0 21 rfl rfl)
theorem dX13_number_2_22 : decode cX13_number_2 22 = .ok (.invokestatic 131, 3) := dk_184 0 131 (dk_at dksX13_number_2_1 0 rfl rfl)
theorem dX13_number_2_25 : decode cX13_number_2 25 = .ok (.ifCond .ne 8, 3) := dk_154 0 8 (dk_at dksX13_number_2_1 3 rfl rfl)
theorem dX13_number_2_28 : decode cX13_number_2 28 = .ok (.aload_n 0, 1) := dk_42 (dk_at dksX13_number_2_1 6 rfl rfl)
theorem dX13_number_2_29 : decode cX13_number_2 29 = .ok (.iconst 2, 1) := dk_5 (dk_at dksX13_number_2_1 7 rfl rfl)
theorem dX13_number_2_30 : decode cX13_number_2 30 = .ok (.invokevirtual 127, 3) := dk_182 0 127 (dk_at dksX13_number_2_1 8 rfl rfl)
theorem dX13_number_2_33 : decode cX13_number_2 33 = .ok (.aload_n 0, 1) := dk_42 (dk_at dksX13_number_2_1 11 rfl rfl)
theorem dX13_number_2_34 : decode cX13_number_2 34 = .ok (.getfield 88, 3) := dk_180 0 88 (dk_at dksX13_number_2_1 12 rfl rfl)
theorem dX13_number_2_37 : decode cX13_number_2 37 = .ok (.istore_n 3, 1) := dk_62 (dk_at dksX13_number_2_1 15 rfl rfl)
theorem dX13_number_2_38 : decode cX13_number_2 38 = .ok (.aload_n 0, 1) := dk_42 (dk_at dksX13_number_2_1 16 rfl rfl)
theorem dX13_number_2_39 : decode cX13_number_2 39 = .ok (.invokevirtual 121, 3) := dk_182 0 121 (dk_at dksX13_number_2_1 17 rfl rfl)
theorem dX13_number_2_42 : decode cX13_number_2 42 = .ok (.iload_n 3, 1) := dk_29 (dk_at dksX13_number_2_1 20 rfl rfl)
theorem dX13_number_2_43 : decode cX13_number_2 43 = .ok (.ireturn, 1) := dk_172 (dk_at dksX13_number_2_1 21 rfl rfl)
abbrev cX13_sum : ByteArray := prog_15_method_16_code
def yX13_sum : MethodName := ⟨RX13, "sum", "()LCardBowl$Sum;"⟩
def dkwX13_sum_2 : List UInt8 := [42, 182, 0, 218, 183, 0, 215, 76, 167, 255, 205, 43, 176]
abbrev dktX13_sum_2 : List UInt8 := dkwX13_sum_2 ++ []
def dkwX13_sum_1 : List UInt8 := [18, 221, 182, 0, 117, 153, 0, 7, 3, 167, 0, 4, 4, 61, 42, 182, 0, 121, 187, 0, 213, 89, 43, 28]
abbrev dktX13_sum_1 : List UInt8 := dkwX13_sum_1 ++ dktX13_sum_2
def dkwX13_sum_0 : List UInt8 := [42, 182, 0, 218, 76, 42, 18, 221, 182, 0, 117, 154, 0, 12, 42, 18, 223, 182, 0, 117, 153, 0, 39, 42]
abbrev dktX13_sum_0 : List UInt8 := dkwX13_sum_0 ++ dktX13_sum_1
theorem dksX13_sum_0 : cX13_sum.data.toList.drop 0 = dktX13_sum_0 := by decide +kernel
theorem dksX13_sum_1 : cX13_sum.data.toList.drop 24 = dktX13_sum_1 := dk_seg dksX13_sum_0 24 rfl rfl
theorem dksX13_sum_2 : cX13_sum.data.toList.drop 48 = dktX13_sum_2 := dk_seg dksX13_sum_1 24 rfl rfl
theorem dX13_sum_0 : decode cX13_sum 0 = .ok (.aload_n 0, 1) := dk_42 (dk_at dksX13_sum_0 0 rfl rfl)
theorem dX13_sum_1 : decode cX13_sum 1 = .ok (.invokevirtual 218, 3) := dk_182 0 218 (dk_at dksX13_sum_0 1 rfl rfl)
theorem dX13_sum_4 : decode cX13_sum 4 = .ok (.astore_n 1, 1) := dk_76 (dk_at dksX13_sum_0 4 rfl rfl)
theorem dX13_sum_5 : decode cX13_sum 5 = .ok (.aload_n 0, 1) := dk_42 (dk_at dksX13_sum_0 5 rfl rfl)
theorem dX13_sum_6 : decode cX13_sum 6 = .ok (.ldc 221, 2) := dk_18 221 (dk_at dksX13_sum_0 6 rfl rfl)
theorem dX13_sum_8 : decode cX13_sum 8 = .ok (.invokevirtual 117, 3) := dk_182 0 117 (dk_at dksX13_sum_0 8 rfl rfl)
theorem dX13_sum_11 : decode cX13_sum 11 = .ok (.ifCond .ne 12, 3) := dk_154 0 12 (dk_at dksX13_sum_0 11 rfl rfl)
theorem dX13_sum_14 : decode cX13_sum 14 = .ok (.aload_n 0, 1) := dk_42 (dk_at dksX13_sum_0 14 rfl rfl)
theorem dX13_sum_15 : decode cX13_sum 15 = .ok (.ldc 223, 2) := dk_18 223 (dk_at dksX13_sum_0 15 rfl rfl)
theorem dX13_sum_17 : decode cX13_sum 17 = .ok (.invokevirtual 117, 3) := dk_182 0 117 (dk_at dksX13_sum_0 17 rfl rfl)
theorem dX13_sum_20 : decode cX13_sum 20 = .ok (.ifCond .eq 39, 3) := dk_153 0 39 (dk_at dksX13_sum_0 20 rfl rfl)
theorem dX13_sum_23 : decode cX13_sum 23 = .ok (.aload_n 0, 1) := dk_42 (dk_at dksX13_sum_0 23 rfl rfl)
theorem dX13_sum_24 : decode cX13_sum 24 = .ok (.ldc 221, 2) := dk_18 221 (dk_at dksX13_sum_1 0 rfl rfl)
theorem dX13_sum_26 : decode cX13_sum 26 = .ok (.invokevirtual 117, 3) := dk_182 0 117 (dk_at dksX13_sum_1 2 rfl rfl)
theorem dX13_sum_29 : decode cX13_sum 29 = .ok (.ifCond .eq 7, 3) := dk_153 0 7 (dk_at dksX13_sum_1 5 rfl rfl)
theorem dX13_sum_32 : decode cX13_sum 32 = .ok (.iconst 0, 1) := dk_3 (dk_at dksX13_sum_1 8 rfl rfl)
theorem dX13_sum_33 : decode cX13_sum 33 = .ok (.goto 4, 3) := dk_167 0 4 (dk_at dksX13_sum_1 9 rfl rfl)
theorem dX13_sum_36 : decode cX13_sum 36 = .ok (.iconst 1, 1) := dk_4 (dk_at dksX13_sum_1 12 rfl rfl)
theorem dX13_sum_37 : decode cX13_sum 37 = .ok (.istore_n 2, 1) := dk_61 (dk_at dksX13_sum_1 13 rfl rfl)
theorem dX13_sum_38 : decode cX13_sum 38 = .ok (.aload_n 0, 1) := dk_42 (dk_at dksX13_sum_1 14 rfl rfl)
theorem dX13_sum_39 : decode cX13_sum 39 = .ok (.invokevirtual 121, 3) := dk_182 0 121 (dk_at dksX13_sum_1 15 rfl rfl)
theorem dX13_sum_42 : decode cX13_sum 42 = .ok (.new 213, 3) := dk_187 0 213 (dk_at dksX13_sum_1 18 rfl rfl)
theorem dX13_sum_45 : decode cX13_sum 45 = .ok (.dup, 1) := dk_89 (dk_at dksX13_sum_1 21 rfl rfl)
theorem dX13_sum_46 : decode cX13_sum 46 = .ok (.aload_n 1, 1) := dk_43 (dk_at dksX13_sum_1 22 rfl rfl)
theorem dX13_sum_47 : decode cX13_sum 47 = .ok (.iload_n 2, 1) := dk_28 (dk_at dksX13_sum_1 23 rfl rfl)
theorem dX13_sum_48 : decode cX13_sum 48 = .ok (.aload_n 0, 1) := dk_42 (dk_at dksX13_sum_2 0 rfl rfl)
theorem dX13_sum_49 : decode cX13_sum 49 = .ok (.invokevirtual 218, 3) := dk_182 0 218 (dk_at dksX13_sum_2 1 rfl rfl)
theorem dX13_sum_52 : decode cX13_sum 52 = .ok (.invokespecial 215, 3) := dk_183 0 215 (dk_at dksX13_sum_2 4 rfl rfl)
theorem dX13_sum_55 : decode cX13_sum 55 = .ok (.astore_n 1, 1) := dk_76 (dk_at dksX13_sum_2 7 rfl rfl)
theorem dX13_sum_56 : decode cX13_sum 56 = .ok (.goto (-51), 3) := dk_167 255 205 (dk_at dksX13_sum_2 8 rfl rfl)
theorem dX13_sum_59 : decode cX13_sum 59 = .ok (.aload_n 1, 1) := dk_43 (dk_at dksX13_sum_2 11 rfl rfl)
theorem dX13_sum_60 : decode cX13_sum 60 = .ok (.areturn, 1) := dk_176 (dk_at dksX13_sum_2 12 rfl rfl)
abbrev cX13_term : ByteArray := prog_15_method_15_code
def yX13_term : MethodName := ⟨RX13, "term", "()LCardBowl$Sum;"⟩
def dkwX13_term_1 : List UInt8 := [183, 0, 215, 76, 167, 255, 233, 43, 176]
abbrev dktX13_term_1 : List UInt8 := dkwX13_term_1 ++ []
def dkwX13_term_0 : List UInt8 := [42, 182, 0, 207, 76, 42, 18, 211, 182, 0, 124, 153, 0, 20, 187, 0, 213, 89, 43, 5, 42, 182, 0, 207]
abbrev dktX13_term_0 : List UInt8 := dkwX13_term_0 ++ dktX13_term_1
theorem dksX13_term_0 : cX13_term.data.toList.drop 0 = dktX13_term_0 := by decide +kernel
theorem dksX13_term_1 : cX13_term.data.toList.drop 24 = dktX13_term_1 := dk_seg dksX13_term_0 24 rfl rfl
theorem dX13_term_0 : decode cX13_term 0 = .ok (.aload_n 0, 1) := dk_42 (dk_at dksX13_term_0 0 rfl rfl)
theorem dX13_term_1 : decode cX13_term 1 = .ok (.invokevirtual 207, 3) := dk_182 0 207 (dk_at dksX13_term_0 1 rfl rfl)
theorem dX13_term_4 : decode cX13_term 4 = .ok (.astore_n 1, 1) := dk_76 (dk_at dksX13_term_0 4 rfl rfl)
theorem dX13_term_5 : decode cX13_term 5 = .ok (.aload_n 0, 1) := dk_42 (dk_at dksX13_term_0 5 rfl rfl)
theorem dX13_term_6 : decode cX13_term 6 = .ok (.ldc 211, 2) := dk_18 211 (dk_at dksX13_term_0 6 rfl rfl)
theorem dX13_term_8 : decode cX13_term 8 = .ok (.invokevirtual 124, 3) := dk_182 0 124 (dk_at dksX13_term_0 8 rfl rfl)
theorem dX13_term_11 : decode cX13_term 11 = .ok (.ifCond .eq 20, 3) := dk_153 0 20 (dk_at dksX13_term_0 11 rfl rfl)
theorem dX13_term_14 : decode cX13_term 14 = .ok (.new 213, 3) := dk_187 0 213 (dk_at dksX13_term_0 14 rfl rfl)
theorem dX13_term_17 : decode cX13_term 17 = .ok (.dup, 1) := dk_89 (dk_at dksX13_term_0 17 rfl rfl)
theorem dX13_term_18 : decode cX13_term 18 = .ok (.aload_n 1, 1) := dk_43 (dk_at dksX13_term_0 18 rfl rfl)
theorem dX13_term_19 : decode cX13_term 19 = .ok (.iconst 2, 1) := dk_5 (dk_at dksX13_term_0 19 rfl rfl)
theorem dX13_term_20 : decode cX13_term 20 = .ok (.aload_n 0, 1) := dk_42 (dk_at dksX13_term_0 20 rfl rfl)
theorem dX13_term_21 : decode cX13_term 21 = .ok (.invokevirtual 207, 3) := dk_182 0 207 (dk_at dksX13_term_0 21 rfl rfl)
theorem dX13_term_24 : decode cX13_term 24 = .ok (.invokespecial 215, 3) := dk_183 0 215 (dk_at dksX13_term_1 0 rfl rfl)
theorem dX13_term_27 : decode cX13_term 27 = .ok (.astore_n 1, 1) := dk_76 (dk_at dksX13_term_1 3 rfl rfl)
theorem dX13_term_28 : decode cX13_term 28 = .ok (.goto (-23), 3) := dk_167 255 233 (dk_at dksX13_term_1 4 rfl rfl)
theorem dX13_term_31 : decode cX13_term 31 = .ok (.aload_n 1, 1) := dk_43 (dk_at dksX13_term_1 7 rfl rfl)
theorem dX13_term_32 : decode cX13_term 32 = .ok (.areturn, 1) := dk_176 (dk_at dksX13_term_1 8 rfl rfl)
abbrev cX13_part : ByteArray := prog_15_method_14_code
def yX13_part : MethodName := ⟨RX13, "part", "()LCardBowl$Sum;"⟩
def dkwX13_part_1 : List UInt8 := [167, 0, 18, 187, 0, 204, 89, 42, 42, 180, 0, 61, 182, 0, 165, 183, 0, 206, 176]
abbrev dktX13_part_1 : List UInt8 := dkwX13_part_1 ++ []
def dkwX13_part_0 : List UInt8 := [42, 180, 0, 91, 5, 160, 0, 21, 187, 0, 200, 89, 42, 3, 17, 3, 231, 182, 0, 139, 183, 0, 202]
abbrev dktX13_part_0 : List UInt8 := dkwX13_part_0 ++ dktX13_part_1
theorem dksX13_part_0 : cX13_part.data.toList.drop 0 = dktX13_part_0 := by decide +kernel
theorem dksX13_part_1 : cX13_part.data.toList.drop 23 = dktX13_part_1 := dk_seg dksX13_part_0 23 rfl rfl
theorem dX13_part_0 : decode cX13_part 0 = .ok (.aload_n 0, 1) := dk_42 (dk_at dksX13_part_0 0 rfl rfl)
theorem dX13_part_1 : decode cX13_part 1 = .ok (.getfield 91, 3) := dk_180 0 91 (dk_at dksX13_part_0 1 rfl rfl)
theorem dX13_part_4 : decode cX13_part 4 = .ok (.iconst 2, 1) := dk_5 (dk_at dksX13_part_0 4 rfl rfl)
theorem dX13_part_5 : decode cX13_part 5 = .ok (.if_icmp .ne 21, 3) := dk_160 0 21 (dk_at dksX13_part_0 5 rfl rfl)
theorem dX13_part_8 : decode cX13_part 8 = .ok (.new 200, 3) := dk_187 0 200 (dk_at dksX13_part_0 8 rfl rfl)
theorem dX13_part_11 : decode cX13_part 11 = .ok (.dup, 1) := dk_89 (dk_at dksX13_part_0 11 rfl rfl)
theorem dX13_part_12 : decode cX13_part 12 = .ok (.aload_n 0, 1) := dk_42 (dk_at dksX13_part_0 12 rfl rfl)
theorem dX13_part_13 : decode cX13_part 13 = .ok (.iconst 0, 1) := dk_3 (dk_at dksX13_part_0 13 rfl rfl)
theorem dX13_part_14 : decode cX13_part 14 = .ok (.sipush 999, 3) := dk_17 3 231 (dk_at dksX13_part_0 14 rfl rfl)
theorem dX13_part_17 : decode cX13_part 17 = .ok (.invokevirtual 139, 3) := dk_182 0 139 (dk_at dksX13_part_0 17 rfl rfl)
theorem dX13_part_20 : decode cX13_part 20 = .ok (.invokespecial 202, 3) := dk_183 0 202 (dk_at dksX13_part_0 20 rfl rfl)
theorem dX13_part_23 : decode cX13_part 23 = .ok (.goto 18, 3) := dk_167 0 18 (dk_at dksX13_part_1 0 rfl rfl)
theorem dX13_part_26 : decode cX13_part 26 = .ok (.new 204, 3) := dk_187 0 204 (dk_at dksX13_part_1 3 rfl rfl)
theorem dX13_part_29 : decode cX13_part 29 = .ok (.dup, 1) := dk_89 (dk_at dksX13_part_1 6 rfl rfl)
theorem dX13_part_30 : decode cX13_part 30 = .ok (.aload_n 0, 1) := dk_42 (dk_at dksX13_part_1 7 rfl rfl)
theorem dX13_part_31 : decode cX13_part 31 = .ok (.aload_n 0, 1) := dk_42 (dk_at dksX13_part_1 8 rfl rfl)
theorem dX13_part_32 : decode cX13_part 32 = .ok (.getfield 61, 3) := dk_180 0 61 (dk_at dksX13_part_1 9 rfl rfl)
theorem dX13_part_35 : decode cX13_part 35 = .ok (.invokevirtual 165, 3) := dk_182 0 165 (dk_at dksX13_part_1 12 rfl rfl)
theorem dX13_part_38 : decode cX13_part 38 = .ok (.invokespecial 206, 3) := dk_183 0 206 (dk_at dksX13_part_1 15 rfl rfl)
theorem dX13_part_41 : decode cX13_part 41 = .ok (.areturn, 1) := dk_176 (dk_at dksX13_part_1 18 rfl rfl)
abbrev cX13_house : ByteArray := prog_15_method_12_code
def yX13_house : MethodName := ⟨RX13, "house", "()V"⟩
def dkwX13_house_6 : List UInt8 := [185, 0, 187, 2, 0, 87, 177]
abbrev dktX13_house_6 : List UInt8 := dkwX13_house_6 ++ []
def dkwX13_house_5 : List UInt8 := [153, 0, 16, 43, 42, 18, 179, 3, 16, 99, 182, 0, 150, 181, 0, 181, 42, 180, 0, 67, 180, 0, 183, 43]
abbrev dktX13_house_5 : List UInt8 := dkwX13_house_5 ++ dktX13_house_6
def dkwX13_house_4 : List UInt8 := [153, 0, 17, 43, 42, 18, 175, 3, 17, 1, 143, 182, 0, 150, 181, 0, 177, 42, 18, 179, 182, 0, 117]
abbrev dktX13_house_4 : List UInt8 := dkwX13_house_4 ++ dktX13_house_5
def dkwX13_house_3 : List UInt8 := [181, 0, 171, 43, 42, 43, 180, 0, 171, 17, 0, 180, 182, 0, 139, 181, 0, 172, 42, 18, 175, 182, 0, 117]
abbrev dktX13_house_3 : List UInt8 := dkwX13_house_3 ++ dktX13_house_4
def dkwX13_house_2 : List UInt8 := [182, 0, 135, 43, 42, 42, 180, 0, 25, 182, 0, 165, 181, 0, 168, 43, 42, 3, 17, 0, 180, 182, 0, 139]
abbrev dktX13_house_2 : List UInt8 := dkwX13_house_2 ++ dktX13_house_3
def dkwX13_house_1 : List UInt8 := [16, 99, 182, 0, 139, 181, 0, 156, 43, 42, 18, 159, 3, 16, 9, 182, 0, 150, 181, 0, 161, 42, 18, 163]
abbrev dktX13_house_1 : List UInt8 := dkwX13_house_1 ++ dktX13_house_2
def dkwX13_house_0 : List UInt8 := [187, 0, 146, 89, 183, 0, 148, 76, 43, 42, 18, 149, 3, 16, 99, 182, 0, 150, 181, 0, 153, 43, 42, 3]
abbrev dktX13_house_0 : List UInt8 := dkwX13_house_0 ++ dktX13_house_1
theorem dksX13_house_0 : cX13_house.data.toList.drop 0 = dktX13_house_0 := by decide +kernel
theorem dksX13_house_1 : cX13_house.data.toList.drop 24 = dktX13_house_1 := dk_seg dksX13_house_0 24 rfl rfl
theorem dksX13_house_2 : cX13_house.data.toList.drop 48 = dktX13_house_2 := dk_seg dksX13_house_1 24 rfl rfl
theorem dksX13_house_3 : cX13_house.data.toList.drop 72 = dktX13_house_3 := dk_seg dksX13_house_2 24 rfl rfl
theorem dksX13_house_4 : cX13_house.data.toList.drop 96 = dktX13_house_4 := dk_seg dksX13_house_3 24 rfl rfl
theorem dksX13_house_5 : cX13_house.data.toList.drop 119 = dktX13_house_5 := dk_seg dksX13_house_4 23 rfl rfl
theorem dksX13_house_6 : cX13_house.data.toList.drop 143 = dktX13_house_6 := dk_seg dksX13_house_5 24 rfl rfl
theorem dX13_house_0 : decode cX13_house 0 = .ok (.new 146, 3) := dk_187 0 146 (dk_at dksX13_house_0 0 rfl rfl)
theorem dX13_house_3 : decode cX13_house 3 = .ok (.dup, 1) := dk_89 (dk_at dksX13_house_0 3 rfl rfl)
theorem dX13_house_4 : decode cX13_house 4 = .ok (.invokespecial 148, 3) := dk_183 0 148 (dk_at dksX13_house_0 4 rfl rfl)
theorem dX13_house_7 : decode cX13_house 7 = .ok (.astore_n 1, 1) := dk_76 (dk_at dksX13_house_0 7 rfl rfl)
theorem dX13_house_8 : decode cX13_house 8 = .ok (.aload_n 1, 1) := dk_43 (dk_at dksX13_house_0 8 rfl rfl)
theorem dX13_house_9 : decode cX13_house 9 = .ok (.aload_n 0, 1) := dk_42 (dk_at dksX13_house_0 9 rfl rfl)
theorem dX13_house_10 : decode cX13_house 10 = .ok (.ldc 149, 2) := dk_18 149 (dk_at dksX13_house_0 10 rfl rfl)
theorem dX13_house_12 : decode cX13_house 12 = .ok (.iconst 0, 1) := dk_3 (dk_at dksX13_house_0 12 rfl rfl)
theorem dX13_house_13 : decode cX13_house 13 = .ok (.bipush 99, 2) := dk_16 99 (dk_at dksX13_house_0 13 rfl rfl)
theorem dX13_house_15 : decode cX13_house 15 = .ok (.invokevirtual 150, 3) := dk_182 0 150 (dk_at dksX13_house_0 15 rfl rfl)
theorem dX13_house_18 : decode cX13_house 18 = .ok (.putfield 153, 3) := dk_181 0 153 (dk_at dksX13_house_0 18 rfl rfl)
theorem dX13_house_21 : decode cX13_house 21 = .ok (.aload_n 1, 1) := dk_43 (dk_at dksX13_house_0 21 rfl rfl)
theorem dX13_house_22 : decode cX13_house 22 = .ok (.aload_n 0, 1) := dk_42 (dk_at dksX13_house_0 22 rfl rfl)
theorem dX13_house_23 : decode cX13_house 23 = .ok (.iconst 0, 1) := dk_3 (dk_at dksX13_house_0 23 rfl rfl)
theorem dX13_house_24 : decode cX13_house 24 = .ok (.bipush 99, 2) := dk_16 99 (dk_at dksX13_house_1 0 rfl rfl)
theorem dX13_house_26 : decode cX13_house 26 = .ok (.invokevirtual 139, 3) := dk_182 0 139 (dk_at dksX13_house_1 2 rfl rfl)
theorem dX13_house_29 : decode cX13_house 29 = .ok (.putfield 156, 3) := dk_181 0 156 (dk_at dksX13_house_1 5 rfl rfl)
theorem dX13_house_32 : decode cX13_house 32 = .ok (.aload_n 1, 1) := dk_43 (dk_at dksX13_house_1 8 rfl rfl)
theorem dX13_house_33 : decode cX13_house 33 = .ok (.aload_n 0, 1) := dk_42 (dk_at dksX13_house_1 9 rfl rfl)
theorem dX13_house_34 : decode cX13_house 34 = .ok (.ldc 159, 2) := dk_18 159 (dk_at dksX13_house_1 10 rfl rfl)
theorem dX13_house_36 : decode cX13_house 36 = .ok (.iconst 0, 1) := dk_3 (dk_at dksX13_house_1 12 rfl rfl)
theorem dX13_house_37 : decode cX13_house 37 = .ok (.bipush 9, 2) := dk_16 9 (dk_at dksX13_house_1 13 rfl rfl)
theorem dX13_house_39 : decode cX13_house 39 = .ok (.invokevirtual 150, 3) := dk_182 0 150 (dk_at dksX13_house_1 15 rfl rfl)
theorem dX13_house_42 : decode cX13_house 42 = .ok (.putfield 161, 3) := dk_181 0 161 (dk_at dksX13_house_1 18 rfl rfl)
theorem dX13_house_45 : decode cX13_house 45 = .ok (.aload_n 0, 1) := dk_42 (dk_at dksX13_house_1 21 rfl rfl)
theorem dX13_house_46 : decode cX13_house 46 = .ok (.ldc 163, 2) := dk_18 163 (dk_at dksX13_house_1 22 rfl rfl)
theorem dX13_house_48 : decode cX13_house 48 = .ok (.invokevirtual 135, 3) := dk_182 0 135 (dk_at dksX13_house_2 0 rfl rfl)
theorem dX13_house_51 : decode cX13_house 51 = .ok (.aload_n 1, 1) := dk_43 (dk_at dksX13_house_2 3 rfl rfl)
theorem dX13_house_52 : decode cX13_house 52 = .ok (.aload_n 0, 1) := dk_42 (dk_at dksX13_house_2 4 rfl rfl)
theorem dX13_house_53 : decode cX13_house 53 = .ok (.aload_n 0, 1) := dk_42 (dk_at dksX13_house_2 5 rfl rfl)
theorem dX13_house_54 : decode cX13_house 54 = .ok (.getfield 25, 3) := dk_180 0 25 (dk_at dksX13_house_2 6 rfl rfl)
theorem dX13_house_57 : decode cX13_house 57 = .ok (.invokevirtual 165, 3) := dk_182 0 165 (dk_at dksX13_house_2 9 rfl rfl)
theorem dX13_house_60 : decode cX13_house 60 = .ok (.putfield 168, 3) := dk_181 0 168 (dk_at dksX13_house_2 12 rfl rfl)
theorem dX13_house_63 : decode cX13_house 63 = .ok (.aload_n 1, 1) := dk_43 (dk_at dksX13_house_2 15 rfl rfl)
theorem dX13_house_64 : decode cX13_house 64 = .ok (.aload_n 0, 1) := dk_42 (dk_at dksX13_house_2 16 rfl rfl)
theorem dX13_house_65 : decode cX13_house 65 = .ok (.iconst 0, 1) := dk_3 (dk_at dksX13_house_2 17 rfl rfl)
theorem dX13_house_66 : decode cX13_house 66 = .ok (.sipush 180, 3) := dk_17 0 180 (dk_at dksX13_house_2 18 rfl rfl)
theorem dX13_house_69 : decode cX13_house 69 = .ok (.invokevirtual 139, 3) := dk_182 0 139 (dk_at dksX13_house_2 21 rfl rfl)
theorem dX13_house_72 : decode cX13_house 72 = .ok (.putfield 171, 3) := dk_181 0 171 (dk_at dksX13_house_3 0 rfl rfl)
theorem dX13_house_75 : decode cX13_house 75 = .ok (.aload_n 1, 1) := dk_43 (dk_at dksX13_house_3 3 rfl rfl)
theorem dX13_house_76 : decode cX13_house 76 = .ok (.aload_n 0, 1) := dk_42 (dk_at dksX13_house_3 4 rfl rfl)
theorem dX13_house_77 : decode cX13_house 77 = .ok (.aload_n 1, 1) := dk_43 (dk_at dksX13_house_3 5 rfl rfl)
theorem dX13_house_78 : decode cX13_house 78 = .ok (.getfield 171, 3) := dk_180 0 171 (dk_at dksX13_house_3 6 rfl rfl)
theorem dX13_house_81 : decode cX13_house 81 = .ok (.sipush 180, 3) := dk_17 0 180 (dk_at dksX13_house_3 9 rfl rfl)
theorem dX13_house_84 : decode cX13_house 84 = .ok (.invokevirtual 139, 3) := dk_182 0 139 (dk_at dksX13_house_3 12 rfl rfl)
theorem dX13_house_87 : decode cX13_house 87 = .ok (.putfield 172, 3) := dk_181 0 172 (dk_at dksX13_house_3 15 rfl rfl)
theorem dX13_house_90 : decode cX13_house 90 = .ok (.aload_n 0, 1) := dk_42 (dk_at dksX13_house_3 18 rfl rfl)
theorem dX13_house_91 : decode cX13_house 91 = .ok (.ldc 175, 2) := dk_18 175 (dk_at dksX13_house_3 19 rfl rfl)
theorem dX13_house_93 : decode cX13_house 93 = .ok (.invokevirtual 117, 3) := dk_182 0 117 (dk_at dksX13_house_3 21 rfl rfl)
theorem dX13_house_96 : decode cX13_house 96 = .ok (.ifCond .eq 17, 3) := dk_153 0 17 (dk_at dksX13_house_4 0 rfl rfl)
theorem dX13_house_99 : decode cX13_house 99 = .ok (.aload_n 1, 1) := dk_43 (dk_at dksX13_house_4 3 rfl rfl)
theorem dX13_house_100 : decode cX13_house 100 = .ok (.aload_n 0, 1) := dk_42 (dk_at dksX13_house_4 4 rfl rfl)
theorem dX13_house_101 : decode cX13_house 101 = .ok (.ldc 175, 2) := dk_18 175 (dk_at dksX13_house_4 5 rfl rfl)
theorem dX13_house_103 : decode cX13_house 103 = .ok (.iconst 0, 1) := dk_3 (dk_at dksX13_house_4 7 rfl rfl)
theorem dX13_house_104 : decode cX13_house 104 = .ok (.sipush 399, 3) := dk_17 1 143 (dk_at dksX13_house_4 8 rfl rfl)
theorem dX13_house_107 : decode cX13_house 107 = .ok (.invokevirtual 150, 3) := dk_182 0 150 (dk_at dksX13_house_4 11 rfl rfl)
theorem dX13_house_110 : decode cX13_house 110 = .ok (.putfield 177, 3) := dk_181 0 177 (dk_at dksX13_house_4 14 rfl rfl)
theorem dX13_house_113 : decode cX13_house 113 = .ok (.aload_n 0, 1) := dk_42 (dk_at dksX13_house_4 17 rfl rfl)
theorem dX13_house_114 : decode cX13_house 114 = .ok (.ldc 179, 2) := dk_18 179 (dk_at dksX13_house_4 18 rfl rfl)
theorem dX13_house_116 : decode cX13_house 116 = .ok (.invokevirtual 117, 3) := dk_182 0 117 (dk_at dksX13_house_4 20 rfl rfl)
theorem dX13_house_119 : decode cX13_house 119 = .ok (.ifCond .eq 16, 3) := dk_153 0 16 (dk_at dksX13_house_5 0 rfl rfl)
theorem dX13_house_122 : decode cX13_house 122 = .ok (.aload_n 1, 1) := dk_43 (dk_at dksX13_house_5 3 rfl rfl)
theorem dX13_house_123 : decode cX13_house 123 = .ok (.aload_n 0, 1) := dk_42 (dk_at dksX13_house_5 4 rfl rfl)
theorem dX13_house_124 : decode cX13_house 124 = .ok (.ldc 179, 2) := dk_18 179 (dk_at dksX13_house_5 5 rfl rfl)
theorem dX13_house_126 : decode cX13_house 126 = .ok (.iconst 0, 1) := dk_3 (dk_at dksX13_house_5 7 rfl rfl)
theorem dX13_house_127 : decode cX13_house 127 = .ok (.bipush 99, 2) := dk_16 99 (dk_at dksX13_house_5 8 rfl rfl)
theorem dX13_house_129 : decode cX13_house 129 = .ok (.invokevirtual 150, 3) := dk_182 0 150 (dk_at dksX13_house_5 10 rfl rfl)
theorem dX13_house_132 : decode cX13_house 132 = .ok (.putfield 181, 3) := dk_181 0 181 (dk_at dksX13_house_5 13 rfl rfl)
theorem dX13_house_135 : decode cX13_house 135 = .ok (.aload_n 0, 1) := dk_42 (dk_at dksX13_house_5 16 rfl rfl)
theorem dX13_house_136 : decode cX13_house 136 = .ok (.getfield 67, 3) := dk_180 0 67 (dk_at dksX13_house_5 17 rfl rfl)
theorem dX13_house_139 : decode cX13_house 139 = .ok (.getfield 183, 3) := dk_180 0 183 (dk_at dksX13_house_5 20 rfl rfl)
theorem dX13_house_142 : decode cX13_house 142 = .ok (.aload_n 1, 1) := dk_43 (dk_at dksX13_house_5 23 rfl rfl)
theorem dX13_house_143 : decode cX13_house 143 = .ok (.invokeinterface 187 2, 5) := by decide +kernel
theorem dX13_house_148 : decode cX13_house 148 = .ok (.pop, 1) := dk_87 (dk_at dksX13_house_6 5 rfl rfl)
theorem dX13_house_149 : decode cX13_house 149 = .ok (.return_, 1) := dk_177 (dk_at dksX13_house_6 6 rfl rfl)
abbrev cX13_know : ByteArray := prog_15_method_13_code
def yX13_know : MethodName := ⟨RX13, "know", "()V"⟩
def dkwX13_know_3 : List UInt8 := [180, 0, 196, 28, 92, 46, 4, 27, 120, 128, 79, 177]
abbrev dktX13_know_3 : List UInt8 := dkwX13_know_3 ++ []
def dkwX13_know_2 : List UInt8 := [182, 0, 139, 61, 42, 180, 0, 67, 180, 0, 196, 27, 92, 46, 4, 28, 120, 128, 79, 42, 180, 0, 67]
abbrev dktX13_know_2 : List UInt8 := dkwX13_know_2 ++ dktX13_know_3
def dkwX13_know_1 : List UInt8 := [180, 0, 88, 27, 160, 0, 8, 42, 5, 182, 0, 127, 42, 3, 42, 180, 0, 67, 182, 0, 193, 4, 100]
abbrev dktX13_know_1 : List UInt8 := dkwX13_know_1 ++ dktX13_know_2
def dkwX13_know_0 : List UInt8 := [42, 3, 42, 180, 0, 67, 182, 0, 193, 4, 100, 182, 0, 139, 60, 42, 180, 0, 91, 5, 160, 0, 16, 42]
abbrev dktX13_know_0 : List UInt8 := dkwX13_know_0 ++ dktX13_know_1
theorem dksX13_know_0 : cX13_know.data.toList.drop 0 = dktX13_know_0 := by decide +kernel
theorem dksX13_know_1 : cX13_know.data.toList.drop 24 = dktX13_know_1 := dk_seg dksX13_know_0 24 rfl rfl
theorem dksX13_know_2 : cX13_know.data.toList.drop 47 = dktX13_know_2 := dk_seg dksX13_know_1 23 rfl rfl
theorem dksX13_know_3 : cX13_know.data.toList.drop 70 = dktX13_know_3 := dk_seg dksX13_know_2 23 rfl rfl
theorem dX13_know_0 : decode cX13_know 0 = .ok (.aload_n 0, 1) := dk_42 (dk_at dksX13_know_0 0 rfl rfl)
theorem dX13_know_1 : decode cX13_know 1 = .ok (.iconst 0, 1) := dk_3 (dk_at dksX13_know_0 1 rfl rfl)
theorem dX13_know_2 : decode cX13_know 2 = .ok (.aload_n 0, 1) := dk_42 (dk_at dksX13_know_0 2 rfl rfl)
theorem dX13_know_3 : decode cX13_know 3 = .ok (.getfield 67, 3) := dk_180 0 67 (dk_at dksX13_know_0 3 rfl rfl)
theorem dX13_know_6 : decode cX13_know 6 = .ok (.invokevirtual 193, 3) := dk_182 0 193 (dk_at dksX13_know_0 6 rfl rfl)
theorem dX13_know_9 : decode cX13_know 9 = .ok (.iconst 1, 1) := dk_4 (dk_at dksX13_know_0 9 rfl rfl)
theorem dX13_know_10 : decode cX13_know 10 = .ok (.isub, 1) := dk_100 (dk_at dksX13_know_0 10 rfl rfl)
theorem dX13_know_11 : decode cX13_know 11 = .ok (.invokevirtual 139, 3) := dk_182 0 139 (dk_at dksX13_know_0 11 rfl rfl)
theorem dX13_know_14 : decode cX13_know 14 = .ok (.istore_n 1, 1) := dk_60 (dk_at dksX13_know_0 14 rfl rfl)
theorem dX13_know_15 : decode cX13_know 15 = .ok (.aload_n 0, 1) := dk_42 (dk_at dksX13_know_0 15 rfl rfl)
theorem dX13_know_16 : decode cX13_know 16 = .ok (.getfield 91, 3) := dk_180 0 91 (dk_at dksX13_know_0 16 rfl rfl)
theorem dX13_know_19 : decode cX13_know 19 = .ok (.iconst 2, 1) := dk_5 (dk_at dksX13_know_0 19 rfl rfl)
theorem dX13_know_20 : decode cX13_know 20 = .ok (.if_icmp .ne 16, 3) := dk_160 0 16 (dk_at dksX13_know_0 20 rfl rfl)
theorem dX13_know_23 : decode cX13_know 23 = .ok (.aload_n 0, 1) := dk_42 (dk_at dksX13_know_0 23 rfl rfl)
theorem dX13_know_24 : decode cX13_know 24 = .ok (.getfield 88, 3) := dk_180 0 88 (dk_at dksX13_know_1 0 rfl rfl)
theorem dX13_know_27 : decode cX13_know 27 = .ok (.iload_n 1, 1) := dk_27 (dk_at dksX13_know_1 3 rfl rfl)
theorem dX13_know_28 : decode cX13_know 28 = .ok (.if_icmp .ne 8, 3) := dk_160 0 8 (dk_at dksX13_know_1 4 rfl rfl)
theorem dX13_know_31 : decode cX13_know 31 = .ok (.aload_n 0, 1) := dk_42 (dk_at dksX13_know_1 7 rfl rfl)
theorem dX13_know_32 : decode cX13_know 32 = .ok (.iconst 2, 1) := dk_5 (dk_at dksX13_know_1 8 rfl rfl)
theorem dX13_know_33 : decode cX13_know 33 = .ok (.invokevirtual 127, 3) := dk_182 0 127 (dk_at dksX13_know_1 9 rfl rfl)
theorem dX13_know_36 : decode cX13_know 36 = .ok (.aload_n 0, 1) := dk_42 (dk_at dksX13_know_1 12 rfl rfl)
theorem dX13_know_37 : decode cX13_know 37 = .ok (.iconst 0, 1) := dk_3 (dk_at dksX13_know_1 13 rfl rfl)
theorem dX13_know_38 : decode cX13_know 38 = .ok (.aload_n 0, 1) := dk_42 (dk_at dksX13_know_1 14 rfl rfl)
theorem dX13_know_39 : decode cX13_know 39 = .ok (.getfield 67, 3) := dk_180 0 67 (dk_at dksX13_know_1 15 rfl rfl)
theorem dX13_know_42 : decode cX13_know 42 = .ok (.invokevirtual 193, 3) := dk_182 0 193 (dk_at dksX13_know_1 18 rfl rfl)
theorem dX13_know_45 : decode cX13_know 45 = .ok (.iconst 1, 1) := dk_4 (dk_at dksX13_know_1 21 rfl rfl)
theorem dX13_know_46 : decode cX13_know 46 = .ok (.isub, 1) := dk_100 (dk_at dksX13_know_1 22 rfl rfl)
theorem dX13_know_47 : decode cX13_know 47 = .ok (.invokevirtual 139, 3) := dk_182 0 139 (dk_at dksX13_know_2 0 rfl rfl)
theorem dX13_know_50 : decode cX13_know 50 = .ok (.istore_n 2, 1) := dk_61 (dk_at dksX13_know_2 3 rfl rfl)
theorem dX13_know_51 : decode cX13_know 51 = .ok (.aload_n 0, 1) := dk_42 (dk_at dksX13_know_2 4 rfl rfl)
theorem dX13_know_52 : decode cX13_know 52 = .ok (.getfield 67, 3) := dk_180 0 67 (dk_at dksX13_know_2 5 rfl rfl)
theorem dX13_know_55 : decode cX13_know 55 = .ok (.getfield 196, 3) := dk_180 0 196 (dk_at dksX13_know_2 8 rfl rfl)
theorem dX13_know_58 : decode cX13_know 58 = .ok (.iload_n 1, 1) := dk_27 (dk_at dksX13_know_2 11 rfl rfl)
theorem dX13_know_59 : decode cX13_know 59 = .ok (.dup2, 1) := dk_92 (dk_at dksX13_know_2 12 rfl rfl)
theorem dX13_know_60 : decode cX13_know 60 = .ok (.iaload, 1) := dk_46 (dk_at dksX13_know_2 13 rfl rfl)
theorem dX13_know_61 : decode cX13_know 61 = .ok (.iconst 1, 1) := dk_4 (dk_at dksX13_know_2 14 rfl rfl)
theorem dX13_know_62 : decode cX13_know 62 = .ok (.iload_n 2, 1) := dk_28 (dk_at dksX13_know_2 15 rfl rfl)
theorem dX13_know_63 : decode cX13_know 63 = .ok (.ishl, 1) := dk_120 (dk_at dksX13_know_2 16 rfl rfl)
theorem dX13_know_64 : decode cX13_know 64 = .ok (.ior, 1) := dk_128 (dk_at dksX13_know_2 17 rfl rfl)
theorem dX13_know_65 : decode cX13_know 65 = .ok (.iastore, 1) := dk_79 (dk_at dksX13_know_2 18 rfl rfl)
theorem dX13_know_66 : decode cX13_know 66 = .ok (.aload_n 0, 1) := dk_42 (dk_at dksX13_know_2 19 rfl rfl)
theorem dX13_know_67 : decode cX13_know 67 = .ok (.getfield 67, 3) := dk_180 0 67 (dk_at dksX13_know_2 20 rfl rfl)
theorem dX13_know_70 : decode cX13_know 70 = .ok (.getfield 196, 3) := dk_180 0 196 (dk_at dksX13_know_3 0 rfl rfl)
theorem dX13_know_73 : decode cX13_know 73 = .ok (.iload_n 2, 1) := dk_28 (dk_at dksX13_know_3 3 rfl rfl)
theorem dX13_know_74 : decode cX13_know 74 = .ok (.dup2, 1) := dk_92 (dk_at dksX13_know_3 4 rfl rfl)
theorem dX13_know_75 : decode cX13_know 75 = .ok (.iaload, 1) := dk_46 (dk_at dksX13_know_3 5 rfl rfl)
theorem dX13_know_76 : decode cX13_know 76 = .ok (.iconst 1, 1) := dk_4 (dk_at dksX13_know_3 6 rfl rfl)
theorem dX13_know_77 : decode cX13_know 77 = .ok (.iload_n 1, 1) := dk_27 (dk_at dksX13_know_3 7 rfl rfl)
theorem dX13_know_78 : decode cX13_know 78 = .ok (.ishl, 1) := dk_120 (dk_at dksX13_know_3 8 rfl rfl)
theorem dX13_know_79 : decode cX13_know 79 = .ok (.ior, 1) := dk_128 (dk_at dksX13_know_3 9 rfl rfl)
theorem dX13_know_80 : decode cX13_know 80 = .ok (.iastore, 1) := dk_79 (dk_at dksX13_know_3 10 rfl rfl)
theorem dX13_know_81 : decode cX13_know 81 = .ok (.return_, 1) := dk_177 (dk_at dksX13_know_3 11 rfl rfl)
theorem q127 : (Jvm.Cond.initialized "CardBowl$Reader") ∈ lw_all := lw_g (lw_at lw_m1 18 rfl) rfl
theorem q405 : (Jvm.Cond.fieldLinkNest "CardBowl$Reader" (183 : Nat) "CardBowl$Town" "houses" "Ljava/util/List;" "CardBowl") ∈ lw_tbl := lw_at lw_m2 56 rfl
theorem q408 : (Jvm.Cond.fieldLinkNest "CardBowl$Reader" (196 : Nat) "CardBowl$Town" "knows" "[I" "CardBowl") ∈ lw_tbl := lw_at lw_m2 59 rfl
theorem q411 : (Jvm.Cond.fieldLinkNest "CardBowl$Reader" (247 : Nat) "CardBowl$Town" "rules" "Ljava/util/List;" "CardBowl") ∈ lw_tbl := lw_at lw_m2 62 rfl
theorem q414 : (Jvm.Cond.fieldLinkNest "CardBowl$Reader" (265 : Nat) "CardBowl$Town" "fresh" "I" "CardBowl") ∈ lw_tbl := lw_at lw_m2 65 rfl
theorem q417 : (Jvm.Cond.fieldLinkNest "CardBowl$Reader" (270 : Nat) "CardBowl$Town" "introducers" "I" "CardBowl") ∈ lw_tbl := lw_at lw_m2 68 rfl
theorem q682 : (Jvm.Cond.instantiable "CardBowl$Reader" (12 : Nat)) ∈ lw_all := lw_g (lw_at lw_m3 93 rfl) rfl
theorem q684 : (Jvm.Cond.instanceMethod ({ cls := "CardBowl$Reader", name := "<init>", desc := "([BI)V" } : Jvm.MethodName)) ∈ lw_all := lw_g (lw_at lw_m3 95 rfl) rfl
theorem q685 : (Jvm.Cond.code ({ cls := "CardBowl$Reader", name := "<init>", desc := "([BI)V" } : Jvm.MethodName) prog_15_method_1_code (3 : Nat) (Option.none : Option Jvm.ClassFile.FieldType)) ∈ lw_all := lw_g (lw_at lw_m3 96 rfl) rfl
theorem q686 : (Jvm.Cond.methodLink "CardBowl$Reader" (3 : Nat) ({ cls := "java/lang/Object", name := "<init>", desc := "()V" } : Jvm.MethodName)) ∈ lw_all := lw_g (lw_at lw_m3 97 rfl) rfl
theorem q687 : (Jvm.Cond.classLink "CardBowl$Reader" (9 : Nat) "java/lang/String") ∈ lw_all := lw_g (lw_at lw_m3 98 rfl) rfl
theorem q689 : (Jvm.Cond.stringRef "CardBowl$Reader" (11 : Nat) "sun") ∈ lw_tbl := lw_at lw_m3 100 rfl
theorem q690 : (Jvm.Cond.stringRef "CardBowl$Reader" (13 : Nat) "mon") ∈ lw_tbl := lw_at lw_m3 101 rfl
theorem q691 : (Jvm.Cond.stringRef "CardBowl$Reader" (15 : Nat) "tue") ∈ lw_tbl := lw_at lw_m3 102 rfl
theorem q692 : (Jvm.Cond.stringRef "CardBowl$Reader" (17 : Nat) "wed") ∈ lw_tbl := lw_at lw_m3 103 rfl
theorem q693 : (Jvm.Cond.stringRef "CardBowl$Reader" (19 : Nat) "thu") ∈ lw_tbl := lw_at lw_m3 104 rfl
theorem q694 : (Jvm.Cond.stringRef "CardBowl$Reader" (21 : Nat) "fri") ∈ lw_tbl := lw_at lw_m3 105 rfl
theorem q695 : (Jvm.Cond.stringRef "CardBowl$Reader" (23 : Nat) "sat") ∈ lw_tbl := lw_at lw_m3 106 rfl
theorem q696 : (Jvm.Cond.stringRef "CardBowl$Reader" (31 : Nat) "sent") ∈ lw_tbl := lw_at lw_m3 107 rfl
theorem q697 : (Jvm.Cond.stringRef "CardBowl$Reader" (33 : Nat) "card") ∈ lw_tbl := lw_at lw_m3 108 rfl
theorem q698 : (Jvm.Cond.stringRef "CardBowl$Reader" (35 : Nat) "call") ∈ lw_tbl := lw_at lw_m3 109 rfl
theorem q699 : (Jvm.Cond.stringRef "CardBowl$Reader" (37 : Nat) "dinner") ∈ lw_tbl := lw_at lw_m3 110 rfl
theorem q700 : (Jvm.Cond.stringRef "CardBowl$Reader" (42 : Nat) "more") ∈ lw_tbl := lw_at lw_m3 111 rfl
theorem q701 : (Jvm.Cond.stringRef "CardBowl$Reader" (44 : Nat) "less") ∈ lw_tbl := lw_at lw_m3 112 rfl
theorem q702 : (Jvm.Cond.stringRef "CardBowl$Reader" (46 : Nat) "same") ∈ lw_tbl := lw_at lw_m3 113 rfl
theorem q703 : (Jvm.Cond.stringRef "CardBowl$Reader" (51 : Nat) "mine") ∈ lw_tbl := lw_at lw_m3 114 rfl
theorem q704 : (Jvm.Cond.stringRef "CardBowl$Reader" (53 : Nat) "theirs") ∈ lw_tbl := lw_at lw_m3 115 rfl
theorem q705 : (Jvm.Cond.stringRef "CardBowl$Reader" (55 : Nat) "debts") ∈ lw_tbl := lw_at lw_m3 116 rfl
theorem q706 : (Jvm.Cond.stringRef "CardBowl$Reader" (57 : Nat) "day") ∈ lw_tbl := lw_at lw_m3 117 rfl
theorem q707 : (Jvm.Cond.stringRef "CardBowl$Reader" (59 : Nat) "known") ∈ lw_tbl := lw_at lw_m3 118 rfl
theorem q708 : (Jvm.Cond.classLink "CardBowl$Reader" (64 : Nat) "CardBowl$Town") ∈ lw_all := lw_g (lw_at lw_m3 119 rfl) rfl
theorem q709 : (Jvm.Cond.methodLinkNest "CardBowl$Reader" (66 : Nat) ({ cls := "CardBowl$Town", name := "<init>", desc := "()V" } : Jvm.MethodName) "CardBowl") ∈ lw_tbl := lw_at lw_m3 120 rfl
theorem q710 : (Jvm.Cond.fieldLink "CardBowl$Reader" (25 : Nat) "CardBowl$Reader" "days" "[Ljava/lang/String;") ∈ lw_all := lw_g (lw_at lw_m3 121 rfl) rfl
theorem q711 : (Jvm.Cond.fieldLink "CardBowl$Reader" (39 : Nat) "CardBowl$Reader" "payings" "[Ljava/lang/String;") ∈ lw_all := lw_g (lw_at lw_m3 122 rfl) rfl
theorem q712 : (Jvm.Cond.fieldLink "CardBowl$Reader" (48 : Nat) "CardBowl$Reader" "signs" "[Ljava/lang/String;") ∈ lw_all := lw_g (lw_at lw_m3 123 rfl) rfl
theorem q713 : (Jvm.Cond.fieldLink "CardBowl$Reader" (61 : Nat) "CardBowl$Reader" "parts" "[Ljava/lang/String;") ∈ lw_all := lw_g (lw_at lw_m3 124 rfl) rfl
theorem q714 : (Jvm.Cond.fieldLink "CardBowl$Reader" (71 : Nat) "CardBowl$Reader" "text" "[B") ∈ lw_all := lw_g (lw_at lw_m3 125 rfl) rfl
theorem q715 : (Jvm.Cond.fieldLink "CardBowl$Reader" (75 : Nat) "CardBowl$Reader" "size" "I") ∈ lw_all := lw_g (lw_at lw_m3 126 rfl) rfl
theorem q716 : (Jvm.Cond.fieldLink "CardBowl$Reader" (67 : Nat) "CardBowl$Reader" "town" "LCardBowl$Town;") ∈ lw_all := lw_g (lw_at lw_m3 127 rfl) rfl
theorem q717 : (Jvm.Cond.fieldLink "CardBowl$Reader" (79 : Nat) "CardBowl$Reader" "at" "I") ∈ lw_all := lw_g (lw_at lw_m3 128 rfl) rfl
theorem q718 : (Jvm.Cond.fieldLink "CardBowl$Reader" (85 : Nat) "CardBowl$Reader" "from" "I") ∈ lw_all := lw_g (lw_at lw_m3 129 rfl) rfl
theorem q719 : (Jvm.Cond.fieldLink "CardBowl$Reader" (91 : Nat) "CardBowl$Reader" "token" "I") ∈ lw_all := lw_g (lw_at lw_m3 130 rfl) rfl
theorem q720 : (Jvm.Cond.fieldLink "CardBowl$Reader" (82 : Nat) "CardBowl$Reader" "place" "I") ∈ lw_all := lw_g (lw_at lw_m3 131 rfl) rfl
theorem q721 : (Jvm.Cond.fieldLink "CardBowl$Reader" (88 : Nat) "CardBowl$Reader" "value" "I") ∈ lw_all := lw_g (lw_at lw_m3 132 rfl) rfl
theorem q722 : (Jvm.Cond.laysFinal "CardBowl$Reader" "CardBowl$Reader" "days" "[Ljava/lang/String;") ∈ lw_all := lw_g (lw_at lw_m3 133 rfl) rfl
theorem q723 : (Jvm.Cond.soleField "CardBowl$Reader" "days") ∈ lw_all := lw_g (lw_at lw_m3 134 rfl) rfl
theorem q724 : (Jvm.Cond.laysFinal "CardBowl$Reader" "CardBowl$Reader" "payings" "[Ljava/lang/String;") ∈ lw_all := lw_g (lw_at lw_m3 135 rfl) rfl
theorem q725 : (Jvm.Cond.soleField "CardBowl$Reader" "payings") ∈ lw_all := lw_g (lw_at lw_m3 136 rfl) rfl
theorem q726 : (Jvm.Cond.laysFinal "CardBowl$Reader" "CardBowl$Reader" "signs" "[Ljava/lang/String;") ∈ lw_all := lw_g (lw_at lw_m3 137 rfl) rfl
theorem q727 : (Jvm.Cond.soleField "CardBowl$Reader" "signs") ∈ lw_all := lw_g (lw_at lw_m3 138 rfl) rfl
theorem q728 : (Jvm.Cond.laysFinal "CardBowl$Reader" "CardBowl$Reader" "parts" "[Ljava/lang/String;") ∈ lw_all := lw_g (lw_at lw_m3 139 rfl) rfl
theorem q729 : (Jvm.Cond.soleField "CardBowl$Reader" "parts") ∈ lw_all := lw_g (lw_at lw_m3 140 rfl) rfl
theorem q730 : (Jvm.Cond.laysFinal "CardBowl$Reader" "CardBowl$Reader" "text" "[B") ∈ lw_all := lw_g (lw_at lw_m3 141 rfl) rfl
theorem q731 : (Jvm.Cond.soleField "CardBowl$Reader" "text") ∈ lw_all := lw_g (lw_at lw_m3 142 rfl) rfl
theorem q732 : (Jvm.Cond.laysFinal "CardBowl$Reader" "CardBowl$Reader" "size" "I") ∈ lw_all := lw_g (lw_at lw_m3 143 rfl) rfl
theorem q733 : (Jvm.Cond.soleField "CardBowl$Reader" "size") ∈ lw_all := lw_g (lw_at lw_m3 144 rfl) rfl
theorem q734 : (Jvm.Cond.laysFinal "CardBowl$Reader" "CardBowl$Reader" "town" "LCardBowl$Town;") ∈ lw_all := lw_g (lw_at lw_m3 145 rfl) rfl
theorem q735 : (Jvm.Cond.soleField "CardBowl$Reader" "town") ∈ lw_all := lw_g (lw_at lw_m3 146 rfl) rfl
theorem q736 : (Jvm.Cond.lays "CardBowl$Reader" "CardBowl$Reader" "at" "I") ∈ lw_all := lw_g (lw_at lw_m3 147 rfl) rfl
theorem q737 : (Jvm.Cond.soleField "CardBowl$Reader" "at") ∈ lw_all := lw_g (lw_at lw_m3 148 rfl) rfl
theorem q738 : (Jvm.Cond.lays "CardBowl$Reader" "CardBowl$Reader" "from" "I") ∈ lw_all := lw_g (lw_at lw_m3 149 rfl) rfl
theorem q739 : (Jvm.Cond.soleField "CardBowl$Reader" "from") ∈ lw_all := lw_g (lw_at lw_m3 150 rfl) rfl
theorem q740 : (Jvm.Cond.lays "CardBowl$Reader" "CardBowl$Reader" "token" "I") ∈ lw_all := lw_g (lw_at lw_m3 151 rfl) rfl
theorem q741 : (Jvm.Cond.soleField "CardBowl$Reader" "token") ∈ lw_all := lw_g (lw_at lw_m3 152 rfl) rfl
theorem q742 : (Jvm.Cond.lays "CardBowl$Reader" "CardBowl$Reader" "place" "I") ∈ lw_all := lw_g (lw_at lw_m3 153 rfl) rfl
theorem q743 : (Jvm.Cond.soleField "CardBowl$Reader" "place") ∈ lw_all := lw_g (lw_at lw_m3 154 rfl) rfl
theorem q744 : (Jvm.Cond.lays "CardBowl$Reader" "CardBowl$Reader" "value" "I") ∈ lw_all := lw_g (lw_at lw_m3 155 rfl) rfl
theorem q745 : (Jvm.Cond.soleField "CardBowl$Reader" "value") ∈ lw_all := lw_g (lw_at lw_m3 156 rfl) rfl
theorem q746 : (Jvm.Cond.superclass "CardBowl$Reader" "java/lang/Object") ∈ lw_all := lw_g (lw_at lw_m3 157 rfl) rfl
theorem q748 : (Jvm.Cond.instanceMethod ({ cls := "CardBowl$Reader", name := "whole", desc := "()LCardBowl$Town;" } : Jvm.MethodName)) ∈ lw_all := lw_g (lw_at lw_m3 159 rfl) rfl
theorem q749 : (Jvm.Cond.selects "CardBowl$Reader" ({ cls := "CardBowl$Reader", name := "whole", desc := "()LCardBowl$Town;" } : Jvm.MethodName) ({ cls := "CardBowl$Reader", name := "whole", desc := "()LCardBowl$Town;" } : Jvm.MethodName)) ∈ lw_all := lw_g (lw_at lw_m3 160 rfl) rfl
theorem q750 : (Jvm.Cond.code ({ cls := "CardBowl$Reader", name := "whole", desc := "()LCardBowl$Town;" } : Jvm.MethodName) prog_15_method_19_code (1 : Nat) (Option.some (Jvm.ClassFile.FieldType.object "CardBowl$Town"))) ∈ lw_all := lw_g (lw_at lw_m3 161 rfl) rfl
theorem q751 : (Jvm.Cond.methodLink "CardBowl$Reader" (121 : Nat) ({ cls := "CardBowl$Reader", name := "next", desc := "()V" } : Jvm.MethodName)) ∈ lw_all := lw_g (lw_at lw_m3 162 rfl) rfl
theorem q752 : (Jvm.Cond.privateMethod ({ cls := "CardBowl$Reader", name := "next", desc := "()V" } : Jvm.MethodName)) ∈ lw_tbl := lw_at lw_m3 163 rfl
theorem q753 : (Jvm.Cond.instanceMethod ({ cls := "CardBowl$Reader", name := "next", desc := "()V" } : Jvm.MethodName)) ∈ lw_all := lw_g (lw_at lw_m3 164 rfl) rfl
theorem q754 : (Jvm.Cond.code ({ cls := "CardBowl$Reader", name := "next", desc := "()V" } : Jvm.MethodName) prog_15_method_3_code (1 : Nat) (Option.none : Option Jvm.ClassFile.FieldType)) ∈ lw_all := lw_g (lw_at lw_m3 165 rfl) rfl
theorem q755 : (Jvm.Cond.methodLink "CardBowl$Reader" (94 : Nat) ({ cls := "CardBowl$Reader", name := "isAt", desc := "(II)Z" } : Jvm.MethodName)) ∈ lw_all := lw_g (lw_at lw_m3 166 rfl) rfl
theorem q756 : (Jvm.Cond.privateMethod ({ cls := "CardBowl$Reader", name := "isAt", desc := "(II)Z" } : Jvm.MethodName)) ∈ lw_tbl := lw_at lw_m3 167 rfl
theorem q757 : (Jvm.Cond.instanceMethod ({ cls := "CardBowl$Reader", name := "isAt", desc := "(II)Z" } : Jvm.MethodName)) ∈ lw_all := lw_g (lw_at lw_m3 168 rfl) rfl
theorem q758 : (Jvm.Cond.code ({ cls := "CardBowl$Reader", name := "isAt", desc := "(II)Z" } : Jvm.MethodName) prog_15_method_2_code (3 : Nat) (Option.some Jvm.ClassFile.FieldType.boolean)) ∈ lw_all := lw_g (lw_at lw_m3 169 rfl) rfl
theorem q759 : (Jvm.Cond.methodLink "CardBowl$Reader" (98 : Nat) ({ cls := "java/lang/Math", name := "min", desc := "(II)I" } : Jvm.MethodName)) ∈ lw_all := lw_g (lw_at lw_m3 170 rfl) rfl
theorem q762 : (Jvm.Cond.methodLink "CardBowl$Reader" (273 : Nat) ({ cls := "CardBowl$Reader", name := "line", desc := "()V" } : Jvm.MethodName)) ∈ lw_all := lw_g (lw_at lw_m3 173 rfl) rfl
theorem q763 : (Jvm.Cond.privateMethod ({ cls := "CardBowl$Reader", name := "line", desc := "()V" } : Jvm.MethodName)) ∈ lw_tbl := lw_at lw_m3 174 rfl
theorem q764 : (Jvm.Cond.instanceMethod ({ cls := "CardBowl$Reader", name := "line", desc := "()V" } : Jvm.MethodName)) ∈ lw_all := lw_g (lw_at lw_m3 175 rfl) rfl
theorem q765 : (Jvm.Cond.code ({ cls := "CardBowl$Reader", name := "line", desc := "()V" } : Jvm.MethodName) prog_15_method_18_code (2 : Nat) (Option.none : Option Jvm.ClassFile.FieldType)) ∈ lw_all := lw_g (lw_at lw_m3 176 rfl) rfl
theorem q766 : (Jvm.Cond.methodLink "CardBowl$Reader" (142 : Nat) ({ cls := "CardBowl$Reader", name := "which", desc := "([Ljava/lang/String;)I" } : Jvm.MethodName)) ∈ lw_all := lw_g (lw_at lw_m3 177 rfl) rfl
theorem q767 : (Jvm.Cond.privateMethod ({ cls := "CardBowl$Reader", name := "which", desc := "([Ljava/lang/String;)I" } : Jvm.MethodName)) ∈ lw_tbl := lw_at lw_m3 178 rfl
theorem q768 : (Jvm.Cond.instanceMethod ({ cls := "CardBowl$Reader", name := "which", desc := "([Ljava/lang/String;)I" } : Jvm.MethodName)) ∈ lw_all := lw_g (lw_at lw_m3 179 rfl) rfl
theorem q769 : (Jvm.Cond.code ({ cls := "CardBowl$Reader", name := "which", desc := "([Ljava/lang/String;)I" } : Jvm.MethodName) prog_15_method_10_code (3 : Nat) (Option.some Jvm.ClassFile.FieldType.int)) ∈ lw_all := lw_g (lw_at lw_m3 180 rfl) rfl
theorem q770 : (Jvm.Cond.methodLink "CardBowl$Reader" (117 : Nat) ({ cls := "CardBowl$Reader", name := "is", desc := "(Ljava/lang/String;)Z" } : Jvm.MethodName)) ∈ lw_all := lw_g (lw_at lw_m3 181 rfl) rfl
theorem q771 : (Jvm.Cond.privateMethod ({ cls := "CardBowl$Reader", name := "is", desc := "(Ljava/lang/String;)Z" } : Jvm.MethodName)) ∈ lw_tbl := lw_at lw_m3 182 rfl
theorem q772 : (Jvm.Cond.instanceMethod ({ cls := "CardBowl$Reader", name := "is", desc := "(Ljava/lang/String;)Z" } : Jvm.MethodName)) ∈ lw_all := lw_g (lw_at lw_m3 183 rfl) rfl
theorem q773 : (Jvm.Cond.code ({ cls := "CardBowl$Reader", name := "is", desc := "(Ljava/lang/String;)Z" } : Jvm.MethodName) prog_15_method_5_code (4 : Nat) (Option.some Jvm.ClassFile.FieldType.boolean)) ∈ lw_all := lw_g (lw_at lw_m3 184 rfl) rfl
theorem q774 : (Jvm.Cond.methodLink "CardBowl$Reader" (109 : Nat) ({ cls := "java/lang/String", name := "length", desc := "()I" } : Jvm.MethodName)) ∈ lw_all := lw_g (lw_at lw_m3 185 rfl) rfl
theorem q784 : (Jvm.Cond.methodLink "CardBowl$Reader" (113 : Nat) ({ cls := "java/lang/String", name := "charAt", desc := "(I)C" } : Jvm.MethodName)) ∈ lw_all := lw_g (lw_at lw_m3 195 rfl) rfl
theorem q822 : (Jvm.Cond.stringRef "CardBowl$Reader" (250 : Nat) "house") ∈ lw_tbl := lw_at lw_m3 233 rfl
theorem q823 : (Jvm.Cond.methodLink "CardBowl$Reader" (193 : Nat) ({ cls := "CardBowl$Town", name := "many", desc := "()I" } : Jvm.MethodName)) ∈ lw_all := lw_g (lw_at lw_m3 234 rfl) rfl
theorem q836 : (Jvm.Cond.interfaceEntry "CardBowl$Reader" (252 : Nat)) ∈ lw_tbl := lw_at lw_m4 7 rfl
theorem q837 : (Jvm.Cond.methodLink "CardBowl$Reader" (252 : Nat) ({ cls := "java/util/List", name := "size", desc := "()I" } : Jvm.MethodName)) ∈ lw_all := lw_g (lw_at lw_m4 8 rfl) rfl
theorem q838 : (Jvm.Cond.methodLink "CardBowl$Reader" (127 : Nat) ({ cls := "CardBowl$Reader", name := "fails", desc := "(I)V" } : Jvm.MethodName)) ∈ lw_all := lw_g (lw_at lw_m4 9 rfl) rfl
theorem q839 : (Jvm.Cond.privateMethod ({ cls := "CardBowl$Reader", name := "fails", desc := "(I)V" } : Jvm.MethodName)) ∈ lw_tbl := lw_at lw_m4 10 rfl
theorem q840 : (Jvm.Cond.instanceMethod ({ cls := "CardBowl$Reader", name := "fails", desc := "(I)V" } : Jvm.MethodName)) ∈ lw_all := lw_g (lw_at lw_m4 11 rfl) rfl
theorem q841 : (Jvm.Cond.code ({ cls := "CardBowl$Reader", name := "fails", desc := "(I)V" } : Jvm.MethodName) prog_15_method_4_code (2 : Nat) (Option.none : Option Jvm.ClassFile.FieldType)) ∈ lw_all := lw_g (lw_at lw_m4 12 rfl) rfl
theorem q842 : (Jvm.Cond.classLink "CardBowl$Reader" (104 : Nat) "CardBowl$Wrong") ∈ lw_all := lw_g (lw_at lw_m4 13 rfl) rfl
theorem q851 : (Jvm.Cond.methodLink "CardBowl$Reader" (106 : Nat) ({ cls := "CardBowl$Wrong", name := "<init>", desc := "(II)V" } : Jvm.MethodName)) ∈ lw_all := lw_g (lw_at lw_m4 22 rfl) rfl
theorem q870 : (Jvm.Cond.methodLink "CardBowl$Reader" (254 : Nat) ({ cls := "CardBowl$Reader", name := "rule", desc := "(I)V" } : Jvm.MethodName)) ∈ lw_all := lw_g (lw_at lw_m4 41 rfl) rfl
theorem q871 : (Jvm.Cond.privateMethod ({ cls := "CardBowl$Reader", name := "rule", desc := "(I)V" } : Jvm.MethodName)) ∈ lw_tbl := lw_at lw_m4 42 rfl
theorem q872 : (Jvm.Cond.instanceMethod ({ cls := "CardBowl$Reader", name := "rule", desc := "(I)V" } : Jvm.MethodName)) ∈ lw_all := lw_g (lw_at lw_m4 43 rfl) rfl
theorem q873 : (Jvm.Cond.code ({ cls := "CardBowl$Reader", name := "rule", desc := "(I)V" } : Jvm.MethodName) prog_15_method_17_code (6 : Nat) (Option.none : Option Jvm.ClassFile.FieldType)) ∈ lw_all := lw_g (lw_at lw_m4 44 rfl) rfl
theorem q874 : (Jvm.Cond.stringRef "CardBowl$Reader" (225 : Nat) "owes") ∈ lw_tbl := lw_at lw_m4 45 rfl
theorem q875 : (Jvm.Cond.methodLink "CardBowl$Reader" (135 : Nat) ({ cls := "CardBowl$Reader", name := "word", desc := "(Ljava/lang/String;)V" } : Jvm.MethodName)) ∈ lw_all := lw_g (lw_at lw_m4 46 rfl) rfl
theorem q876 : (Jvm.Cond.privateMethod ({ cls := "CardBowl$Reader", name := "word", desc := "(Ljava/lang/String;)V" } : Jvm.MethodName)) ∈ lw_tbl := lw_at lw_m4 47 rfl
theorem q877 : (Jvm.Cond.instanceMethod ({ cls := "CardBowl$Reader", name := "word", desc := "(Ljava/lang/String;)V" } : Jvm.MethodName)) ∈ lw_all := lw_g (lw_at lw_m4 48 rfl) rfl
theorem q878 : (Jvm.Cond.code ({ cls := "CardBowl$Reader", name := "word", desc := "(Ljava/lang/String;)V" } : Jvm.MethodName) prog_15_method_7_code (2 : Nat) (Option.none : Option Jvm.ClassFile.FieldType)) ∈ lw_all := lw_g (lw_at lw_m4 49 rfl) rfl
theorem q879 : (Jvm.Cond.methodLink "CardBowl$Reader" (124 : Nat) ({ cls := "CardBowl$Reader", name := "takes", desc := "(Ljava/lang/String;)Z" } : Jvm.MethodName)) ∈ lw_all := lw_g (lw_at lw_m4 50 rfl) rfl
theorem q880 : (Jvm.Cond.privateMethod ({ cls := "CardBowl$Reader", name := "takes", desc := "(Ljava/lang/String;)Z" } : Jvm.MethodName)) ∈ lw_tbl := lw_at lw_m4 51 rfl
theorem q881 : (Jvm.Cond.instanceMethod ({ cls := "CardBowl$Reader", name := "takes", desc := "(Ljava/lang/String;)Z" } : Jvm.MethodName)) ∈ lw_all := lw_g (lw_at lw_m4 52 rfl) rfl
theorem q882 : (Jvm.Cond.code ({ cls := "CardBowl$Reader", name := "takes", desc := "(Ljava/lang/String;)Z" } : Jvm.MethodName) prog_15_method_6_code (3 : Nat) (Option.some Jvm.ClassFile.FieldType.boolean)) ∈ lw_all := lw_g (lw_at lw_m4 53 rfl) rfl
theorem q883 : (Jvm.Cond.methodLink "CardBowl$Reader" (165 : Nat) ({ cls := "CardBowl$Reader", name := "oneOf", desc := "([Ljava/lang/String;)I" } : Jvm.MethodName)) ∈ lw_all := lw_g (lw_at lw_m4 54 rfl) rfl
theorem q884 : (Jvm.Cond.privateMethod ({ cls := "CardBowl$Reader", name := "oneOf", desc := "([Ljava/lang/String;)I" } : Jvm.MethodName)) ∈ lw_tbl := lw_at lw_m4 55 rfl
theorem q885 : (Jvm.Cond.instanceMethod ({ cls := "CardBowl$Reader", name := "oneOf", desc := "([Ljava/lang/String;)I" } : Jvm.MethodName)) ∈ lw_all := lw_g (lw_at lw_m4 56 rfl) rfl
theorem q886 : (Jvm.Cond.code ({ cls := "CardBowl$Reader", name := "oneOf", desc := "([Ljava/lang/String;)I" } : Jvm.MethodName) prog_15_method_11_code (3 : Nat) (Option.some Jvm.ClassFile.FieldType.int)) ∈ lw_all := lw_g (lw_at lw_m4 57 rfl) rfl
theorem q887 : (Jvm.Cond.classLink "CardBowl$Reader" (227 : Nat) "CardBowl$Rule") ∈ lw_all := lw_g (lw_at lw_m4 58 rfl) rfl
theorem q889 : (Jvm.Cond.stringRef "CardBowl$Reader" (229 : Nat) "within") ∈ lw_tbl := lw_at lw_m4 60 rfl
theorem q890 : (Jvm.Cond.methodLink "CardBowl$Reader" (150 : Nat) ({ cls := "CardBowl$Reader", name := "number", desc := "(Ljava/lang/String;II)I" } : Jvm.MethodName)) ∈ lw_all := lw_g (lw_at lw_m4 61 rfl) rfl
theorem q891 : (Jvm.Cond.privateMethod ({ cls := "CardBowl$Reader", name := "number", desc := "(Ljava/lang/String;II)I" } : Jvm.MethodName)) ∈ lw_tbl := lw_at lw_m4 62 rfl
theorem q892 : (Jvm.Cond.instanceMethod ({ cls := "CardBowl$Reader", name := "number", desc := "(Ljava/lang/String;II)I" } : Jvm.MethodName)) ∈ lw_all := lw_g (lw_at lw_m4 63 rfl) rfl
theorem q893 : (Jvm.Cond.code ({ cls := "CardBowl$Reader", name := "number", desc := "(Ljava/lang/String;II)I" } : Jvm.MethodName) prog_15_method_9_code (4 : Nat) (Option.some Jvm.ClassFile.FieldType.int)) ∈ lw_all := lw_g (lw_at lw_m4 64 rfl) rfl
theorem q894 : (Jvm.Cond.methodLink "CardBowl$Reader" (139 : Nat) ({ cls := "CardBowl$Reader", name := "number", desc := "(II)I" } : Jvm.MethodName)) ∈ lw_all := lw_g (lw_at lw_m4 65 rfl) rfl
theorem q895 : (Jvm.Cond.privateMethod ({ cls := "CardBowl$Reader", name := "number", desc := "(II)I" } : Jvm.MethodName)) ∈ lw_tbl := lw_at lw_m4 66 rfl
theorem q896 : (Jvm.Cond.instanceMethod ({ cls := "CardBowl$Reader", name := "number", desc := "(II)I" } : Jvm.MethodName)) ∈ lw_all := lw_g (lw_at lw_m4 67 rfl) rfl
theorem q897 : (Jvm.Cond.code ({ cls := "CardBowl$Reader", name := "number", desc := "(II)I" } : Jvm.MethodName) prog_15_method_8_code (4 : Nat) (Option.some Jvm.ClassFile.FieldType.int)) ∈ lw_all := lw_g (lw_at lw_m4 68 rfl) rfl
theorem q898 : (Jvm.Cond.methodLinkNest "CardBowl$Reader" (131 : Nat) ({ cls := "CardBowl", name := "in", desc := "(JJJ)Z" } : Jvm.MethodName) "CardBowl") ∈ lw_tbl := lw_at lw_m4 69 rfl
theorem q899 : (Jvm.Cond.methodLink "CardBowl$Reader" (231 : Nat) ({ cls := "CardBowl$Rule", name := "<init>", desc := "(III)V" } : Jvm.MethodName)) ∈ lw_all := lw_g (lw_at lw_m4 70 rfl) rfl
theorem q912 : (Jvm.Cond.fieldLinkNest "CardBowl$Reader" (239 : Nat) "CardBowl$Rule" "tests" "Ljava/util/List;" "CardBowl") ∈ lw_tbl := lw_at lw_m4 83 rfl
theorem q922 : (Jvm.Cond.stringRef "CardBowl$Reader" (234 : Nat) "if") ∈ lw_tbl := lw_at lw_m4 93 rfl
theorem q923 : (Jvm.Cond.methodLink "CardBowl$Reader" (236 : Nat) ({ cls := "CardBowl$Reader", name := "sum", desc := "()LCardBowl$Sum;" } : Jvm.MethodName)) ∈ lw_all := lw_g (lw_at lw_m4 94 rfl) rfl
theorem q924 : (Jvm.Cond.privateMethod ({ cls := "CardBowl$Reader", name := "sum", desc := "()LCardBowl$Sum;" } : Jvm.MethodName)) ∈ lw_tbl := lw_at lw_m4 95 rfl
theorem q925 : (Jvm.Cond.instanceMethod ({ cls := "CardBowl$Reader", name := "sum", desc := "()LCardBowl$Sum;" } : Jvm.MethodName)) ∈ lw_all := lw_g (lw_at lw_m4 96 rfl) rfl
theorem q926 : (Jvm.Cond.code ({ cls := "CardBowl$Reader", name := "sum", desc := "()LCardBowl$Sum;" } : Jvm.MethodName) prog_15_method_16_code (3 : Nat) (Option.some (Jvm.ClassFile.FieldType.object "CardBowl$Sum"))) ∈ lw_all := lw_g (lw_at lw_m4 97 rfl) rfl
theorem q927 : (Jvm.Cond.methodLink "CardBowl$Reader" (218 : Nat) ({ cls := "CardBowl$Reader", name := "term", desc := "()LCardBowl$Sum;" } : Jvm.MethodName)) ∈ lw_all := lw_g (lw_at lw_m4 98 rfl) rfl
theorem q928 : (Jvm.Cond.privateMethod ({ cls := "CardBowl$Reader", name := "term", desc := "()LCardBowl$Sum;" } : Jvm.MethodName)) ∈ lw_tbl := lw_at lw_m4 99 rfl
theorem q929 : (Jvm.Cond.instanceMethod ({ cls := "CardBowl$Reader", name := "term", desc := "()LCardBowl$Sum;" } : Jvm.MethodName)) ∈ lw_all := lw_g (lw_at lw_m4 100 rfl) rfl
theorem q930 : (Jvm.Cond.code ({ cls := "CardBowl$Reader", name := "term", desc := "()LCardBowl$Sum;" } : Jvm.MethodName) prog_15_method_15_code (2 : Nat) (Option.some (Jvm.ClassFile.FieldType.object "CardBowl$Sum"))) ∈ lw_all := lw_g (lw_at lw_m4 101 rfl) rfl
theorem q931 : (Jvm.Cond.methodLink "CardBowl$Reader" (207 : Nat) ({ cls := "CardBowl$Reader", name := "part", desc := "()LCardBowl$Sum;" } : Jvm.MethodName)) ∈ lw_all := lw_g (lw_at lw_m4 102 rfl) rfl
theorem q932 : (Jvm.Cond.privateMethod ({ cls := "CardBowl$Reader", name := "part", desc := "()LCardBowl$Sum;" } : Jvm.MethodName)) ∈ lw_tbl := lw_at lw_m4 103 rfl
theorem q933 : (Jvm.Cond.instanceMethod ({ cls := "CardBowl$Reader", name := "part", desc := "()LCardBowl$Sum;" } : Jvm.MethodName)) ∈ lw_all := lw_g (lw_at lw_m4 104 rfl) rfl
theorem q934 : (Jvm.Cond.code ({ cls := "CardBowl$Reader", name := "part", desc := "()LCardBowl$Sum;" } : Jvm.MethodName) prog_15_method_14_code (1 : Nat) (Option.some (Jvm.ClassFile.FieldType.object "CardBowl$Sum"))) ∈ lw_all := lw_g (lw_at lw_m4 105 rfl) rfl
theorem q935 : (Jvm.Cond.classLink "CardBowl$Reader" (200 : Nat) "CardBowl$Amount") ∈ lw_all := lw_g (lw_at lw_m4 106 rfl) rfl
theorem q937 : (Jvm.Cond.methodLink "CardBowl$Reader" (202 : Nat) ({ cls := "CardBowl$Amount", name := "<init>", desc := "(I)V" } : Jvm.MethodName)) ∈ lw_all := lw_g (lw_at lw_m4 108 rfl) rfl
theorem q948 : (Jvm.Cond.classLink "CardBowl$Reader" (204 : Nat) "CardBowl$Part") ∈ lw_all := lw_g (lw_at lw_m4 119 rfl) rfl
theorem q950 : (Jvm.Cond.methodLink "CardBowl$Reader" (206 : Nat) ({ cls := "CardBowl$Part", name := "<init>", desc := "(I)V" } : Jvm.MethodName)) ∈ lw_all := lw_g (lw_at lw_m4 121 rfl) rfl
theorem q958 : (Jvm.Cond.stringRef "CardBowl$Reader" (211 : Nat) "times") ∈ lw_tbl := lw_at lw_m4 129 rfl
theorem q959 : (Jvm.Cond.classLink "CardBowl$Reader" (213 : Nat) "CardBowl$Joined") ∈ lw_all := lw_g (lw_at lw_m4 130 rfl) rfl
theorem q961 : (Jvm.Cond.methodLink "CardBowl$Reader" (215 : Nat) ({ cls := "CardBowl$Joined", name := "<init>", desc := "(LCardBowl$Sum;ILCardBowl$Sum;)V" } : Jvm.MethodName)) ∈ lw_all := lw_g (lw_at lw_m4 132 rfl) rfl
theorem q975 : (Jvm.Cond.stringRef "CardBowl$Reader" (221 : Nat) "plus") ∈ lw_tbl := lw_at lw_m4 146 rfl
theorem q976 : (Jvm.Cond.stringRef "CardBowl$Reader" (223 : Nat) "minus") ∈ lw_tbl := lw_at lw_m4 147 rfl
theorem q977 : (Jvm.Cond.classLink "CardBowl$Reader" (242 : Nat) "CardBowl$Test") ∈ lw_all := lw_g (lw_at lw_m4 148 rfl) rfl
theorem q979 : (Jvm.Cond.methodLink "CardBowl$Reader" (244 : Nat) ({ cls := "CardBowl$Test", name := "<init>", desc := "(LCardBowl$Sum;ILCardBowl$Sum;)V" } : Jvm.MethodName)) ∈ lw_all := lw_g (lw_at lw_m4 150 rfl) rfl
theorem q993 : (Jvm.Cond.interfaceEntry "CardBowl$Reader" (187 : Nat)) ∈ lw_tbl := lw_at lw_m4 164 rfl
theorem q994 : (Jvm.Cond.methodLink "CardBowl$Reader" (187 : Nat) ({ cls := "java/util/List", name := "add", desc := "(Ljava/lang/Object;)Z" } : Jvm.MethodName)) ∈ lw_all := lw_g (lw_at lw_m4 165 rfl) rfl
theorem q1045 : (Jvm.Cond.selects "CardBowl$Reader" ({ cls := "java/lang/Object", name := "getClass", desc := "()Ljava/lang/Class;" } : Jvm.MethodName) ({ cls := "java/lang/Object", name := "getClass", desc := "()Ljava/lang/Class;" } : Jvm.MethodName)) ∈ lw_all := lw_g (lw_at lw_m4 216 rfl) rfl
theorem q1068 : (Jvm.Cond.stringRef "CardBowl$Reader" (245 : Nat) "and") ∈ lw_tbl := lw_at lw_m4 239 rfl
theorem q1069 : (Jvm.Cond.methodLink "CardBowl$Reader" (257 : Nat) ({ cls := "CardBowl$Reader", name := "house", desc := "()V" } : Jvm.MethodName)) ∈ lw_all := lw_g (lw_at lw_m5 0 rfl) rfl
theorem q1070 : (Jvm.Cond.privateMethod ({ cls := "CardBowl$Reader", name := "house", desc := "()V" } : Jvm.MethodName)) ∈ lw_tbl := lw_at lw_m5 1 rfl
theorem q1071 : (Jvm.Cond.instanceMethod ({ cls := "CardBowl$Reader", name := "house", desc := "()V" } : Jvm.MethodName)) ∈ lw_all := lw_g (lw_at lw_m5 2 rfl) rfl
theorem q1072 : (Jvm.Cond.code ({ cls := "CardBowl$Reader", name := "house", desc := "()V" } : Jvm.MethodName) prog_15_method_12_code (2 : Nat) (Option.none : Option Jvm.ClassFile.FieldType)) ∈ lw_all := lw_g (lw_at lw_m5 3 rfl) rfl
theorem q1073 : (Jvm.Cond.classLink "CardBowl$Reader" (146 : Nat) "CardBowl$House") ∈ lw_all := lw_g (lw_at lw_m5 4 rfl) rfl
theorem q1075 : (Jvm.Cond.methodLinkNest "CardBowl$Reader" (148 : Nat) ({ cls := "CardBowl$House", name := "<init>", desc := "()V" } : Jvm.MethodName) "CardBowl") ∈ lw_tbl := lw_at lw_m5 6 rfl
theorem q1080 : (Jvm.Cond.fieldLinkNest "CardBowl$Reader" (153 : Nat) "CardBowl$House" "x" "I" "CardBowl") ∈ lw_tbl := lw_at lw_m5 11 rfl
theorem q1083 : (Jvm.Cond.fieldLinkNest "CardBowl$Reader" (156 : Nat) "CardBowl$House" "y" "I" "CardBowl") ∈ lw_tbl := lw_at lw_m5 14 rfl
theorem q1086 : (Jvm.Cond.fieldLinkNest "CardBowl$Reader" (161 : Nat) "CardBowl$House" "rank" "I" "CardBowl") ∈ lw_tbl := lw_at lw_m5 17 rfl
theorem q1090 : (Jvm.Cond.fieldLinkNest "CardBowl$Reader" (168 : Nat) "CardBowl$House" "weekday" "I" "CardBowl") ∈ lw_tbl := lw_at lw_m5 21 rfl
theorem q1093 : (Jvm.Cond.fieldLinkNest "CardBowl$Reader" (171 : Nat) "CardBowl$House" "from" "I" "CardBowl") ∈ lw_tbl := lw_at lw_m5 24 rfl
theorem q1096 : (Jvm.Cond.fieldLinkNest "CardBowl$Reader" (172 : Nat) "CardBowl$House" "to" "I" "CardBowl") ∈ lw_tbl := lw_at lw_m5 27 rfl
theorem q1099 : (Jvm.Cond.fieldLinkNest "CardBowl$Reader" (177 : Nat) "CardBowl$House" "came" "I" "CardBowl") ∈ lw_tbl := lw_at lw_m5 30 rfl
theorem q1102 : (Jvm.Cond.fieldLinkNest "CardBowl$Reader" (181 : Nat) "CardBowl$House" "bride" "I" "CardBowl") ∈ lw_tbl := lw_at lw_m5 33 rfl
theorem q1120 : (Jvm.Cond.stringRef "CardBowl$Reader" (149 : Nat) "at") ∈ lw_tbl := lw_at lw_m5 51 rfl
theorem q1121 : (Jvm.Cond.stringRef "CardBowl$Reader" (159 : Nat) "rank") ∈ lw_tbl := lw_at lw_m5 52 rfl
theorem q1122 : (Jvm.Cond.stringRef "CardBowl$Reader" (163 : Nat) "home") ∈ lw_tbl := lw_at lw_m5 53 rfl
theorem q1123 : (Jvm.Cond.stringRef "CardBowl$Reader" (175 : Nat) "came") ∈ lw_tbl := lw_at lw_m5 54 rfl
theorem q1124 : (Jvm.Cond.stringRef "CardBowl$Reader" (179 : Nat) "bride") ∈ lw_tbl := lw_at lw_m5 55 rfl
theorem q1125 : (Jvm.Cond.stringRef "CardBowl$Reader" (259 : Nat) "know") ∈ lw_tbl := lw_at lw_m5 56 rfl
theorem q1126 : (Jvm.Cond.methodLink "CardBowl$Reader" (261 : Nat) ({ cls := "CardBowl$Reader", name := "know", desc := "()V" } : Jvm.MethodName)) ∈ lw_all := lw_g (lw_at lw_m5 57 rfl) rfl
theorem q1127 : (Jvm.Cond.privateMethod ({ cls := "CardBowl$Reader", name := "know", desc := "()V" } : Jvm.MethodName)) ∈ lw_tbl := lw_at lw_m5 58 rfl
theorem q1128 : (Jvm.Cond.instanceMethod ({ cls := "CardBowl$Reader", name := "know", desc := "()V" } : Jvm.MethodName)) ∈ lw_all := lw_g (lw_at lw_m5 59 rfl) rfl
theorem q1129 : (Jvm.Cond.code ({ cls := "CardBowl$Reader", name := "know", desc := "()V" } : Jvm.MethodName) prog_15_method_13_code (3 : Nat) (Option.none : Option Jvm.ClassFile.FieldType)) ∈ lw_all := lw_g (lw_at lw_m5 60 rfl) rfl
theorem q1130 : (Jvm.Cond.stringRef "CardBowl$Reader" (263 : Nat) "new") ∈ lw_tbl := lw_at lw_m5 61 rfl
theorem q1131 : (Jvm.Cond.stringRef "CardBowl$Reader" (268 : Nat) "introduce") ∈ lw_tbl := lw_at lw_m5 62 rfl
theorem q2287 : (Jvm.Cond.castable "CardBowl$Reader" "java/lang/Object") ∈ lw_tbl := lw_at lw_m10 18 rfl
theorem in_X13 : ∀ w ∈ wsX130, w ∈ lw_all := lw_in wsX130 [722, 724, 726, 728, 730, 732, 734, 736, 738, 740, 742, 744] (by decide +kernel) (by decide +kernel)
/-! CardBowl$Wrong -/
set_option maxRecDepth 100000
def RX14 : String := "CardBowl$Wrong"
def TX14 : u_T := fun k => match k with
  | 0 => ("java/lang/Throwable", "cause", "Ljava/lang/Throwable;", false)
  | 1 => ("java/lang/Throwable", "stackTrace", "[Ljava/lang/StackTraceElement;", false)
  | 2 => ("java/lang/Throwable", "suppressedExceptions", "Ljava/util/List;", false)
  | 3 => ("java/lang/Throwable", "detailMessage", "Ljava/lang/String;", false)
  | 4 => ("java/lang/Throwable", "backtrace", "Ljava/lang/Object;", false)
  | 5 => ("java/lang/Throwable", "depth", "I", false)
  | 6 => ("CardBowl$Wrong", "kind", "I", true)
  | _ => ("CardBowl$Wrong", "place", "I", true)
def tyX14 : Nat → FieldType := fun k => match k with
  | 0 => .object "java/lang/Throwable"
  | 1 => .array (.object "java/lang/StackTraceElement")
  | 2 => .object "java/util/List"
  | 3 => .object "java/lang/String"
  | 4 => .object "java/lang/Object"
  | 5 => .int
  | 6 => .int
  | _ => .int
abbrev wsX140 : List Cond := u_ws RX14 TX14 8
theorem nmX14 : ∀ a, a < 8 → ∀ b, b < 8 → a ≠ b → (TX14 a).2.1 ≠ (TX14 b).2.1 := by decide +kernel
theorem tyX14_ok : ∀ k, k < 8 → parseFieldDescriptor (TX14 k).2.2.1 = some (tyX14 k) := by decide +kernel
abbrev cX14_init : ByteArray := prog_23_method_1_code
def yX14_init : MethodName := ⟨RX14, "<init>", "(II)V"⟩
def dkwX14_init_0 : List UInt8 := [42, 1, 1, 3, 3, 183, 0, 1, 42, 27, 181, 0, 7, 42, 28, 181, 0, 13, 177]
abbrev dktX14_init_0 : List UInt8 := dkwX14_init_0 ++ []
theorem dksX14_init_0 : cX14_init.data.toList.drop 0 = dktX14_init_0 := by decide +kernel
theorem dX14_init_0 : decode cX14_init 0 = .ok (.aload_n 0, 1) := dk_42 (dk_at dksX14_init_0 0 rfl rfl)
theorem dX14_init_1 : decode cX14_init 1 = .ok (.aconst_null, 1) := dk_1 (dk_at dksX14_init_0 1 rfl rfl)
theorem dX14_init_2 : decode cX14_init 2 = .ok (.aconst_null, 1) := dk_1 (dk_at dksX14_init_0 2 rfl rfl)
theorem dX14_init_3 : decode cX14_init 3 = .ok (.iconst 0, 1) := dk_3 (dk_at dksX14_init_0 3 rfl rfl)
theorem dX14_init_4 : decode cX14_init 4 = .ok (.iconst 0, 1) := dk_3 (dk_at dksX14_init_0 4 rfl rfl)
theorem dX14_init_5 : decode cX14_init 5 = .ok (.invokespecial 1, 3) := dk_183 0 1 (dk_at dksX14_init_0 5 rfl rfl)
theorem dX14_init_8 : decode cX14_init 8 = .ok (.aload_n 0, 1) := dk_42 (dk_at dksX14_init_0 8 rfl rfl)
theorem dX14_init_9 : decode cX14_init 9 = .ok (.iload_n 1, 1) := dk_27 (dk_at dksX14_init_0 9 rfl rfl)
theorem dX14_init_10 : decode cX14_init 10 = .ok (.putfield 7, 3) := dk_181 0 7 (dk_at dksX14_init_0 10 rfl rfl)
theorem dX14_init_13 : decode cX14_init 13 = .ok (.aload_n 0, 1) := dk_42 (dk_at dksX14_init_0 13 rfl rfl)
theorem dX14_init_14 : decode cX14_init 14 = .ok (.iload_n 2, 1) := dk_28 (dk_at dksX14_init_0 14 rfl rfl)
theorem dX14_init_15 : decode cX14_init 15 = .ok (.putfield 13, 3) := dk_181 0 13 (dk_at dksX14_init_0 15 rfl rfl)
theorem dX14_init_18 : decode cX14_init 18 = .ok (.return_, 1) := dk_177 (dk_at dksX14_init_0 18 rfl rfl)
theorem q135 : (Jvm.Cond.initialized "CardBowl$Wrong") ∈ lw_all := lw_g (lw_at lw_m1 26 rfl) rfl
theorem q193 : (Jvm.Cond.selects "CardBowl$Wrong" ({ cls := "java/lang/Throwable", name := "fillInStackTrace", desc := "()Ljava/lang/Throwable;" } : Jvm.MethodName) ({ cls := "java/lang/Throwable", name := "fillInStackTrace", desc := "()Ljava/lang/Throwable;" } : Jvm.MethodName)) ∈ lw_all := lw_g (lw_at lw_m1 84 rfl) rfl
theorem q843 : (Jvm.Cond.instantiable "CardBowl$Wrong" (8 : Nat)) ∈ lw_all := lw_g (lw_at lw_m4 14 rfl) rfl
theorem q844 : (Jvm.Cond.castable "CardBowl$Wrong" "CardBowl$Wrong") ∈ lw_tbl := lw_at lw_m4 15 rfl
theorem q845 : (Jvm.Cond.selects "CardBowl$Wrong" ({ cls := "java/lang/Throwable", name := "fillInStackTrace", desc := "(I)Ljava/lang/Throwable;" } : Jvm.MethodName) ({ cls := "java/lang/Throwable", name := "fillInStackTrace", desc := "(I)Ljava/lang/Throwable;" } : Jvm.MethodName)) ∈ lw_all := lw_g (lw_at lw_m4 16 rfl) rfl
theorem q846 : (Jvm.Cond.lays "CardBowl$Wrong" "java/lang/Throwable" "cause" "Ljava/lang/Throwable;") ∈ lw_all := lw_g (lw_at lw_m4 17 rfl) rfl
theorem q847 : (Jvm.Cond.lays "CardBowl$Wrong" "java/lang/Throwable" "stackTrace" "[Ljava/lang/StackTraceElement;") ∈ lw_all := lw_g (lw_at lw_m4 18 rfl) rfl
theorem q848 : (Jvm.Cond.lays "CardBowl$Wrong" "java/lang/Throwable" "suppressedExceptions" "Ljava/util/List;") ∈ lw_all := lw_g (lw_at lw_m4 19 rfl) rfl
theorem q849 : (Jvm.Cond.lays "CardBowl$Wrong" "java/lang/Throwable" "detailMessage" "Ljava/lang/String;") ∈ lw_all := lw_g (lw_at lw_m4 20 rfl) rfl
theorem q850 : (Jvm.Cond.lays "CardBowl$Wrong" "java/lang/Throwable" "backtrace" "Ljava/lang/Object;") ∈ lw_all := lw_g (lw_at lw_m4 21 rfl) rfl
theorem q852 : (Jvm.Cond.instanceMethod ({ cls := "CardBowl$Wrong", name := "<init>", desc := "(II)V" } : Jvm.MethodName)) ∈ lw_all := lw_g (lw_at lw_m4 23 rfl) rfl
theorem q853 : (Jvm.Cond.code ({ cls := "CardBowl$Wrong", name := "<init>", desc := "(II)V" } : Jvm.MethodName) prog_23_method_1_code (3 : Nat) (Option.none : Option Jvm.ClassFile.FieldType)) ∈ lw_all := lw_g (lw_at lw_m4 24 rfl) rfl
theorem q854 : (Jvm.Cond.methodLink "CardBowl$Wrong" (1 : Nat) ({ cls := "java/lang/Exception", name := "<init>", desc := "(Ljava/lang/String;Ljava/lang/Throwable;ZZ)V" } : Jvm.MethodName)) ∈ lw_all := lw_g (lw_at lw_m4 25 rfl) rfl
theorem q860 : (Jvm.Cond.fieldLink "CardBowl$Wrong" (7 : Nat) "CardBowl$Wrong" "kind" "I") ∈ lw_all := lw_g (lw_at lw_m4 31 rfl) rfl
theorem q862 : (Jvm.Cond.fieldLink "CardBowl$Wrong" (13 : Nat) "CardBowl$Wrong" "place" "I") ∈ lw_all := lw_g (lw_at lw_m4 33 rfl) rfl
theorem q864 : (Jvm.Cond.laysFinal "CardBowl$Wrong" "CardBowl$Wrong" "kind" "I") ∈ lw_all := lw_g (lw_at lw_m4 35 rfl) rfl
theorem q865 : (Jvm.Cond.soleField "CardBowl$Wrong" "kind") ∈ lw_all := lw_g (lw_at lw_m4 36 rfl) rfl
theorem q866 : (Jvm.Cond.laysFinal "CardBowl$Wrong" "CardBowl$Wrong" "place" "I") ∈ lw_all := lw_g (lw_at lw_m4 37 rfl) rfl
theorem q867 : (Jvm.Cond.soleField "CardBowl$Wrong" "place") ∈ lw_all := lw_g (lw_at lw_m4 38 rfl) rfl
theorem q868 : (Jvm.Cond.lays "CardBowl$Wrong" "java/lang/Throwable" "depth" "I") ∈ lw_all := lw_g (lw_at lw_m4 39 rfl) rfl
theorem q869 : (Jvm.Cond.superclass "CardBowl$Wrong" "java/lang/Exception") ∈ lw_all := lw_g (lw_at lw_m4 40 rfl) rfl
theorem q1052 : (Jvm.Cond.selects "CardBowl$Wrong" ({ cls := "java/lang/Object", name := "getClass", desc := "()Ljava/lang/Class;" } : Jvm.MethodName) ({ cls := "java/lang/Object", name := "getClass", desc := "()Ljava/lang/Class;" } : Jvm.MethodName)) ∈ lw_all := lw_g (lw_at lw_m4 223 rfl) rfl
theorem q2288 : (Jvm.Cond.castable "CardBowl$Wrong" "java/lang/Object") ∈ lw_tbl := lw_at lw_m10 19 rfl
theorem in_X14 : ∀ w ∈ wsX140, w ∈ lw_all := lw_in wsX140 [846, 847, 848, 849, 850, 868, 864, 866] (by decide +kernel) (by decide +kernel)
/-! CardBowl$Rule -/
set_option maxRecDepth 100000
def RX15 : String := "CardBowl$Rule"
def TX15 : u_T := fun k => match k with
  | 0 => ("CardBowl$Rule", "paying", "I", true)
  | 1 => ("CardBowl$Rule", "owes", "I", true)
  | 2 => ("CardBowl$Rule", "within", "I", true)
  | _ => ("CardBowl$Rule", "tests", "Ljava/util/List;", true)
def tyX15 : Nat → FieldType := fun k => match k with
  | 0 => .int
  | 1 => .int
  | 2 => .int
  | _ => .object "java/util/List"
abbrev wsX150 : List Cond := u_ws RX15 TX15 4
theorem nmX15 : ∀ a, a < 4 → ∀ b, b < 4 → a ≠ b → (TX15 a).2.1 ≠ (TX15 b).2.1 := by decide +kernel
theorem tyX15_ok : ∀ k, k < 4 → parseFieldDescriptor (TX15 k).2.2.1 = some (tyX15 k) := by decide +kernel
abbrev cX15_init : ByteArray := prog_16_method_1_code
def yX15_init : MethodName := ⟨RX15, "<init>", "(III)V"⟩
def dkwX15_init_1 : List UInt8 := [181, 0, 22, 42, 29, 181, 0, 25, 177]
abbrev dktX15_init_1 : List UInt8 := dkwX15_init_1 ++ []
def dkwX15_init_0 : List UInt8 := [42, 183, 0, 1, 42, 187, 0, 7, 89, 5, 183, 0, 9, 181, 0, 12, 42, 27, 181, 0, 18, 42, 28]
abbrev dktX15_init_0 : List UInt8 := dkwX15_init_0 ++ dktX15_init_1
theorem dksX15_init_0 : cX15_init.data.toList.drop 0 = dktX15_init_0 := by decide +kernel
theorem dksX15_init_1 : cX15_init.data.toList.drop 23 = dktX15_init_1 := dk_seg dksX15_init_0 23 rfl rfl
theorem dX15_init_0 : decode cX15_init 0 = .ok (.aload_n 0, 1) := dk_42 (dk_at dksX15_init_0 0 rfl rfl)
theorem dX15_init_1 : decode cX15_init 1 = .ok (.invokespecial 1, 3) := dk_183 0 1 (dk_at dksX15_init_0 1 rfl rfl)
theorem dX15_init_4 : decode cX15_init 4 = .ok (.aload_n 0, 1) := dk_42 (dk_at dksX15_init_0 4 rfl rfl)
theorem dX15_init_5 : decode cX15_init 5 = .ok (.new 7, 3) := dk_187 0 7 (dk_at dksX15_init_0 5 rfl rfl)
theorem dX15_init_8 : decode cX15_init 8 = .ok (.dup, 1) := dk_89 (dk_at dksX15_init_0 8 rfl rfl)
theorem dX15_init_9 : decode cX15_init 9 = .ok (.iconst 2, 1) := dk_5 (dk_at dksX15_init_0 9 rfl rfl)
theorem dX15_init_10 : decode cX15_init 10 = .ok (.invokespecial 9, 3) := dk_183 0 9 (dk_at dksX15_init_0 10 rfl rfl)
theorem dX15_init_13 : decode cX15_init 13 = .ok (.putfield 12, 3) := dk_181 0 12 (dk_at dksX15_init_0 13 rfl rfl)
theorem dX15_init_16 : decode cX15_init 16 = .ok (.aload_n 0, 1) := dk_42 (dk_at dksX15_init_0 16 rfl rfl)
theorem dX15_init_17 : decode cX15_init 17 = .ok (.iload_n 1, 1) := dk_27 (dk_at dksX15_init_0 17 rfl rfl)
theorem dX15_init_18 : decode cX15_init 18 = .ok (.putfield 18, 3) := dk_181 0 18 (dk_at dksX15_init_0 18 rfl rfl)
theorem dX15_init_21 : decode cX15_init 21 = .ok (.aload_n 0, 1) := dk_42 (dk_at dksX15_init_0 21 rfl rfl)
theorem dX15_init_22 : decode cX15_init 22 = .ok (.iload_n 2, 1) := dk_28 (dk_at dksX15_init_0 22 rfl rfl)
theorem dX15_init_23 : decode cX15_init 23 = .ok (.putfield 22, 3) := dk_181 0 22 (dk_at dksX15_init_1 0 rfl rfl)
theorem dX15_init_26 : decode cX15_init 26 = .ok (.aload_n 0, 1) := dk_42 (dk_at dksX15_init_1 3 rfl rfl)
theorem dX15_init_27 : decode cX15_init 27 = .ok (.iload_n 3, 1) := dk_29 (dk_at dksX15_init_1 4 rfl rfl)
theorem dX15_init_28 : decode cX15_init 28 = .ok (.putfield 25, 3) := dk_181 0 25 (dk_at dksX15_init_1 5 rfl rfl)
theorem dX15_init_31 : decode cX15_init 31 = .ok (.return_, 1) := dk_177 (dk_at dksX15_init_1 8 rfl rfl)
abbrev cX15_holds : ByteArray := prog_16_method_2_code
def yX15_holds : MethodName := ⟨RX15, "holds", "(ILCardBowl$Asked;)Z"⟩
def dkwX15_holds_2 : List UInt8 := [192, 0, 38, 44, 182, 0, 40, 62, 132, 4, 1, 167, 255, 216, 29, 172]
abbrev dktX15_holds_2 : List UInt8 := dkwX15_holds_2 ++ []
def dkwX15_holds_1 : List UInt8 := [185, 0, 28, 1, 0, 162, 0, 32, 29, 153, 0, 28, 42, 180, 0, 12, 21, 4, 185, 0, 34, 2, 0]
abbrev dktX15_holds_1 : List UInt8 := dkwX15_holds_1 ++ dktX15_holds_2
def dkwX15_holds_0 : List UInt8 := [42, 180, 0, 18, 27, 160, 0, 7, 4, 167, 0, 4, 3, 62, 3, 54, 4, 21, 4, 42, 180, 0, 12]
abbrev dktX15_holds_0 : List UInt8 := dkwX15_holds_0 ++ dktX15_holds_1
theorem dksX15_holds_0 : cX15_holds.data.toList.drop 0 = dktX15_holds_0 := by decide +kernel
theorem dksX15_holds_1 : cX15_holds.data.toList.drop 23 = dktX15_holds_1 := dk_seg dksX15_holds_0 23 rfl rfl
theorem dksX15_holds_2 : cX15_holds.data.toList.drop 46 = dktX15_holds_2 := dk_seg dksX15_holds_1 23 rfl rfl
theorem dX15_holds_0 : decode cX15_holds 0 = .ok (.aload_n 0, 1) := dk_42 (dk_at dksX15_holds_0 0 rfl rfl)
theorem dX15_holds_1 : decode cX15_holds 1 = .ok (.getfield 18, 3) := dk_180 0 18 (dk_at dksX15_holds_0 1 rfl rfl)
theorem dX15_holds_4 : decode cX15_holds 4 = .ok (.iload_n 1, 1) := dk_27 (dk_at dksX15_holds_0 4 rfl rfl)
theorem dX15_holds_5 : decode cX15_holds 5 = .ok (.if_icmp .ne 7, 3) := dk_160 0 7 (dk_at dksX15_holds_0 5 rfl rfl)
theorem dX15_holds_8 : decode cX15_holds 8 = .ok (.iconst 1, 1) := dk_4 (dk_at dksX15_holds_0 8 rfl rfl)
theorem dX15_holds_9 : decode cX15_holds 9 = .ok (.goto 4, 3) := dk_167 0 4 (dk_at dksX15_holds_0 9 rfl rfl)
theorem dX15_holds_12 : decode cX15_holds 12 = .ok (.iconst 0, 1) := dk_3 (dk_at dksX15_holds_0 12 rfl rfl)
theorem dX15_holds_13 : decode cX15_holds 13 = .ok (.istore_n 3, 1) := dk_62 (dk_at dksX15_holds_0 13 rfl rfl)
theorem dX15_holds_14 : decode cX15_holds 14 = .ok (.iconst 0, 1) := dk_3 (dk_at dksX15_holds_0 14 rfl rfl)
theorem dX15_holds_15 : decode cX15_holds 15 = .ok (.istore 4, 2) := dk_54 4 (dk_at dksX15_holds_0 15 rfl rfl)
theorem dX15_holds_17 : decode cX15_holds 17 = .ok (.iload 4, 2) := dk_21 4 (dk_at dksX15_holds_0 17 rfl rfl)
theorem dX15_holds_19 : decode cX15_holds 19 = .ok (.aload_n 0, 1) := dk_42 (dk_at dksX15_holds_0 19 rfl rfl)
theorem dX15_holds_20 : decode cX15_holds 20 = .ok (.getfield 12, 3) := dk_180 0 12 (dk_at dksX15_holds_0 20 rfl rfl)
theorem dX15_holds_23 : decode cX15_holds 23 = .ok (.invokeinterface 28 1, 5) := by decide +kernel
theorem dX15_holds_28 : decode cX15_holds 28 = .ok (.if_icmp .ge 32, 3) := dk_162 0 32 (dk_at dksX15_holds_1 5 rfl rfl)
theorem dX15_holds_31 : decode cX15_holds 31 = .ok (.iload_n 3, 1) := dk_29 (dk_at dksX15_holds_1 8 rfl rfl)
theorem dX15_holds_32 : decode cX15_holds 32 = .ok (.ifCond .eq 28, 3) := dk_153 0 28 (dk_at dksX15_holds_1 9 rfl rfl)
theorem dX15_holds_35 : decode cX15_holds 35 = .ok (.aload_n 0, 1) := dk_42 (dk_at dksX15_holds_1 12 rfl rfl)
theorem dX15_holds_36 : decode cX15_holds 36 = .ok (.getfield 12, 3) := dk_180 0 12 (dk_at dksX15_holds_1 13 rfl rfl)
theorem dX15_holds_39 : decode cX15_holds 39 = .ok (.iload 4, 2) := dk_21 4 (dk_at dksX15_holds_1 16 rfl rfl)
theorem dX15_holds_41 : decode cX15_holds 41 = .ok (.invokeinterface 34 2, 5) := by decide +kernel
theorem dX15_holds_46 : decode cX15_holds 46 = .ok (.checkcast 38, 3) := dk_192 0 38 (dk_at dksX15_holds_2 0 rfl rfl)
theorem dX15_holds_49 : decode cX15_holds 49 = .ok (.aload_n 2, 1) := dk_44 (dk_at dksX15_holds_2 3 rfl rfl)
theorem dX15_holds_50 : decode cX15_holds 50 = .ok (.invokevirtual 40, 3) := dk_182 0 40 (dk_at dksX15_holds_2 4 rfl rfl)
theorem dX15_holds_53 : decode cX15_holds 53 = .ok (.istore_n 3, 1) := dk_62 (dk_at dksX15_holds_2 7 rfl rfl)
theorem dX15_holds_54 : decode cX15_holds 54 = .ok (.iinc 4 1, 3) := dk_132 4 1 (dk_at dksX15_holds_2 8 rfl rfl)
theorem dX15_holds_57 : decode cX15_holds 57 = .ok (.goto (-40), 3) := dk_167 255 216 (dk_at dksX15_holds_2 11 rfl rfl)
theorem dX15_holds_60 : decode cX15_holds 60 = .ok (.iload_n 3, 1) := dk_29 (dk_at dksX15_holds_2 14 rfl rfl)
theorem dX15_holds_61 : decode cX15_holds 61 = .ok (.ireturn, 1) := dk_172 (dk_at dksX15_holds_2 15 rfl rfl)
theorem q136 : (Jvm.Cond.initialized "CardBowl$Rule") ∈ lw_all := lw_g (lw_at lw_m1 27 rfl) rfl
theorem q888 : (Jvm.Cond.instantiable "CardBowl$Rule" (4 : Nat)) ∈ lw_all := lw_g (lw_at lw_m4 59 rfl) rfl
theorem q900 : (Jvm.Cond.instanceMethod ({ cls := "CardBowl$Rule", name := "<init>", desc := "(III)V" } : Jvm.MethodName)) ∈ lw_all := lw_g (lw_at lw_m4 71 rfl) rfl
theorem q901 : (Jvm.Cond.code ({ cls := "CardBowl$Rule", name := "<init>", desc := "(III)V" } : Jvm.MethodName) prog_16_method_1_code (4 : Nat) (Option.none : Option Jvm.ClassFile.FieldType)) ∈ lw_all := lw_g (lw_at lw_m4 72 rfl) rfl
theorem q902 : (Jvm.Cond.methodLink "CardBowl$Rule" (1 : Nat) ({ cls := "java/lang/Object", name := "<init>", desc := "()V" } : Jvm.MethodName)) ∈ lw_all := lw_g (lw_at lw_m4 73 rfl) rfl
theorem q903 : (Jvm.Cond.classLink "CardBowl$Rule" (7 : Nat) "java/util/ArrayList") ∈ lw_all := lw_g (lw_at lw_m4 74 rfl) rfl
theorem q904 : (Jvm.Cond.methodLink "CardBowl$Rule" (9 : Nat) ({ cls := "java/util/ArrayList", name := "<init>", desc := "(I)V" } : Jvm.MethodName)) ∈ lw_all := lw_g (lw_at lw_m4 75 rfl) rfl
theorem q905 : (Jvm.Cond.fieldLink "CardBowl$Rule" (18 : Nat) "CardBowl$Rule" "paying" "I") ∈ lw_all := lw_g (lw_at lw_m4 76 rfl) rfl
theorem q906 : (Jvm.Cond.fieldLink "CardBowl$Rule" (22 : Nat) "CardBowl$Rule" "owes" "I") ∈ lw_all := lw_g (lw_at lw_m4 77 rfl) rfl
theorem q909 : (Jvm.Cond.fieldLink "CardBowl$Rule" (25 : Nat) "CardBowl$Rule" "within" "I") ∈ lw_all := lw_g (lw_at lw_m4 80 rfl) rfl
theorem q911 : (Jvm.Cond.fieldLink "CardBowl$Rule" (12 : Nat) "CardBowl$Rule" "tests" "Ljava/util/List;") ∈ lw_all := lw_g (lw_at lw_m4 82 rfl) rfl
theorem q913 : (Jvm.Cond.laysFinal "CardBowl$Rule" "CardBowl$Rule" "paying" "I") ∈ lw_all := lw_g (lw_at lw_m4 84 rfl) rfl
theorem q914 : (Jvm.Cond.soleField "CardBowl$Rule" "paying") ∈ lw_all := lw_g (lw_at lw_m4 85 rfl) rfl
theorem q915 : (Jvm.Cond.laysFinal "CardBowl$Rule" "CardBowl$Rule" "owes" "I") ∈ lw_all := lw_g (lw_at lw_m4 86 rfl) rfl
theorem q916 : (Jvm.Cond.soleField "CardBowl$Rule" "owes") ∈ lw_all := lw_g (lw_at lw_m4 87 rfl) rfl
theorem q917 : (Jvm.Cond.laysFinal "CardBowl$Rule" "CardBowl$Rule" "within" "I") ∈ lw_all := lw_g (lw_at lw_m4 88 rfl) rfl
theorem q918 : (Jvm.Cond.soleField "CardBowl$Rule" "within") ∈ lw_all := lw_g (lw_at lw_m4 89 rfl) rfl
theorem q919 : (Jvm.Cond.laysFinal "CardBowl$Rule" "CardBowl$Rule" "tests" "Ljava/util/List;") ∈ lw_all := lw_g (lw_at lw_m4 90 rfl) rfl
theorem q920 : (Jvm.Cond.soleField "CardBowl$Rule" "tests") ∈ lw_all := lw_g (lw_at lw_m4 91 rfl) rfl
theorem q921 : (Jvm.Cond.superclass "CardBowl$Rule" "java/lang/Object") ∈ lw_all := lw_g (lw_at lw_m4 92 rfl) rfl
theorem q1046 : (Jvm.Cond.selects "CardBowl$Rule" ({ cls := "java/lang/Object", name := "getClass", desc := "()Ljava/lang/Class;" } : Jvm.MethodName) ({ cls := "java/lang/Object", name := "getClass", desc := "()Ljava/lang/Class;" } : Jvm.MethodName)) ∈ lw_all := lw_g (lw_at lw_m4 217 rfl) rfl
theorem q1320 : (Jvm.Cond.instanceMethod ({ cls := "CardBowl$Rule", name := "holds", desc := "(ILCardBowl$Asked;)Z" } : Jvm.MethodName)) ∈ lw_all := lw_g (lw_at lw_m6 11 rfl) rfl
theorem q1321 : (Jvm.Cond.selects "CardBowl$Rule" ({ cls := "CardBowl$Rule", name := "holds", desc := "(ILCardBowl$Asked;)Z" } : Jvm.MethodName) ({ cls := "CardBowl$Rule", name := "holds", desc := "(ILCardBowl$Asked;)Z" } : Jvm.MethodName)) ∈ lw_all := lw_g (lw_at lw_m6 12 rfl) rfl
theorem q1322 : (Jvm.Cond.code ({ cls := "CardBowl$Rule", name := "holds", desc := "(ILCardBowl$Asked;)Z" } : Jvm.MethodName) prog_16_method_2_code (5 : Nat) (Option.some Jvm.ClassFile.FieldType.boolean)) ∈ lw_all := lw_g (lw_at lw_m6 13 rfl) rfl
theorem q1323 : (Jvm.Cond.interfaceEntry "CardBowl$Rule" (28 : Nat)) ∈ lw_tbl := lw_at lw_m6 14 rfl
theorem q1324 : (Jvm.Cond.methodLink "CardBowl$Rule" (28 : Nat) ({ cls := "java/util/List", name := "size", desc := "()I" } : Jvm.MethodName)) ∈ lw_all := lw_g (lw_at lw_m6 15 rfl) rfl
theorem q1325 : (Jvm.Cond.interfaceEntry "CardBowl$Rule" (34 : Nat)) ∈ lw_tbl := lw_at lw_m6 16 rfl
theorem q1326 : (Jvm.Cond.methodLink "CardBowl$Rule" (34 : Nat) ({ cls := "java/util/List", name := "get", desc := "(I)Ljava/lang/Object;" } : Jvm.MethodName)) ∈ lw_all := lw_g (lw_at lw_m6 17 rfl) rfl
theorem q1327 : (Jvm.Cond.classLink "CardBowl$Rule" (38 : Nat) "CardBowl$Test") ∈ lw_all := lw_g (lw_at lw_m6 18 rfl) rfl
theorem q1328 : (Jvm.Cond.methodLink "CardBowl$Rule" (40 : Nat) ({ cls := "CardBowl$Test", name := "holds", desc := "(LCardBowl$Asked;)Z" } : Jvm.MethodName)) ∈ lw_all := lw_g (lw_at lw_m6 19 rfl) rfl
theorem q2289 : (Jvm.Cond.castable "CardBowl$Rule" "java/lang/Object") ∈ lw_tbl := lw_at lw_m10 20 rfl
theorem in_X15 : ∀ w ∈ wsX150, w ∈ lw_all := lw_in wsX150 [913, 915, 917, 919] (by decide +kernel) (by decide +kernel)
/-! CardBowl$Sum -/
set_option maxRecDepth 100000
def RX16 : String := "CardBowl$Sum"
abbrev cX16_init : ByteArray := prog_20_method_1_code
def yX16_init : MethodName := ⟨RX16, "<init>", "()V"⟩
theorem dX16_init_0 : decode cX16_init 0 = .ok (.aload_n 0, 1) := by decide +kernel
theorem dX16_init_1 : decode cX16_init 1 = .ok (.invokespecial 1, 3) := by decide +kernel
theorem dX16_init_4 : decode cX16_init 4 = .ok (.return_, 1) := by decide +kernel
theorem q137 : (Jvm.Cond.initialized "CardBowl$Sum") ∈ lw_all := lw_g (lw_at lw_m1 28 rfl) rfl
theorem q941 : (Jvm.Cond.instanceMethod ({ cls := "CardBowl$Sum", name := "<init>", desc := "()V" } : Jvm.MethodName)) ∈ lw_all := lw_g (lw_at lw_m4 112 rfl) rfl
theorem q942 : (Jvm.Cond.code ({ cls := "CardBowl$Sum", name := "<init>", desc := "()V" } : Jvm.MethodName) prog_20_method_1_code (1 : Nat) (Option.none : Option Jvm.ClassFile.FieldType)) ∈ lw_all := lw_g (lw_at lw_m4 113 rfl) rfl
theorem q943 : (Jvm.Cond.methodLink "CardBowl$Sum" (1 : Nat) ({ cls := "java/lang/Object", name := "<init>", desc := "()V" } : Jvm.MethodName)) ∈ lw_all := lw_g (lw_at lw_m4 114 rfl) rfl
theorem q1333 : (Jvm.Cond.declares ({ cls := "CardBowl$Sum", name := "of", desc := "(LCardBowl$Asked;)J" } : Jvm.MethodName)) ∈ lw_tbl := lw_at lw_m6 24 rfl
theorem q1334 : (Jvm.Cond.sameMethod "CardBowl$Sum" "CardBowl$Sum" "of" "(LCardBowl$Asked;)J") ∈ lw_all := lw_g (lw_at lw_m6 25 rfl) rfl
/-! CardBowl$Amount -/
set_option maxRecDepth 100000
def RX17 : String := "CardBowl$Amount"
def TX17 : u_T := fun k => match k with
  | _ => ("CardBowl$Amount", "number", "I", true)
def tyX17 : Nat → FieldType := fun k => match k with
  | _ => .int
abbrev wsX170 : List Cond := u_ws RX17 TX17 1
theorem nmX17 : ∀ a, a < 1 → ∀ b, b < 1 → a ≠ b → (TX17 a).2.1 ≠ (TX17 b).2.1 := by decide +kernel
theorem tyX17_ok : ∀ k, k < 1 → parseFieldDescriptor (TX17 k).2.2.1 = some (tyX17 k) := by decide +kernel
abbrev cX17_init : ByteArray := prog_3_method_1_code
def yX17_init : MethodName := ⟨RX17, "<init>", "(I)V"⟩
def dkwX17_init_0 : List UInt8 := [42, 183, 0, 1, 42, 27, 181, 0, 7, 177]
abbrev dktX17_init_0 : List UInt8 := dkwX17_init_0 ++ []
theorem dksX17_init_0 : cX17_init.data.toList.drop 0 = dktX17_init_0 := by decide +kernel
theorem dX17_init_0 : decode cX17_init 0 = .ok (.aload_n 0, 1) := dk_42 (dk_at dksX17_init_0 0 rfl rfl)
theorem dX17_init_1 : decode cX17_init 1 = .ok (.invokespecial 1, 3) := dk_183 0 1 (dk_at dksX17_init_0 1 rfl rfl)
theorem dX17_init_4 : decode cX17_init 4 = .ok (.aload_n 0, 1) := dk_42 (dk_at dksX17_init_0 4 rfl rfl)
theorem dX17_init_5 : decode cX17_init 5 = .ok (.iload_n 1, 1) := dk_27 (dk_at dksX17_init_0 5 rfl rfl)
theorem dX17_init_6 : decode cX17_init 6 = .ok (.putfield 7, 3) := dk_181 0 7 (dk_at dksX17_init_0 6 rfl rfl)
theorem dX17_init_9 : decode cX17_init 9 = .ok (.return_, 1) := dk_177 (dk_at dksX17_init_0 9 rfl rfl)
abbrev cX17_of : ByteArray := prog_3_method_2_code
def yX17_of : MethodName := ⟨RX17, "of", "(LCardBowl$Asked;)J"⟩
def dkwX17_of_0 : List UInt8 := [42, 180, 0, 7, 133, 173]
abbrev dktX17_of_0 : List UInt8 := dkwX17_of_0 ++ []
theorem dksX17_of_0 : cX17_of.data.toList.drop 0 = dktX17_of_0 := by decide +kernel
theorem dX17_of_0 : decode cX17_of 0 = .ok (.aload_n 0, 1) := dk_42 (dk_at dksX17_of_0 0 rfl rfl)
theorem dX17_of_1 : decode cX17_of 1 = .ok (.getfield 7, 3) := dk_180 0 7 (dk_at dksX17_of_0 1 rfl rfl)
theorem dX17_of_4 : decode cX17_of 4 = .ok (.i2l, 1) := dk_133 (dk_at dksX17_of_0 4 rfl rfl)
theorem dX17_of_5 : decode cX17_of 5 = .ok (.lreturn, 1) := dk_173 (dk_at dksX17_of_0 5 rfl rfl)
theorem q138 : (Jvm.Cond.initialized "CardBowl$Amount") ∈ lw_all := lw_g (lw_at lw_m1 29 rfl) rfl
theorem q936 : (Jvm.Cond.instantiable "CardBowl$Amount" (1 : Nat)) ∈ lw_all := lw_g (lw_at lw_m4 107 rfl) rfl
theorem q938 : (Jvm.Cond.instanceMethod ({ cls := "CardBowl$Amount", name := "<init>", desc := "(I)V" } : Jvm.MethodName)) ∈ lw_all := lw_g (lw_at lw_m4 109 rfl) rfl
theorem q939 : (Jvm.Cond.code ({ cls := "CardBowl$Amount", name := "<init>", desc := "(I)V" } : Jvm.MethodName) prog_3_method_1_code (2 : Nat) (Option.none : Option Jvm.ClassFile.FieldType)) ∈ lw_all := lw_g (lw_at lw_m4 110 rfl) rfl
theorem q940 : (Jvm.Cond.methodLinkNest "CardBowl$Amount" (1 : Nat) ({ cls := "CardBowl$Sum", name := "<init>", desc := "()V" } : Jvm.MethodName) "CardBowl") ∈ lw_tbl := lw_at lw_m4 111 rfl
theorem q944 : (Jvm.Cond.fieldLink "CardBowl$Amount" (7 : Nat) "CardBowl$Amount" "number" "I") ∈ lw_all := lw_g (lw_at lw_m4 115 rfl) rfl
theorem q945 : (Jvm.Cond.laysFinal "CardBowl$Amount" "CardBowl$Amount" "number" "I") ∈ lw_all := lw_g (lw_at lw_m4 116 rfl) rfl
theorem q946 : (Jvm.Cond.soleField "CardBowl$Amount" "number") ∈ lw_all := lw_g (lw_at lw_m4 117 rfl) rfl
theorem q947 : (Jvm.Cond.superclass "CardBowl$Amount" "CardBowl$Sum") ∈ lw_all := lw_g (lw_at lw_m4 118 rfl) rfl
theorem q1034 : (Jvm.Cond.selects "CardBowl$Amount" ({ cls := "java/lang/Object", name := "getClass", desc := "()Ljava/lang/Class;" } : Jvm.MethodName) ({ cls := "java/lang/Object", name := "getClass", desc := "()Ljava/lang/Class;" } : Jvm.MethodName)) ∈ lw_all := lw_g (lw_at lw_m4 205 rfl) rfl
theorem q1335 : (Jvm.Cond.selects "CardBowl$Amount" ({ cls := "CardBowl$Sum", name := "of", desc := "(LCardBowl$Asked;)J" } : Jvm.MethodName) ({ cls := "CardBowl$Amount", name := "of", desc := "(LCardBowl$Asked;)J" } : Jvm.MethodName)) ∈ lw_all := lw_g (lw_at lw_m6 26 rfl) rfl
theorem q1336 : (Jvm.Cond.instanceMethod ({ cls := "CardBowl$Amount", name := "of", desc := "(LCardBowl$Asked;)J" } : Jvm.MethodName)) ∈ lw_all := lw_g (lw_at lw_m6 27 rfl) rfl
theorem q1337 : (Jvm.Cond.code ({ cls := "CardBowl$Amount", name := "of", desc := "(LCardBowl$Asked;)J" } : Jvm.MethodName) prog_3_method_2_code (2 : Nat) (Option.some Jvm.ClassFile.FieldType.long)) ∈ lw_all := lw_g (lw_at lw_m6 28 rfl) rfl
theorem q2290 : (Jvm.Cond.castable "CardBowl$Amount" "java/lang/Object") ∈ lw_tbl := lw_at lw_m10 21 rfl
theorem in_X17 : ∀ w ∈ wsX170, w ∈ lw_all := lw_in wsX170 [945] (by decide +kernel) (by decide +kernel)
/-! CardBowl$Part -/
set_option maxRecDepth 100000
def RX18 : String := "CardBowl$Part"
def TX18 : u_T := fun k => match k with
  | _ => ("CardBowl$Part", "what", "I", true)
def tyX18 : Nat → FieldType := fun k => match k with
  | _ => .int
abbrev wsX180 : List Cond := u_ws RX18 TX18 1
theorem nmX18 : ∀ a, a < 1 → ∀ b, b < 1 → a ≠ b → (TX18 a).2.1 ≠ (TX18 b).2.1 := by decide +kernel
theorem tyX18_ok : ∀ k, k < 1 → parseFieldDescriptor (TX18 k).2.2.1 = some (tyX18 k) := by decide +kernel
abbrev cX18_init : ByteArray := prog_13_method_1_code
def yX18_init : MethodName := ⟨RX18, "<init>", "(I)V"⟩
def dkwX18_init_0 : List UInt8 := [42, 183, 0, 1, 42, 27, 181, 0, 7, 177]
abbrev dktX18_init_0 : List UInt8 := dkwX18_init_0 ++ []
theorem dksX18_init_0 : cX18_init.data.toList.drop 0 = dktX18_init_0 := by decide +kernel
theorem dX18_init_0 : decode cX18_init 0 = .ok (.aload_n 0, 1) := dk_42 (dk_at dksX18_init_0 0 rfl rfl)
theorem dX18_init_1 : decode cX18_init 1 = .ok (.invokespecial 1, 3) := dk_183 0 1 (dk_at dksX18_init_0 1 rfl rfl)
theorem dX18_init_4 : decode cX18_init 4 = .ok (.aload_n 0, 1) := dk_42 (dk_at dksX18_init_0 4 rfl rfl)
theorem dX18_init_5 : decode cX18_init 5 = .ok (.iload_n 1, 1) := dk_27 (dk_at dksX18_init_0 5 rfl rfl)
theorem dX18_init_6 : decode cX18_init 6 = .ok (.putfield 7, 3) := dk_181 0 7 (dk_at dksX18_init_0 6 rfl rfl)
theorem dX18_init_9 : decode cX18_init 9 = .ok (.return_, 1) := dk_177 (dk_at dksX18_init_0 9 rfl rfl)
abbrev cX18_of : ByteArray := prog_13_method_2_code
def yX18_of : MethodName := ⟨RX18, "of", "(LCardBowl$Asked;)J"⟩
def dkwX18_of_3 : List UInt8 := [43, 180, 0, 27, 133, 173]
abbrev dktX18_of_3 : List UInt8 := dkwX18_of_3 ++ []
def dkwX18_of_2 : List UInt8 := [43, 180, 0, 13, 133, 173, 43, 180, 0, 18, 133, 173, 43, 180, 0, 21, 133, 173, 43, 180, 0, 24, 133, 173]
abbrev dktX18_of_2 : List UInt8 := dkwX18_of_2 ++ dktX18_of_3
def dkwX18_of_1 : List UInt8 := [170, 0, 0, 0, 0, 0, 0, 56, 0, 0, 0, 0, 0, 0, 0, 3, 0, 0, 0, 32, 0, 0, 0, 38, 0, 0, 0, 44, 0, 0, 0, 50]
abbrev dktX18_of_1 : List UInt8 := dkwX18_of_1 ++ dktX18_of_2
def dkwX18_of_0 : List UInt8 := [42, 180, 0, 7]
abbrev dktX18_of_0 : List UInt8 := dkwX18_of_0 ++ dktX18_of_1
theorem dksX18_of_0 : cX18_of.data.toList.drop 0 = dktX18_of_0 := by decide +kernel
theorem dksX18_of_1 : cX18_of.data.toList.drop 4 = dktX18_of_1 := dk_seg dksX18_of_0 4 rfl rfl
theorem dksX18_of_2 : cX18_of.data.toList.drop 36 = dktX18_of_2 := dk_seg dksX18_of_1 32 rfl rfl
theorem dksX18_of_3 : cX18_of.data.toList.drop 60 = dktX18_of_3 := dk_seg dksX18_of_2 24 rfl rfl
theorem dX18_of_0 : decode cX18_of 0 = .ok (.aload_n 0, 1) := dk_42 (dk_at dksX18_of_0 0 rfl rfl)
theorem dX18_of_1 : decode cX18_of 1 = .ok (.getfield 7, 3) := dk_180 0 7 (dk_at dksX18_of_0 1 rfl rfl)
theorem dX18_of_4 : decode cX18_of 4 = .ok (.tableswitch 56 0 3 #[32, 38, 44, 50], 32) := by decide +kernel
theorem dX18_of_36 : decode cX18_of 36 = .ok (.aload_n 1, 1) := dk_43 (dk_at dksX18_of_2 0 rfl rfl)
theorem dX18_of_37 : decode cX18_of 37 = .ok (.getfield 13, 3) := dk_180 0 13 (dk_at dksX18_of_2 1 rfl rfl)
theorem dX18_of_40 : decode cX18_of 40 = .ok (.i2l, 1) := dk_133 (dk_at dksX18_of_2 4 rfl rfl)
theorem dX18_of_41 : decode cX18_of 41 = .ok (.lreturn, 1) := dk_173 (dk_at dksX18_of_2 5 rfl rfl)
theorem dX18_of_42 : decode cX18_of 42 = .ok (.aload_n 1, 1) := dk_43 (dk_at dksX18_of_2 6 rfl rfl)
theorem dX18_of_43 : decode cX18_of 43 = .ok (.getfield 18, 3) := dk_180 0 18 (dk_at dksX18_of_2 7 rfl rfl)
theorem dX18_of_46 : decode cX18_of 46 = .ok (.i2l, 1) := dk_133 (dk_at dksX18_of_2 10 rfl rfl)
theorem dX18_of_47 : decode cX18_of 47 = .ok (.lreturn, 1) := dk_173 (dk_at dksX18_of_2 11 rfl rfl)
theorem dX18_of_48 : decode cX18_of 48 = .ok (.aload_n 1, 1) := dk_43 (dk_at dksX18_of_2 12 rfl rfl)
theorem dX18_of_49 : decode cX18_of 49 = .ok (.getfield 21, 3) := dk_180 0 21 (dk_at dksX18_of_2 13 rfl rfl)
theorem dX18_of_52 : decode cX18_of 52 = .ok (.i2l, 1) := dk_133 (dk_at dksX18_of_2 16 rfl rfl)
theorem dX18_of_53 : decode cX18_of 53 = .ok (.lreturn, 1) := dk_173 (dk_at dksX18_of_2 17 rfl rfl)
theorem dX18_of_54 : decode cX18_of 54 = .ok (.aload_n 1, 1) := dk_43 (dk_at dksX18_of_2 18 rfl rfl)
theorem dX18_of_55 : decode cX18_of 55 = .ok (.getfield 24, 3) := dk_180 0 24 (dk_at dksX18_of_2 19 rfl rfl)
theorem dX18_of_58 : decode cX18_of 58 = .ok (.i2l, 1) := dk_133 (dk_at dksX18_of_2 22 rfl rfl)
theorem dX18_of_59 : decode cX18_of 59 = .ok (.lreturn, 1) := dk_173 (dk_at dksX18_of_2 23 rfl rfl)
theorem dX18_of_60 : decode cX18_of 60 = .ok (.aload_n 1, 1) := dk_43 (dk_at dksX18_of_3 0 rfl rfl)
theorem dX18_of_61 : decode cX18_of 61 = .ok (.getfield 27, 3) := dk_180 0 27 (dk_at dksX18_of_3 1 rfl rfl)
theorem dX18_of_64 : decode cX18_of 64 = .ok (.i2l, 1) := dk_133 (dk_at dksX18_of_3 4 rfl rfl)
theorem dX18_of_65 : decode cX18_of 65 = .ok (.lreturn, 1) := dk_173 (dk_at dksX18_of_3 5 rfl rfl)
theorem q139 : (Jvm.Cond.initialized "CardBowl$Part") ∈ lw_all := lw_g (lw_at lw_m1 30 rfl) rfl
theorem q443 : (Jvm.Cond.fieldLinkNest "CardBowl$Part" (13 : Nat) "CardBowl$Asked" "mine" "I" "CardBowl") ∈ lw_tbl := lw_at lw_m2 94 rfl
theorem q445 : (Jvm.Cond.fieldLinkNest "CardBowl$Part" (18 : Nat) "CardBowl$Asked" "theirs" "I" "CardBowl") ∈ lw_tbl := lw_at lw_m2 96 rfl
theorem q447 : (Jvm.Cond.fieldLinkNest "CardBowl$Part" (21 : Nat) "CardBowl$Asked" "debts" "I" "CardBowl") ∈ lw_tbl := lw_at lw_m2 98 rfl
theorem q449 : (Jvm.Cond.fieldLinkNest "CardBowl$Part" (24 : Nat) "CardBowl$Asked" "day" "I" "CardBowl") ∈ lw_tbl := lw_at lw_m2 100 rfl
theorem q451 : (Jvm.Cond.fieldLinkNest "CardBowl$Part" (27 : Nat) "CardBowl$Asked" "known" "I" "CardBowl") ∈ lw_tbl := lw_at lw_m2 102 rfl
theorem q949 : (Jvm.Cond.instantiable "CardBowl$Part" (1 : Nat)) ∈ lw_all := lw_g (lw_at lw_m4 120 rfl) rfl
theorem q951 : (Jvm.Cond.instanceMethod ({ cls := "CardBowl$Part", name := "<init>", desc := "(I)V" } : Jvm.MethodName)) ∈ lw_all := lw_g (lw_at lw_m4 122 rfl) rfl
theorem q952 : (Jvm.Cond.code ({ cls := "CardBowl$Part", name := "<init>", desc := "(I)V" } : Jvm.MethodName) prog_13_method_1_code (2 : Nat) (Option.none : Option Jvm.ClassFile.FieldType)) ∈ lw_all := lw_g (lw_at lw_m4 123 rfl) rfl
theorem q953 : (Jvm.Cond.methodLinkNest "CardBowl$Part" (1 : Nat) ({ cls := "CardBowl$Sum", name := "<init>", desc := "()V" } : Jvm.MethodName) "CardBowl") ∈ lw_tbl := lw_at lw_m4 124 rfl
theorem q954 : (Jvm.Cond.fieldLink "CardBowl$Part" (7 : Nat) "CardBowl$Part" "what" "I") ∈ lw_all := lw_g (lw_at lw_m4 125 rfl) rfl
theorem q955 : (Jvm.Cond.laysFinal "CardBowl$Part" "CardBowl$Part" "what" "I") ∈ lw_all := lw_g (lw_at lw_m4 126 rfl) rfl
theorem q956 : (Jvm.Cond.soleField "CardBowl$Part" "what") ∈ lw_all := lw_g (lw_at lw_m4 127 rfl) rfl
theorem q957 : (Jvm.Cond.superclass "CardBowl$Part" "CardBowl$Sum") ∈ lw_all := lw_g (lw_at lw_m4 128 rfl) rfl
theorem q1044 : (Jvm.Cond.selects "CardBowl$Part" ({ cls := "java/lang/Object", name := "getClass", desc := "()Ljava/lang/Class;" } : Jvm.MethodName) ({ cls := "java/lang/Object", name := "getClass", desc := "()Ljava/lang/Class;" } : Jvm.MethodName)) ∈ lw_all := lw_g (lw_at lw_m4 215 rfl) rfl
theorem q1342 : (Jvm.Cond.instanceMethod ({ cls := "CardBowl$Part", name := "of", desc := "(LCardBowl$Asked;)J" } : Jvm.MethodName)) ∈ lw_all := lw_g (lw_at lw_m6 33 rfl) rfl
theorem q1343 : (Jvm.Cond.code ({ cls := "CardBowl$Part", name := "of", desc := "(LCardBowl$Asked;)J" } : Jvm.MethodName) prog_13_method_2_code (2 : Nat) (Option.some Jvm.ClassFile.FieldType.long)) ∈ lw_all := lw_g (lw_at lw_m6 34 rfl) rfl
theorem q1350 : (Jvm.Cond.selects "CardBowl$Part" ({ cls := "CardBowl$Sum", name := "of", desc := "(LCardBowl$Asked;)J" } : Jvm.MethodName) ({ cls := "CardBowl$Part", name := "of", desc := "(LCardBowl$Asked;)J" } : Jvm.MethodName)) ∈ lw_all := lw_g (lw_at lw_m6 41 rfl) rfl
theorem q2291 : (Jvm.Cond.castable "CardBowl$Part" "java/lang/Object") ∈ lw_tbl := lw_at lw_m10 22 rfl
theorem in_X18 : ∀ w ∈ wsX180, w ∈ lw_all := lw_in wsX180 [955] (by decide +kernel) (by decide +kernel)
/-! CardBowl$Joined -/
set_option maxRecDepth 100000
def RX19 : String := "CardBowl$Joined"
def TX19 : u_T := fun k => match k with
  | 0 => ("CardBowl$Joined", "one", "LCardBowl$Sum;", true)
  | 1 => ("CardBowl$Joined", "other", "LCardBowl$Sum;", true)
  | _ => ("CardBowl$Joined", "sign", "I", true)
def tyX19 : Nat → FieldType := fun k => match k with
  | 0 => .object "CardBowl$Sum"
  | 1 => .object "CardBowl$Sum"
  | _ => .int
abbrev wsX190 : List Cond := u_ws RX19 TX19 3
theorem nmX19 : ∀ a, a < 3 → ∀ b, b < 3 → a ≠ b → (TX19 a).2.1 ≠ (TX19 b).2.1 := by decide +kernel
theorem tyX19_ok : ∀ k, k < 3 → parseFieldDescriptor (TX19 k).2.2.1 = some (tyX19 k) := by decide +kernel
abbrev cX19_init : ByteArray := prog_11_method_1_code
def yX19_init : MethodName := ⟨RX19, "<init>", "(LCardBowl$Sum;ILCardBowl$Sum;)V"⟩
def dkwX19_init_0 : List UInt8 := [42, 183, 0, 1, 42, 43, 181, 0, 7, 42, 28, 181, 0, 13, 42, 45, 181, 0, 17, 177]
abbrev dktX19_init_0 : List UInt8 := dkwX19_init_0 ++ []
theorem dksX19_init_0 : cX19_init.data.toList.drop 0 = dktX19_init_0 := by decide +kernel
theorem dX19_init_0 : decode cX19_init 0 = .ok (.aload_n 0, 1) := dk_42 (dk_at dksX19_init_0 0 rfl rfl)
theorem dX19_init_1 : decode cX19_init 1 = .ok (.invokespecial 1, 3) := dk_183 0 1 (dk_at dksX19_init_0 1 rfl rfl)
theorem dX19_init_4 : decode cX19_init 4 = .ok (.aload_n 0, 1) := dk_42 (dk_at dksX19_init_0 4 rfl rfl)
theorem dX19_init_5 : decode cX19_init 5 = .ok (.aload_n 1, 1) := dk_43 (dk_at dksX19_init_0 5 rfl rfl)
theorem dX19_init_6 : decode cX19_init 6 = .ok (.putfield 7, 3) := dk_181 0 7 (dk_at dksX19_init_0 6 rfl rfl)
theorem dX19_init_9 : decode cX19_init 9 = .ok (.aload_n 0, 1) := dk_42 (dk_at dksX19_init_0 9 rfl rfl)
theorem dX19_init_10 : decode cX19_init 10 = .ok (.iload_n 2, 1) := dk_28 (dk_at dksX19_init_0 10 rfl rfl)
theorem dX19_init_11 : decode cX19_init 11 = .ok (.putfield 13, 3) := dk_181 0 13 (dk_at dksX19_init_0 11 rfl rfl)
theorem dX19_init_14 : decode cX19_init 14 = .ok (.aload_n 0, 1) := dk_42 (dk_at dksX19_init_0 14 rfl rfl)
theorem dX19_init_15 : decode cX19_init 15 = .ok (.aload_n 3, 1) := dk_45 (dk_at dksX19_init_0 15 rfl rfl)
theorem dX19_init_16 : decode cX19_init 16 = .ok (.putfield 17, 3) := dk_181 0 17 (dk_at dksX19_init_0 16 rfl rfl)
theorem dX19_init_19 : decode cX19_init 19 = .ok (.return_, 1) := dk_177 (dk_at dksX19_init_0 19 rfl rfl)
abbrev cX19_of : ByteArray := prog_11_method_2_code
def yX19_of : MethodName := ⟨RX19, "of", "(LCardBowl$Asked;)J"⟩
def dkwX19_of_2 : List UInt8 := [167, 0, 7, 32, 22, 4, 105, 182, 0, 24, 173]
abbrev dktX19_of_2 : List UInt8 := dkwX19_of_2 ++ []
def dkwX19_of_1 : List UInt8 := [154, 0, 10, 32, 22, 4, 97, 167, 0, 22, 42, 180, 0, 13, 4, 160, 0, 10, 32, 22, 4, 101]
abbrev dktX19_of_1 : List UInt8 := dkwX19_of_1 ++ dktX19_of_2
def dkwX19_of_0 : List UInt8 := [42, 180, 0, 7, 43, 182, 0, 20, 65, 42, 180, 0, 17, 43, 182, 0, 20, 55, 4, 43, 42, 180, 0, 13]
abbrev dktX19_of_0 : List UInt8 := dkwX19_of_0 ++ dktX19_of_1
theorem dksX19_of_0 : cX19_of.data.toList.drop 0 = dktX19_of_0 := by decide +kernel
theorem dksX19_of_1 : cX19_of.data.toList.drop 24 = dktX19_of_1 := dk_seg dksX19_of_0 24 rfl rfl
theorem dksX19_of_2 : cX19_of.data.toList.drop 46 = dktX19_of_2 := dk_seg dksX19_of_1 22 rfl rfl
theorem dX19_of_0 : decode cX19_of 0 = .ok (.aload_n 0, 1) := dk_42 (dk_at dksX19_of_0 0 rfl rfl)
theorem dX19_of_1 : decode cX19_of 1 = .ok (.getfield 7, 3) := dk_180 0 7 (dk_at dksX19_of_0 1 rfl rfl)
theorem dX19_of_4 : decode cX19_of 4 = .ok (.aload_n 1, 1) := dk_43 (dk_at dksX19_of_0 4 rfl rfl)
theorem dX19_of_5 : decode cX19_of 5 = .ok (.invokevirtual 20, 3) := dk_182 0 20 (dk_at dksX19_of_0 5 rfl rfl)
theorem dX19_of_8 : decode cX19_of 8 = .ok (.lstore_n 2, 1) := dk_65 (dk_at dksX19_of_0 8 rfl rfl)
theorem dX19_of_9 : decode cX19_of 9 = .ok (.aload_n 0, 1) := dk_42 (dk_at dksX19_of_0 9 rfl rfl)
theorem dX19_of_10 : decode cX19_of 10 = .ok (.getfield 17, 3) := dk_180 0 17 (dk_at dksX19_of_0 10 rfl rfl)
theorem dX19_of_13 : decode cX19_of 13 = .ok (.aload_n 1, 1) := dk_43 (dk_at dksX19_of_0 13 rfl rfl)
theorem dX19_of_14 : decode cX19_of 14 = .ok (.invokevirtual 20, 3) := dk_182 0 20 (dk_at dksX19_of_0 14 rfl rfl)
theorem dX19_of_17 : decode cX19_of 17 = .ok (.lstore 4, 2) := dk_55 4 (dk_at dksX19_of_0 17 rfl rfl)
theorem dX19_of_19 : decode cX19_of 19 = .ok (.aload_n 1, 1) := dk_43 (dk_at dksX19_of_0 19 rfl rfl)
theorem dX19_of_20 : decode cX19_of 20 = .ok (.aload_n 0, 1) := dk_42 (dk_at dksX19_of_0 20 rfl rfl)
theorem dX19_of_21 : decode cX19_of 21 = .ok (.getfield 13, 3) := dk_180 0 13 (dk_at dksX19_of_0 21 rfl rfl)
theorem dX19_of_24 : decode cX19_of 24 = .ok (.ifCond .ne 10, 3) := dk_154 0 10 (dk_at dksX19_of_1 0 rfl rfl)
theorem dX19_of_27 : decode cX19_of 27 = .ok (.lload_n 2, 1) := dk_32 (dk_at dksX19_of_1 3 rfl rfl)
theorem dX19_of_28 : decode cX19_of 28 = .ok (.lload 4, 2) := dk_22 4 (dk_at dksX19_of_1 4 rfl rfl)
theorem dX19_of_30 : decode cX19_of 30 = .ok (.ladd, 1) := dk_97 (dk_at dksX19_of_1 6 rfl rfl)
theorem dX19_of_31 : decode cX19_of 31 = .ok (.goto 22, 3) := dk_167 0 22 (dk_at dksX19_of_1 7 rfl rfl)
theorem dX19_of_34 : decode cX19_of 34 = .ok (.aload_n 0, 1) := dk_42 (dk_at dksX19_of_1 10 rfl rfl)
theorem dX19_of_35 : decode cX19_of 35 = .ok (.getfield 13, 3) := dk_180 0 13 (dk_at dksX19_of_1 11 rfl rfl)
theorem dX19_of_38 : decode cX19_of 38 = .ok (.iconst 1, 1) := dk_4 (dk_at dksX19_of_1 14 rfl rfl)
theorem dX19_of_39 : decode cX19_of 39 = .ok (.if_icmp .ne 10, 3) := dk_160 0 10 (dk_at dksX19_of_1 15 rfl rfl)
theorem dX19_of_42 : decode cX19_of 42 = .ok (.lload_n 2, 1) := dk_32 (dk_at dksX19_of_1 18 rfl rfl)
theorem dX19_of_43 : decode cX19_of 43 = .ok (.lload 4, 2) := dk_22 4 (dk_at dksX19_of_1 19 rfl rfl)
theorem dX19_of_45 : decode cX19_of 45 = .ok (.lsub, 1) := dk_101 (dk_at dksX19_of_1 21 rfl rfl)
theorem dX19_of_46 : decode cX19_of 46 = .ok (.goto 7, 3) := dk_167 0 7 (dk_at dksX19_of_2 0 rfl rfl)
theorem dX19_of_49 : decode cX19_of 49 = .ok (.lload_n 2, 1) := dk_32 (dk_at dksX19_of_2 3 rfl rfl)
theorem dX19_of_50 : decode cX19_of 50 = .ok (.lload 4, 2) := dk_22 4 (dk_at dksX19_of_2 4 rfl rfl)
theorem dX19_of_52 : decode cX19_of 52 = .ok (.lmul, 1) := dk_105 (dk_at dksX19_of_2 6 rfl rfl)
theorem dX19_of_53 : decode cX19_of 53 = .ok (.invokevirtual 24, 3) := dk_182 0 24 (dk_at dksX19_of_2 7 rfl rfl)
theorem dX19_of_56 : decode cX19_of 56 = .ok (.lreturn, 1) := dk_173 (dk_at dksX19_of_2 10 rfl rfl)
theorem q140 : (Jvm.Cond.initialized "CardBowl$Joined") ∈ lw_all := lw_g (lw_at lw_m1 31 rfl) rfl
theorem q960 : (Jvm.Cond.instantiable "CardBowl$Joined" (3 : Nat)) ∈ lw_all := lw_g (lw_at lw_m4 131 rfl) rfl
theorem q962 : (Jvm.Cond.instanceMethod ({ cls := "CardBowl$Joined", name := "<init>", desc := "(LCardBowl$Sum;ILCardBowl$Sum;)V" } : Jvm.MethodName)) ∈ lw_all := lw_g (lw_at lw_m4 133 rfl) rfl
theorem q963 : (Jvm.Cond.code ({ cls := "CardBowl$Joined", name := "<init>", desc := "(LCardBowl$Sum;ILCardBowl$Sum;)V" } : Jvm.MethodName) prog_11_method_1_code (4 : Nat) (Option.none : Option Jvm.ClassFile.FieldType)) ∈ lw_all := lw_g (lw_at lw_m4 134 rfl) rfl
theorem q964 : (Jvm.Cond.methodLinkNest "CardBowl$Joined" (1 : Nat) ({ cls := "CardBowl$Sum", name := "<init>", desc := "()V" } : Jvm.MethodName) "CardBowl") ∈ lw_tbl := lw_at lw_m4 135 rfl
theorem q965 : (Jvm.Cond.fieldLink "CardBowl$Joined" (7 : Nat) "CardBowl$Joined" "one" "LCardBowl$Sum;") ∈ lw_all := lw_g (lw_at lw_m4 136 rfl) rfl
theorem q966 : (Jvm.Cond.fieldLink "CardBowl$Joined" (17 : Nat) "CardBowl$Joined" "other" "LCardBowl$Sum;") ∈ lw_all := lw_g (lw_at lw_m4 137 rfl) rfl
theorem q967 : (Jvm.Cond.fieldLink "CardBowl$Joined" (13 : Nat) "CardBowl$Joined" "sign" "I") ∈ lw_all := lw_g (lw_at lw_m4 138 rfl) rfl
theorem q968 : (Jvm.Cond.laysFinal "CardBowl$Joined" "CardBowl$Joined" "one" "LCardBowl$Sum;") ∈ lw_all := lw_g (lw_at lw_m4 139 rfl) rfl
theorem q969 : (Jvm.Cond.soleField "CardBowl$Joined" "one") ∈ lw_all := lw_g (lw_at lw_m4 140 rfl) rfl
theorem q970 : (Jvm.Cond.laysFinal "CardBowl$Joined" "CardBowl$Joined" "other" "LCardBowl$Sum;") ∈ lw_all := lw_g (lw_at lw_m4 141 rfl) rfl
theorem q971 : (Jvm.Cond.soleField "CardBowl$Joined" "other") ∈ lw_all := lw_g (lw_at lw_m4 142 rfl) rfl
theorem q972 : (Jvm.Cond.laysFinal "CardBowl$Joined" "CardBowl$Joined" "sign" "I") ∈ lw_all := lw_g (lw_at lw_m4 143 rfl) rfl
theorem q973 : (Jvm.Cond.soleField "CardBowl$Joined" "sign") ∈ lw_all := lw_g (lw_at lw_m4 144 rfl) rfl
theorem q974 : (Jvm.Cond.superclass "CardBowl$Joined" "CardBowl$Sum") ∈ lw_all := lw_g (lw_at lw_m4 145 rfl) rfl
theorem q1042 : (Jvm.Cond.selects "CardBowl$Joined" ({ cls := "java/lang/Object", name := "getClass", desc := "()Ljava/lang/Class;" } : Jvm.MethodName) ({ cls := "java/lang/Object", name := "getClass", desc := "()Ljava/lang/Class;" } : Jvm.MethodName)) ∈ lw_all := lw_g (lw_at lw_m4 213 rfl) rfl
theorem q1338 : (Jvm.Cond.selects "CardBowl$Joined" ({ cls := "CardBowl$Sum", name := "of", desc := "(LCardBowl$Asked;)J" } : Jvm.MethodName) ({ cls := "CardBowl$Joined", name := "of", desc := "(LCardBowl$Asked;)J" } : Jvm.MethodName)) ∈ lw_all := lw_g (lw_at lw_m6 29 rfl) rfl
theorem q1339 : (Jvm.Cond.instanceMethod ({ cls := "CardBowl$Joined", name := "of", desc := "(LCardBowl$Asked;)J" } : Jvm.MethodName)) ∈ lw_all := lw_g (lw_at lw_m6 30 rfl) rfl
theorem q1340 : (Jvm.Cond.code ({ cls := "CardBowl$Joined", name := "of", desc := "(LCardBowl$Asked;)J" } : Jvm.MethodName) prog_11_method_2_code (6 : Nat) (Option.some Jvm.ClassFile.FieldType.long)) ∈ lw_all := lw_g (lw_at lw_m6 31 rfl) rfl
theorem q1341 : (Jvm.Cond.methodLink "CardBowl$Joined" (20 : Nat) ({ cls := "CardBowl$Sum", name := "of", desc := "(LCardBowl$Asked;)J" } : Jvm.MethodName)) ∈ lw_all := lw_g (lw_at lw_m6 32 rfl) rfl
theorem q1344 : (Jvm.Cond.methodLink "CardBowl$Joined" (24 : Nat) ({ cls := "CardBowl$Asked", name := "within", desc := "(J)J" } : Jvm.MethodName)) ∈ lw_all := lw_g (lw_at lw_m6 35 rfl) rfl
theorem q2292 : (Jvm.Cond.castable "CardBowl$Joined" "java/lang/Object") ∈ lw_tbl := lw_at lw_m10 23 rfl
theorem in_X19 : ∀ w ∈ wsX190, w ∈ lw_all := lw_in wsX190 [968, 970, 972] (by decide +kernel) (by decide +kernel)
/-! CardBowl$Test -/
set_option maxRecDepth 100000
def RX20 : String := "CardBowl$Test"
def TX20 : u_T := fun k => match k with
  | 0 => ("CardBowl$Test", "one", "LCardBowl$Sum;", true)
  | 1 => ("CardBowl$Test", "other", "LCardBowl$Sum;", true)
  | _ => ("CardBowl$Test", "sign", "I", true)
def tyX20 : Nat → FieldType := fun k => match k with
  | 0 => .object "CardBowl$Sum"
  | 1 => .object "CardBowl$Sum"
  | _ => .int
abbrev wsX200 : List Cond := u_ws RX20 TX20 3
theorem nmX20 : ∀ a, a < 3 → ∀ b, b < 3 → a ≠ b → (TX20 a).2.1 ≠ (TX20 b).2.1 := by decide +kernel
theorem tyX20_ok : ∀ k, k < 3 → parseFieldDescriptor (TX20 k).2.2.1 = some (tyX20 k) := by decide +kernel
abbrev cX20_init : ByteArray := prog_21_method_1_code
def yX20_init : MethodName := ⟨RX20, "<init>", "(LCardBowl$Sum;ILCardBowl$Sum;)V"⟩
def dkwX20_init_0 : List UInt8 := [42, 183, 0, 1, 42, 43, 181, 0, 7, 42, 28, 181, 0, 13, 42, 45, 181, 0, 17, 177]
abbrev dktX20_init_0 : List UInt8 := dkwX20_init_0 ++ []
theorem dksX20_init_0 : cX20_init.data.toList.drop 0 = dktX20_init_0 := by decide +kernel
theorem dX20_init_0 : decode cX20_init 0 = .ok (.aload_n 0, 1) := dk_42 (dk_at dksX20_init_0 0 rfl rfl)
theorem dX20_init_1 : decode cX20_init 1 = .ok (.invokespecial 1, 3) := dk_183 0 1 (dk_at dksX20_init_0 1 rfl rfl)
theorem dX20_init_4 : decode cX20_init 4 = .ok (.aload_n 0, 1) := dk_42 (dk_at dksX20_init_0 4 rfl rfl)
theorem dX20_init_5 : decode cX20_init 5 = .ok (.aload_n 1, 1) := dk_43 (dk_at dksX20_init_0 5 rfl rfl)
theorem dX20_init_6 : decode cX20_init 6 = .ok (.putfield 7, 3) := dk_181 0 7 (dk_at dksX20_init_0 6 rfl rfl)
theorem dX20_init_9 : decode cX20_init 9 = .ok (.aload_n 0, 1) := dk_42 (dk_at dksX20_init_0 9 rfl rfl)
theorem dX20_init_10 : decode cX20_init 10 = .ok (.iload_n 2, 1) := dk_28 (dk_at dksX20_init_0 10 rfl rfl)
theorem dX20_init_11 : decode cX20_init 11 = .ok (.putfield 13, 3) := dk_181 0 13 (dk_at dksX20_init_0 11 rfl rfl)
theorem dX20_init_14 : decode cX20_init 14 = .ok (.aload_n 0, 1) := dk_42 (dk_at dksX20_init_0 14 rfl rfl)
theorem dX20_init_15 : decode cX20_init 15 = .ok (.aload_n 3, 1) := dk_45 (dk_at dksX20_init_0 15 rfl rfl)
theorem dX20_init_16 : decode cX20_init 16 = .ok (.putfield 17, 3) := dk_181 0 17 (dk_at dksX20_init_0 16 rfl rfl)
theorem dX20_init_19 : decode cX20_init 19 = .ok (.return_, 1) := dk_177 (dk_at dksX20_init_0 19 rfl rfl)
abbrev cX20_holds : ByteArray := prog_21_method_2_code
def yX20_holds : MethodName := ⟨RX20, "holds", "(LCardBowl$Asked;)Z"⟩
def dkwX20_holds_3 : List UInt8 := [154, 0, 7, 4, 167, 0, 4, 3, 172]
abbrev dktX20_holds_3 : List UInt8 := dkwX20_holds_3 ++ []
def dkwX20_holds_2 : List UInt8 := [42, 180, 0, 13, 4, 160, 0, 13, 32, 22, 4, 148, 156, 0, 17, 167, 0, 10, 32, 22, 4, 148]
abbrev dktX20_holds_2 : List UInt8 := dkwX20_holds_2 ++ dktX20_holds_3
def dkwX20_holds_1 : List UInt8 := [43, 180, 0, 20, 154, 0, 49, 42, 180, 0, 13, 154, 0, 13, 32, 22, 4, 148, 158, 0, 35, 167, 0, 28]
abbrev dktX20_holds_1 : List UInt8 := dkwX20_holds_1 ++ dktX20_holds_2
def dkwX20_holds_0 : List UInt8 := [43, 3, 181, 0, 20, 42, 180, 0, 7, 43, 182, 0, 26, 65, 42, 180, 0, 17, 43, 182, 0, 26, 55, 4]
abbrev dktX20_holds_0 : List UInt8 := dkwX20_holds_0 ++ dktX20_holds_1
theorem dksX20_holds_0 : cX20_holds.data.toList.drop 0 = dktX20_holds_0 := by decide +kernel
theorem dksX20_holds_1 : cX20_holds.data.toList.drop 24 = dktX20_holds_1 := dk_seg dksX20_holds_0 24 rfl rfl
theorem dksX20_holds_2 : cX20_holds.data.toList.drop 48 = dktX20_holds_2 := dk_seg dksX20_holds_1 24 rfl rfl
theorem dksX20_holds_3 : cX20_holds.data.toList.drop 70 = dktX20_holds_3 := dk_seg dksX20_holds_2 22 rfl rfl
theorem dX20_holds_0 : decode cX20_holds 0 = .ok (.aload_n 1, 1) := dk_43 (dk_at dksX20_holds_0 0 rfl rfl)
theorem dX20_holds_1 : decode cX20_holds 1 = .ok (.iconst 0, 1) := dk_3 (dk_at dksX20_holds_0 1 rfl rfl)
theorem dX20_holds_2 : decode cX20_holds 2 = .ok (.putfield 20, 3) := dk_181 0 20 (dk_at dksX20_holds_0 2 rfl rfl)
theorem dX20_holds_5 : decode cX20_holds 5 = .ok (.aload_n 0, 1) := dk_42 (dk_at dksX20_holds_0 5 rfl rfl)
theorem dX20_holds_6 : decode cX20_holds 6 = .ok (.getfield 7, 3) := dk_180 0 7 (dk_at dksX20_holds_0 6 rfl rfl)
theorem dX20_holds_9 : decode cX20_holds 9 = .ok (.aload_n 1, 1) := dk_43 (dk_at dksX20_holds_0 9 rfl rfl)
theorem dX20_holds_10 : decode cX20_holds 10 = .ok (.invokevirtual 26, 3) := dk_182 0 26 (dk_at dksX20_holds_0 10 rfl rfl)
theorem dX20_holds_13 : decode cX20_holds 13 = .ok (.lstore_n 2, 1) := dk_65 (dk_at dksX20_holds_0 13 rfl rfl)
theorem dX20_holds_14 : decode cX20_holds 14 = .ok (.aload_n 0, 1) := dk_42 (dk_at dksX20_holds_0 14 rfl rfl)
theorem dX20_holds_15 : decode cX20_holds 15 = .ok (.getfield 17, 3) := dk_180 0 17 (dk_at dksX20_holds_0 15 rfl rfl)
theorem dX20_holds_18 : decode cX20_holds 18 = .ok (.aload_n 1, 1) := dk_43 (dk_at dksX20_holds_0 18 rfl rfl)
theorem dX20_holds_19 : decode cX20_holds 19 = .ok (.invokevirtual 26, 3) := dk_182 0 26 (dk_at dksX20_holds_0 19 rfl rfl)
theorem dX20_holds_22 : decode cX20_holds 22 = .ok (.lstore 4, 2) := dk_55 4 (dk_at dksX20_holds_0 22 rfl rfl)
theorem dX20_holds_24 : decode cX20_holds 24 = .ok (.aload_n 1, 1) := dk_43 (dk_at dksX20_holds_1 0 rfl rfl)
theorem dX20_holds_25 : decode cX20_holds 25 = .ok (.getfield 20, 3) := dk_180 0 20 (dk_at dksX20_holds_1 1 rfl rfl)
theorem dX20_holds_28 : decode cX20_holds 28 = .ok (.ifCond .ne 49, 3) := dk_154 0 49 (dk_at dksX20_holds_1 4 rfl rfl)
theorem dX20_holds_31 : decode cX20_holds 31 = .ok (.aload_n 0, 1) := dk_42 (dk_at dksX20_holds_1 7 rfl rfl)
theorem dX20_holds_32 : decode cX20_holds 32 = .ok (.getfield 13, 3) := dk_180 0 13 (dk_at dksX20_holds_1 8 rfl rfl)
theorem dX20_holds_35 : decode cX20_holds 35 = .ok (.ifCond .ne 13, 3) := dk_154 0 13 (dk_at dksX20_holds_1 11 rfl rfl)
theorem dX20_holds_38 : decode cX20_holds 38 = .ok (.lload_n 2, 1) := dk_32 (dk_at dksX20_holds_1 14 rfl rfl)
theorem dX20_holds_39 : decode cX20_holds 39 = .ok (.lload 4, 2) := dk_22 4 (dk_at dksX20_holds_1 15 rfl rfl)
theorem dX20_holds_41 : decode cX20_holds 41 = .ok (.lcmp, 1) := dk_148 (dk_at dksX20_holds_1 17 rfl rfl)
theorem dX20_holds_42 : decode cX20_holds 42 = .ok (.ifCond .le 35, 3) := dk_158 0 35 (dk_at dksX20_holds_1 18 rfl rfl)
theorem dX20_holds_45 : decode cX20_holds 45 = .ok (.goto 28, 3) := dk_167 0 28 (dk_at dksX20_holds_1 21 rfl rfl)
theorem dX20_holds_48 : decode cX20_holds 48 = .ok (.aload_n 0, 1) := dk_42 (dk_at dksX20_holds_2 0 rfl rfl)
theorem dX20_holds_49 : decode cX20_holds 49 = .ok (.getfield 13, 3) := dk_180 0 13 (dk_at dksX20_holds_2 1 rfl rfl)
theorem dX20_holds_52 : decode cX20_holds 52 = .ok (.iconst 1, 1) := dk_4 (dk_at dksX20_holds_2 4 rfl rfl)
theorem dX20_holds_53 : decode cX20_holds 53 = .ok (.if_icmp .ne 13, 3) := dk_160 0 13 (dk_at dksX20_holds_2 5 rfl rfl)
theorem dX20_holds_56 : decode cX20_holds 56 = .ok (.lload_n 2, 1) := dk_32 (dk_at dksX20_holds_2 8 rfl rfl)
theorem dX20_holds_57 : decode cX20_holds 57 = .ok (.lload 4, 2) := dk_22 4 (dk_at dksX20_holds_2 9 rfl rfl)
theorem dX20_holds_59 : decode cX20_holds 59 = .ok (.lcmp, 1) := dk_148 (dk_at dksX20_holds_2 11 rfl rfl)
theorem dX20_holds_60 : decode cX20_holds 60 = .ok (.ifCond .ge 17, 3) := dk_156 0 17 (dk_at dksX20_holds_2 12 rfl rfl)
theorem dX20_holds_63 : decode cX20_holds 63 = .ok (.goto 10, 3) := dk_167 0 10 (dk_at dksX20_holds_2 15 rfl rfl)
theorem dX20_holds_66 : decode cX20_holds 66 = .ok (.lload_n 2, 1) := dk_32 (dk_at dksX20_holds_2 18 rfl rfl)
theorem dX20_holds_67 : decode cX20_holds 67 = .ok (.lload 4, 2) := dk_22 4 (dk_at dksX20_holds_2 19 rfl rfl)
theorem dX20_holds_69 : decode cX20_holds 69 = .ok (.lcmp, 1) := dk_148 (dk_at dksX20_holds_2 21 rfl rfl)
theorem dX20_holds_70 : decode cX20_holds 70 = .ok (.ifCond .ne 7, 3) := dk_154 0 7 (dk_at dksX20_holds_3 0 rfl rfl)
theorem dX20_holds_73 : decode cX20_holds 73 = .ok (.iconst 1, 1) := dk_4 (dk_at dksX20_holds_3 3 rfl rfl)
theorem dX20_holds_74 : decode cX20_holds 74 = .ok (.goto 4, 3) := dk_167 0 4 (dk_at dksX20_holds_3 4 rfl rfl)
theorem dX20_holds_77 : decode cX20_holds 77 = .ok (.iconst 0, 1) := dk_3 (dk_at dksX20_holds_3 7 rfl rfl)
theorem dX20_holds_78 : decode cX20_holds 78 = .ok (.ireturn, 1) := dk_172 (dk_at dksX20_holds_3 8 rfl rfl)
theorem q141 : (Jvm.Cond.initialized "CardBowl$Test") ∈ lw_all := lw_g (lw_at lw_m1 32 rfl) rfl
theorem q453 : (Jvm.Cond.fieldLinkNest "CardBowl$Test" (20 : Nat) "CardBowl$Asked" "isBroken" "Z" "CardBowl") ∈ lw_tbl := lw_at lw_m2 104 rfl
theorem q978 : (Jvm.Cond.instantiable "CardBowl$Test" (3 : Nat)) ∈ lw_all := lw_g (lw_at lw_m4 149 rfl) rfl
theorem q980 : (Jvm.Cond.instanceMethod ({ cls := "CardBowl$Test", name := "<init>", desc := "(LCardBowl$Sum;ILCardBowl$Sum;)V" } : Jvm.MethodName)) ∈ lw_all := lw_g (lw_at lw_m4 151 rfl) rfl
theorem q981 : (Jvm.Cond.code ({ cls := "CardBowl$Test", name := "<init>", desc := "(LCardBowl$Sum;ILCardBowl$Sum;)V" } : Jvm.MethodName) prog_21_method_1_code (4 : Nat) (Option.none : Option Jvm.ClassFile.FieldType)) ∈ lw_all := lw_g (lw_at lw_m4 152 rfl) rfl
theorem q982 : (Jvm.Cond.methodLink "CardBowl$Test" (1 : Nat) ({ cls := "java/lang/Object", name := "<init>", desc := "()V" } : Jvm.MethodName)) ∈ lw_all := lw_g (lw_at lw_m4 153 rfl) rfl
theorem q983 : (Jvm.Cond.fieldLink "CardBowl$Test" (7 : Nat) "CardBowl$Test" "one" "LCardBowl$Sum;") ∈ lw_all := lw_g (lw_at lw_m4 154 rfl) rfl
theorem q984 : (Jvm.Cond.fieldLink "CardBowl$Test" (17 : Nat) "CardBowl$Test" "other" "LCardBowl$Sum;") ∈ lw_all := lw_g (lw_at lw_m4 155 rfl) rfl
theorem q985 : (Jvm.Cond.fieldLink "CardBowl$Test" (13 : Nat) "CardBowl$Test" "sign" "I") ∈ lw_all := lw_g (lw_at lw_m4 156 rfl) rfl
theorem q986 : (Jvm.Cond.laysFinal "CardBowl$Test" "CardBowl$Test" "one" "LCardBowl$Sum;") ∈ lw_all := lw_g (lw_at lw_m4 157 rfl) rfl
theorem q987 : (Jvm.Cond.soleField "CardBowl$Test" "one") ∈ lw_all := lw_g (lw_at lw_m4 158 rfl) rfl
theorem q988 : (Jvm.Cond.laysFinal "CardBowl$Test" "CardBowl$Test" "other" "LCardBowl$Sum;") ∈ lw_all := lw_g (lw_at lw_m4 159 rfl) rfl
theorem q989 : (Jvm.Cond.soleField "CardBowl$Test" "other") ∈ lw_all := lw_g (lw_at lw_m4 160 rfl) rfl
theorem q990 : (Jvm.Cond.laysFinal "CardBowl$Test" "CardBowl$Test" "sign" "I") ∈ lw_all := lw_g (lw_at lw_m4 161 rfl) rfl
theorem q991 : (Jvm.Cond.soleField "CardBowl$Test" "sign") ∈ lw_all := lw_g (lw_at lw_m4 162 rfl) rfl
theorem q992 : (Jvm.Cond.superclass "CardBowl$Test" "java/lang/Object") ∈ lw_all := lw_g (lw_at lw_m4 163 rfl) rfl
theorem q1050 : (Jvm.Cond.selects "CardBowl$Test" ({ cls := "java/lang/Object", name := "getClass", desc := "()Ljava/lang/Class;" } : Jvm.MethodName) ({ cls := "java/lang/Object", name := "getClass", desc := "()Ljava/lang/Class;" } : Jvm.MethodName)) ∈ lw_all := lw_g (lw_at lw_m4 221 rfl) rfl
theorem q1329 : (Jvm.Cond.instanceMethod ({ cls := "CardBowl$Test", name := "holds", desc := "(LCardBowl$Asked;)Z" } : Jvm.MethodName)) ∈ lw_all := lw_g (lw_at lw_m6 20 rfl) rfl
theorem q1330 : (Jvm.Cond.selects "CardBowl$Test" ({ cls := "CardBowl$Test", name := "holds", desc := "(LCardBowl$Asked;)Z" } : Jvm.MethodName) ({ cls := "CardBowl$Test", name := "holds", desc := "(LCardBowl$Asked;)Z" } : Jvm.MethodName)) ∈ lw_all := lw_g (lw_at lw_m6 21 rfl) rfl
theorem q1331 : (Jvm.Cond.code ({ cls := "CardBowl$Test", name := "holds", desc := "(LCardBowl$Asked;)Z" } : Jvm.MethodName) prog_21_method_2_code (6 : Nat) (Option.some Jvm.ClassFile.FieldType.boolean)) ∈ lw_all := lw_g (lw_at lw_m6 22 rfl) rfl
theorem q1332 : (Jvm.Cond.methodLink "CardBowl$Test" (26 : Nat) ({ cls := "CardBowl$Sum", name := "of", desc := "(LCardBowl$Asked;)J" } : Jvm.MethodName)) ∈ lw_all := lw_g (lw_at lw_m6 23 rfl) rfl
theorem q2293 : (Jvm.Cond.castable "CardBowl$Test" "java/lang/Object") ∈ lw_tbl := lw_at lw_m10 24 rfl
theorem in_X20 : ∀ w ∈ wsX200, w ∈ lw_all := lw_in wsX200 [986, 988, 990] (by decide +kernel) (by decide +kernel)
/-! CardBowl$House -/
set_option maxRecDepth 100000
def RX21 : String := "CardBowl$House"
def TX21 : u_T := fun k => match k with
  | 0 => ("CardBowl$House", "x", "I", false)
  | 1 => ("CardBowl$House", "y", "I", false)
  | 2 => ("CardBowl$House", "rank", "I", false)
  | 3 => ("CardBowl$House", "weekday", "I", false)
  | 4 => ("CardBowl$House", "from", "I", false)
  | 5 => ("CardBowl$House", "to", "I", false)
  | 6 => ("CardBowl$House", "came", "I", false)
  | _ => ("CardBowl$House", "bride", "I", false)
def tyX21 : Nat → FieldType := fun k => match k with
  | 0 => .int
  | 1 => .int
  | 2 => .int
  | 3 => .int
  | 4 => .int
  | 5 => .int
  | 6 => .int
  | _ => .int
abbrev wsX210 : List Cond := u_ws RX21 TX21 8
theorem nmX21 : ∀ a, a < 8 → ∀ b, b < 8 → a ≠ b → (TX21 a).2.1 ≠ (TX21 b).2.1 := by decide +kernel
theorem tyX21_ok : ∀ k, k < 8 → parseFieldDescriptor (TX21 k).2.2.1 = some (tyX21 k) := by decide +kernel
abbrev cX21_init : ByteArray := prog_10_method_1_code
def yX21_init : MethodName := ⟨RX21, "<init>", "()V"⟩
theorem dX21_init_0 : decode cX21_init 0 = .ok (.aload_n 0, 1) := by decide +kernel
theorem dX21_init_1 : decode cX21_init 1 = .ok (.invokespecial 1, 3) := by decide +kernel
theorem dX21_init_4 : decode cX21_init 4 = .ok (.return_, 1) := by decide +kernel
abbrev cX21_isThere : ByteArray := prog_10_method_2_code
def yX21_isThere : MethodName := ⟨RX21, "isThere", "(I)Z"⟩
def dkwX21_isThere_0 : List UInt8 := [27, 42, 180, 0, 7, 161, 0, 7, 4, 167, 0, 4, 3, 172]
abbrev dktX21_isThere_0 : List UInt8 := dkwX21_isThere_0 ++ []
theorem dksX21_isThere_0 : cX21_isThere.data.toList.drop 0 = dktX21_isThere_0 := by decide +kernel
theorem dX21_isThere_0 : decode cX21_isThere 0 = .ok (.iload_n 1, 1) := dk_27 (dk_at dksX21_isThere_0 0 rfl rfl)
theorem dX21_isThere_1 : decode cX21_isThere 1 = .ok (.aload_n 0, 1) := dk_42 (dk_at dksX21_isThere_0 1 rfl rfl)
theorem dX21_isThere_2 : decode cX21_isThere 2 = .ok (.getfield 7, 3) := dk_180 0 7 (dk_at dksX21_isThere_0 2 rfl rfl)
theorem dX21_isThere_5 : decode cX21_isThere 5 = .ok (.if_icmp .lt 7, 3) := dk_161 0 7 (dk_at dksX21_isThere_0 5 rfl rfl)
theorem dX21_isThere_8 : decode cX21_isThere 8 = .ok (.iconst 1, 1) := dk_4 (dk_at dksX21_isThere_0 8 rfl rfl)
theorem dX21_isThere_9 : decode cX21_isThere 9 = .ok (.goto 4, 3) := dk_167 0 4 (dk_at dksX21_isThere_0 9 rfl rfl)
theorem dX21_isThere_12 : decode cX21_isThere 12 = .ok (.iconst 0, 1) := dk_3 (dk_at dksX21_isThere_0 12 rfl rfl)
theorem dX21_isThere_13 : decode cX21_isThere 13 = .ok (.ireturn, 1) := dk_172 (dk_at dksX21_isThere_0 13 rfl rfl)
abbrev cX21_waits : ByteArray := prog_10_method_3_code
def yX21_waits : MethodName := ⟨RX21, "waits", "(I)Z"⟩
def dkwX21_waits_1 : List UInt8 := [3, 172]
abbrev dktX21_waits_1 : List UInt8 := dkwX21_waits_1 ++ []
def dkwX21_waits_0 : List UInt8 := [42, 180, 0, 13, 158, 0, 20, 27, 42, 180, 0, 7, 42, 180, 0, 13, 96, 163, 0, 7, 4, 167, 0, 4]
abbrev dktX21_waits_0 : List UInt8 := dkwX21_waits_0 ++ dktX21_waits_1
theorem dksX21_waits_0 : cX21_waits.data.toList.drop 0 = dktX21_waits_0 := by decide +kernel
theorem dksX21_waits_1 : cX21_waits.data.toList.drop 24 = dktX21_waits_1 := dk_seg dksX21_waits_0 24 rfl rfl
theorem dX21_waits_0 : decode cX21_waits 0 = .ok (.aload_n 0, 1) := dk_42 (dk_at dksX21_waits_0 0 rfl rfl)
theorem dX21_waits_1 : decode cX21_waits 1 = .ok (.getfield 13, 3) := dk_180 0 13 (dk_at dksX21_waits_0 1 rfl rfl)
theorem dX21_waits_4 : decode cX21_waits 4 = .ok (.ifCond .le 20, 3) := dk_158 0 20 (dk_at dksX21_waits_0 4 rfl rfl)
theorem dX21_waits_7 : decode cX21_waits 7 = .ok (.iload_n 1, 1) := dk_27 (dk_at dksX21_waits_0 7 rfl rfl)
theorem dX21_waits_8 : decode cX21_waits 8 = .ok (.aload_n 0, 1) := dk_42 (dk_at dksX21_waits_0 8 rfl rfl)
theorem dX21_waits_9 : decode cX21_waits 9 = .ok (.getfield 7, 3) := dk_180 0 7 (dk_at dksX21_waits_0 9 rfl rfl)
theorem dX21_waits_12 : decode cX21_waits 12 = .ok (.aload_n 0, 1) := dk_42 (dk_at dksX21_waits_0 12 rfl rfl)
theorem dX21_waits_13 : decode cX21_waits 13 = .ok (.getfield 13, 3) := dk_180 0 13 (dk_at dksX21_waits_0 13 rfl rfl)
theorem dX21_waits_16 : decode cX21_waits 16 = .ok (.iadd, 1) := dk_96 (dk_at dksX21_waits_0 16 rfl rfl)
theorem dX21_waits_17 : decode cX21_waits 17 = .ok (.if_icmp .gt 7, 3) := dk_163 0 7 (dk_at dksX21_waits_0 17 rfl rfl)
theorem dX21_waits_20 : decode cX21_waits 20 = .ok (.iconst 1, 1) := dk_4 (dk_at dksX21_waits_0 20 rfl rfl)
theorem dX21_waits_21 : decode cX21_waits 21 = .ok (.goto 4, 3) := dk_167 0 4 (dk_at dksX21_waits_0 21 rfl rfl)
theorem dX21_waits_24 : decode cX21_waits 24 = .ok (.iconst 0, 1) := dk_3 (dk_at dksX21_waits_1 0 rfl rfl)
theorem dX21_waits_25 : decode cX21_waits 25 = .ok (.ireturn, 1) := dk_172 (dk_at dksX21_waits_1 1 rfl rfl)
abbrev cX21_far : ByteArray := prog_10_method_4_code
def yX21_far : MethodName := ⟨RX21, "far", "(LCardBowl$House;)I"⟩
def dkwX21_far_1 : List UInt8 := [96, 172]
abbrev dktX21_far_1 : List UInt8 := dkwX21_far_1 ++ []
def dkwX21_far_0 : List UInt8 := [42, 180, 0, 16, 43, 180, 0, 16, 100, 184, 0, 19, 42, 180, 0, 25, 43, 180, 0, 25, 100, 184, 0, 19]
abbrev dktX21_far_0 : List UInt8 := dkwX21_far_0 ++ dktX21_far_1
theorem dksX21_far_0 : cX21_far.data.toList.drop 0 = dktX21_far_0 := by decide +kernel
theorem dksX21_far_1 : cX21_far.data.toList.drop 24 = dktX21_far_1 := dk_seg dksX21_far_0 24 rfl rfl
theorem dX21_far_0 : decode cX21_far 0 = .ok (.aload_n 0, 1) := dk_42 (dk_at dksX21_far_0 0 rfl rfl)
theorem dX21_far_1 : decode cX21_far 1 = .ok (.getfield 16, 3) := dk_180 0 16 (dk_at dksX21_far_0 1 rfl rfl)
theorem dX21_far_4 : decode cX21_far 4 = .ok (.aload_n 1, 1) := dk_43 (dk_at dksX21_far_0 4 rfl rfl)
theorem dX21_far_5 : decode cX21_far 5 = .ok (.getfield 16, 3) := dk_180 0 16 (dk_at dksX21_far_0 5 rfl rfl)
theorem dX21_far_8 : decode cX21_far 8 = .ok (.isub, 1) := dk_100 (dk_at dksX21_far_0 8 rfl rfl)
theorem dX21_far_9 : decode cX21_far 9 = .ok (.invokestatic 19, 3) := dk_184 0 19 (dk_at dksX21_far_0 9 rfl rfl)
theorem dX21_far_12 : decode cX21_far 12 = .ok (.aload_n 0, 1) := dk_42 (dk_at dksX21_far_0 12 rfl rfl)
theorem dX21_far_13 : decode cX21_far 13 = .ok (.getfield 25, 3) := dk_180 0 25 (dk_at dksX21_far_0 13 rfl rfl)
theorem dX21_far_16 : decode cX21_far 16 = .ok (.aload_n 1, 1) := dk_43 (dk_at dksX21_far_0 16 rfl rfl)
theorem dX21_far_17 : decode cX21_far 17 = .ok (.getfield 25, 3) := dk_180 0 25 (dk_at dksX21_far_0 17 rfl rfl)
theorem dX21_far_20 : decode cX21_far 20 = .ok (.isub, 1) := dk_100 (dk_at dksX21_far_0 20 rfl rfl)
theorem dX21_far_21 : decode cX21_far 21 = .ok (.invokestatic 19, 3) := dk_184 0 19 (dk_at dksX21_far_0 21 rfl rfl)
theorem dX21_far_24 : decode cX21_far 24 = .ok (.iadd, 1) := dk_96 (dk_at dksX21_far_1 0 rfl rfl)
theorem dX21_far_25 : decode cX21_far 25 = .ok (.ireturn, 1) := dk_172 (dk_at dksX21_far_1 1 rfl rfl)
theorem q144 : (Jvm.Cond.initialized "CardBowl$House") ∈ lw_all := lw_g (lw_at lw_m1 35 rfl) rfl
theorem q1041 : (Jvm.Cond.selects "CardBowl$House" ({ cls := "java/lang/Object", name := "getClass", desc := "()Ljava/lang/Class;" } : Jvm.MethodName) ({ cls := "java/lang/Object", name := "getClass", desc := "()Ljava/lang/Class;" } : Jvm.MethodName)) ∈ lw_all := lw_g (lw_at lw_m4 212 rfl) rfl
theorem q1074 : (Jvm.Cond.instantiable "CardBowl$House" (8 : Nat)) ∈ lw_all := lw_g (lw_at lw_m5 5 rfl) rfl
theorem q1076 : (Jvm.Cond.instanceMethod ({ cls := "CardBowl$House", name := "<init>", desc := "()V" } : Jvm.MethodName)) ∈ lw_all := lw_g (lw_at lw_m5 7 rfl) rfl
theorem q1077 : (Jvm.Cond.code ({ cls := "CardBowl$House", name := "<init>", desc := "()V" } : Jvm.MethodName) prog_10_method_1_code (1 : Nat) (Option.none : Option Jvm.ClassFile.FieldType)) ∈ lw_all := lw_g (lw_at lw_m5 8 rfl) rfl
theorem q1078 : (Jvm.Cond.methodLink "CardBowl$House" (1 : Nat) ({ cls := "java/lang/Object", name := "<init>", desc := "()V" } : Jvm.MethodName)) ∈ lw_all := lw_g (lw_at lw_m5 9 rfl) rfl
theorem q1079 : (Jvm.Cond.fieldLink "CardBowl$House" (16 : Nat) "CardBowl$House" "x" "I") ∈ lw_all := lw_g (lw_at lw_m5 10 rfl) rfl
theorem q1082 : (Jvm.Cond.fieldLink "CardBowl$House" (25 : Nat) "CardBowl$House" "y" "I") ∈ lw_all := lw_g (lw_at lw_m5 13 rfl) rfl
theorem q1098 : (Jvm.Cond.fieldLink "CardBowl$House" (7 : Nat) "CardBowl$House" "came" "I") ∈ lw_all := lw_g (lw_at lw_m5 29 rfl) rfl
theorem q1101 : (Jvm.Cond.fieldLink "CardBowl$House" (13 : Nat) "CardBowl$House" "bride" "I") ∈ lw_all := lw_g (lw_at lw_m5 32 rfl) rfl
theorem q1103 : (Jvm.Cond.lays "CardBowl$House" "CardBowl$House" "x" "I") ∈ lw_all := lw_g (lw_at lw_m5 34 rfl) rfl
theorem q1104 : (Jvm.Cond.soleField "CardBowl$House" "x") ∈ lw_all := lw_g (lw_at lw_m5 35 rfl) rfl
theorem q1105 : (Jvm.Cond.lays "CardBowl$House" "CardBowl$House" "y" "I") ∈ lw_all := lw_g (lw_at lw_m5 36 rfl) rfl
theorem q1106 : (Jvm.Cond.soleField "CardBowl$House" "y") ∈ lw_all := lw_g (lw_at lw_m5 37 rfl) rfl
theorem q1107 : (Jvm.Cond.lays "CardBowl$House" "CardBowl$House" "rank" "I") ∈ lw_all := lw_g (lw_at lw_m5 38 rfl) rfl
theorem q1108 : (Jvm.Cond.soleField "CardBowl$House" "rank") ∈ lw_all := lw_g (lw_at lw_m5 39 rfl) rfl
theorem q1109 : (Jvm.Cond.lays "CardBowl$House" "CardBowl$House" "weekday" "I") ∈ lw_all := lw_g (lw_at lw_m5 40 rfl) rfl
theorem q1110 : (Jvm.Cond.soleField "CardBowl$House" "weekday") ∈ lw_all := lw_g (lw_at lw_m5 41 rfl) rfl
theorem q1111 : (Jvm.Cond.lays "CardBowl$House" "CardBowl$House" "from" "I") ∈ lw_all := lw_g (lw_at lw_m5 42 rfl) rfl
theorem q1112 : (Jvm.Cond.soleField "CardBowl$House" "from") ∈ lw_all := lw_g (lw_at lw_m5 43 rfl) rfl
theorem q1113 : (Jvm.Cond.lays "CardBowl$House" "CardBowl$House" "to" "I") ∈ lw_all := lw_g (lw_at lw_m5 44 rfl) rfl
theorem q1114 : (Jvm.Cond.soleField "CardBowl$House" "to") ∈ lw_all := lw_g (lw_at lw_m5 45 rfl) rfl
theorem q1115 : (Jvm.Cond.lays "CardBowl$House" "CardBowl$House" "came" "I") ∈ lw_all := lw_g (lw_at lw_m5 46 rfl) rfl
theorem q1116 : (Jvm.Cond.soleField "CardBowl$House" "came") ∈ lw_all := lw_g (lw_at lw_m5 47 rfl) rfl
theorem q1117 : (Jvm.Cond.lays "CardBowl$House" "CardBowl$House" "bride" "I") ∈ lw_all := lw_g (lw_at lw_m5 48 rfl) rfl
theorem q1118 : (Jvm.Cond.soleField "CardBowl$House" "bride") ∈ lw_all := lw_g (lw_at lw_m5 49 rfl) rfl
theorem q1119 : (Jvm.Cond.superclass "CardBowl$House" "java/lang/Object") ∈ lw_all := lw_g (lw_at lw_m5 50 rfl) rfl
theorem q1195 : (Jvm.Cond.instanceMethod ({ cls := "CardBowl$House", name := "isThere", desc := "(I)Z" } : Jvm.MethodName)) ∈ lw_all := lw_g (lw_at lw_m5 126 rfl) rfl
theorem q1196 : (Jvm.Cond.selects "CardBowl$House" ({ cls := "CardBowl$House", name := "isThere", desc := "(I)Z" } : Jvm.MethodName) ({ cls := "CardBowl$House", name := "isThere", desc := "(I)Z" } : Jvm.MethodName)) ∈ lw_all := lw_g (lw_at lw_m5 127 rfl) rfl
theorem q1197 : (Jvm.Cond.code ({ cls := "CardBowl$House", name := "isThere", desc := "(I)Z" } : Jvm.MethodName) prog_10_method_2_code (2 : Nat) (Option.some Jvm.ClassFile.FieldType.boolean)) ∈ lw_all := lw_g (lw_at lw_m5 128 rfl) rfl
theorem q1222 : (Jvm.Cond.instanceMethod ({ cls := "CardBowl$House", name := "waits", desc := "(I)Z" } : Jvm.MethodName)) ∈ lw_all := lw_g (lw_at lw_m5 153 rfl) rfl
theorem q1223 : (Jvm.Cond.selects "CardBowl$House" ({ cls := "CardBowl$House", name := "waits", desc := "(I)Z" } : Jvm.MethodName) ({ cls := "CardBowl$House", name := "waits", desc := "(I)Z" } : Jvm.MethodName)) ∈ lw_all := lw_g (lw_at lw_m5 154 rfl) rfl
theorem q1224 : (Jvm.Cond.code ({ cls := "CardBowl$House", name := "waits", desc := "(I)Z" } : Jvm.MethodName) prog_10_method_3_code (2 : Nat) (Option.some Jvm.ClassFile.FieldType.boolean)) ∈ lw_all := lw_g (lw_at lw_m5 155 rfl) rfl
theorem q1498 : (Jvm.Cond.instanceMethod ({ cls := "CardBowl$House", name := "far", desc := "(LCardBowl$House;)I" } : Jvm.MethodName)) ∈ lw_all := lw_g (lw_at lw_m6 189 rfl) rfl
theorem q1499 : (Jvm.Cond.selects "CardBowl$House" ({ cls := "CardBowl$House", name := "far", desc := "(LCardBowl$House;)I" } : Jvm.MethodName) ({ cls := "CardBowl$House", name := "far", desc := "(LCardBowl$House;)I" } : Jvm.MethodName)) ∈ lw_all := lw_g (lw_at lw_m6 190 rfl) rfl
theorem q1500 : (Jvm.Cond.code ({ cls := "CardBowl$House", name := "far", desc := "(LCardBowl$House;)I" } : Jvm.MethodName) prog_10_method_4_code (2 : Nat) (Option.some Jvm.ClassFile.FieldType.int)) ∈ lw_all := lw_g (lw_at lw_m6 191 rfl) rfl
theorem q1501 : (Jvm.Cond.methodLink "CardBowl$House" (19 : Nat) ({ cls := "java/lang/Math", name := "abs", desc := "(I)I" } : Jvm.MethodName)) ∈ lw_all := lw_g (lw_at lw_m6 192 rfl) rfl
theorem q2294 : (Jvm.Cond.castable "CardBowl$House" "java/lang/Object") ∈ lw_tbl := lw_at lw_m10 25 rfl
theorem in_X21 : ∀ w ∈ wsX210, w ∈ lw_all := lw_in wsX210 [1103, 1105, 1107, 1109, 1111, 1113, 1115, 1117] (by decide +kernel) (by decide +kernel)
/-! CardBowl$Deed -/
set_option maxRecDepth 100000
def RX22 : String := "CardBowl$Deed"
def TX22 : u_T := fun k => match k with
  | 0 => ("CardBowl$Deed", "a", "I", true)
  | 1 => ("CardBowl$Deed", "b", "I", true)
  | 2 => ("CardBowl$Deed", "what", "I", true)
  | _ => ("CardBowl$Deed", "day", "I", true)
def tyX22 : Nat → FieldType := fun k => match k with
  | 0 => .int
  | 1 => .int
  | 2 => .int
  | _ => .int
abbrev wsX220 : List Cond := u_ws RX22 TX22 4
theorem nmX22 : ∀ a, a < 4 → ∀ b, b < 4 → a ≠ b → (TX22 a).2.1 ≠ (TX22 b).2.1 := by decide +kernel
theorem tyX22_ok : ∀ k, k < 4 → parseFieldDescriptor (TX22 k).2.2.1 = some (tyX22 k) := by decide +kernel
abbrev cX22_init : ByteArray := prog_8_method_1_code
def yX22_init : MethodName := ⟨RX22, "<init>", "(IIII)V"⟩
def dkwX22_init_1 : List UInt8 := [181, 0, 19, 177]
abbrev dktX22_init_1 : List UInt8 := dkwX22_init_1 ++ []
def dkwX22_init_0 : List UInt8 := [42, 183, 0, 1, 42, 27, 181, 0, 7, 42, 28, 181, 0, 13, 42, 29, 181, 0, 16, 42, 21, 4]
abbrev dktX22_init_0 : List UInt8 := dkwX22_init_0 ++ dktX22_init_1
theorem dksX22_init_0 : cX22_init.data.toList.drop 0 = dktX22_init_0 := by decide +kernel
theorem dksX22_init_1 : cX22_init.data.toList.drop 22 = dktX22_init_1 := dk_seg dksX22_init_0 22 rfl rfl
theorem dX22_init_0 : decode cX22_init 0 = .ok (.aload_n 0, 1) := dk_42 (dk_at dksX22_init_0 0 rfl rfl)
theorem dX22_init_1 : decode cX22_init 1 = .ok (.invokespecial 1, 3) := dk_183 0 1 (dk_at dksX22_init_0 1 rfl rfl)
theorem dX22_init_4 : decode cX22_init 4 = .ok (.aload_n 0, 1) := dk_42 (dk_at dksX22_init_0 4 rfl rfl)
theorem dX22_init_5 : decode cX22_init 5 = .ok (.iload_n 1, 1) := dk_27 (dk_at dksX22_init_0 5 rfl rfl)
theorem dX22_init_6 : decode cX22_init 6 = .ok (.putfield 7, 3) := dk_181 0 7 (dk_at dksX22_init_0 6 rfl rfl)
theorem dX22_init_9 : decode cX22_init 9 = .ok (.aload_n 0, 1) := dk_42 (dk_at dksX22_init_0 9 rfl rfl)
theorem dX22_init_10 : decode cX22_init 10 = .ok (.iload_n 2, 1) := dk_28 (dk_at dksX22_init_0 10 rfl rfl)
theorem dX22_init_11 : decode cX22_init 11 = .ok (.putfield 13, 3) := dk_181 0 13 (dk_at dksX22_init_0 11 rfl rfl)
theorem dX22_init_14 : decode cX22_init 14 = .ok (.aload_n 0, 1) := dk_42 (dk_at dksX22_init_0 14 rfl rfl)
theorem dX22_init_15 : decode cX22_init 15 = .ok (.iload_n 3, 1) := dk_29 (dk_at dksX22_init_0 15 rfl rfl)
theorem dX22_init_16 : decode cX22_init 16 = .ok (.putfield 16, 3) := dk_181 0 16 (dk_at dksX22_init_0 16 rfl rfl)
theorem dX22_init_19 : decode cX22_init 19 = .ok (.aload_n 0, 1) := dk_42 (dk_at dksX22_init_0 19 rfl rfl)
theorem dX22_init_20 : decode cX22_init 20 = .ok (.iload 4, 2) := dk_21 4 (dk_at dksX22_init_0 20 rfl rfl)
theorem dX22_init_22 : decode cX22_init 22 = .ok (.putfield 19, 3) := dk_181 0 19 (dk_at dksX22_init_1 0 rfl rfl)
theorem dX22_init_25 : decode cX22_init 25 = .ok (.return_, 1) := dk_177 (dk_at dksX22_init_1 3 rfl rfl)
theorem q147 : (Jvm.Cond.initialized "CardBowl$Deed") ∈ lw_all := lw_g (lw_at lw_m1 38 rfl) rfl
theorem q1039 : (Jvm.Cond.selects "CardBowl$Deed" ({ cls := "java/lang/Object", name := "getClass", desc := "()Ljava/lang/Class;" } : Jvm.MethodName) ({ cls := "java/lang/Object", name := "getClass", desc := "()Ljava/lang/Class;" } : Jvm.MethodName)) ∈ lw_all := lw_g (lw_at lw_m4 210 rfl) rfl
theorem q1236 : (Jvm.Cond.instantiable "CardBowl$Deed" (4 : Nat)) ∈ lw_all := lw_g (lw_at lw_m5 167 rfl) rfl
theorem q1238 : (Jvm.Cond.instanceMethod ({ cls := "CardBowl$Deed", name := "<init>", desc := "(IIII)V" } : Jvm.MethodName)) ∈ lw_all := lw_g (lw_at lw_m5 169 rfl) rfl
theorem q1239 : (Jvm.Cond.code ({ cls := "CardBowl$Deed", name := "<init>", desc := "(IIII)V" } : Jvm.MethodName) prog_8_method_1_code (5 : Nat) (Option.none : Option Jvm.ClassFile.FieldType)) ∈ lw_all := lw_g (lw_at lw_m5 170 rfl) rfl
theorem q1240 : (Jvm.Cond.methodLink "CardBowl$Deed" (1 : Nat) ({ cls := "java/lang/Object", name := "<init>", desc := "()V" } : Jvm.MethodName)) ∈ lw_all := lw_g (lw_at lw_m5 171 rfl) rfl
theorem q1241 : (Jvm.Cond.fieldLink "CardBowl$Deed" (7 : Nat) "CardBowl$Deed" "a" "I") ∈ lw_all := lw_g (lw_at lw_m5 172 rfl) rfl
theorem q1243 : (Jvm.Cond.fieldLink "CardBowl$Deed" (13 : Nat) "CardBowl$Deed" "b" "I") ∈ lw_all := lw_g (lw_at lw_m5 174 rfl) rfl
theorem q1245 : (Jvm.Cond.fieldLink "CardBowl$Deed" (16 : Nat) "CardBowl$Deed" "what" "I") ∈ lw_all := lw_g (lw_at lw_m5 176 rfl) rfl
theorem q1247 : (Jvm.Cond.fieldLink "CardBowl$Deed" (19 : Nat) "CardBowl$Deed" "day" "I") ∈ lw_all := lw_g (lw_at lw_m5 178 rfl) rfl
theorem q1249 : (Jvm.Cond.laysFinal "CardBowl$Deed" "CardBowl$Deed" "a" "I") ∈ lw_all := lw_g (lw_at lw_m5 180 rfl) rfl
theorem q1250 : (Jvm.Cond.soleField "CardBowl$Deed" "a") ∈ lw_all := lw_g (lw_at lw_m5 181 rfl) rfl
theorem q1251 : (Jvm.Cond.laysFinal "CardBowl$Deed" "CardBowl$Deed" "b" "I") ∈ lw_all := lw_g (lw_at lw_m5 182 rfl) rfl
theorem q1252 : (Jvm.Cond.soleField "CardBowl$Deed" "b") ∈ lw_all := lw_g (lw_at lw_m5 183 rfl) rfl
theorem q1253 : (Jvm.Cond.laysFinal "CardBowl$Deed" "CardBowl$Deed" "what" "I") ∈ lw_all := lw_g (lw_at lw_m5 184 rfl) rfl
theorem q1254 : (Jvm.Cond.soleField "CardBowl$Deed" "what") ∈ lw_all := lw_g (lw_at lw_m5 185 rfl) rfl
theorem q1255 : (Jvm.Cond.laysFinal "CardBowl$Deed" "CardBowl$Deed" "day" "I") ∈ lw_all := lw_g (lw_at lw_m5 186 rfl) rfl
theorem q1256 : (Jvm.Cond.soleField "CardBowl$Deed" "day") ∈ lw_all := lw_g (lw_at lw_m5 187 rfl) rfl
theorem q1257 : (Jvm.Cond.superclass "CardBowl$Deed" "java/lang/Object") ∈ lw_all := lw_g (lw_at lw_m5 188 rfl) rfl
theorem q2295 : (Jvm.Cond.castable "CardBowl$Deed" "java/lang/Object") ∈ lw_tbl := lw_at lw_m10 26 rfl
theorem in_X22 : ∀ w ∈ wsX220, w ∈ lw_all := lw_in wsX220 [1249, 1251, 1253, 1255] (by decide +kernel) (by decide +kernel)
/-! CardBowl$Debt -/
set_option maxRecDepth 100000
def RX23 : String := "CardBowl$Debt"
def TX23 : u_T := fun k => match k with
  | 0 => ("CardBowl$Debt", "from", "I", true)
  | 1 => ("CardBowl$Debt", "to", "I", true)
  | 2 => ("CardBowl$Debt", "kind", "I", true)
  | 3 => ("CardBowl$Debt", "due", "I", true)
  | _ => ("CardBowl$Debt", "came", "I", true)
def tyX23 : Nat → FieldType := fun k => match k with
  | 0 => .int
  | 1 => .int
  | 2 => .int
  | 3 => .int
  | _ => .int
abbrev wsX230 : List Cond := u_ws RX23 TX23 5
theorem nmX23 : ∀ a, a < 5 → ∀ b, b < 5 → a ≠ b → (TX23 a).2.1 ≠ (TX23 b).2.1 := by decide +kernel
theorem tyX23_ok : ∀ k, k < 5 → parseFieldDescriptor (TX23 k).2.2.1 = some (tyX23 k) := by decide +kernel
abbrev cX23_init : ByteArray := prog_7_method_1_code
def yX23_init : MethodName := ⟨RX23, "<init>", "(IIIII)V"⟩
def dkwX23_init_1 : List UInt8 := [181, 0, 19, 42, 21, 5, 181, 0, 22, 177]
abbrev dktX23_init_1 : List UInt8 := dkwX23_init_1 ++ []
def dkwX23_init_0 : List UInt8 := [42, 183, 0, 1, 42, 27, 181, 0, 7, 42, 28, 181, 0, 13, 42, 29, 181, 0, 16, 42, 21, 4]
abbrev dktX23_init_0 : List UInt8 := dkwX23_init_0 ++ dktX23_init_1
theorem dksX23_init_0 : cX23_init.data.toList.drop 0 = dktX23_init_0 := by decide +kernel
theorem dksX23_init_1 : cX23_init.data.toList.drop 22 = dktX23_init_1 := dk_seg dksX23_init_0 22 rfl rfl
theorem dX23_init_0 : decode cX23_init 0 = .ok (.aload_n 0, 1) := dk_42 (dk_at dksX23_init_0 0 rfl rfl)
theorem dX23_init_1 : decode cX23_init 1 = .ok (.invokespecial 1, 3) := dk_183 0 1 (dk_at dksX23_init_0 1 rfl rfl)
theorem dX23_init_4 : decode cX23_init 4 = .ok (.aload_n 0, 1) := dk_42 (dk_at dksX23_init_0 4 rfl rfl)
theorem dX23_init_5 : decode cX23_init 5 = .ok (.iload_n 1, 1) := dk_27 (dk_at dksX23_init_0 5 rfl rfl)
theorem dX23_init_6 : decode cX23_init 6 = .ok (.putfield 7, 3) := dk_181 0 7 (dk_at dksX23_init_0 6 rfl rfl)
theorem dX23_init_9 : decode cX23_init 9 = .ok (.aload_n 0, 1) := dk_42 (dk_at dksX23_init_0 9 rfl rfl)
theorem dX23_init_10 : decode cX23_init 10 = .ok (.iload_n 2, 1) := dk_28 (dk_at dksX23_init_0 10 rfl rfl)
theorem dX23_init_11 : decode cX23_init 11 = .ok (.putfield 13, 3) := dk_181 0 13 (dk_at dksX23_init_0 11 rfl rfl)
theorem dX23_init_14 : decode cX23_init 14 = .ok (.aload_n 0, 1) := dk_42 (dk_at dksX23_init_0 14 rfl rfl)
theorem dX23_init_15 : decode cX23_init 15 = .ok (.iload_n 3, 1) := dk_29 (dk_at dksX23_init_0 15 rfl rfl)
theorem dX23_init_16 : decode cX23_init 16 = .ok (.putfield 16, 3) := dk_181 0 16 (dk_at dksX23_init_0 16 rfl rfl)
theorem dX23_init_19 : decode cX23_init 19 = .ok (.aload_n 0, 1) := dk_42 (dk_at dksX23_init_0 19 rfl rfl)
theorem dX23_init_20 : decode cX23_init 20 = .ok (.iload 4, 2) := dk_21 4 (dk_at dksX23_init_0 20 rfl rfl)
theorem dX23_init_22 : decode cX23_init 22 = .ok (.putfield 19, 3) := dk_181 0 19 (dk_at dksX23_init_1 0 rfl rfl)
theorem dX23_init_25 : decode cX23_init 25 = .ok (.aload_n 0, 1) := dk_42 (dk_at dksX23_init_1 3 rfl rfl)
theorem dX23_init_26 : decode cX23_init 26 = .ok (.iload 5, 2) := dk_21 5 (dk_at dksX23_init_1 4 rfl rfl)
theorem dX23_init_28 : decode cX23_init 28 = .ok (.putfield 22, 3) := dk_181 0 22 (dk_at dksX23_init_1 6 rfl rfl)
theorem dX23_init_31 : decode cX23_init 31 = .ok (.return_, 1) := dk_177 (dk_at dksX23_init_1 9 rfl rfl)
theorem q148 : (Jvm.Cond.initialized "CardBowl$Debt") ∈ lw_all := lw_g (lw_at lw_m1 39 rfl) rfl
theorem q1038 : (Jvm.Cond.selects "CardBowl$Debt" ({ cls := "java/lang/Object", name := "getClass", desc := "()Ljava/lang/Class;" } : Jvm.MethodName) ({ cls := "java/lang/Object", name := "getClass", desc := "()Ljava/lang/Class;" } : Jvm.MethodName)) ∈ lw_all := lw_g (lw_at lw_m4 209 rfl) rfl
theorem q1355 : (Jvm.Cond.instantiable "CardBowl$Debt" (5 : Nat)) ∈ lw_all := lw_g (lw_at lw_m6 46 rfl) rfl
theorem q1358 : (Jvm.Cond.instanceMethod ({ cls := "CardBowl$Debt", name := "<init>", desc := "(IIIII)V" } : Jvm.MethodName)) ∈ lw_all := lw_g (lw_at lw_m6 49 rfl) rfl
theorem q1359 : (Jvm.Cond.code ({ cls := "CardBowl$Debt", name := "<init>", desc := "(IIIII)V" } : Jvm.MethodName) prog_7_method_1_code (6 : Nat) (Option.none : Option Jvm.ClassFile.FieldType)) ∈ lw_all := lw_g (lw_at lw_m6 50 rfl) rfl
theorem q1360 : (Jvm.Cond.methodLink "CardBowl$Debt" (1 : Nat) ({ cls := "java/lang/Object", name := "<init>", desc := "()V" } : Jvm.MethodName)) ∈ lw_all := lw_g (lw_at lw_m6 51 rfl) rfl
theorem q1361 : (Jvm.Cond.fieldLink "CardBowl$Debt" (7 : Nat) "CardBowl$Debt" "from" "I") ∈ lw_all := lw_g (lw_at lw_m6 52 rfl) rfl
theorem q1363 : (Jvm.Cond.fieldLink "CardBowl$Debt" (13 : Nat) "CardBowl$Debt" "to" "I") ∈ lw_all := lw_g (lw_at lw_m6 54 rfl) rfl
theorem q1366 : (Jvm.Cond.fieldLink "CardBowl$Debt" (16 : Nat) "CardBowl$Debt" "kind" "I") ∈ lw_all := lw_g (lw_at lw_m6 57 rfl) rfl
theorem q1370 : (Jvm.Cond.fieldLink "CardBowl$Debt" (19 : Nat) "CardBowl$Debt" "due" "I") ∈ lw_all := lw_g (lw_at lw_m6 61 rfl) rfl
theorem q1372 : (Jvm.Cond.fieldLink "CardBowl$Debt" (22 : Nat) "CardBowl$Debt" "came" "I") ∈ lw_all := lw_g (lw_at lw_m6 63 rfl) rfl
theorem q1374 : (Jvm.Cond.laysFinal "CardBowl$Debt" "CardBowl$Debt" "from" "I") ∈ lw_all := lw_g (lw_at lw_m6 65 rfl) rfl
theorem q1375 : (Jvm.Cond.soleField "CardBowl$Debt" "from") ∈ lw_all := lw_g (lw_at lw_m6 66 rfl) rfl
theorem q1376 : (Jvm.Cond.laysFinal "CardBowl$Debt" "CardBowl$Debt" "to" "I") ∈ lw_all := lw_g (lw_at lw_m6 67 rfl) rfl
theorem q1377 : (Jvm.Cond.soleField "CardBowl$Debt" "to") ∈ lw_all := lw_g (lw_at lw_m6 68 rfl) rfl
theorem q1378 : (Jvm.Cond.laysFinal "CardBowl$Debt" "CardBowl$Debt" "kind" "I") ∈ lw_all := lw_g (lw_at lw_m6 69 rfl) rfl
theorem q1379 : (Jvm.Cond.soleField "CardBowl$Debt" "kind") ∈ lw_all := lw_g (lw_at lw_m6 70 rfl) rfl
theorem q1380 : (Jvm.Cond.laysFinal "CardBowl$Debt" "CardBowl$Debt" "due" "I") ∈ lw_all := lw_g (lw_at lw_m6 71 rfl) rfl
theorem q1381 : (Jvm.Cond.soleField "CardBowl$Debt" "due") ∈ lw_all := lw_g (lw_at lw_m6 72 rfl) rfl
theorem q1382 : (Jvm.Cond.laysFinal "CardBowl$Debt" "CardBowl$Debt" "came" "I") ∈ lw_all := lw_g (lw_at lw_m6 73 rfl) rfl
theorem q1383 : (Jvm.Cond.soleField "CardBowl$Debt" "came") ∈ lw_all := lw_g (lw_at lw_m6 74 rfl) rfl
theorem q1384 : (Jvm.Cond.superclass "CardBowl$Debt" "java/lang/Object") ∈ lw_all := lw_g (lw_at lw_m6 75 rfl) rfl
theorem q2296 : (Jvm.Cond.castable "CardBowl$Debt" "java/lang/Object") ∈ lw_tbl := lw_at lw_m10 27 rfl
theorem in_X23 : ∀ w ∈ wsX230, w ∈ lw_all := lw_in wsX230 [1374, 1376, 1378, 1380, 1382] (by decide +kernel) (by decide +kernel)
