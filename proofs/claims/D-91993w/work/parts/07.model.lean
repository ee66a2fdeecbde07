/-! CardBowlModel -/
set_option maxRecDepth 100000
def RX12 : String := "CardBowlModel"
def TX12 : u_T := fun k => match k with
  | 0 => ("CardBowlModel", "thrown", "I", false)
  | 1 => ("CardBowlModel", "world", "[I", true)
  | 2 => ("CardBowlModel", "images", "[I", true)
  | 3 => ("CardBowlModel", "hasImage", "[Z", true)
  | 4 => ("CardBowlModel", "tape", "[B", true)
  | 5 => ("CardBowlModel", "taped", "I", false)
  | 6 => ("CardBowlModel", "five", "[I", true)
  | 7 => ("CardBowlModel", "size", "I", false)
  | 8 => ("CardBowlModel", "at", "I", false)
  | 9 => ("CardBowlModel", "from", "I", false)
  | 10 => ("CardBowlModel", "token", "I", false)
  | 11 => ("CardBowlModel", "value", "I", false)
  | 12 => ("CardBowlModel", "faultKind", "I", false)
  | 13 => ("CardBowlModel", "faultPlace", "I", false)
  | 14 => ("CardBowlModel", "fresh", "[I", true)
  | 15 => ("CardBowlModel", "parts", "[I", true)
  | 16 => ("CardBowlModel", "houses", "[I", true)
  | 17 => ("CardBowlModel", "houseMany", "I", false)
  | 18 => ("CardBowlModel", "worthOf", "[I", true)
  | 19 => ("CardBowlModel", "byCall", "[Z", true)
  | 20 => ("CardBowlModel", "over", "[I", true)
  | 21 => ("CardBowlModel", "bestSet", "I", false)
  | 22 => ("CardBowlModel", "bestOver", "I", false)
  | 23 => ("CardBowlModel", "bestWorth", "I", false)
  | 24 => ("CardBowlModel", "row", "[I", true)
  | 25 => ("CardBowlModel", "tenDebts", "[I", true)
  | 26 => ("CardBowlModel", "tenMany", "I", false)
  | 27 => ("CardBowlModel", "fewestBy", "[I", true)
  | 28 => ("CardBowlModel", "covered", "[I", true)
  | 29 => ("CardBowlModel", "queue", "[I", true)
  | 30 => ("CardBowlModel", "cameBy", "[I", true)
  | 31 => ("CardBowlModel", "parent", "[I", true)
  | 32 => ("CardBowlModel", "met", "[Z", true)
  | 33 => ("CardBowlModel", "calls", "[I", true)
  | 34 => ("CardBowlModel", "callMany", "I", false)
  | 35 => ("CardBowlModel", "calledOn", "[I", true)
  | 36 => ("CardBowlModel", "saved", "[I", true)
  | 37 => ("CardBowlModel", "many", "[I", true)
  | 38 => ("CardBowlModel", "width", "[I", true)
  | 39 => ("CardBowlModel", "numbers", "[J", true)
  | _ => ("CardBowlModel", "moving", "[J", true)
def tyX12 : Nat → FieldType := fun k => match k with
  | 0 => .int
  | 1 => .array .int
  | 2 => .array .int
  | 3 => .array .boolean
  | 4 => .array .byte
  | 5 => .int
  | 6 => .array .int
  | 7 => .int
  | 8 => .int
  | 9 => .int
  | 10 => .int
  | 11 => .int
  | 12 => .int
  | 13 => .int
  | 14 => .array .int
  | 15 => .array .int
  | 16 => .array .int
  | 17 => .int
  | 18 => .array .int
  | 19 => .array .boolean
  | 20 => .array .int
  | 21 => .int
  | 22 => .int
  | 23 => .int
  | 24 => .array .int
  | 25 => .array .int
  | 26 => .int
  | 27 => .array .int
  | 28 => .array .int
  | 29 => .array .int
  | 30 => .array .int
  | 31 => .array .int
  | 32 => .array .boolean
  | 33 => .array .int
  | 34 => .int
  | 35 => .array .int
  | 36 => .array .int
  | 37 => .array .int
  | 38 => .array .int
  | 39 => .array .long
  | _ => .array .long
abbrev wsX120 : List Cond := u_ws RX12 TX12 41
set_option maxRecDepth 100000 in
theorem nmX12 : ∀ a, a < 41 → ∀ b, b < 41 → a ≠ b → (TX12 a).2.1 ≠ (TX12 b).2.1 := by decide +kernel
set_option maxRecDepth 100000 in
theorem tyX12_ok : ∀ k, k < 41 → parseFieldDescriptor (TX12 k).2.2.1 = some (tyX12 k) := by decide +kernel
abbrev cX12_init : ByteArray := prog_25_method_5_code
def yX12_init : MethodName := ⟨RX12, "<init>", "()V"⟩
def dkwX12_init_10 : List UInt8 := [188, 11, 181, 0, 96, 42, 180, 0, 13, 8, 6, 79, 177]
abbrev dktX12_init_10 : List UInt8 := dkwX12_init_10 ++ []
def dkwX12_init_9 : List UInt8 := [79, 181, 0, 86, 42, 7, 188, 10, 181, 0, 89, 42, 17, 0, 240, 188, 11, 181, 0, 92, 42, 16, 60]
abbrev dktX12_init_9 : List UInt8 := dkwX12_init_9 ++ dktX12_init_10
def dkwX12_init_8 : List UInt8 := [188, 10, 181, 0, 83, 42, 7, 188, 10, 89, 3, 2, 79, 89, 4, 2, 79, 89, 5, 2, 79, 89, 6, 2]
abbrev dktX12_init_8 : List UInt8 := dkwX12_init_8 ++ dktX12_init_9
def dkwX12_init_7 : List UInt8 := [181, 0, 74, 42, 16, 16, 188, 10, 181, 0, 77, 42, 16, 16, 188, 10, 181, 0, 80, 42, 17, 35, 120]
abbrev dktX12_init_7 : List UInt8 := dkwX12_init_7 ++ dktX12_init_8
def dkwX12_init_6 : List UInt8 := [181, 0, 65, 42, 18, 64, 188, 10, 181, 0, 68, 42, 18, 64, 188, 10, 181, 0, 71, 42, 18, 64, 188, 4]
abbrev dktX12_init_6 : List UInt8 := dkwX12_init_6 ++ dktX12_init_7
def dkwX12_init_5 : List UInt8 := [42, 17, 4, 0, 188, 10, 181, 0, 58, 42, 17, 4, 0, 188, 10, 181, 0, 61, 42, 18, 64, 188, 10]
abbrev dktX12_init_5 : List UInt8 := dkwX12_init_5 ++ dktX12_init_6
def dkwX12_init_4 : List UInt8 := [17, 40, 0, 188, 10, 181, 0, 49, 42, 16, 10, 188, 10, 181, 0, 52, 42, 16, 10, 188, 10, 181, 0, 55]
abbrev dktX12_init_4 : List UInt8 := dkwX12_init_4 ++ dktX12_init_5
def dkwX12_init_3 : List UInt8 := [188, 10, 181, 0, 40, 42, 16, 16, 188, 10, 181, 0, 43, 42, 16, 16, 188, 4, 181, 0, 46, 42]
abbrev dktX12_init_3 : List UInt8 := dkwX12_init_3 ++ dktX12_init_4
def dkwX12_init_2 : List UInt8 := [181, 0, 31, 42, 17, 35, 120, 188, 10, 181, 0, 34, 42, 16, 6, 188, 10, 181, 0, 37, 42, 16, 16]
abbrev dktX12_init_2 : List UInt8 := dkwX12_init_2 ++ dktX12_init_3
def dkwX12_init_1 : List UInt8 := [188, 4, 181, 0, 20, 42, 17, 5, 120, 188, 8, 181, 0, 24, 42, 8, 188, 10, 181, 0, 28, 42, 2]
abbrev dktX12_init_1 : List UInt8 := dkwX12_init_1 ++ dktX12_init_2
def dkwX12_init_0 : List UInt8 := [42, 183, 0, 7, 42, 17, 35, 120, 188, 10, 181, 0, 13, 42, 17, 106, 104, 188, 10, 181, 0, 17, 42, 6]
abbrev dktX12_init_0 : List UInt8 := dkwX12_init_0 ++ dktX12_init_1
theorem dksX12_init_0 : cX12_init.data.toList.drop 0 = dktX12_init_0 := by decide +kernel
theorem dksX12_init_1 : cX12_init.data.toList.drop 24 = dktX12_init_1 := dk_seg dksX12_init_0 24 rfl rfl
theorem dksX12_init_2 : cX12_init.data.toList.drop 47 = dktX12_init_2 := dk_seg dksX12_init_1 23 rfl rfl
theorem dksX12_init_3 : cX12_init.data.toList.drop 70 = dktX12_init_3 := dk_seg dksX12_init_2 23 rfl rfl
theorem dksX12_init_4 : cX12_init.data.toList.drop 92 = dktX12_init_4 := dk_seg dksX12_init_3 22 rfl rfl
theorem dksX12_init_5 : cX12_init.data.toList.drop 116 = dktX12_init_5 := dk_seg dksX12_init_4 24 rfl rfl
theorem dksX12_init_6 : cX12_init.data.toList.drop 139 = dktX12_init_6 := dk_seg dksX12_init_5 23 rfl rfl
theorem dksX12_init_7 : cX12_init.data.toList.drop 163 = dktX12_init_7 := dk_seg dksX12_init_6 24 rfl rfl
theorem dksX12_init_8 : cX12_init.data.toList.drop 186 = dktX12_init_8 := dk_seg dksX12_init_7 23 rfl rfl
theorem dksX12_init_9 : cX12_init.data.toList.drop 210 = dktX12_init_9 := dk_seg dksX12_init_8 24 rfl rfl
theorem dksX12_init_10 : cX12_init.data.toList.drop 233 = dktX12_init_10 := dk_seg dksX12_init_9 23 rfl rfl
theorem dX12_init_0 : decode cX12_init 0 = .ok (.aload_n 0, 1) := dk_42 (dk_at dksX12_init_0 0 rfl rfl)
theorem dX12_init_1 : decode cX12_init 1 = .ok (.invokespecial 7, 3) := dk_183 0 7 (dk_at dksX12_init_0 1 rfl rfl)
theorem dX12_init_4 : decode cX12_init 4 = .ok (.aload_n 0, 1) := dk_42 (dk_at dksX12_init_0 4 rfl rfl)
theorem dX12_init_5 : decode cX12_init 5 = .ok (.sipush 9080, 3) := dk_17 35 120 (dk_at dksX12_init_0 5 rfl rfl)
theorem dX12_init_8 : decode cX12_init 8 = .ok (.newarray .int, 2) := dk_188_10 (dk_at dksX12_init_0 8 rfl rfl)
theorem dX12_init_10 : decode cX12_init 10 = .ok (.putfield 13, 3) := dk_181 0 13 (dk_at dksX12_init_0 10 rfl rfl)
theorem dX12_init_13 : decode cX12_init 13 = .ok (.aload_n 0, 1) := dk_42 (dk_at dksX12_init_0 13 rfl rfl)
theorem dX12_init_14 : decode cX12_init 14 = .ok (.sipush 27240, 3) := dk_17 106 104 (dk_at dksX12_init_0 14 rfl rfl)
theorem dX12_init_17 : decode cX12_init 17 = .ok (.newarray .int, 2) := dk_188_10 (dk_at dksX12_init_0 17 rfl rfl)
theorem dX12_init_19 : decode cX12_init 19 = .ok (.putfield 17, 3) := dk_181 0 17 (dk_at dksX12_init_0 19 rfl rfl)
theorem dX12_init_22 : decode cX12_init 22 = .ok (.aload_n 0, 1) := dk_42 (dk_at dksX12_init_0 22 rfl rfl)
theorem dX12_init_23 : decode cX12_init 23 = .ok (.iconst 3, 1) := dk_6 (dk_at dksX12_init_0 23 rfl rfl)
theorem dX12_init_24 : decode cX12_init 24 = .ok (.newarray .boolean, 2) := dk_188_4 (dk_at dksX12_init_1 0 rfl rfl)
theorem dX12_init_26 : decode cX12_init 26 = .ok (.putfield 20, 3) := dk_181 0 20 (dk_at dksX12_init_1 2 rfl rfl)
theorem dX12_init_29 : decode cX12_init 29 = .ok (.aload_n 0, 1) := dk_42 (dk_at dksX12_init_1 5 rfl rfl)
theorem dX12_init_30 : decode cX12_init 30 = .ok (.sipush 1400, 3) := dk_17 5 120 (dk_at dksX12_init_1 6 rfl rfl)
theorem dX12_init_33 : decode cX12_init 33 = .ok (.newarray .byte, 2) := dk_188_8 (dk_at dksX12_init_1 9 rfl rfl)
theorem dX12_init_35 : decode cX12_init 35 = .ok (.putfield 24, 3) := dk_181 0 24 (dk_at dksX12_init_1 11 rfl rfl)
theorem dX12_init_38 : decode cX12_init 38 = .ok (.aload_n 0, 1) := dk_42 (dk_at dksX12_init_1 14 rfl rfl)
theorem dX12_init_39 : decode cX12_init 39 = .ok (.iconst 5, 1) := dk_8 (dk_at dksX12_init_1 15 rfl rfl)
theorem dX12_init_40 : decode cX12_init 40 = .ok (.newarray .int, 2) := dk_188_10 (dk_at dksX12_init_1 16 rfl rfl)
theorem dX12_init_42 : decode cX12_init 42 = .ok (.putfield 28, 3) := dk_181 0 28 (dk_at dksX12_init_1 18 rfl rfl)
theorem dX12_init_45 : decode cX12_init 45 = .ok (.aload_n 0, 1) := dk_42 (dk_at dksX12_init_1 21 rfl rfl)
theorem dX12_init_46 : decode cX12_init 46 = .ok (.iconst (-1), 1) := dk_2 (dk_at dksX12_init_1 22 rfl rfl)
theorem dX12_init_47 : decode cX12_init 47 = .ok (.putfield 31, 3) := dk_181 0 31 (dk_at dksX12_init_2 0 rfl rfl)
theorem dX12_init_50 : decode cX12_init 50 = .ok (.aload_n 0, 1) := dk_42 (dk_at dksX12_init_2 3 rfl rfl)
theorem dX12_init_51 : decode cX12_init 51 = .ok (.sipush 9080, 3) := dk_17 35 120 (dk_at dksX12_init_2 4 rfl rfl)
theorem dX12_init_54 : decode cX12_init 54 = .ok (.newarray .int, 2) := dk_188_10 (dk_at dksX12_init_2 7 rfl rfl)
theorem dX12_init_56 : decode cX12_init 56 = .ok (.putfield 34, 3) := dk_181 0 34 (dk_at dksX12_init_2 9 rfl rfl)
theorem dX12_init_59 : decode cX12_init 59 = .ok (.aload_n 0, 1) := dk_42 (dk_at dksX12_init_2 12 rfl rfl)
theorem dX12_init_60 : decode cX12_init 60 = .ok (.bipush 6, 2) := dk_16 6 (dk_at dksX12_init_2 13 rfl rfl)
theorem dX12_init_62 : decode cX12_init 62 = .ok (.newarray .int, 2) := dk_188_10 (dk_at dksX12_init_2 15 rfl rfl)
theorem dX12_init_64 : decode cX12_init 64 = .ok (.putfield 37, 3) := dk_181 0 37 (dk_at dksX12_init_2 17 rfl rfl)
theorem dX12_init_67 : decode cX12_init 67 = .ok (.aload_n 0, 1) := dk_42 (dk_at dksX12_init_2 20 rfl rfl)
theorem dX12_init_68 : decode cX12_init 68 = .ok (.bipush 16, 2) := dk_16 16 (dk_at dksX12_init_2 21 rfl rfl)
theorem dX12_init_70 : decode cX12_init 70 = .ok (.newarray .int, 2) := dk_188_10 (dk_at dksX12_init_3 0 rfl rfl)
theorem dX12_init_72 : decode cX12_init 72 = .ok (.putfield 40, 3) := dk_181 0 40 (dk_at dksX12_init_3 2 rfl rfl)
theorem dX12_init_75 : decode cX12_init 75 = .ok (.aload_n 0, 1) := dk_42 (dk_at dksX12_init_3 5 rfl rfl)
theorem dX12_init_76 : decode cX12_init 76 = .ok (.bipush 16, 2) := dk_16 16 (dk_at dksX12_init_3 6 rfl rfl)
theorem dX12_init_78 : decode cX12_init 78 = .ok (.newarray .int, 2) := dk_188_10 (dk_at dksX12_init_3 8 rfl rfl)
theorem dX12_init_80 : decode cX12_init 80 = .ok (.putfield 43, 3) := dk_181 0 43 (dk_at dksX12_init_3 10 rfl rfl)
theorem dX12_init_83 : decode cX12_init 83 = .ok (.aload_n 0, 1) := dk_42 (dk_at dksX12_init_3 13 rfl rfl)
theorem dX12_init_84 : decode cX12_init 84 = .ok (.bipush 16, 2) := dk_16 16 (dk_at dksX12_init_3 14 rfl rfl)
theorem dX12_init_86 : decode cX12_init 86 = .ok (.newarray .boolean, 2) := dk_188_4 (dk_at dksX12_init_3 16 rfl rfl)
theorem dX12_init_88 : decode cX12_init 88 = .ok (.putfield 46, 3) := dk_181 0 46 (dk_at dksX12_init_3 18 rfl rfl)
theorem dX12_init_91 : decode cX12_init 91 = .ok (.aload_n 0, 1) := dk_42 (dk_at dksX12_init_3 21 rfl rfl)
theorem dX12_init_92 : decode cX12_init 92 = .ok (.sipush 10240, 3) := dk_17 40 0 (dk_at dksX12_init_4 0 rfl rfl)
theorem dX12_init_95 : decode cX12_init 95 = .ok (.newarray .int, 2) := dk_188_10 (dk_at dksX12_init_4 3 rfl rfl)
theorem dX12_init_97 : decode cX12_init 97 = .ok (.putfield 49, 3) := dk_181 0 49 (dk_at dksX12_init_4 5 rfl rfl)
theorem dX12_init_100 : decode cX12_init 100 = .ok (.aload_n 0, 1) := dk_42 (dk_at dksX12_init_4 8 rfl rfl)
theorem dX12_init_101 : decode cX12_init 101 = .ok (.bipush 10, 2) := dk_16 10 (dk_at dksX12_init_4 9 rfl rfl)
theorem dX12_init_103 : decode cX12_init 103 = .ok (.newarray .int, 2) := dk_188_10 (dk_at dksX12_init_4 11 rfl rfl)
theorem dX12_init_105 : decode cX12_init 105 = .ok (.putfield 52, 3) := dk_181 0 52 (dk_at dksX12_init_4 13 rfl rfl)
theorem dX12_init_108 : decode cX12_init 108 = .ok (.aload_n 0, 1) := dk_42 (dk_at dksX12_init_4 16 rfl rfl)
theorem dX12_init_109 : decode cX12_init 109 = .ok (.bipush 10, 2) := dk_16 10 (dk_at dksX12_init_4 17 rfl rfl)
theorem dX12_init_111 : decode cX12_init 111 = .ok (.newarray .int, 2) := dk_188_10 (dk_at dksX12_init_4 19 rfl rfl)
theorem dX12_init_113 : decode cX12_init 113 = .ok (.putfield 55, 3) := dk_181 0 55 (dk_at dksX12_init_4 21 rfl rfl)
theorem dX12_init_116 : decode cX12_init 116 = .ok (.aload_n 0, 1) := dk_42 (dk_at dksX12_init_5 0 rfl rfl)
theorem dX12_init_117 : decode cX12_init 117 = .ok (.sipush 1024, 3) := dk_17 4 0 (dk_at dksX12_init_5 1 rfl rfl)
theorem dX12_init_120 : decode cX12_init 120 = .ok (.newarray .int, 2) := dk_188_10 (dk_at dksX12_init_5 4 rfl rfl)
theorem dX12_init_122 : decode cX12_init 122 = .ok (.putfield 58, 3) := dk_181 0 58 (dk_at dksX12_init_5 6 rfl rfl)
theorem dX12_init_125 : decode cX12_init 125 = .ok (.aload_n 0, 1) := dk_42 (dk_at dksX12_init_5 9 rfl rfl)
theorem dX12_init_126 : decode cX12_init 126 = .ok (.sipush 1024, 3) := dk_17 4 0 (dk_at dksX12_init_5 10 rfl rfl)
theorem dX12_init_129 : decode cX12_init 129 = .ok (.newarray .int, 2) := dk_188_10 (dk_at dksX12_init_5 13 rfl rfl)
theorem dX12_init_131 : decode cX12_init 131 = .ok (.putfield 61, 3) := dk_181 0 61 (dk_at dksX12_init_5 15 rfl rfl)
theorem dX12_init_134 : decode cX12_init 134 = .ok (.aload_n 0, 1) := dk_42 (dk_at dksX12_init_5 18 rfl rfl)
theorem dX12_init_135 : decode cX12_init 135 = .ok (.ldc 64, 2) := dk_18 64 (dk_at dksX12_init_5 19 rfl rfl)
theorem dX12_init_137 : decode cX12_init 137 = .ok (.newarray .int, 2) := dk_188_10 (dk_at dksX12_init_5 21 rfl rfl)
theorem dX12_init_139 : decode cX12_init 139 = .ok (.putfield 65, 3) := dk_181 0 65 (dk_at dksX12_init_6 0 rfl rfl)
theorem dX12_init_142 : decode cX12_init 142 = .ok (.aload_n 0, 1) := dk_42 (dk_at dksX12_init_6 3 rfl rfl)
theorem dX12_init_143 : decode cX12_init 143 = .ok (.ldc 64, 2) := dk_18 64 (dk_at dksX12_init_6 4 rfl rfl)
theorem dX12_init_145 : decode cX12_init 145 = .ok (.newarray .int, 2) := dk_188_10 (dk_at dksX12_init_6 6 rfl rfl)
theorem dX12_init_147 : decode cX12_init 147 = .ok (.putfield 68, 3) := dk_181 0 68 (dk_at dksX12_init_6 8 rfl rfl)
theorem dX12_init_150 : decode cX12_init 150 = .ok (.aload_n 0, 1) := dk_42 (dk_at dksX12_init_6 11 rfl rfl)
theorem dX12_init_151 : decode cX12_init 151 = .ok (.ldc 64, 2) := dk_18 64 (dk_at dksX12_init_6 12 rfl rfl)
theorem dX12_init_153 : decode cX12_init 153 = .ok (.newarray .int, 2) := dk_188_10 (dk_at dksX12_init_6 14 rfl rfl)
theorem dX12_init_155 : decode cX12_init 155 = .ok (.putfield 71, 3) := dk_181 0 71 (dk_at dksX12_init_6 16 rfl rfl)
theorem dX12_init_158 : decode cX12_init 158 = .ok (.aload_n 0, 1) := dk_42 (dk_at dksX12_init_6 19 rfl rfl)
theorem dX12_init_159 : decode cX12_init 159 = .ok (.ldc 64, 2) := dk_18 64 (dk_at dksX12_init_6 20 rfl rfl)
theorem dX12_init_161 : decode cX12_init 161 = .ok (.newarray .boolean, 2) := dk_188_4 (dk_at dksX12_init_6 22 rfl rfl)
theorem dX12_init_163 : decode cX12_init 163 = .ok (.putfield 74, 3) := dk_181 0 74 (dk_at dksX12_init_7 0 rfl rfl)
theorem dX12_init_166 : decode cX12_init 166 = .ok (.aload_n 0, 1) := dk_42 (dk_at dksX12_init_7 3 rfl rfl)
theorem dX12_init_167 : decode cX12_init 167 = .ok (.bipush 16, 2) := dk_16 16 (dk_at dksX12_init_7 4 rfl rfl)
theorem dX12_init_169 : decode cX12_init 169 = .ok (.newarray .int, 2) := dk_188_10 (dk_at dksX12_init_7 6 rfl rfl)
theorem dX12_init_171 : decode cX12_init 171 = .ok (.putfield 77, 3) := dk_181 0 77 (dk_at dksX12_init_7 8 rfl rfl)
theorem dX12_init_174 : decode cX12_init 174 = .ok (.aload_n 0, 1) := dk_42 (dk_at dksX12_init_7 11 rfl rfl)
theorem dX12_init_175 : decode cX12_init 175 = .ok (.bipush 16, 2) := dk_16 16 (dk_at dksX12_init_7 12 rfl rfl)
theorem dX12_init_177 : decode cX12_init 177 = .ok (.newarray .int, 2) := dk_188_10 (dk_at dksX12_init_7 14 rfl rfl)
theorem dX12_init_179 : decode cX12_init 179 = .ok (.putfield 80, 3) := dk_181 0 80 (dk_at dksX12_init_7 16 rfl rfl)
theorem dX12_init_182 : decode cX12_init 182 = .ok (.aload_n 0, 1) := dk_42 (dk_at dksX12_init_7 19 rfl rfl)
theorem dX12_init_183 : decode cX12_init 183 = .ok (.sipush 9080, 3) := dk_17 35 120 (dk_at dksX12_init_7 20 rfl rfl)
theorem dX12_init_186 : decode cX12_init 186 = .ok (.newarray .int, 2) := dk_188_10 (dk_at dksX12_init_8 0 rfl rfl)
theorem dX12_init_188 : decode cX12_init 188 = .ok (.putfield 83, 3) := dk_181 0 83 (dk_at dksX12_init_8 2 rfl rfl)
theorem dX12_init_191 : decode cX12_init 191 = .ok (.aload_n 0, 1) := dk_42 (dk_at dksX12_init_8 5 rfl rfl)
theorem dX12_init_192 : decode cX12_init 192 = .ok (.iconst 4, 1) := dk_7 (dk_at dksX12_init_8 6 rfl rfl)
theorem dX12_init_193 : decode cX12_init 193 = .ok (.newarray .int, 2) := dk_188_10 (dk_at dksX12_init_8 7 rfl rfl)
theorem dX12_init_195 : decode cX12_init 195 = .ok (.dup, 1) := dk_89 (dk_at dksX12_init_8 9 rfl rfl)
theorem dX12_init_196 : decode cX12_init 196 = .ok (.iconst 0, 1) := dk_3 (dk_at dksX12_init_8 10 rfl rfl)
theorem dX12_init_197 : decode cX12_init 197 = .ok (.iconst (-1), 1) := dk_2 (dk_at dksX12_init_8 11 rfl rfl)
theorem dX12_init_198 : decode cX12_init 198 = .ok (.iastore, 1) := dk_79 (dk_at dksX12_init_8 12 rfl rfl)
theorem dX12_init_199 : decode cX12_init 199 = .ok (.dup, 1) := dk_89 (dk_at dksX12_init_8 13 rfl rfl)
theorem dX12_init_200 : decode cX12_init 200 = .ok (.iconst 1, 1) := dk_4 (dk_at dksX12_init_8 14 rfl rfl)
theorem dX12_init_201 : decode cX12_init 201 = .ok (.iconst (-1), 1) := dk_2 (dk_at dksX12_init_8 15 rfl rfl)
theorem dX12_init_202 : decode cX12_init 202 = .ok (.iastore, 1) := dk_79 (dk_at dksX12_init_8 16 rfl rfl)
theorem dX12_init_203 : decode cX12_init 203 = .ok (.dup, 1) := dk_89 (dk_at dksX12_init_8 17 rfl rfl)
theorem dX12_init_204 : decode cX12_init 204 = .ok (.iconst 2, 1) := dk_5 (dk_at dksX12_init_8 18 rfl rfl)
theorem dX12_init_205 : decode cX12_init 205 = .ok (.iconst (-1), 1) := dk_2 (dk_at dksX12_init_8 19 rfl rfl)
theorem dX12_init_206 : decode cX12_init 206 = .ok (.iastore, 1) := dk_79 (dk_at dksX12_init_8 20 rfl rfl)
theorem dX12_init_207 : decode cX12_init 207 = .ok (.dup, 1) := dk_89 (dk_at dksX12_init_8 21 rfl rfl)
theorem dX12_init_208 : decode cX12_init 208 = .ok (.iconst 3, 1) := dk_6 (dk_at dksX12_init_8 22 rfl rfl)
theorem dX12_init_209 : decode cX12_init 209 = .ok (.iconst (-1), 1) := dk_2 (dk_at dksX12_init_8 23 rfl rfl)
theorem dX12_init_210 : decode cX12_init 210 = .ok (.iastore, 1) := dk_79 (dk_at dksX12_init_9 0 rfl rfl)
theorem dX12_init_211 : decode cX12_init 211 = .ok (.putfield 86, 3) := dk_181 0 86 (dk_at dksX12_init_9 1 rfl rfl)
theorem dX12_init_214 : decode cX12_init 214 = .ok (.aload_n 0, 1) := dk_42 (dk_at dksX12_init_9 4 rfl rfl)
theorem dX12_init_215 : decode cX12_init 215 = .ok (.iconst 4, 1) := dk_7 (dk_at dksX12_init_9 5 rfl rfl)
theorem dX12_init_216 : decode cX12_init 216 = .ok (.newarray .int, 2) := dk_188_10 (dk_at dksX12_init_9 6 rfl rfl)
theorem dX12_init_218 : decode cX12_init 218 = .ok (.putfield 89, 3) := dk_181 0 89 (dk_at dksX12_init_9 8 rfl rfl)
theorem dX12_init_221 : decode cX12_init 221 = .ok (.aload_n 0, 1) := dk_42 (dk_at dksX12_init_9 11 rfl rfl)
theorem dX12_init_222 : decode cX12_init 222 = .ok (.sipush 240, 3) := dk_17 0 240 (dk_at dksX12_init_9 12 rfl rfl)
theorem dX12_init_225 : decode cX12_init 225 = .ok (.newarray .long, 2) := dk_188_11 (dk_at dksX12_init_9 15 rfl rfl)
theorem dX12_init_227 : decode cX12_init 227 = .ok (.putfield 92, 3) := dk_181 0 92 (dk_at dksX12_init_9 17 rfl rfl)
theorem dX12_init_230 : decode cX12_init 230 = .ok (.aload_n 0, 1) := dk_42 (dk_at dksX12_init_9 20 rfl rfl)
theorem dX12_init_231 : decode cX12_init 231 = .ok (.bipush 60, 2) := dk_16 60 (dk_at dksX12_init_9 21 rfl rfl)
theorem dX12_init_233 : decode cX12_init 233 = .ok (.newarray .long, 2) := dk_188_11 (dk_at dksX12_init_10 0 rfl rfl)
theorem dX12_init_235 : decode cX12_init 235 = .ok (.putfield 96, 3) := dk_181 0 96 (dk_at dksX12_init_10 2 rfl rfl)
theorem dX12_init_238 : decode cX12_init 238 = .ok (.aload_n 0, 1) := dk_42 (dk_at dksX12_init_10 5 rfl rfl)
theorem dX12_init_239 : decode cX12_init 239 = .ok (.getfield 13, 3) := dk_180 0 13 (dk_at dksX12_init_10 6 rfl rfl)
theorem dX12_init_242 : decode cX12_init 242 = .ok (.iconst 5, 1) := dk_8 (dk_at dksX12_init_10 9 rfl rfl)
theorem dX12_init_243 : decode cX12_init 243 = .ok (.iconst 3, 1) := dk_6 (dk_at dksX12_init_10 10 rfl rfl)
theorem dX12_init_244 : decode cX12_init 244 = .ok (.iastore, 1) := dk_79 (dk_at dksX12_init_10 11 rfl rfl)
theorem dX12_init_245 : decode cX12_init 245 = .ok (.return_, 1) := dk_177 (dk_at dksX12_init_10 12 rfl rfl)
abbrev cX12_keep : ByteArray := prog_25_method_6_code
def yX12_keep : MethodName := ⟨RX12, "keep", "(I)I"⟩
def dkwX12_keep_2 : List UInt8 := [42, 180, 0, 20, 27, 4, 84, 3, 172]
abbrev dktX12_keep_2 : List UInt8 := dkwX12_keep_2 ++ []
def dkwX12_keep_1 : List UInt8 := [42, 180, 0, 17, 17, 35, 120, 27, 104, 28, 96, 42, 180, 0, 13, 28, 46, 79, 132, 2, 1, 167, 255, 228]
abbrev dktX12_keep_1 : List UInt8 := dkwX12_keep_1 ++ dktX12_keep_2
def dkwX12_keep_0 : List UInt8 := [27, 133, 9, 20, 0, 99, 184, 0, 101, 154, 0, 6, 16, 254, 172, 3, 61, 28, 17, 35, 120, 162, 0, 27]
abbrev dktX12_keep_0 : List UInt8 := dkwX12_keep_0 ++ dktX12_keep_1
theorem dksX12_keep_0 : cX12_keep.data.toList.drop 0 = dktX12_keep_0 := by decide +kernel
theorem dksX12_keep_1 : cX12_keep.data.toList.drop 24 = dktX12_keep_1 := dk_seg dksX12_keep_0 24 rfl rfl
theorem dksX12_keep_2 : cX12_keep.data.toList.drop 48 = dktX12_keep_2 := dk_seg dksX12_keep_1 24 rfl rfl
theorem dX12_keep_0 : decode cX12_keep 0 = .ok (.iload_n 1, 1) := dk_27 (dk_at dksX12_keep_0 0 rfl rfl)
theorem dX12_keep_1 : decode cX12_keep 1 = .ok (.i2l, 1) := dk_133 (dk_at dksX12_keep_0 1 rfl rfl)
theorem dX12_keep_2 : decode cX12_keep 2 = .ok (.lconst 0, 1) := dk_9 (dk_at dksX12_keep_0 2 rfl rfl)
theorem dX12_keep_3 : decode cX12_keep 3 = .ok (.ldc2_w 99, 3) := dk_20 0 99 (dk_at dksX12_keep_0 3 rfl rfl)
theorem dX12_keep_6 : decode cX12_keep 6 = .ok (.invokestatic 101, 3) := dk_184 0 101 (dk_at dksX12_keep_0 6 rfl rfl)
theorem dX12_keep_9 : decode cX12_keep 9 = .ok (.ifCond .ne 6, 3) := dk_154 0 6 (dk_at dksX12_keep_0 9 rfl rfl)
theorem dX12_keep_12 : decode cX12_keep 12 = .ok (.bipush (-2), 2) := dk_16 254 (dk_at dksX12_keep_0 12 rfl rfl)
theorem dX12_keep_14 : decode cX12_keep 14 = .ok (.ireturn, 1) := dk_172 (dk_at dksX12_keep_0 14 rfl rfl)
theorem dX12_keep_15 : decode cX12_keep 15 = .ok (.iconst 0, 1) := dk_3 (dk_at dksX12_keep_0 15 rfl rfl)
theorem dX12_keep_16 : decode cX12_keep 16 = .ok (.istore_n 2, 1) := dk_61 (dk_at dksX12_keep_0 16 rfl rfl)
theorem dX12_keep_17 : decode cX12_keep 17 = .ok (.iload_n 2, 1) := dk_28 (dk_at dksX12_keep_0 17 rfl rfl)
theorem dX12_keep_18 : decode cX12_keep 18 = .ok (.sipush 9080, 3) := dk_17 35 120 (dk_at dksX12_keep_0 18 rfl rfl)
theorem dX12_keep_21 : decode cX12_keep 21 = .ok (.if_icmp .ge 27, 3) := dk_162 0 27 (dk_at dksX12_keep_0 21 rfl rfl)
theorem dX12_keep_24 : decode cX12_keep 24 = .ok (.aload_n 0, 1) := dk_42 (dk_at dksX12_keep_1 0 rfl rfl)
theorem dX12_keep_25 : decode cX12_keep 25 = .ok (.getfield 17, 3) := dk_180 0 17 (dk_at dksX12_keep_1 1 rfl rfl)
theorem dX12_keep_28 : decode cX12_keep 28 = .ok (.sipush 9080, 3) := dk_17 35 120 (dk_at dksX12_keep_1 4 rfl rfl)
theorem dX12_keep_31 : decode cX12_keep 31 = .ok (.iload_n 1, 1) := dk_27 (dk_at dksX12_keep_1 7 rfl rfl)
theorem dX12_keep_32 : decode cX12_keep 32 = .ok (.imul, 1) := dk_104 (dk_at dksX12_keep_1 8 rfl rfl)
theorem dX12_keep_33 : decode cX12_keep 33 = .ok (.iload_n 2, 1) := dk_28 (dk_at dksX12_keep_1 9 rfl rfl)
theorem dX12_keep_34 : decode cX12_keep 34 = .ok (.iadd, 1) := dk_96 (dk_at dksX12_keep_1 10 rfl rfl)
theorem dX12_keep_35 : decode cX12_keep 35 = .ok (.aload_n 0, 1) := dk_42 (dk_at dksX12_keep_1 11 rfl rfl)
theorem dX12_keep_36 : decode cX12_keep 36 = .ok (.getfield 13, 3) := dk_180 0 13 (dk_at dksX12_keep_1 12 rfl rfl)
theorem dX12_keep_39 : decode cX12_keep 39 = .ok (.iload_n 2, 1) := dk_28 (dk_at dksX12_keep_1 15 rfl rfl)
theorem dX12_keep_40 : decode cX12_keep 40 = .ok (.iaload, 1) := dk_46 (dk_at dksX12_keep_1 16 rfl rfl)
theorem dX12_keep_41 : decode cX12_keep 41 = .ok (.iastore, 1) := dk_79 (dk_at dksX12_keep_1 17 rfl rfl)
theorem dX12_keep_42 : decode cX12_keep 42 = .ok (.iinc 2 1, 3) := dk_132 2 1 (dk_at dksX12_keep_1 18 rfl rfl)
theorem dX12_keep_45 : decode cX12_keep 45 = .ok (.goto (-28), 3) := dk_167 255 228 (dk_at dksX12_keep_1 21 rfl rfl)
theorem dX12_keep_48 : decode cX12_keep 48 = .ok (.aload_n 0, 1) := dk_42 (dk_at dksX12_keep_2 0 rfl rfl)
theorem dX12_keep_49 : decode cX12_keep 49 = .ok (.getfield 20, 3) := dk_180 0 20 (dk_at dksX12_keep_2 1 rfl rfl)
theorem dX12_keep_52 : decode cX12_keep 52 = .ok (.iload_n 1, 1) := dk_27 (dk_at dksX12_keep_2 4 rfl rfl)
theorem dX12_keep_53 : decode cX12_keep 53 = .ok (.iconst 1, 1) := dk_4 (dk_at dksX12_keep_2 5 rfl rfl)
theorem dX12_keep_54 : decode cX12_keep 54 = .ok (.bastore, 1) := dk_84 (dk_at dksX12_keep_2 6 rfl rfl)
theorem dX12_keep_55 : decode cX12_keep 55 = .ok (.iconst 0, 1) := dk_3 (dk_at dksX12_keep_2 7 rfl rfl)
theorem dX12_keep_56 : decode cX12_keep 56 = .ok (.ireturn, 1) := dk_172 (dk_at dksX12_keep_2 8 rfl rfl)
abbrev cX12_in : ByteArray := prog_25_method_2_code
def yX12_in : MethodName := ⟨RX12, "in", "(JJJ)Z"⟩
def dkwX12_in_0 : List UInt8 := [30, 32, 148, 155, 0, 14, 30, 22, 4, 148, 157, 0, 7, 4, 167, 0, 4, 3, 172]
abbrev dktX12_in_0 : List UInt8 := dkwX12_in_0 ++ []
theorem dksX12_in_0 : cX12_in.data.toList.drop 0 = dktX12_in_0 := by decide +kernel
theorem dX12_in_0 : decode cX12_in 0 = .ok (.lload_n 0, 1) := dk_30 (dk_at dksX12_in_0 0 rfl rfl)
theorem dX12_in_1 : decode cX12_in 1 = .ok (.lload_n 2, 1) := dk_32 (dk_at dksX12_in_0 1 rfl rfl)
theorem dX12_in_2 : decode cX12_in 2 = .ok (.lcmp, 1) := dk_148 (dk_at dksX12_in_0 2 rfl rfl)
theorem dX12_in_3 : decode cX12_in 3 = .ok (.ifCond .lt 14, 3) := dk_155 0 14 (dk_at dksX12_in_0 3 rfl rfl)
theorem dX12_in_6 : decode cX12_in 6 = .ok (.lload_n 0, 1) := dk_30 (dk_at dksX12_in_0 6 rfl rfl)
theorem dX12_in_7 : decode cX12_in 7 = .ok (.lload 4, 2) := dk_22 4 (dk_at dksX12_in_0 7 rfl rfl)
theorem dX12_in_9 : decode cX12_in 9 = .ok (.lcmp, 1) := dk_148 (dk_at dksX12_in_0 9 rfl rfl)
theorem dX12_in_10 : decode cX12_in 10 = .ok (.ifCond .gt 7, 3) := dk_157 0 7 (dk_at dksX12_in_0 10 rfl rfl)
theorem dX12_in_13 : decode cX12_in 13 = .ok (.iconst 1, 1) := dk_4 (dk_at dksX12_in_0 13 rfl rfl)
theorem dX12_in_14 : decode cX12_in 14 = .ok (.goto 4, 3) := dk_167 0 4 (dk_at dksX12_in_0 14 rfl rfl)
theorem dX12_in_17 : decode cX12_in 17 = .ok (.iconst 0, 1) := dk_3 (dk_at dksX12_in_0 17 rfl rfl)
theorem dX12_in_18 : decode cX12_in 18 = .ok (.ireturn, 1) := dk_172 (dk_at dksX12_in_0 18 rfl rfl)
abbrev cX12_back : ByteArray := prog_25_method_7_code
def yX12_back : MethodName := ⟨RX12, "back", "(I)I"⟩
def dkwX12_back_2 : List UInt8 := [27, 104, 28, 96, 46, 79, 132, 2, 1, 167, 255, 228, 3, 172]
abbrev dktX12_back_2 : List UInt8 := dkwX12_back_2 ++ []
def dkwX12_back_1 : List UInt8 := [16, 250, 172, 3, 61, 28, 17, 35, 120, 162, 0, 27, 42, 180, 0, 13, 28, 42, 180, 0, 17, 17, 35, 120]
abbrev dktX12_back_1 : List UInt8 := dkwX12_back_1 ++ dktX12_back_2
def dkwX12_back_0 : List UInt8 := [27, 133, 9, 20, 0, 99, 184, 0, 101, 154, 0, 6, 16, 254, 172, 42, 180, 0, 20, 27, 51, 154, 0, 6]
abbrev dktX12_back_0 : List UInt8 := dkwX12_back_0 ++ dktX12_back_1
theorem dksX12_back_0 : cX12_back.data.toList.drop 0 = dktX12_back_0 := by decide +kernel
theorem dksX12_back_1 : cX12_back.data.toList.drop 24 = dktX12_back_1 := dk_seg dksX12_back_0 24 rfl rfl
theorem dksX12_back_2 : cX12_back.data.toList.drop 48 = dktX12_back_2 := dk_seg dksX12_back_1 24 rfl rfl
theorem dX12_back_0 : decode cX12_back 0 = .ok (.iload_n 1, 1) := dk_27 (dk_at dksX12_back_0 0 rfl rfl)
theorem dX12_back_1 : decode cX12_back 1 = .ok (.i2l, 1) := dk_133 (dk_at dksX12_back_0 1 rfl rfl)
theorem dX12_back_2 : decode cX12_back 2 = .ok (.lconst 0, 1) := dk_9 (dk_at dksX12_back_0 2 rfl rfl)
theorem dX12_back_3 : decode cX12_back 3 = .ok (.ldc2_w 99, 3) := dk_20 0 99 (dk_at dksX12_back_0 3 rfl rfl)
theorem dX12_back_6 : decode cX12_back 6 = .ok (.invokestatic 101, 3) := dk_184 0 101 (dk_at dksX12_back_0 6 rfl rfl)
theorem dX12_back_9 : decode cX12_back 9 = .ok (.ifCond .ne 6, 3) := dk_154 0 6 (dk_at dksX12_back_0 9 rfl rfl)
theorem dX12_back_12 : decode cX12_back 12 = .ok (.bipush (-2), 2) := dk_16 254 (dk_at dksX12_back_0 12 rfl rfl)
theorem dX12_back_14 : decode cX12_back 14 = .ok (.ireturn, 1) := dk_172 (dk_at dksX12_back_0 14 rfl rfl)
theorem dX12_back_15 : decode cX12_back 15 = .ok (.aload_n 0, 1) := dk_42 (dk_at dksX12_back_0 15 rfl rfl)
theorem dX12_back_16 : decode cX12_back 16 = .ok (.getfield 20, 3) := dk_180 0 20 (dk_at dksX12_back_0 16 rfl rfl)
theorem dX12_back_19 : decode cX12_back 19 = .ok (.iload_n 1, 1) := dk_27 (dk_at dksX12_back_0 19 rfl rfl)
theorem dX12_back_20 : decode cX12_back 20 = .ok (.baload, 1) := dk_51 (dk_at dksX12_back_0 20 rfl rfl)
theorem dX12_back_21 : decode cX12_back 21 = .ok (.ifCond .ne 6, 3) := dk_154 0 6 (dk_at dksX12_back_0 21 rfl rfl)
theorem dX12_back_24 : decode cX12_back 24 = .ok (.bipush (-6), 2) := dk_16 250 (dk_at dksX12_back_1 0 rfl rfl)
theorem dX12_back_26 : decode cX12_back 26 = .ok (.ireturn, 1) := dk_172 (dk_at dksX12_back_1 2 rfl rfl)
theorem dX12_back_27 : decode cX12_back 27 = .ok (.iconst 0, 1) := dk_3 (dk_at dksX12_back_1 3 rfl rfl)
theorem dX12_back_28 : decode cX12_back 28 = .ok (.istore_n 2, 1) := dk_61 (dk_at dksX12_back_1 4 rfl rfl)
theorem dX12_back_29 : decode cX12_back 29 = .ok (.iload_n 2, 1) := dk_28 (dk_at dksX12_back_1 5 rfl rfl)
theorem dX12_back_30 : decode cX12_back 30 = .ok (.sipush 9080, 3) := dk_17 35 120 (dk_at dksX12_back_1 6 rfl rfl)
theorem dX12_back_33 : decode cX12_back 33 = .ok (.if_icmp .ge 27, 3) := dk_162 0 27 (dk_at dksX12_back_1 9 rfl rfl)
theorem dX12_back_36 : decode cX12_back 36 = .ok (.aload_n 0, 1) := dk_42 (dk_at dksX12_back_1 12 rfl rfl)
theorem dX12_back_37 : decode cX12_back 37 = .ok (.getfield 13, 3) := dk_180 0 13 (dk_at dksX12_back_1 13 rfl rfl)
theorem dX12_back_40 : decode cX12_back 40 = .ok (.iload_n 2, 1) := dk_28 (dk_at dksX12_back_1 16 rfl rfl)
theorem dX12_back_41 : decode cX12_back 41 = .ok (.aload_n 0, 1) := dk_42 (dk_at dksX12_back_1 17 rfl rfl)
theorem dX12_back_42 : decode cX12_back 42 = .ok (.getfield 17, 3) := dk_180 0 17 (dk_at dksX12_back_1 18 rfl rfl)
theorem dX12_back_45 : decode cX12_back 45 = .ok (.sipush 9080, 3) := dk_17 35 120 (dk_at dksX12_back_1 21 rfl rfl)
theorem dX12_back_48 : decode cX12_back 48 = .ok (.iload_n 1, 1) := dk_27 (dk_at dksX12_back_2 0 rfl rfl)
theorem dX12_back_49 : decode cX12_back 49 = .ok (.imul, 1) := dk_104 (dk_at dksX12_back_2 1 rfl rfl)
theorem dX12_back_50 : decode cX12_back 50 = .ok (.iload_n 2, 1) := dk_28 (dk_at dksX12_back_2 2 rfl rfl)
theorem dX12_back_51 : decode cX12_back 51 = .ok (.iadd, 1) := dk_96 (dk_at dksX12_back_2 3 rfl rfl)
theorem dX12_back_52 : decode cX12_back 52 = .ok (.iaload, 1) := dk_46 (dk_at dksX12_back_2 4 rfl rfl)
theorem dX12_back_53 : decode cX12_back 53 = .ok (.iastore, 1) := dk_79 (dk_at dksX12_back_2 5 rfl rfl)
theorem dX12_back_54 : decode cX12_back 54 = .ok (.iinc 2 1, 3) := dk_132 2 1 (dk_at dksX12_back_2 6 rfl rfl)
theorem dX12_back_57 : decode cX12_back 57 = .ok (.goto (-28), 3) := dk_167 255 228 (dk_at dksX12_back_2 9 rfl rfl)
theorem dX12_back_60 : decode cX12_back 60 = .ok (.iconst 0, 1) := dk_3 (dk_at dksX12_back_2 12 rfl rfl)
theorem dX12_back_61 : decode cX12_back 61 = .ok (.ireturn, 1) := dk_172 (dk_at dksX12_back_2 13 rfl rfl)
abbrev cX12_feed : ByteArray := prog_25_method_13_code
def yX12_feed : MethodName := ⟨RX12, "feed", "(IIIII)I"⟩
def dkwX12_feed_5 : List UInt8 := [180, 0, 109, 172]
abbrev dktX12_feed_5 : List UInt8 := dkwX12_feed_5 ++ []
def dkwX12_feed_4 : List UInt8 := [100, 122, 145, 84, 132, 6, 1, 167, 255, 213, 42, 89, 180, 0, 109, 16, 20, 96, 181, 0, 109, 42]
abbrev dktX12_feed_4 : List UInt8 := dkwX12_feed_4 ++ dktX12_feed_5
def dkwX12_feed_3 : List UInt8 := [180, 0, 109, 21, 6, 96, 42, 180, 0, 28, 21, 6, 7, 108, 46, 16, 24, 16, 8, 21, 6, 7, 112, 104]
abbrev dktX12_feed_3 : List UInt8 := dkwX12_feed_3 ++ dktX12_feed_4
def dkwX12_feed_2 : List UInt8 := [180, 0, 28, 7, 21, 5, 79, 3, 54, 6, 21, 6, 16, 20, 162, 0, 42, 42, 180, 0, 24, 42]
abbrev dktX12_feed_2 : List UInt8 := dkwX12_feed_2 ++ dktX12_feed_3
def dkwX12_feed_1 : List UInt8 := [180, 0, 28, 4, 28, 79, 42, 180, 0, 28, 5, 29, 79, 42, 180, 0, 28, 6, 21, 4, 79, 42]
abbrev dktX12_feed_1 : List UInt8 := dkwX12_feed_1 ++ dktX12_feed_2
def dkwX12_feed_0 : List UInt8 := [42, 180, 0, 109, 16, 20, 96, 17, 5, 120, 164, 0, 5, 2, 172, 42, 180, 0, 28, 3, 27, 79, 42]
abbrev dktX12_feed_0 : List UInt8 := dkwX12_feed_0 ++ dktX12_feed_1
theorem dksX12_feed_0 : cX12_feed.data.toList.drop 0 = dktX12_feed_0 := by decide +kernel
theorem dksX12_feed_1 : cX12_feed.data.toList.drop 23 = dktX12_feed_1 := dk_seg dksX12_feed_0 23 rfl rfl
theorem dksX12_feed_2 : cX12_feed.data.toList.drop 45 = dktX12_feed_2 := dk_seg dksX12_feed_1 22 rfl rfl
theorem dksX12_feed_3 : cX12_feed.data.toList.drop 67 = dktX12_feed_3 := dk_seg dksX12_feed_2 22 rfl rfl
theorem dksX12_feed_4 : cX12_feed.data.toList.drop 91 = dktX12_feed_4 := dk_seg dksX12_feed_3 24 rfl rfl
theorem dksX12_feed_5 : cX12_feed.data.toList.drop 113 = dktX12_feed_5 := dk_seg dksX12_feed_4 22 rfl rfl
theorem dX12_feed_0 : decode cX12_feed 0 = .ok (.aload_n 0, 1) := dk_42 (dk_at dksX12_feed_0 0 rfl rfl)
theorem dX12_feed_1 : decode cX12_feed 1 = .ok (.getfield 109, 3) := dk_180 0 109 (dk_at dksX12_feed_0 1 rfl rfl)
theorem dX12_feed_4 : decode cX12_feed 4 = .ok (.bipush 20, 2) := dk_16 20 (dk_at dksX12_feed_0 4 rfl rfl)
theorem dX12_feed_6 : decode cX12_feed 6 = .ok (.iadd, 1) := dk_96 (dk_at dksX12_feed_0 6 rfl rfl)
theorem dX12_feed_7 : decode cX12_feed 7 = .ok (.sipush 1400, 3) := dk_17 5 120 (dk_at dksX12_feed_0 7 rfl rfl)
theorem dX12_feed_10 : decode cX12_feed 10 = .ok (.if_icmp .le 5, 3) := dk_164 0 5 (dk_at dksX12_feed_0 10 rfl rfl)
theorem dX12_feed_13 : decode cX12_feed 13 = .ok (.iconst (-1), 1) := dk_2 (dk_at dksX12_feed_0 13 rfl rfl)
theorem dX12_feed_14 : decode cX12_feed 14 = .ok (.ireturn, 1) := dk_172 (dk_at dksX12_feed_0 14 rfl rfl)
theorem dX12_feed_15 : decode cX12_feed 15 = .ok (.aload_n 0, 1) := dk_42 (dk_at dksX12_feed_0 15 rfl rfl)
theorem dX12_feed_16 : decode cX12_feed 16 = .ok (.getfield 28, 3) := dk_180 0 28 (dk_at dksX12_feed_0 16 rfl rfl)
theorem dX12_feed_19 : decode cX12_feed 19 = .ok (.iconst 0, 1) := dk_3 (dk_at dksX12_feed_0 19 rfl rfl)
theorem dX12_feed_20 : decode cX12_feed 20 = .ok (.iload_n 1, 1) := dk_27 (dk_at dksX12_feed_0 20 rfl rfl)
theorem dX12_feed_21 : decode cX12_feed 21 = .ok (.iastore, 1) := dk_79 (dk_at dksX12_feed_0 21 rfl rfl)
theorem dX12_feed_22 : decode cX12_feed 22 = .ok (.aload_n 0, 1) := dk_42 (dk_at dksX12_feed_0 22 rfl rfl)
theorem dX12_feed_23 : decode cX12_feed 23 = .ok (.getfield 28, 3) := dk_180 0 28 (dk_at dksX12_feed_1 0 rfl rfl)
theorem dX12_feed_26 : decode cX12_feed 26 = .ok (.iconst 1, 1) := dk_4 (dk_at dksX12_feed_1 3 rfl rfl)
theorem dX12_feed_27 : decode cX12_feed 27 = .ok (.iload_n 2, 1) := dk_28 (dk_at dksX12_feed_1 4 rfl rfl)
theorem dX12_feed_28 : decode cX12_feed 28 = .ok (.iastore, 1) := dk_79 (dk_at dksX12_feed_1 5 rfl rfl)
theorem dX12_feed_29 : decode cX12_feed 29 = .ok (.aload_n 0, 1) := dk_42 (dk_at dksX12_feed_1 6 rfl rfl)
theorem dX12_feed_30 : decode cX12_feed 30 = .ok (.getfield 28, 3) := dk_180 0 28 (dk_at dksX12_feed_1 7 rfl rfl)
theorem dX12_feed_33 : decode cX12_feed 33 = .ok (.iconst 2, 1) := dk_5 (dk_at dksX12_feed_1 10 rfl rfl)
theorem dX12_feed_34 : decode cX12_feed 34 = .ok (.iload_n 3, 1) := dk_29 (dk_at dksX12_feed_1 11 rfl rfl)
theorem dX12_feed_35 : decode cX12_feed 35 = .ok (.iastore, 1) := dk_79 (dk_at dksX12_feed_1 12 rfl rfl)
theorem dX12_feed_36 : decode cX12_feed 36 = .ok (.aload_n 0, 1) := dk_42 (dk_at dksX12_feed_1 13 rfl rfl)
theorem dX12_feed_37 : decode cX12_feed 37 = .ok (.getfield 28, 3) := dk_180 0 28 (dk_at dksX12_feed_1 14 rfl rfl)
theorem dX12_feed_40 : decode cX12_feed 40 = .ok (.iconst 3, 1) := dk_6 (dk_at dksX12_feed_1 17 rfl rfl)
theorem dX12_feed_41 : decode cX12_feed 41 = .ok (.iload 4, 2) := dk_21 4 (dk_at dksX12_feed_1 18 rfl rfl)
theorem dX12_feed_43 : decode cX12_feed 43 = .ok (.iastore, 1) := dk_79 (dk_at dksX12_feed_1 20 rfl rfl)
theorem dX12_feed_44 : decode cX12_feed 44 = .ok (.aload_n 0, 1) := dk_42 (dk_at dksX12_feed_1 21 rfl rfl)
theorem dX12_feed_45 : decode cX12_feed 45 = .ok (.getfield 28, 3) := dk_180 0 28 (dk_at dksX12_feed_2 0 rfl rfl)
theorem dX12_feed_48 : decode cX12_feed 48 = .ok (.iconst 4, 1) := dk_7 (dk_at dksX12_feed_2 3 rfl rfl)
theorem dX12_feed_49 : decode cX12_feed 49 = .ok (.iload 5, 2) := dk_21 5 (dk_at dksX12_feed_2 4 rfl rfl)
theorem dX12_feed_51 : decode cX12_feed 51 = .ok (.iastore, 1) := dk_79 (dk_at dksX12_feed_2 6 rfl rfl)
theorem dX12_feed_52 : decode cX12_feed 52 = .ok (.iconst 0, 1) := dk_3 (dk_at dksX12_feed_2 7 rfl rfl)
theorem dX12_feed_53 : decode cX12_feed 53 = .ok (.istore 6, 2) := dk_54 6 (dk_at dksX12_feed_2 8 rfl rfl)
theorem dX12_feed_55 : decode cX12_feed 55 = .ok (.iload 6, 2) := dk_21 6 (dk_at dksX12_feed_2 10 rfl rfl)
theorem dX12_feed_57 : decode cX12_feed 57 = .ok (.bipush 20, 2) := dk_16 20 (dk_at dksX12_feed_2 12 rfl rfl)
theorem dX12_feed_59 : decode cX12_feed 59 = .ok (.if_icmp .ge 42, 3) := dk_162 0 42 (dk_at dksX12_feed_2 14 rfl rfl)
theorem dX12_feed_62 : decode cX12_feed 62 = .ok (.aload_n 0, 1) := dk_42 (dk_at dksX12_feed_2 17 rfl rfl)
theorem dX12_feed_63 : decode cX12_feed 63 = .ok (.getfield 24, 3) := dk_180 0 24 (dk_at dksX12_feed_2 18 rfl rfl)
theorem dX12_feed_66 : decode cX12_feed 66 = .ok (.aload_n 0, 1) := dk_42 (dk_at dksX12_feed_2 21 rfl rfl)
theorem dX12_feed_67 : decode cX12_feed 67 = .ok (.getfield 109, 3) := dk_180 0 109 (dk_at dksX12_feed_3 0 rfl rfl)
theorem dX12_feed_70 : decode cX12_feed 70 = .ok (.iload 6, 2) := dk_21 6 (dk_at dksX12_feed_3 3 rfl rfl)
theorem dX12_feed_72 : decode cX12_feed 72 = .ok (.iadd, 1) := dk_96 (dk_at dksX12_feed_3 5 rfl rfl)
theorem dX12_feed_73 : decode cX12_feed 73 = .ok (.aload_n 0, 1) := dk_42 (dk_at dksX12_feed_3 6 rfl rfl)
theorem dX12_feed_74 : decode cX12_feed 74 = .ok (.getfield 28, 3) := dk_180 0 28 (dk_at dksX12_feed_3 7 rfl rfl)
theorem dX12_feed_77 : decode cX12_feed 77 = .ok (.iload 6, 2) := dk_21 6 (dk_at dksX12_feed_3 10 rfl rfl)
theorem dX12_feed_79 : decode cX12_feed 79 = .ok (.iconst 4, 1) := dk_7 (dk_at dksX12_feed_3 12 rfl rfl)
theorem dX12_feed_80 : decode cX12_feed 80 = .ok (.idiv, 1) := dk_108 (dk_at dksX12_feed_3 13 rfl rfl)
theorem dX12_feed_81 : decode cX12_feed 81 = .ok (.iaload, 1) := dk_46 (dk_at dksX12_feed_3 14 rfl rfl)
theorem dX12_feed_82 : decode cX12_feed 82 = .ok (.bipush 24, 2) := dk_16 24 (dk_at dksX12_feed_3 15 rfl rfl)
theorem dX12_feed_84 : decode cX12_feed 84 = .ok (.bipush 8, 2) := dk_16 8 (dk_at dksX12_feed_3 17 rfl rfl)
theorem dX12_feed_86 : decode cX12_feed 86 = .ok (.iload 6, 2) := dk_21 6 (dk_at dksX12_feed_3 19 rfl rfl)
theorem dX12_feed_88 : decode cX12_feed 88 = .ok (.iconst 4, 1) := dk_7 (dk_at dksX12_feed_3 21 rfl rfl)
theorem dX12_feed_89 : decode cX12_feed 89 = .ok (.irem, 1) := dk_112 (dk_at dksX12_feed_3 22 rfl rfl)
theorem dX12_feed_90 : decode cX12_feed 90 = .ok (.imul, 1) := dk_104 (dk_at dksX12_feed_3 23 rfl rfl)
theorem dX12_feed_91 : decode cX12_feed 91 = .ok (.isub, 1) := dk_100 (dk_at dksX12_feed_4 0 rfl rfl)
theorem dX12_feed_92 : decode cX12_feed 92 = .ok (.ishr, 1) := dk_122 (dk_at dksX12_feed_4 1 rfl rfl)
theorem dX12_feed_93 : decode cX12_feed 93 = .ok (.i2b, 1) := dk_145 (dk_at dksX12_feed_4 2 rfl rfl)
theorem dX12_feed_94 : decode cX12_feed 94 = .ok (.bastore, 1) := dk_84 (dk_at dksX12_feed_4 3 rfl rfl)
theorem dX12_feed_95 : decode cX12_feed 95 = .ok (.iinc 6 1, 3) := dk_132 6 1 (dk_at dksX12_feed_4 4 rfl rfl)
theorem dX12_feed_98 : decode cX12_feed 98 = .ok (.goto (-43), 3) := dk_167 255 213 (dk_at dksX12_feed_4 7 rfl rfl)
theorem dX12_feed_101 : decode cX12_feed 101 = .ok (.aload_n 0, 1) := dk_42 (dk_at dksX12_feed_4 10 rfl rfl)
theorem dX12_feed_102 : decode cX12_feed 102 = .ok (.dup, 1) := dk_89 (dk_at dksX12_feed_4 11 rfl rfl)
theorem dX12_feed_103 : decode cX12_feed 103 = .ok (.getfield 109, 3) := dk_180 0 109 (dk_at dksX12_feed_4 12 rfl rfl)
theorem dX12_feed_106 : decode cX12_feed 106 = .ok (.bipush 20, 2) := dk_16 20 (dk_at dksX12_feed_4 15 rfl rfl)
theorem dX12_feed_108 : decode cX12_feed 108 = .ok (.iadd, 1) := dk_96 (dk_at dksX12_feed_4 17 rfl rfl)
theorem dX12_feed_109 : decode cX12_feed 109 = .ok (.putfield 109, 3) := dk_181 0 109 (dk_at dksX12_feed_4 18 rfl rfl)
theorem dX12_feed_112 : decode cX12_feed 112 = .ok (.aload_n 0, 1) := dk_42 (dk_at dksX12_feed_4 21 rfl rfl)
theorem dX12_feed_113 : decode cX12_feed 113 = .ok (.getfield 109, 3) := dk_180 0 109 (dk_at dksX12_feed_5 0 rfl rfl)
theorem dX12_feed_116 : decode cX12_feed 116 = .ok (.ireturn, 1) := dk_172 (dk_at dksX12_feed_5 3 rfl rfl)
abbrev cX12_end : ByteArray := prog_25_method_14_code
def yX12_end : MethodName := ⟨RX12, "end", "(I)I"⟩
def dkwX12_end_0 : List UInt8 := [27, 133, 9, 42, 180, 0, 109, 133, 184, 0, 101, 154, 0, 5, 2, 172, 42, 27, 181, 0, 109, 27, 172]
abbrev dktX12_end_0 : List UInt8 := dkwX12_end_0 ++ []
theorem dksX12_end_0 : cX12_end.data.toList.drop 0 = dktX12_end_0 := by decide +kernel
theorem dX12_end_0 : decode cX12_end 0 = .ok (.iload_n 1, 1) := dk_27 (dk_at dksX12_end_0 0 rfl rfl)
theorem dX12_end_1 : decode cX12_end 1 = .ok (.i2l, 1) := dk_133 (dk_at dksX12_end_0 1 rfl rfl)
theorem dX12_end_2 : decode cX12_end 2 = .ok (.lconst 0, 1) := dk_9 (dk_at dksX12_end_0 2 rfl rfl)
theorem dX12_end_3 : decode cX12_end 3 = .ok (.aload_n 0, 1) := dk_42 (dk_at dksX12_end_0 3 rfl rfl)
theorem dX12_end_4 : decode cX12_end 4 = .ok (.getfield 109, 3) := dk_180 0 109 (dk_at dksX12_end_0 4 rfl rfl)
theorem dX12_end_7 : decode cX12_end 7 = .ok (.i2l, 1) := dk_133 (dk_at dksX12_end_0 7 rfl rfl)
theorem dX12_end_8 : decode cX12_end 8 = .ok (.invokestatic 101, 3) := dk_184 0 101 (dk_at dksX12_end_0 8 rfl rfl)
theorem dX12_end_11 : decode cX12_end 11 = .ok (.ifCond .ne 5, 3) := dk_154 0 5 (dk_at dksX12_end_0 11 rfl rfl)
theorem dX12_end_14 : decode cX12_end 14 = .ok (.iconst (-1), 1) := dk_2 (dk_at dksX12_end_0 14 rfl rfl)
theorem dX12_end_15 : decode cX12_end 15 = .ok (.ireturn, 1) := dk_172 (dk_at dksX12_end_0 15 rfl rfl)
theorem dX12_end_16 : decode cX12_end 16 = .ok (.aload_n 0, 1) := dk_42 (dk_at dksX12_end_0 16 rfl rfl)
theorem dX12_end_17 : decode cX12_end 17 = .ok (.iload_n 1, 1) := dk_27 (dk_at dksX12_end_0 17 rfl rfl)
theorem dX12_end_18 : decode cX12_end 18 = .ok (.putfield 109, 3) := dk_181 0 109 (dk_at dksX12_end_0 18 rfl rfl)
theorem dX12_end_21 : decode cX12_end 21 = .ok (.iload_n 1, 1) := dk_27 (dk_at dksX12_end_0 21 rfl rfl)
theorem dX12_end_22 : decode cX12_end 22 = .ok (.ireturn, 1) := dk_172 (dk_at dksX12_end_0 22 rfl rfl)
abbrev cX12_fault : ByteArray := prog_25_method_24_code
def yX12_fault : MethodName := ⟨RX12, "fault", "(I)I"⟩
def dkwX12_fault_1 : List UInt8 := [172]
abbrev dktX12_fault_1 : List UInt8 := dkwX12_fault_1 ++ []
def dkwX12_fault_0 : List UInt8 := [27, 154, 0, 10, 42, 180, 0, 145, 167, 0, 16, 27, 4, 160, 0, 10, 42, 180, 0, 31, 167, 0, 4, 2]
abbrev dktX12_fault_0 : List UInt8 := dkwX12_fault_0 ++ dktX12_fault_1
theorem dksX12_fault_0 : cX12_fault.data.toList.drop 0 = dktX12_fault_0 := by decide +kernel
theorem dksX12_fault_1 : cX12_fault.data.toList.drop 24 = dktX12_fault_1 := dk_seg dksX12_fault_0 24 rfl rfl
theorem dX12_fault_0 : decode cX12_fault 0 = .ok (.iload_n 1, 1) := dk_27 (dk_at dksX12_fault_0 0 rfl rfl)
theorem dX12_fault_1 : decode cX12_fault 1 = .ok (.ifCond .ne 10, 3) := dk_154 0 10 (dk_at dksX12_fault_0 1 rfl rfl)
theorem dX12_fault_4 : decode cX12_fault 4 = .ok (.aload_n 0, 1) := dk_42 (dk_at dksX12_fault_0 4 rfl rfl)
theorem dX12_fault_5 : decode cX12_fault 5 = .ok (.getfield 145, 3) := dk_180 0 145 (dk_at dksX12_fault_0 5 rfl rfl)
theorem dX12_fault_8 : decode cX12_fault 8 = .ok (.goto 16, 3) := dk_167 0 16 (dk_at dksX12_fault_0 8 rfl rfl)
theorem dX12_fault_11 : decode cX12_fault 11 = .ok (.iload_n 1, 1) := dk_27 (dk_at dksX12_fault_0 11 rfl rfl)
theorem dX12_fault_12 : decode cX12_fault 12 = .ok (.iconst 1, 1) := dk_4 (dk_at dksX12_fault_0 12 rfl rfl)
theorem dX12_fault_13 : decode cX12_fault 13 = .ok (.if_icmp .ne 10, 3) := dk_160 0 10 (dk_at dksX12_fault_0 13 rfl rfl)
theorem dX12_fault_16 : decode cX12_fault 16 = .ok (.aload_n 0, 1) := dk_42 (dk_at dksX12_fault_0 16 rfl rfl)
theorem dX12_fault_17 : decode cX12_fault 17 = .ok (.getfield 31, 3) := dk_180 0 31 (dk_at dksX12_fault_0 17 rfl rfl)
theorem dX12_fault_20 : decode cX12_fault 20 = .ok (.goto 4, 3) := dk_167 0 4 (dk_at dksX12_fault_0 20 rfl rfl)
theorem dX12_fault_23 : decode cX12_fault 23 = .ok (.iconst (-1), 1) := dk_2 (dk_at dksX12_fault_0 23 rfl rfl)
theorem dX12_fault_24 : decode cX12_fault 24 = .ok (.ireturn, 1) := dk_172 (dk_at dksX12_fault_1 0 rfl rfl)
abbrev cX12_town : ByteArray := prog_25_method_35_code
def yX12_town : MethodName := ⟨RX12, "town", "()I"⟩
def dkwX12_town_6 : List UInt8 := [182, 1, 30, 79, 132, 1, 1, 167, 255, 230, 42, 180, 0, 13, 3, 46, 172]
abbrev dktX12_town_6 : List UInt8 := dkwX12_town_6 ++ []
def dkwX12_town_5 : List UInt8 := [167, 255, 234, 3, 60, 27, 16, 16, 162, 0, 26, 42, 180, 0, 13, 17, 7, 72, 27, 96, 42, 27, 16, 8]
abbrev dktX12_town_5 : List UInt8 := dkwX12_town_5 ++ dktX12_town_6
def dkwX12_town_4 : List UInt8 := [60, 27, 17, 35, 120, 162, 0, 21, 42, 180, 0, 13, 27, 42, 180, 0, 34, 27, 46, 79, 132, 1, 1]
abbrev dktX12_town_4 : List UInt8 := dkwX12_town_4 ++ dktX12_town_5
def dkwX12_town_3 : List UInt8 := [180, 0, 125, 153, 0, 10, 42, 182, 1, 27, 167, 255, 238, 42, 182, 0, 148, 154, 0, 6, 16, 252, 172, 3]
abbrev dktX12_town_3 : List UInt8 := dkwX12_town_3 ++ dktX12_town_4
def dkwX12_town_2 : List UInt8 := [167, 255, 239, 42, 180, 0, 34, 8, 6, 79, 42, 182, 0, 166, 42, 182, 0, 148, 153, 0, 17, 42]
abbrev dktX12_town_2 : List UInt8 := dkwX12_town_2 ++ dktX12_town_3
def dkwX12_town_1 : List UInt8 := [2, 181, 0, 31, 3, 60, 27, 17, 35, 120, 162, 0, 16, 42, 180, 0, 34, 27, 3, 79, 132, 1, 1]
abbrev dktX12_town_1 : List UInt8 := dkwX12_town_1 ++ dktX12_town_2
def dkwX12_town_0 : List UInt8 := [42, 42, 180, 0, 109, 181, 0, 112, 42, 3, 181, 0, 109, 42, 3, 181, 0, 115, 42, 3, 181, 0, 145, 42]
abbrev dktX12_town_0 : List UInt8 := dkwX12_town_0 ++ dktX12_town_1
theorem dksX12_town_0 : cX12_town.data.toList.drop 0 = dktX12_town_0 := by decide +kernel
theorem dksX12_town_1 : cX12_town.data.toList.drop 24 = dktX12_town_1 := dk_seg dksX12_town_0 24 rfl rfl
theorem dksX12_town_2 : cX12_town.data.toList.drop 47 = dktX12_town_2 := dk_seg dksX12_town_1 23 rfl rfl
theorem dksX12_town_3 : cX12_town.data.toList.drop 69 = dktX12_town_3 := dk_seg dksX12_town_2 22 rfl rfl
theorem dksX12_town_4 : cX12_town.data.toList.drop 93 = dktX12_town_4 := dk_seg dksX12_town_3 24 rfl rfl
theorem dksX12_town_5 : cX12_town.data.toList.drop 116 = dktX12_town_5 := dk_seg dksX12_town_4 23 rfl rfl
theorem dksX12_town_6 : cX12_town.data.toList.drop 140 = dktX12_town_6 := dk_seg dksX12_town_5 24 rfl rfl
theorem dX12_town_0 : decode cX12_town 0 = .ok (.aload_n 0, 1) := dk_42 (dk_at dksX12_town_0 0 rfl rfl)
theorem dX12_town_1 : decode cX12_town 1 = .ok (.aload_n 0, 1) := dk_42 (dk_at dksX12_town_0 1 rfl rfl)
theorem dX12_town_2 : decode cX12_town 2 = .ok (.getfield 109, 3) := dk_180 0 109 (dk_at dksX12_town_0 2 rfl rfl)
theorem dX12_town_5 : decode cX12_town 5 = .ok (.putfield 112, 3) := dk_181 0 112 (dk_at dksX12_town_0 5 rfl rfl)
theorem dX12_town_8 : decode cX12_town 8 = .ok (.aload_n 0, 1) := dk_42 (dk_at dksX12_town_0 8 rfl rfl)
theorem dX12_town_9 : decode cX12_town 9 = .ok (.iconst 0, 1) := dk_3 (dk_at dksX12_town_0 9 rfl rfl)
theorem dX12_town_10 : decode cX12_town 10 = .ok (.putfield 109, 3) := dk_181 0 109 (dk_at dksX12_town_0 10 rfl rfl)
theorem dX12_town_13 : decode cX12_town 13 = .ok (.aload_n 0, 1) := dk_42 (dk_at dksX12_town_0 13 rfl rfl)
theorem dX12_town_14 : decode cX12_town 14 = .ok (.iconst 0, 1) := dk_3 (dk_at dksX12_town_0 14 rfl rfl)
theorem dX12_town_15 : decode cX12_town 15 = .ok (.putfield 115, 3) := dk_181 0 115 (dk_at dksX12_town_0 15 rfl rfl)
theorem dX12_town_18 : decode cX12_town 18 = .ok (.aload_n 0, 1) := dk_42 (dk_at dksX12_town_0 18 rfl rfl)
theorem dX12_town_19 : decode cX12_town 19 = .ok (.iconst 0, 1) := dk_3 (dk_at dksX12_town_0 19 rfl rfl)
theorem dX12_town_20 : decode cX12_town 20 = .ok (.putfield 145, 3) := dk_181 0 145 (dk_at dksX12_town_0 20 rfl rfl)
theorem dX12_town_23 : decode cX12_town 23 = .ok (.aload_n 0, 1) := dk_42 (dk_at dksX12_town_0 23 rfl rfl)
theorem dX12_town_24 : decode cX12_town 24 = .ok (.iconst (-1), 1) := dk_2 (dk_at dksX12_town_1 0 rfl rfl)
theorem dX12_town_25 : decode cX12_town 25 = .ok (.putfield 31, 3) := dk_181 0 31 (dk_at dksX12_town_1 1 rfl rfl)
theorem dX12_town_28 : decode cX12_town 28 = .ok (.iconst 0, 1) := dk_3 (dk_at dksX12_town_1 4 rfl rfl)
theorem dX12_town_29 : decode cX12_town 29 = .ok (.istore_n 1, 1) := dk_60 (dk_at dksX12_town_1 5 rfl rfl)
theorem dX12_town_30 : decode cX12_town 30 = .ok (.iload_n 1, 1) := dk_27 (dk_at dksX12_town_1 6 rfl rfl)
theorem dX12_town_31 : decode cX12_town 31 = .ok (.sipush 9080, 3) := dk_17 35 120 (dk_at dksX12_town_1 7 rfl rfl)
theorem dX12_town_34 : decode cX12_town 34 = .ok (.if_icmp .ge 16, 3) := dk_162 0 16 (dk_at dksX12_town_1 10 rfl rfl)
theorem dX12_town_37 : decode cX12_town 37 = .ok (.aload_n 0, 1) := dk_42 (dk_at dksX12_town_1 13 rfl rfl)
theorem dX12_town_38 : decode cX12_town 38 = .ok (.getfield 34, 3) := dk_180 0 34 (dk_at dksX12_town_1 14 rfl rfl)
theorem dX12_town_41 : decode cX12_town 41 = .ok (.iload_n 1, 1) := dk_27 (dk_at dksX12_town_1 17 rfl rfl)
theorem dX12_town_42 : decode cX12_town 42 = .ok (.iconst 0, 1) := dk_3 (dk_at dksX12_town_1 18 rfl rfl)
theorem dX12_town_43 : decode cX12_town 43 = .ok (.iastore, 1) := dk_79 (dk_at dksX12_town_1 19 rfl rfl)
theorem dX12_town_44 : decode cX12_town 44 = .ok (.iinc 1 1, 3) := dk_132 1 1 (dk_at dksX12_town_1 20 rfl rfl)
theorem dX12_town_47 : decode cX12_town 47 = .ok (.goto (-17), 3) := dk_167 255 239 (dk_at dksX12_town_2 0 rfl rfl)
theorem dX12_town_50 : decode cX12_town 50 = .ok (.aload_n 0, 1) := dk_42 (dk_at dksX12_town_2 3 rfl rfl)
theorem dX12_town_51 : decode cX12_town 51 = .ok (.getfield 34, 3) := dk_180 0 34 (dk_at dksX12_town_2 4 rfl rfl)
theorem dX12_town_54 : decode cX12_town 54 = .ok (.iconst 5, 1) := dk_8 (dk_at dksX12_town_2 7 rfl rfl)
theorem dX12_town_55 : decode cX12_town 55 = .ok (.iconst 3, 1) := dk_6 (dk_at dksX12_town_2 8 rfl rfl)
theorem dX12_town_56 : decode cX12_town 56 = .ok (.iastore, 1) := dk_79 (dk_at dksX12_town_2 9 rfl rfl)
theorem dX12_town_57 : decode cX12_town 57 = .ok (.aload_n 0, 1) := dk_42 (dk_at dksX12_town_2 10 rfl rfl)
theorem dX12_town_58 : decode cX12_town 58 = .ok (.invokevirtual 166, 3) := dk_182 0 166 (dk_at dksX12_town_2 11 rfl rfl)
theorem dX12_town_61 : decode cX12_town 61 = .ok (.aload_n 0, 1) := dk_42 (dk_at dksX12_town_2 14 rfl rfl)
theorem dX12_town_62 : decode cX12_town 62 = .ok (.invokevirtual 148, 3) := dk_182 0 148 (dk_at dksX12_town_2 15 rfl rfl)
theorem dX12_town_65 : decode cX12_town 65 = .ok (.ifCond .eq 17, 3) := dk_153 0 17 (dk_at dksX12_town_2 18 rfl rfl)
theorem dX12_town_68 : decode cX12_town 68 = .ok (.aload_n 0, 1) := dk_42 (dk_at dksX12_town_2 21 rfl rfl)
theorem dX12_town_69 : decode cX12_town 69 = .ok (.getfield 125, 3) := dk_180 0 125 (dk_at dksX12_town_3 0 rfl rfl)
theorem dX12_town_72 : decode cX12_town 72 = .ok (.ifCond .eq 10, 3) := dk_153 0 10 (dk_at dksX12_town_3 3 rfl rfl)
theorem dX12_town_75 : decode cX12_town 75 = .ok (.aload_n 0, 1) := dk_42 (dk_at dksX12_town_3 6 rfl rfl)
theorem dX12_town_76 : decode cX12_town 76 = .ok (.invokevirtual 283, 3) := dk_182 1 27 (dk_at dksX12_town_3 7 rfl rfl)
theorem dX12_town_79 : decode cX12_town 79 = .ok (.goto (-18), 3) := dk_167 255 238 (dk_at dksX12_town_3 10 rfl rfl)
theorem dX12_town_82 : decode cX12_town 82 = .ok (.aload_n 0, 1) := dk_42 (dk_at dksX12_town_3 13 rfl rfl)
theorem dX12_town_83 : decode cX12_town 83 = .ok (.invokevirtual 148, 3) := dk_182 0 148 (dk_at dksX12_town_3 14 rfl rfl)
theorem dX12_town_86 : decode cX12_town 86 = .ok (.ifCond .ne 6, 3) := dk_154 0 6 (dk_at dksX12_town_3 17 rfl rfl)
theorem dX12_town_89 : decode cX12_town 89 = .ok (.bipush (-4), 2) := dk_16 252 (dk_at dksX12_town_3 20 rfl rfl)
theorem dX12_town_91 : decode cX12_town 91 = .ok (.ireturn, 1) := dk_172 (dk_at dksX12_town_3 22 rfl rfl)
theorem dX12_town_92 : decode cX12_town 92 = .ok (.iconst 0, 1) := dk_3 (dk_at dksX12_town_3 23 rfl rfl)
theorem dX12_town_93 : decode cX12_town 93 = .ok (.istore_n 1, 1) := dk_60 (dk_at dksX12_town_4 0 rfl rfl)
theorem dX12_town_94 : decode cX12_town 94 = .ok (.iload_n 1, 1) := dk_27 (dk_at dksX12_town_4 1 rfl rfl)
theorem dX12_town_95 : decode cX12_town 95 = .ok (.sipush 9080, 3) := dk_17 35 120 (dk_at dksX12_town_4 2 rfl rfl)
theorem dX12_town_98 : decode cX12_town 98 = .ok (.if_icmp .ge 21, 3) := dk_162 0 21 (dk_at dksX12_town_4 5 rfl rfl)
theorem dX12_town_101 : decode cX12_town 101 = .ok (.aload_n 0, 1) := dk_42 (dk_at dksX12_town_4 8 rfl rfl)
theorem dX12_town_102 : decode cX12_town 102 = .ok (.getfield 13, 3) := dk_180 0 13 (dk_at dksX12_town_4 9 rfl rfl)
theorem dX12_town_105 : decode cX12_town 105 = .ok (.iload_n 1, 1) := dk_27 (dk_at dksX12_town_4 12 rfl rfl)
theorem dX12_town_106 : decode cX12_town 106 = .ok (.aload_n 0, 1) := dk_42 (dk_at dksX12_town_4 13 rfl rfl)
theorem dX12_town_107 : decode cX12_town 107 = .ok (.getfield 34, 3) := dk_180 0 34 (dk_at dksX12_town_4 14 rfl rfl)
theorem dX12_town_110 : decode cX12_town 110 = .ok (.iload_n 1, 1) := dk_27 (dk_at dksX12_town_4 17 rfl rfl)
theorem dX12_town_111 : decode cX12_town 111 = .ok (.iaload, 1) := dk_46 (dk_at dksX12_town_4 18 rfl rfl)
theorem dX12_town_112 : decode cX12_town 112 = .ok (.iastore, 1) := dk_79 (dk_at dksX12_town_4 19 rfl rfl)
theorem dX12_town_113 : decode cX12_town 113 = .ok (.iinc 1 1, 3) := dk_132 1 1 (dk_at dksX12_town_4 20 rfl rfl)
theorem dX12_town_116 : decode cX12_town 116 = .ok (.goto (-22), 3) := dk_167 255 234 (dk_at dksX12_town_5 0 rfl rfl)
theorem dX12_town_119 : decode cX12_town 119 = .ok (.iconst 0, 1) := dk_3 (dk_at dksX12_town_5 3 rfl rfl)
theorem dX12_town_120 : decode cX12_town 120 = .ok (.istore_n 1, 1) := dk_60 (dk_at dksX12_town_5 4 rfl rfl)
theorem dX12_town_121 : decode cX12_town 121 = .ok (.iload_n 1, 1) := dk_27 (dk_at dksX12_town_5 5 rfl rfl)
theorem dX12_town_122 : decode cX12_town 122 = .ok (.bipush 16, 2) := dk_16 16 (dk_at dksX12_town_5 6 rfl rfl)
theorem dX12_town_124 : decode cX12_town 124 = .ok (.if_icmp .ge 26, 3) := dk_162 0 26 (dk_at dksX12_town_5 8 rfl rfl)
theorem dX12_town_127 : decode cX12_town 127 = .ok (.aload_n 0, 1) := dk_42 (dk_at dksX12_town_5 11 rfl rfl)
theorem dX12_town_128 : decode cX12_town 128 = .ok (.getfield 13, 3) := dk_180 0 13 (dk_at dksX12_town_5 12 rfl rfl)
theorem dX12_town_131 : decode cX12_town 131 = .ok (.sipush 1864, 3) := dk_17 7 72 (dk_at dksX12_town_5 15 rfl rfl)
theorem dX12_town_134 : decode cX12_town 134 = .ok (.iload_n 1, 1) := dk_27 (dk_at dksX12_town_5 18 rfl rfl)
theorem dX12_town_135 : decode cX12_town 135 = .ok (.iadd, 1) := dk_96 (dk_at dksX12_town_5 19 rfl rfl)
theorem dX12_town_136 : decode cX12_town 136 = .ok (.aload_n 0, 1) := dk_42 (dk_at dksX12_town_5 20 rfl rfl)
theorem dX12_town_137 : decode cX12_town 137 = .ok (.iload_n 1, 1) := dk_27 (dk_at dksX12_town_5 21 rfl rfl)
theorem dX12_town_138 : decode cX12_town 138 = .ok (.bipush 8, 2) := dk_16 8 (dk_at dksX12_town_5 22 rfl rfl)
theorem dX12_town_140 : decode cX12_town 140 = .ok (.invokevirtual 286, 3) := dk_182 1 30 (dk_at dksX12_town_6 0 rfl rfl)
theorem dX12_town_143 : decode cX12_town 143 = .ok (.iastore, 1) := dk_79 (dk_at dksX12_town_6 3 rfl rfl)
theorem dX12_town_144 : decode cX12_town 144 = .ok (.iinc 1 1, 3) := dk_132 1 1 (dk_at dksX12_town_6 4 rfl rfl)
theorem dX12_town_147 : decode cX12_town 147 = .ok (.goto (-26), 3) := dk_167 255 230 (dk_at dksX12_town_6 7 rfl rfl)
theorem dX12_town_150 : decode cX12_town 150 = .ok (.aload_n 0, 1) := dk_42 (dk_at dksX12_town_6 10 rfl rfl)
theorem dX12_town_151 : decode cX12_town 151 = .ok (.getfield 13, 3) := dk_180 0 13 (dk_at dksX12_town_6 11 rfl rfl)
theorem dX12_town_154 : decode cX12_town 154 = .ok (.iconst 0, 1) := dk_3 (dk_at dksX12_town_6 14 rfl rfl)
theorem dX12_town_155 : decode cX12_town 155 = .ok (.iaload, 1) := dk_46 (dk_at dksX12_town_6 15 rfl rfl)
theorem dX12_town_156 : decode cX12_town 156 = .ok (.ireturn, 1) := dk_172 (dk_at dksX12_town_6 16 rfl rfl)
abbrev cX12_advance : ByteArray := prog_25_method_16_code
def yX12_advance : MethodName := ⟨RX12, "advance", "()V"⟩
def dkwX12_advance_10 : List UInt8 := [96, 181, 0, 115, 177]
abbrev dktX12_advance_10 : List UInt8 := dkwX12_advance_10 ++ []
def dkwX12_advance_9 : List UInt8 := [167, 0, 28, 42, 27, 16, 59, 160, 0, 7, 6, 167, 0, 4, 7, 181, 0, 125, 42, 89, 180, 0, 115, 4]
abbrev dktX12_advance_9 : List UInt8 := dkwX12_advance_9 ++ dktX12_advance_10
def dkwX12_advance_8 : List UInt8 := [184, 0, 139, 181, 0, 136, 42, 89, 180, 0, 115, 4, 96, 181, 0, 115, 167, 255, 196, 42, 5, 181, 0, 125]
abbrev dktX12_advance_8 : List UInt8 := dkwX12_advance_8 ++ dktX12_advance_9
def dkwX12_advance_7 : List UInt8 := [42, 17, 39, 15, 16, 10, 42, 180, 0, 136, 104, 42, 42, 180, 0, 115, 182, 0, 118, 96, 16, 48, 100]
abbrev dktX12_advance_7 : List UInt8 := dkwX12_advance_7 ++ dktX12_advance_8
def dkwX12_advance_6 : List UInt8 := [181, 0, 136, 42, 42, 180, 0, 115, 182, 0, 118, 133, 20, 0, 132, 20, 0, 134, 184, 0, 101, 153, 0, 45]
abbrev dktX12_advance_6 : List UInt8 := dkwX12_advance_6 ++ dktX12_advance_7
def dkwX12_advance_5 : List UInt8 := [181, 0, 125, 167, 0, 118, 27, 133, 20, 0, 132, 20, 0, 134, 184, 0, 101, 153, 0, 79, 42, 3]
abbrev dktX12_advance_5 : List UInt8 := dkwX12_advance_5 ++ dktX12_advance_6
def dkwX12_advance_4 : List UInt8 := [20, 0, 130, 184, 0, 101, 153, 0, 16, 42, 89, 180, 0, 115, 4, 96, 181, 0, 115, 167, 255, 225, 42, 4]
abbrev dktX12_advance_4 : List UInt8 := dkwX12_advance_4 ++ dktX12_advance_5
def dkwX12_advance_3 : List UInt8 := [20, 0, 128, 20, 0, 130, 184, 0, 101, 153, 0, 45, 42, 42, 180, 0, 115, 182, 0, 118, 133, 20, 0, 128]
abbrev dktX12_advance_3 : List UInt8 := dkwX12_advance_3 ++ dktX12_advance_4
def dkwX12_advance_2 : List UInt8 := [42, 42, 180, 0, 115, 182, 0, 118, 60, 27, 2, 160, 0, 11, 42, 3, 181, 0, 125, 167, 0, 174, 27, 133]
abbrev dktX12_advance_2 : List UInt8 := dkwX12_advance_2 ++ dktX12_advance_3
def dkwX12_advance_1 : List UInt8 := [160, 0, 16, 42, 89, 180, 0, 115, 4, 96, 181, 0, 115, 167, 255, 220, 42, 42, 180, 0, 115, 181, 0, 122]
abbrev dktX12_advance_1 : List UInt8 := dkwX12_advance_1 ++ dktX12_advance_2
def dkwX12_advance_0 : List UInt8 := [42, 42, 180, 0, 115, 182, 0, 118, 16, 32, 159, 0, 16, 42, 42, 180, 0, 115, 182, 0, 118, 16, 10]
abbrev dktX12_advance_0 : List UInt8 := dkwX12_advance_0 ++ dktX12_advance_1
theorem dksX12_advance_0 : cX12_advance.data.toList.drop 0 = dktX12_advance_0 := by decide +kernel
theorem dksX12_advance_1 : cX12_advance.data.toList.drop 23 = dktX12_advance_1 := dk_seg dksX12_advance_0 23 rfl rfl
theorem dksX12_advance_2 : cX12_advance.data.toList.drop 47 = dktX12_advance_2 := dk_seg dksX12_advance_1 24 rfl rfl
theorem dksX12_advance_3 : cX12_advance.data.toList.drop 71 = dktX12_advance_3 := dk_seg dksX12_advance_2 24 rfl rfl
theorem dksX12_advance_4 : cX12_advance.data.toList.drop 95 = dktX12_advance_4 := dk_seg dksX12_advance_3 24 rfl rfl
theorem dksX12_advance_5 : cX12_advance.data.toList.drop 119 = dktX12_advance_5 := dk_seg dksX12_advance_4 24 rfl rfl
theorem dksX12_advance_6 : cX12_advance.data.toList.drop 141 = dktX12_advance_6 := dk_seg dksX12_advance_5 22 rfl rfl
theorem dksX12_advance_7 : cX12_advance.data.toList.drop 165 = dktX12_advance_7 := dk_seg dksX12_advance_6 24 rfl rfl
theorem dksX12_advance_8 : cX12_advance.data.toList.drop 188 = dktX12_advance_8 := dk_seg dksX12_advance_7 23 rfl rfl
theorem dksX12_advance_9 : cX12_advance.data.toList.drop 212 = dktX12_advance_9 := dk_seg dksX12_advance_8 24 rfl rfl
theorem dksX12_advance_10 : cX12_advance.data.toList.drop 236 = dktX12_advance_10 := dk_seg dksX12_advance_9 24 rfl rfl
theorem dX12_advance_0 : decode cX12_advance 0 = .ok (.aload_n 0, 1) := dk_42 (dk_at dksX12_advance_0 0 rfl rfl)
theorem dX12_advance_1 : decode cX12_advance 1 = .ok (.aload_n 0, 1) := dk_42 (dk_at dksX12_advance_0 1 rfl rfl)
theorem dX12_advance_2 : decode cX12_advance 2 = .ok (.getfield 115, 3) := dk_180 0 115 (dk_at dksX12_advance_0 2 rfl rfl)
theorem dX12_advance_5 : decode cX12_advance 5 = .ok (.invokevirtual 118, 3) := dk_182 0 118 (dk_at dksX12_advance_0 5 rfl rfl)
theorem dX12_advance_8 : decode cX12_advance 8 = .ok (.bipush 32, 2) := dk_16 32 (dk_at dksX12_advance_0 8 rfl rfl)
theorem dX12_advance_10 : decode cX12_advance 10 = .ok (.if_icmp .eq 16, 3) := dk_159 0 16 (dk_at dksX12_advance_0 10 rfl rfl)
theorem dX12_advance_13 : decode cX12_advance 13 = .ok (.aload_n 0, 1) := dk_42 (dk_at dksX12_advance_0 13 rfl rfl)
theorem dX12_advance_14 : decode cX12_advance 14 = .ok (.aload_n 0, 1) := dk_42 (dk_at dksX12_advance_0 14 rfl rfl)
theorem dX12_advance_15 : decode cX12_advance 15 = .ok (.getfield 115, 3) := dk_180 0 115 (dk_at dksX12_advance_0 15 rfl rfl)
theorem dX12_advance_18 : decode cX12_advance 18 = .ok (.invokevirtual 118, 3) := dk_182 0 118 (dk_at dksX12_advance_0 18 rfl rfl)
theorem dX12_advance_21 : decode cX12_advance 21 = .ok (.bipush 10, 2) := dk_16 10 (dk_at dksX12_advance_0 21 rfl rfl)
theorem dX12_advance_23 : decode cX12_advance 23 = .ok (.if_icmp .ne 16, 3) := dk_160 0 16 (dk_at dksX12_advance_1 0 rfl rfl)
theorem dX12_advance_26 : decode cX12_advance 26 = .ok (.aload_n 0, 1) := dk_42 (dk_at dksX12_advance_1 3 rfl rfl)
theorem dX12_advance_27 : decode cX12_advance 27 = .ok (.dup, 1) := dk_89 (dk_at dksX12_advance_1 4 rfl rfl)
theorem dX12_advance_28 : decode cX12_advance 28 = .ok (.getfield 115, 3) := dk_180 0 115 (dk_at dksX12_advance_1 5 rfl rfl)
theorem dX12_advance_31 : decode cX12_advance 31 = .ok (.iconst 1, 1) := dk_4 (dk_at dksX12_advance_1 8 rfl rfl)
theorem dX12_advance_32 : decode cX12_advance 32 = .ok (.iadd, 1) := dk_96 (dk_at dksX12_advance_1 9 rfl rfl)
theorem dX12_advance_33 : decode cX12_advance 33 = .ok (.putfield 115, 3) := dk_181 0 115 (dk_at dksX12_advance_1 10 rfl rfl)
theorem dX12_advance_36 : decode cX12_advance 36 = .ok (.goto (-36), 3) := dk_167 255 220 (dk_at dksX12_advance_1 13 rfl rfl)
theorem dX12_advance_39 : decode cX12_advance 39 = .ok (.aload_n 0, 1) := dk_42 (dk_at dksX12_advance_1 16 rfl rfl)
theorem dX12_advance_40 : decode cX12_advance 40 = .ok (.aload_n 0, 1) := dk_42 (dk_at dksX12_advance_1 17 rfl rfl)
theorem dX12_advance_41 : decode cX12_advance 41 = .ok (.getfield 115, 3) := dk_180 0 115 (dk_at dksX12_advance_1 18 rfl rfl)
theorem dX12_advance_44 : decode cX12_advance 44 = .ok (.putfield 122, 3) := dk_181 0 122 (dk_at dksX12_advance_1 21 rfl rfl)
theorem dX12_advance_47 : decode cX12_advance 47 = .ok (.aload_n 0, 1) := dk_42 (dk_at dksX12_advance_2 0 rfl rfl)
theorem dX12_advance_48 : decode cX12_advance 48 = .ok (.aload_n 0, 1) := dk_42 (dk_at dksX12_advance_2 1 rfl rfl)
theorem dX12_advance_49 : decode cX12_advance 49 = .ok (.getfield 115, 3) := dk_180 0 115 (dk_at dksX12_advance_2 2 rfl rfl)
theorem dX12_advance_52 : decode cX12_advance 52 = .ok (.invokevirtual 118, 3) := dk_182 0 118 (dk_at dksX12_advance_2 5 rfl rfl)
theorem dX12_advance_55 : decode cX12_advance 55 = .ok (.istore_n 1, 1) := dk_60 (dk_at dksX12_advance_2 8 rfl rfl)
theorem dX12_advance_56 : decode cX12_advance 56 = .ok (.iload_n 1, 1) := dk_27 (dk_at dksX12_advance_2 9 rfl rfl)
theorem dX12_advance_57 : decode cX12_advance 57 = .ok (.iconst (-1), 1) := dk_2 (dk_at dksX12_advance_2 10 rfl rfl)
theorem dX12_advance_58 : decode cX12_advance 58 = .ok (.if_icmp .ne 11, 3) := dk_160 0 11 (dk_at dksX12_advance_2 11 rfl rfl)
theorem dX12_advance_61 : decode cX12_advance 61 = .ok (.aload_n 0, 1) := dk_42 (dk_at dksX12_advance_2 14 rfl rfl)
theorem dX12_advance_62 : decode cX12_advance 62 = .ok (.iconst 0, 1) := dk_3 (dk_at dksX12_advance_2 15 rfl rfl)
theorem dX12_advance_63 : decode cX12_advance 63 = .ok (.putfield 125, 3) := dk_181 0 125 (dk_at dksX12_advance_2 16 rfl rfl)
theorem dX12_advance_66 : decode cX12_advance 66 = .ok (.goto 174, 3) := dk_167 0 174 (dk_at dksX12_advance_2 19 rfl rfl)
theorem dX12_advance_69 : decode cX12_advance 69 = .ok (.iload_n 1, 1) := dk_27 (dk_at dksX12_advance_2 22 rfl rfl)
theorem dX12_advance_70 : decode cX12_advance 70 = .ok (.i2l, 1) := dk_133 (dk_at dksX12_advance_2 23 rfl rfl)
theorem dX12_advance_71 : decode cX12_advance 71 = .ok (.ldc2_w 128, 3) := dk_20 0 128 (dk_at dksX12_advance_3 0 rfl rfl)
theorem dX12_advance_74 : decode cX12_advance 74 = .ok (.ldc2_w 130, 3) := dk_20 0 130 (dk_at dksX12_advance_3 3 rfl rfl)
theorem dX12_advance_77 : decode cX12_advance 77 = .ok (.invokestatic 101, 3) := dk_184 0 101 (dk_at dksX12_advance_3 6 rfl rfl)
theorem dX12_advance_80 : decode cX12_advance 80 = .ok (.ifCond .eq 45, 3) := dk_153 0 45 (dk_at dksX12_advance_3 9 rfl rfl)
theorem dX12_advance_83 : decode cX12_advance 83 = .ok (.aload_n 0, 1) := dk_42 (dk_at dksX12_advance_3 12 rfl rfl)
theorem dX12_advance_84 : decode cX12_advance 84 = .ok (.aload_n 0, 1) := dk_42 (dk_at dksX12_advance_3 13 rfl rfl)
theorem dX12_advance_85 : decode cX12_advance 85 = .ok (.getfield 115, 3) := dk_180 0 115 (dk_at dksX12_advance_3 14 rfl rfl)
theorem dX12_advance_88 : decode cX12_advance 88 = .ok (.invokevirtual 118, 3) := dk_182 0 118 (dk_at dksX12_advance_3 17 rfl rfl)
theorem dX12_advance_91 : decode cX12_advance 91 = .ok (.i2l, 1) := dk_133 (dk_at dksX12_advance_3 20 rfl rfl)
theorem dX12_advance_92 : decode cX12_advance 92 = .ok (.ldc2_w 128, 3) := dk_20 0 128 (dk_at dksX12_advance_3 21 rfl rfl)
theorem dX12_advance_95 : decode cX12_advance 95 = .ok (.ldc2_w 130, 3) := dk_20 0 130 (dk_at dksX12_advance_4 0 rfl rfl)
theorem dX12_advance_98 : decode cX12_advance 98 = .ok (.invokestatic 101, 3) := dk_184 0 101 (dk_at dksX12_advance_4 3 rfl rfl)
theorem dX12_advance_101 : decode cX12_advance 101 = .ok (.ifCond .eq 16, 3) := dk_153 0 16 (dk_at dksX12_advance_4 6 rfl rfl)
theorem dX12_advance_104 : decode cX12_advance 104 = .ok (.aload_n 0, 1) := dk_42 (dk_at dksX12_advance_4 9 rfl rfl)
theorem dX12_advance_105 : decode cX12_advance 105 = .ok (.dup, 1) := dk_89 (dk_at dksX12_advance_4 10 rfl rfl)
theorem dX12_advance_106 : decode cX12_advance 106 = .ok (.getfield 115, 3) := dk_180 0 115 (dk_at dksX12_advance_4 11 rfl rfl)
theorem dX12_advance_109 : decode cX12_advance 109 = .ok (.iconst 1, 1) := dk_4 (dk_at dksX12_advance_4 14 rfl rfl)
theorem dX12_advance_110 : decode cX12_advance 110 = .ok (.iadd, 1) := dk_96 (dk_at dksX12_advance_4 15 rfl rfl)
theorem dX12_advance_111 : decode cX12_advance 111 = .ok (.putfield 115, 3) := dk_181 0 115 (dk_at dksX12_advance_4 16 rfl rfl)
theorem dX12_advance_114 : decode cX12_advance 114 = .ok (.goto (-31), 3) := dk_167 255 225 (dk_at dksX12_advance_4 19 rfl rfl)
theorem dX12_advance_117 : decode cX12_advance 117 = .ok (.aload_n 0, 1) := dk_42 (dk_at dksX12_advance_4 22 rfl rfl)
theorem dX12_advance_118 : decode cX12_advance 118 = .ok (.iconst 1, 1) := dk_4 (dk_at dksX12_advance_4 23 rfl rfl)
theorem dX12_advance_119 : decode cX12_advance 119 = .ok (.putfield 125, 3) := dk_181 0 125 (dk_at dksX12_advance_5 0 rfl rfl)
theorem dX12_advance_122 : decode cX12_advance 122 = .ok (.goto 118, 3) := dk_167 0 118 (dk_at dksX12_advance_5 3 rfl rfl)
theorem dX12_advance_125 : decode cX12_advance 125 = .ok (.iload_n 1, 1) := dk_27 (dk_at dksX12_advance_5 6 rfl rfl)
theorem dX12_advance_126 : decode cX12_advance 126 = .ok (.i2l, 1) := dk_133 (dk_at dksX12_advance_5 7 rfl rfl)
theorem dX12_advance_127 : decode cX12_advance 127 = .ok (.ldc2_w 132, 3) := dk_20 0 132 (dk_at dksX12_advance_5 8 rfl rfl)
theorem dX12_advance_130 : decode cX12_advance 130 = .ok (.ldc2_w 134, 3) := dk_20 0 134 (dk_at dksX12_advance_5 11 rfl rfl)
theorem dX12_advance_133 : decode cX12_advance 133 = .ok (.invokestatic 101, 3) := dk_184 0 101 (dk_at dksX12_advance_5 14 rfl rfl)
theorem dX12_advance_136 : decode cX12_advance 136 = .ok (.ifCond .eq 79, 3) := dk_153 0 79 (dk_at dksX12_advance_5 17 rfl rfl)
theorem dX12_advance_139 : decode cX12_advance 139 = .ok (.aload_n 0, 1) := dk_42 (dk_at dksX12_advance_5 20 rfl rfl)
theorem dX12_advance_140 : decode cX12_advance 140 = .ok (.iconst 0, 1) := dk_3 (dk_at dksX12_advance_5 21 rfl rfl)
theorem dX12_advance_141 : decode cX12_advance 141 = .ok (.putfield 136, 3) := dk_181 0 136 (dk_at dksX12_advance_6 0 rfl rfl)
theorem dX12_advance_144 : decode cX12_advance 144 = .ok (.aload_n 0, 1) := dk_42 (dk_at dksX12_advance_6 3 rfl rfl)
theorem dX12_advance_145 : decode cX12_advance 145 = .ok (.aload_n 0, 1) := dk_42 (dk_at dksX12_advance_6 4 rfl rfl)
theorem dX12_advance_146 : decode cX12_advance 146 = .ok (.getfield 115, 3) := dk_180 0 115 (dk_at dksX12_advance_6 5 rfl rfl)
theorem dX12_advance_149 : decode cX12_advance 149 = .ok (.invokevirtual 118, 3) := dk_182 0 118 (dk_at dksX12_advance_6 8 rfl rfl)
theorem dX12_advance_152 : decode cX12_advance 152 = .ok (.i2l, 1) := dk_133 (dk_at dksX12_advance_6 11 rfl rfl)
theorem dX12_advance_153 : decode cX12_advance 153 = .ok (.ldc2_w 132, 3) := dk_20 0 132 (dk_at dksX12_advance_6 12 rfl rfl)
theorem dX12_advance_156 : decode cX12_advance 156 = .ok (.ldc2_w 134, 3) := dk_20 0 134 (dk_at dksX12_advance_6 15 rfl rfl)
theorem dX12_advance_159 : decode cX12_advance 159 = .ok (.invokestatic 101, 3) := dk_184 0 101 (dk_at dksX12_advance_6 18 rfl rfl)
theorem dX12_advance_162 : decode cX12_advance 162 = .ok (.ifCond .eq 45, 3) := dk_153 0 45 (dk_at dksX12_advance_6 21 rfl rfl)
theorem dX12_advance_165 : decode cX12_advance 165 = .ok (.aload_n 0, 1) := dk_42 (dk_at dksX12_advance_7 0 rfl rfl)
theorem dX12_advance_166 : decode cX12_advance 166 = .ok (.sipush 9999, 3) := dk_17 39 15 (dk_at dksX12_advance_7 1 rfl rfl)
theorem dX12_advance_169 : decode cX12_advance 169 = .ok (.bipush 10, 2) := dk_16 10 (dk_at dksX12_advance_7 4 rfl rfl)
theorem dX12_advance_171 : decode cX12_advance 171 = .ok (.aload_n 0, 1) := dk_42 (dk_at dksX12_advance_7 6 rfl rfl)
theorem dX12_advance_172 : decode cX12_advance 172 = .ok (.getfield 136, 3) := dk_180 0 136 (dk_at dksX12_advance_7 7 rfl rfl)
theorem dX12_advance_175 : decode cX12_advance 175 = .ok (.imul, 1) := dk_104 (dk_at dksX12_advance_7 10 rfl rfl)
theorem dX12_advance_176 : decode cX12_advance 176 = .ok (.aload_n 0, 1) := dk_42 (dk_at dksX12_advance_7 11 rfl rfl)
theorem dX12_advance_177 : decode cX12_advance 177 = .ok (.aload_n 0, 1) := dk_42 (dk_at dksX12_advance_7 12 rfl rfl)
theorem dX12_advance_178 : decode cX12_advance 178 = .ok (.getfield 115, 3) := dk_180 0 115 (dk_at dksX12_advance_7 13 rfl rfl)
theorem dX12_advance_181 : decode cX12_advance 181 = .ok (.invokevirtual 118, 3) := dk_182 0 118 (dk_at dksX12_advance_7 16 rfl rfl)
theorem dX12_advance_184 : decode cX12_advance 184 = .ok (.iadd, 1) := dk_96 (dk_at dksX12_advance_7 19 rfl rfl)
theorem dX12_advance_185 : decode cX12_advance 185 = .ok (.bipush 48, 2) := dk_16 48 (dk_at dksX12_advance_7 20 rfl rfl)
theorem dX12_advance_187 : decode cX12_advance 187 = .ok (.isub, 1) := dk_100 (dk_at dksX12_advance_7 22 rfl rfl)
theorem dX12_advance_188 : decode cX12_advance 188 = .ok (.invokestatic 139, 3) := dk_184 0 139 (dk_at dksX12_advance_8 0 rfl rfl)
theorem dX12_advance_191 : decode cX12_advance 191 = .ok (.putfield 136, 3) := dk_181 0 136 (dk_at dksX12_advance_8 3 rfl rfl)
theorem dX12_advance_194 : decode cX12_advance 194 = .ok (.aload_n 0, 1) := dk_42 (dk_at dksX12_advance_8 6 rfl rfl)
theorem dX12_advance_195 : decode cX12_advance 195 = .ok (.dup, 1) := dk_89 (dk_at dksX12_advance_8 7 rfl rfl)
theorem dX12_advance_196 : decode cX12_advance 196 = .ok (.getfield 115, 3) := dk_180 0 115 (dk_at dksX12_advance_8 8 rfl rfl)
theorem dX12_advance_199 : decode cX12_advance 199 = .ok (.iconst 1, 1) := dk_4 (dk_at dksX12_advance_8 11 rfl rfl)
theorem dX12_advance_200 : decode cX12_advance 200 = .ok (.iadd, 1) := dk_96 (dk_at dksX12_advance_8 12 rfl rfl)
theorem dX12_advance_201 : decode cX12_advance 201 = .ok (.putfield 115, 3) := dk_181 0 115 (dk_at dksX12_advance_8 13 rfl rfl)
theorem dX12_advance_204 : decode cX12_advance 204 = .ok (.goto (-60), 3) := dk_167 255 196 (dk_at dksX12_advance_8 16 rfl rfl)
theorem dX12_advance_207 : decode cX12_advance 207 = .ok (.aload_n 0, 1) := dk_42 (dk_at dksX12_advance_8 19 rfl rfl)
theorem dX12_advance_208 : decode cX12_advance 208 = .ok (.iconst 2, 1) := dk_5 (dk_at dksX12_advance_8 20 rfl rfl)
theorem dX12_advance_209 : decode cX12_advance 209 = .ok (.putfield 125, 3) := dk_181 0 125 (dk_at dksX12_advance_8 21 rfl rfl)
theorem dX12_advance_212 : decode cX12_advance 212 = .ok (.goto 28, 3) := dk_167 0 28 (dk_at dksX12_advance_9 0 rfl rfl)
theorem dX12_advance_215 : decode cX12_advance 215 = .ok (.aload_n 0, 1) := dk_42 (dk_at dksX12_advance_9 3 rfl rfl)
theorem dX12_advance_216 : decode cX12_advance 216 = .ok (.iload_n 1, 1) := dk_27 (dk_at dksX12_advance_9 4 rfl rfl)
theorem dX12_advance_217 : decode cX12_advance 217 = .ok (.bipush 59, 2) := dk_16 59 (dk_at dksX12_advance_9 5 rfl rfl)
theorem dX12_advance_219 : decode cX12_advance 219 = .ok (.if_icmp .ne 7, 3) := dk_160 0 7 (dk_at dksX12_advance_9 7 rfl rfl)
theorem dX12_advance_222 : decode cX12_advance 222 = .ok (.iconst 3, 1) := dk_6 (dk_at dksX12_advance_9 10 rfl rfl)
theorem dX12_advance_223 : decode cX12_advance 223 = .ok (.goto 4, 3) := dk_167 0 4 (dk_at dksX12_advance_9 11 rfl rfl)
theorem dX12_advance_226 : decode cX12_advance 226 = .ok (.iconst 4, 1) := dk_7 (dk_at dksX12_advance_9 14 rfl rfl)
theorem dX12_advance_227 : decode cX12_advance 227 = .ok (.putfield 125, 3) := dk_181 0 125 (dk_at dksX12_advance_9 15 rfl rfl)
theorem dX12_advance_230 : decode cX12_advance 230 = .ok (.aload_n 0, 1) := dk_42 (dk_at dksX12_advance_9 18 rfl rfl)
theorem dX12_advance_231 : decode cX12_advance 231 = .ok (.dup, 1) := dk_89 (dk_at dksX12_advance_9 19 rfl rfl)
theorem dX12_advance_232 : decode cX12_advance 232 = .ok (.getfield 115, 3) := dk_180 0 115 (dk_at dksX12_advance_9 20 rfl rfl)
theorem dX12_advance_235 : decode cX12_advance 235 = .ok (.iconst 1, 1) := dk_4 (dk_at dksX12_advance_9 23 rfl rfl)
theorem dX12_advance_236 : decode cX12_advance 236 = .ok (.iadd, 1) := dk_96 (dk_at dksX12_advance_10 0 rfl rfl)
theorem dX12_advance_237 : decode cX12_advance 237 = .ok (.putfield 115, 3) := dk_181 0 115 (dk_at dksX12_advance_10 1 rfl rfl)
theorem dX12_advance_240 : decode cX12_advance 240 = .ok (.return_, 1) := dk_177 (dk_at dksX12_advance_10 4 rfl rfl)
abbrev cX12_see : ByteArray := prog_25_method_15_code
def yX12_see : MethodName := ⟨RX12, "see", "(I)I"⟩
def dkwX12_see_0 : List UInt8 := [27, 42, 180, 0, 112, 162, 0, 16, 42, 180, 0, 24, 27, 51, 17, 0, 255, 126, 167, 0, 4, 2, 172]
abbrev dktX12_see_0 : List UInt8 := dkwX12_see_0 ++ []
theorem dksX12_see_0 : cX12_see.data.toList.drop 0 = dktX12_see_0 := by decide +kernel
theorem dX12_see_0 : decode cX12_see 0 = .ok (.iload_n 1, 1) := dk_27 (dk_at dksX12_see_0 0 rfl rfl)
theorem dX12_see_1 : decode cX12_see 1 = .ok (.aload_n 0, 1) := dk_42 (dk_at dksX12_see_0 1 rfl rfl)
theorem dX12_see_2 : decode cX12_see 2 = .ok (.getfield 112, 3) := dk_180 0 112 (dk_at dksX12_see_0 2 rfl rfl)
theorem dX12_see_5 : decode cX12_see 5 = .ok (.if_icmp .ge 16, 3) := dk_162 0 16 (dk_at dksX12_see_0 5 rfl rfl)
theorem dX12_see_8 : decode cX12_see 8 = .ok (.aload_n 0, 1) := dk_42 (dk_at dksX12_see_0 8 rfl rfl)
theorem dX12_see_9 : decode cX12_see 9 = .ok (.getfield 24, 3) := dk_180 0 24 (dk_at dksX12_see_0 9 rfl rfl)
theorem dX12_see_12 : decode cX12_see 12 = .ok (.iload_n 1, 1) := dk_27 (dk_at dksX12_see_0 12 rfl rfl)
theorem dX12_see_13 : decode cX12_see 13 = .ok (.baload, 1) := dk_51 (dk_at dksX12_see_0 13 rfl rfl)
theorem dX12_see_14 : decode cX12_see 14 = .ok (.sipush 255, 3) := dk_17 0 255 (dk_at dksX12_see_0 14 rfl rfl)
theorem dX12_see_17 : decode cX12_see 17 = .ok (.iand, 1) := dk_126 (dk_at dksX12_see_0 17 rfl rfl)
theorem dX12_see_18 : decode cX12_see 18 = .ok (.goto 4, 3) := dk_167 0 4 (dk_at dksX12_see_0 18 rfl rfl)
theorem dX12_see_21 : decode cX12_see 21 = .ok (.iconst (-1), 1) := dk_2 (dk_at dksX12_see_0 21 rfl rfl)
theorem dX12_see_22 : decode cX12_see 22 = .ok (.ireturn, 1) := dk_172 (dk_at dksX12_see_0 22 rfl rfl)
abbrev cX12_good : ByteArray := prog_25_method_17_code
def yX12_good : MethodName := ⟨RX12, "good", "()Z"⟩
def dkwX12_good_0 : List UInt8 := [42, 180, 0, 145, 154, 0, 7, 4, 167, 0, 4, 3, 172]
abbrev dktX12_good_0 : List UInt8 := dkwX12_good_0 ++ []
theorem dksX12_good_0 : cX12_good.data.toList.drop 0 = dktX12_good_0 := by decide +kernel
theorem dX12_good_0 : decode cX12_good 0 = .ok (.aload_n 0, 1) := dk_42 (dk_at dksX12_good_0 0 rfl rfl)
theorem dX12_good_1 : decode cX12_good 1 = .ok (.getfield 145, 3) := dk_180 0 145 (dk_at dksX12_good_0 1 rfl rfl)
theorem dX12_good_4 : decode cX12_good 4 = .ok (.ifCond .ne 7, 3) := dk_154 0 7 (dk_at dksX12_good_0 4 rfl rfl)
theorem dX12_good_7 : decode cX12_good 7 = .ok (.iconst 1, 1) := dk_4 (dk_at dksX12_good_0 7 rfl rfl)
theorem dX12_good_8 : decode cX12_good 8 = .ok (.goto 4, 3) := dk_167 0 4 (dk_at dksX12_good_0 8 rfl rfl)
theorem dX12_good_11 : decode cX12_good 11 = .ok (.iconst 0, 1) := dk_3 (dk_at dksX12_good_0 11 rfl rfl)
theorem dX12_good_12 : decode cX12_good 12 = .ok (.ireturn, 1) := dk_172 (dk_at dksX12_good_0 12 rfl rfl)
abbrev cX12_readLine : ByteArray := prog_25_method_34_code
def yX12_readLine : MethodName := ⟨RX12, "readLine", "()V"⟩
def dkwX12_readLine_10 : List UInt8 := [42, 182, 0, 148, 153, 0, 7, 42, 182, 0, 166, 177]
abbrev dktX12_readLine_10 : List UInt8 := dkwX12_readLine_10 ++ []
def dkwX12_readLine_9 : List UInt8 := [182, 0, 180, 79, 42, 182, 0, 148, 153, 0, 16, 42, 180, 0, 125, 6, 159, 0, 8, 42, 4, 182, 0, 172]
abbrev dktX12_readLine_9 : List UInt8 := dkwX12_readLine_9 ++ dktX12_readLine_10
def dkwX12_readLine_8 : List UInt8 := [16, 99, 182, 0, 180, 79, 167, 0, 20, 42, 182, 0, 166, 42, 180, 0, 34, 8, 42, 4, 16, 9]
abbrev dktX12_readLine_8 : List UInt8 := dkwX12_readLine_8 ++ dktX12_readLine_9
def dkwX12_readLine_7 : List UInt8 := [182, 1, 24, 167, 0, 46, 42, 19, 1, 14, 182, 0, 169, 153, 0, 19, 42, 180, 0, 34, 7, 42, 3]
abbrev dktX12_readLine_7 : List UInt8 := dkwX12_readLine_7 ++ dktX12_readLine_8
def dkwX12_readLine_6 : List UInt8 := [182, 0, 169, 153, 0, 10, 42, 182, 1, 21, 167, 0, 63, 42, 19, 1, 12, 182, 0, 169, 153, 0, 10, 42]
abbrev dktX12_readLine_6 : List UInt8 := dkwX12_readLine_6 ++ dktX12_readLine_7
def dkwX12_readLine_5 : List UInt8 := [182, 0, 148, 154, 0, 4, 177, 27, 153, 0, 10, 42, 182, 1, 18, 167, 0, 80, 42, 19, 1, 10]
abbrev dktX12_readLine_5 : List UInt8 := dkwX12_readLine_5 ++ dktX12_readLine_6
def dkwX12_readLine_4 : List UInt8 := [159, 0, 18, 27, 153, 0, 19, 42, 180, 0, 34, 4, 46, 16, 24, 160, 0, 8, 42, 6, 182, 0, 172, 42]
abbrev dktX12_readLine_4 : List UInt8 := dkwX12_readLine_4 ++ dktX12_readLine_5
def dkwX12_readLine_3 : List UInt8 := [4, 182, 0, 172, 42, 19, 1, 10, 182, 0, 162, 153, 0, 14, 42, 180, 0, 34, 3, 46, 16, 16]
abbrev dktX12_readLine_3 : List UInt8 := dkwX12_readLine_3 ++ dktX12_readLine_4
def dkwX12_readLine_2 : List UInt8 := [154, 0, 13, 42, 19, 1, 16, 182, 0, 162, 153, 0, 7, 4, 167, 0, 4, 3, 61, 28, 154, 0, 8, 42]
abbrev dktX12_readLine_2 : List UInt8 := dkwX12_readLine_2 ++ dktX12_readLine_3
def dkwX12_readLine_1 : List UInt8 := [182, 0, 162, 154, 0, 33, 42, 19, 1, 12, 182, 0, 162, 154, 0, 23, 42, 19, 1, 14, 182, 0, 162]
abbrev dktX12_readLine_1 : List UInt8 := dkwX12_readLine_1 ++ dktX12_readLine_2
def dkwX12_readLine_0 : List UInt8 := [42, 182, 0, 252, 2, 159, 0, 7, 4, 167, 0, 4, 3, 60, 27, 154, 0, 43, 42, 19, 1, 10]
abbrev dktX12_readLine_0 : List UInt8 := dkwX12_readLine_0 ++ dktX12_readLine_1
theorem dksX12_readLine_0 : cX12_readLine.data.toList.drop 0 = dktX12_readLine_0 := by decide +kernel
theorem dksX12_readLine_1 : cX12_readLine.data.toList.drop 22 = dktX12_readLine_1 := dk_seg dksX12_readLine_0 22 rfl rfl
theorem dksX12_readLine_2 : cX12_readLine.data.toList.drop 45 = dktX12_readLine_2 := dk_seg dksX12_readLine_1 23 rfl rfl
theorem dksX12_readLine_3 : cX12_readLine.data.toList.drop 69 = dktX12_readLine_3 := dk_seg dksX12_readLine_2 24 rfl rfl
theorem dksX12_readLine_4 : cX12_readLine.data.toList.drop 91 = dktX12_readLine_4 := dk_seg dksX12_readLine_3 22 rfl rfl
theorem dksX12_readLine_5 : cX12_readLine.data.toList.drop 115 = dktX12_readLine_5 := dk_seg dksX12_readLine_4 24 rfl rfl
theorem dksX12_readLine_6 : cX12_readLine.data.toList.drop 137 = dktX12_readLine_6 := dk_seg dksX12_readLine_5 22 rfl rfl
theorem dksX12_readLine_7 : cX12_readLine.data.toList.drop 161 = dktX12_readLine_7 := dk_seg dksX12_readLine_6 24 rfl rfl
theorem dksX12_readLine_8 : cX12_readLine.data.toList.drop 184 = dktX12_readLine_8 := dk_seg dksX12_readLine_7 23 rfl rfl
theorem dksX12_readLine_9 : cX12_readLine.data.toList.drop 206 = dktX12_readLine_9 := dk_seg dksX12_readLine_8 22 rfl rfl
theorem dksX12_readLine_10 : cX12_readLine.data.toList.drop 230 = dktX12_readLine_10 := dk_seg dksX12_readLine_9 24 rfl rfl
theorem dX12_readLine_0 : decode cX12_readLine 0 = .ok (.aload_n 0, 1) := dk_42 (dk_at dksX12_readLine_0 0 rfl rfl)
theorem dX12_readLine_1 : decode cX12_readLine 1 = .ok (.invokevirtual 252, 3) := dk_182 0 252 (dk_at dksX12_readLine_0 1 rfl rfl)
theorem dX12_readLine_4 : decode cX12_readLine 4 = .ok (.iconst (-1), 1) := dk_2 (dk_at dksX12_readLine_0 4 rfl rfl)
theorem dX12_readLine_5 : decode cX12_readLine 5 = .ok (.if_icmp .eq 7, 3) := dk_159 0 7 (dk_at dksX12_readLine_0 5 rfl rfl)
theorem dX12_readLine_8 : decode cX12_readLine 8 = .ok (.iconst 1, 1) := dk_4 (dk_at dksX12_readLine_0 8 rfl rfl)
theorem dX12_readLine_9 : decode cX12_readLine 9 = .ok (.goto 4, 3) := dk_167 0 4 (dk_at dksX12_readLine_0 9 rfl rfl)
theorem dX12_readLine_12 : decode cX12_readLine 12 = .ok (.iconst 0, 1) := dk_3 (dk_at dksX12_readLine_0 12 rfl rfl)
theorem dX12_readLine_13 : decode cX12_readLine 13 = .ok (.istore_n 1, 1) := dk_60 (dk_at dksX12_readLine_0 13 rfl rfl)
theorem dX12_readLine_14 : decode cX12_readLine 14 = .ok (.iload_n 1, 1) := dk_27 (dk_at dksX12_readLine_0 14 rfl rfl)
theorem dX12_readLine_15 : decode cX12_readLine 15 = .ok (.ifCond .ne 43, 3) := dk_154 0 43 (dk_at dksX12_readLine_0 15 rfl rfl)
theorem dX12_readLine_18 : decode cX12_readLine 18 = .ok (.aload_n 0, 1) := dk_42 (dk_at dksX12_readLine_0 18 rfl rfl)
theorem dX12_readLine_19 : decode cX12_readLine 19 = .ok (.ldc_w 266, 3) := dk_19 1 10 (dk_at dksX12_readLine_0 19 rfl rfl)
theorem dX12_readLine_22 : decode cX12_readLine 22 = .ok (.invokevirtual 162, 3) := dk_182 0 162 (dk_at dksX12_readLine_1 0 rfl rfl)
theorem dX12_readLine_25 : decode cX12_readLine 25 = .ok (.ifCond .ne 33, 3) := dk_154 0 33 (dk_at dksX12_readLine_1 3 rfl rfl)
theorem dX12_readLine_28 : decode cX12_readLine 28 = .ok (.aload_n 0, 1) := dk_42 (dk_at dksX12_readLine_1 6 rfl rfl)
theorem dX12_readLine_29 : decode cX12_readLine 29 = .ok (.ldc_w 268, 3) := dk_19 1 12 (dk_at dksX12_readLine_1 7 rfl rfl)
theorem dX12_readLine_32 : decode cX12_readLine 32 = .ok (.invokevirtual 162, 3) := dk_182 0 162 (dk_at dksX12_readLine_1 10 rfl rfl)
theorem dX12_readLine_35 : decode cX12_readLine 35 = .ok (.ifCond .ne 23, 3) := dk_154 0 23 (dk_at dksX12_readLine_1 13 rfl rfl)
theorem dX12_readLine_38 : decode cX12_readLine 38 = .ok (.aload_n 0, 1) := dk_42 (dk_at dksX12_readLine_1 16 rfl rfl)
theorem dX12_readLine_39 : decode cX12_readLine 39 = .ok (.ldc_w 270, 3) := dk_19 1 14 (dk_at dksX12_readLine_1 17 rfl rfl)
theorem dX12_readLine_42 : decode cX12_readLine 42 = .ok (.invokevirtual 162, 3) := dk_182 0 162 (dk_at dksX12_readLine_1 20 rfl rfl)
theorem dX12_readLine_45 : decode cX12_readLine 45 = .ok (.ifCond .ne 13, 3) := dk_154 0 13 (dk_at dksX12_readLine_2 0 rfl rfl)
theorem dX12_readLine_48 : decode cX12_readLine 48 = .ok (.aload_n 0, 1) := dk_42 (dk_at dksX12_readLine_2 3 rfl rfl)
theorem dX12_readLine_49 : decode cX12_readLine 49 = .ok (.ldc_w 272, 3) := dk_19 1 16 (dk_at dksX12_readLine_2 4 rfl rfl)
theorem dX12_readLine_52 : decode cX12_readLine 52 = .ok (.invokevirtual 162, 3) := dk_182 0 162 (dk_at dksX12_readLine_2 7 rfl rfl)
theorem dX12_readLine_55 : decode cX12_readLine 55 = .ok (.ifCond .eq 7, 3) := dk_153 0 7 (dk_at dksX12_readLine_2 10 rfl rfl)
theorem dX12_readLine_58 : decode cX12_readLine 58 = .ok (.iconst 1, 1) := dk_4 (dk_at dksX12_readLine_2 13 rfl rfl)
theorem dX12_readLine_59 : decode cX12_readLine 59 = .ok (.goto 4, 3) := dk_167 0 4 (dk_at dksX12_readLine_2 14 rfl rfl)
theorem dX12_readLine_62 : decode cX12_readLine 62 = .ok (.iconst 0, 1) := dk_3 (dk_at dksX12_readLine_2 17 rfl rfl)
theorem dX12_readLine_63 : decode cX12_readLine 63 = .ok (.istore_n 2, 1) := dk_61 (dk_at dksX12_readLine_2 18 rfl rfl)
theorem dX12_readLine_64 : decode cX12_readLine 64 = .ok (.iload_n 2, 1) := dk_28 (dk_at dksX12_readLine_2 19 rfl rfl)
theorem dX12_readLine_65 : decode cX12_readLine 65 = .ok (.ifCond .ne 8, 3) := dk_154 0 8 (dk_at dksX12_readLine_2 20 rfl rfl)
theorem dX12_readLine_68 : decode cX12_readLine 68 = .ok (.aload_n 0, 1) := dk_42 (dk_at dksX12_readLine_2 23 rfl rfl)
theorem dX12_readLine_69 : decode cX12_readLine 69 = .ok (.iconst 1, 1) := dk_4 (dk_at dksX12_readLine_3 0 rfl rfl)
theorem dX12_readLine_70 : decode cX12_readLine 70 = .ok (.invokevirtual 172, 3) := dk_182 0 172 (dk_at dksX12_readLine_3 1 rfl rfl)
theorem dX12_readLine_73 : decode cX12_readLine 73 = .ok (.aload_n 0, 1) := dk_42 (dk_at dksX12_readLine_3 4 rfl rfl)
theorem dX12_readLine_74 : decode cX12_readLine 74 = .ok (.ldc_w 266, 3) := dk_19 1 10 (dk_at dksX12_readLine_3 5 rfl rfl)
theorem dX12_readLine_77 : decode cX12_readLine 77 = .ok (.invokevirtual 162, 3) := dk_182 0 162 (dk_at dksX12_readLine_3 8 rfl rfl)
theorem dX12_readLine_80 : decode cX12_readLine 80 = .ok (.ifCond .eq 14, 3) := dk_153 0 14 (dk_at dksX12_readLine_3 11 rfl rfl)
theorem dX12_readLine_83 : decode cX12_readLine 83 = .ok (.aload_n 0, 1) := dk_42 (dk_at dksX12_readLine_3 14 rfl rfl)
theorem dX12_readLine_84 : decode cX12_readLine 84 = .ok (.getfield 34, 3) := dk_180 0 34 (dk_at dksX12_readLine_3 15 rfl rfl)
theorem dX12_readLine_87 : decode cX12_readLine 87 = .ok (.iconst 0, 1) := dk_3 (dk_at dksX12_readLine_3 18 rfl rfl)
theorem dX12_readLine_88 : decode cX12_readLine 88 = .ok (.iaload, 1) := dk_46 (dk_at dksX12_readLine_3 19 rfl rfl)
theorem dX12_readLine_89 : decode cX12_readLine 89 = .ok (.bipush 16, 2) := dk_16 16 (dk_at dksX12_readLine_3 20 rfl rfl)
theorem dX12_readLine_91 : decode cX12_readLine 91 = .ok (.if_icmp .eq 18, 3) := dk_159 0 18 (dk_at dksX12_readLine_4 0 rfl rfl)
theorem dX12_readLine_94 : decode cX12_readLine 94 = .ok (.iload_n 1, 1) := dk_27 (dk_at dksX12_readLine_4 3 rfl rfl)
theorem dX12_readLine_95 : decode cX12_readLine 95 = .ok (.ifCond .eq 19, 3) := dk_153 0 19 (dk_at dksX12_readLine_4 4 rfl rfl)
theorem dX12_readLine_98 : decode cX12_readLine 98 = .ok (.aload_n 0, 1) := dk_42 (dk_at dksX12_readLine_4 7 rfl rfl)
theorem dX12_readLine_99 : decode cX12_readLine 99 = .ok (.getfield 34, 3) := dk_180 0 34 (dk_at dksX12_readLine_4 8 rfl rfl)
theorem dX12_readLine_102 : decode cX12_readLine 102 = .ok (.iconst 1, 1) := dk_4 (dk_at dksX12_readLine_4 11 rfl rfl)
theorem dX12_readLine_103 : decode cX12_readLine 103 = .ok (.iaload, 1) := dk_46 (dk_at dksX12_readLine_4 12 rfl rfl)
theorem dX12_readLine_104 : decode cX12_readLine 104 = .ok (.bipush 24, 2) := dk_16 24 (dk_at dksX12_readLine_4 13 rfl rfl)
theorem dX12_readLine_106 : decode cX12_readLine 106 = .ok (.if_icmp .ne 8, 3) := dk_160 0 8 (dk_at dksX12_readLine_4 15 rfl rfl)
theorem dX12_readLine_109 : decode cX12_readLine 109 = .ok (.aload_n 0, 1) := dk_42 (dk_at dksX12_readLine_4 18 rfl rfl)
theorem dX12_readLine_110 : decode cX12_readLine 110 = .ok (.iconst 3, 1) := dk_6 (dk_at dksX12_readLine_4 19 rfl rfl)
theorem dX12_readLine_111 : decode cX12_readLine 111 = .ok (.invokevirtual 172, 3) := dk_182 0 172 (dk_at dksX12_readLine_4 20 rfl rfl)
theorem dX12_readLine_114 : decode cX12_readLine 114 = .ok (.aload_n 0, 1) := dk_42 (dk_at dksX12_readLine_4 23 rfl rfl)
theorem dX12_readLine_115 : decode cX12_readLine 115 = .ok (.invokevirtual 148, 3) := dk_182 0 148 (dk_at dksX12_readLine_5 0 rfl rfl)
theorem dX12_readLine_118 : decode cX12_readLine 118 = .ok (.ifCond .ne 4, 3) := dk_154 0 4 (dk_at dksX12_readLine_5 3 rfl rfl)
theorem dX12_readLine_121 : decode cX12_readLine 121 = .ok (.return_, 1) := dk_177 (dk_at dksX12_readLine_5 6 rfl rfl)
theorem dX12_readLine_122 : decode cX12_readLine 122 = .ok (.iload_n 1, 1) := dk_27 (dk_at dksX12_readLine_5 7 rfl rfl)
theorem dX12_readLine_123 : decode cX12_readLine 123 = .ok (.ifCond .eq 10, 3) := dk_153 0 10 (dk_at dksX12_readLine_5 8 rfl rfl)
theorem dX12_readLine_126 : decode cX12_readLine 126 = .ok (.aload_n 0, 1) := dk_42 (dk_at dksX12_readLine_5 11 rfl rfl)
theorem dX12_readLine_127 : decode cX12_readLine 127 = .ok (.invokevirtual 274, 3) := dk_182 1 18 (dk_at dksX12_readLine_5 12 rfl rfl)
theorem dX12_readLine_130 : decode cX12_readLine 130 = .ok (.goto 80, 3) := dk_167 0 80 (dk_at dksX12_readLine_5 15 rfl rfl)
theorem dX12_readLine_133 : decode cX12_readLine 133 = .ok (.aload_n 0, 1) := dk_42 (dk_at dksX12_readLine_5 18 rfl rfl)
theorem dX12_readLine_134 : decode cX12_readLine 134 = .ok (.ldc_w 266, 3) := dk_19 1 10 (dk_at dksX12_readLine_5 19 rfl rfl)
theorem dX12_readLine_137 : decode cX12_readLine 137 = .ok (.invokevirtual 169, 3) := dk_182 0 169 (dk_at dksX12_readLine_6 0 rfl rfl)
theorem dX12_readLine_140 : decode cX12_readLine 140 = .ok (.ifCond .eq 10, 3) := dk_153 0 10 (dk_at dksX12_readLine_6 3 rfl rfl)
theorem dX12_readLine_143 : decode cX12_readLine 143 = .ok (.aload_n 0, 1) := dk_42 (dk_at dksX12_readLine_6 6 rfl rfl)
theorem dX12_readLine_144 : decode cX12_readLine 144 = .ok (.invokevirtual 277, 3) := dk_182 1 21 (dk_at dksX12_readLine_6 7 rfl rfl)
theorem dX12_readLine_147 : decode cX12_readLine 147 = .ok (.goto 63, 3) := dk_167 0 63 (dk_at dksX12_readLine_6 10 rfl rfl)
theorem dX12_readLine_150 : decode cX12_readLine 150 = .ok (.aload_n 0, 1) := dk_42 (dk_at dksX12_readLine_6 13 rfl rfl)
theorem dX12_readLine_151 : decode cX12_readLine 151 = .ok (.ldc_w 268, 3) := dk_19 1 12 (dk_at dksX12_readLine_6 14 rfl rfl)
theorem dX12_readLine_154 : decode cX12_readLine 154 = .ok (.invokevirtual 169, 3) := dk_182 0 169 (dk_at dksX12_readLine_6 17 rfl rfl)
theorem dX12_readLine_157 : decode cX12_readLine 157 = .ok (.ifCond .eq 10, 3) := dk_153 0 10 (dk_at dksX12_readLine_6 20 rfl rfl)
theorem dX12_readLine_160 : decode cX12_readLine 160 = .ok (.aload_n 0, 1) := dk_42 (dk_at dksX12_readLine_6 23 rfl rfl)
theorem dX12_readLine_161 : decode cX12_readLine 161 = .ok (.invokevirtual 280, 3) := dk_182 1 24 (dk_at dksX12_readLine_7 0 rfl rfl)
theorem dX12_readLine_164 : decode cX12_readLine 164 = .ok (.goto 46, 3) := dk_167 0 46 (dk_at dksX12_readLine_7 3 rfl rfl)
theorem dX12_readLine_167 : decode cX12_readLine 167 = .ok (.aload_n 0, 1) := dk_42 (dk_at dksX12_readLine_7 6 rfl rfl)
theorem dX12_readLine_168 : decode cX12_readLine 168 = .ok (.ldc_w 270, 3) := dk_19 1 14 (dk_at dksX12_readLine_7 7 rfl rfl)
theorem dX12_readLine_171 : decode cX12_readLine 171 = .ok (.invokevirtual 169, 3) := dk_182 0 169 (dk_at dksX12_readLine_7 10 rfl rfl)
theorem dX12_readLine_174 : decode cX12_readLine 174 = .ok (.ifCond .eq 19, 3) := dk_153 0 19 (dk_at dksX12_readLine_7 13 rfl rfl)
theorem dX12_readLine_177 : decode cX12_readLine 177 = .ok (.aload_n 0, 1) := dk_42 (dk_at dksX12_readLine_7 16 rfl rfl)
theorem dX12_readLine_178 : decode cX12_readLine 178 = .ok (.getfield 34, 3) := dk_180 0 34 (dk_at dksX12_readLine_7 17 rfl rfl)
theorem dX12_readLine_181 : decode cX12_readLine 181 = .ok (.iconst 4, 1) := dk_7 (dk_at dksX12_readLine_7 20 rfl rfl)
theorem dX12_readLine_182 : decode cX12_readLine 182 = .ok (.aload_n 0, 1) := dk_42 (dk_at dksX12_readLine_7 21 rfl rfl)
theorem dX12_readLine_183 : decode cX12_readLine 183 = .ok (.iconst 0, 1) := dk_3 (dk_at dksX12_readLine_7 22 rfl rfl)
theorem dX12_readLine_184 : decode cX12_readLine 184 = .ok (.bipush 99, 2) := dk_16 99 (dk_at dksX12_readLine_8 0 rfl rfl)
theorem dX12_readLine_186 : decode cX12_readLine 186 = .ok (.invokevirtual 180, 3) := dk_182 0 180 (dk_at dksX12_readLine_8 2 rfl rfl)
theorem dX12_readLine_189 : decode cX12_readLine 189 = .ok (.iastore, 1) := dk_79 (dk_at dksX12_readLine_8 5 rfl rfl)
theorem dX12_readLine_190 : decode cX12_readLine 190 = .ok (.goto 20, 3) := dk_167 0 20 (dk_at dksX12_readLine_8 6 rfl rfl)
theorem dX12_readLine_193 : decode cX12_readLine 193 = .ok (.aload_n 0, 1) := dk_42 (dk_at dksX12_readLine_8 9 rfl rfl)
theorem dX12_readLine_194 : decode cX12_readLine 194 = .ok (.invokevirtual 166, 3) := dk_182 0 166 (dk_at dksX12_readLine_8 10 rfl rfl)
theorem dX12_readLine_197 : decode cX12_readLine 197 = .ok (.aload_n 0, 1) := dk_42 (dk_at dksX12_readLine_8 13 rfl rfl)
theorem dX12_readLine_198 : decode cX12_readLine 198 = .ok (.getfield 34, 3) := dk_180 0 34 (dk_at dksX12_readLine_8 14 rfl rfl)
theorem dX12_readLine_201 : decode cX12_readLine 201 = .ok (.iconst 5, 1) := dk_8 (dk_at dksX12_readLine_8 17 rfl rfl)
theorem dX12_readLine_202 : decode cX12_readLine 202 = .ok (.aload_n 0, 1) := dk_42 (dk_at dksX12_readLine_8 18 rfl rfl)
theorem dX12_readLine_203 : decode cX12_readLine 203 = .ok (.iconst 1, 1) := dk_4 (dk_at dksX12_readLine_8 19 rfl rfl)
theorem dX12_readLine_204 : decode cX12_readLine 204 = .ok (.bipush 9, 2) := dk_16 9 (dk_at dksX12_readLine_8 20 rfl rfl)
theorem dX12_readLine_206 : decode cX12_readLine 206 = .ok (.invokevirtual 180, 3) := dk_182 0 180 (dk_at dksX12_readLine_9 0 rfl rfl)
theorem dX12_readLine_209 : decode cX12_readLine 209 = .ok (.iastore, 1) := dk_79 (dk_at dksX12_readLine_9 3 rfl rfl)
theorem dX12_readLine_210 : decode cX12_readLine 210 = .ok (.aload_n 0, 1) := dk_42 (dk_at dksX12_readLine_9 4 rfl rfl)
theorem dX12_readLine_211 : decode cX12_readLine 211 = .ok (.invokevirtual 148, 3) := dk_182 0 148 (dk_at dksX12_readLine_9 5 rfl rfl)
theorem dX12_readLine_214 : decode cX12_readLine 214 = .ok (.ifCond .eq 16, 3) := dk_153 0 16 (dk_at dksX12_readLine_9 8 rfl rfl)
theorem dX12_readLine_217 : decode cX12_readLine 217 = .ok (.aload_n 0, 1) := dk_42 (dk_at dksX12_readLine_9 11 rfl rfl)
theorem dX12_readLine_218 : decode cX12_readLine 218 = .ok (.getfield 125, 3) := dk_180 0 125 (dk_at dksX12_readLine_9 12 rfl rfl)
theorem dX12_readLine_221 : decode cX12_readLine 221 = .ok (.iconst 3, 1) := dk_6 (dk_at dksX12_readLine_9 15 rfl rfl)
theorem dX12_readLine_222 : decode cX12_readLine 222 = .ok (.if_icmp .eq 8, 3) := dk_159 0 8 (dk_at dksX12_readLine_9 16 rfl rfl)
theorem dX12_readLine_225 : decode cX12_readLine 225 = .ok (.aload_n 0, 1) := dk_42 (dk_at dksX12_readLine_9 19 rfl rfl)
theorem dX12_readLine_226 : decode cX12_readLine 226 = .ok (.iconst 1, 1) := dk_4 (dk_at dksX12_readLine_9 20 rfl rfl)
theorem dX12_readLine_227 : decode cX12_readLine 227 = .ok (.invokevirtual 172, 3) := dk_182 0 172 (dk_at dksX12_readLine_9 21 rfl rfl)
theorem dX12_readLine_230 : decode cX12_readLine 230 = .ok (.aload_n 0, 1) := dk_42 (dk_at dksX12_readLine_10 0 rfl rfl)
theorem dX12_readLine_231 : decode cX12_readLine 231 = .ok (.invokevirtual 148, 3) := dk_182 0 148 (dk_at dksX12_readLine_10 1 rfl rfl)
theorem dX12_readLine_234 : decode cX12_readLine 234 = .ok (.ifCond .eq 7, 3) := dk_153 0 7 (dk_at dksX12_readLine_10 4 rfl rfl)
theorem dX12_readLine_237 : decode cX12_readLine 237 = .ok (.aload_n 0, 1) := dk_42 (dk_at dksX12_readLine_10 7 rfl rfl)
theorem dX12_readLine_238 : decode cX12_readLine 238 = .ok (.invokevirtual 166, 3) := dk_182 0 166 (dk_at dksX12_readLine_10 8 rfl rfl)
theorem dX12_readLine_241 : decode cX12_readLine 241 = .ok (.return_, 1) := dk_177 (dk_at dksX12_readLine_10 11 rfl rfl)
abbrev cX12_payingHere : ByteArray := prog_25_method_26_code
def yX12_payingHere : MethodName := ⟨RX12, "payingHere", "()I"⟩
def dkwX12_payingHere_2 : List UInt8 := [153, 0, 7, 6, 167, 0, 4, 2, 172]
abbrev dktX12_payingHere_2 : List UInt8 := dkwX12_payingHere_2 ++ []
def dkwX12_payingHere_1 : List UInt8 := [167, 0, 30, 42, 18, 201, 182, 0, 162, 153, 0, 7, 5, 167, 0, 17, 42, 18, 203, 182, 0, 162]
abbrev dktX12_payingHere_1 : List UInt8 := dkwX12_payingHere_1 ++ dktX12_payingHere_2
def dkwX12_payingHere_0 : List UInt8 := [42, 18, 197, 182, 0, 162, 153, 0, 7, 3, 167, 0, 43, 42, 18, 199, 182, 0, 162, 153, 0, 7, 4]
abbrev dktX12_payingHere_0 : List UInt8 := dkwX12_payingHere_0 ++ dktX12_payingHere_1
theorem dksX12_payingHere_0 : cX12_payingHere.data.toList.drop 0 = dktX12_payingHere_0 := by decide +kernel
theorem dksX12_payingHere_1 : cX12_payingHere.data.toList.drop 23 = dktX12_payingHere_1 := dk_seg dksX12_payingHere_0 23 rfl rfl
theorem dksX12_payingHere_2 : cX12_payingHere.data.toList.drop 45 = dktX12_payingHere_2 := dk_seg dksX12_payingHere_1 22 rfl rfl
theorem dX12_payingHere_0 : decode cX12_payingHere 0 = .ok (.aload_n 0, 1) := dk_42 (dk_at dksX12_payingHere_0 0 rfl rfl)
theorem dX12_payingHere_1 : decode cX12_payingHere 1 = .ok (.ldc 197, 2) := dk_18 197 (dk_at dksX12_payingHere_0 1 rfl rfl)
theorem dX12_payingHere_3 : decode cX12_payingHere 3 = .ok (.invokevirtual 162, 3) := dk_182 0 162 (dk_at dksX12_payingHere_0 3 rfl rfl)
theorem dX12_payingHere_6 : decode cX12_payingHere 6 = .ok (.ifCond .eq 7, 3) := dk_153 0 7 (dk_at dksX12_payingHere_0 6 rfl rfl)
theorem dX12_payingHere_9 : decode cX12_payingHere 9 = .ok (.iconst 0, 1) := dk_3 (dk_at dksX12_payingHere_0 9 rfl rfl)
theorem dX12_payingHere_10 : decode cX12_payingHere 10 = .ok (.goto 43, 3) := dk_167 0 43 (dk_at dksX12_payingHere_0 10 rfl rfl)
theorem dX12_payingHere_13 : decode cX12_payingHere 13 = .ok (.aload_n 0, 1) := dk_42 (dk_at dksX12_payingHere_0 13 rfl rfl)
theorem dX12_payingHere_14 : decode cX12_payingHere 14 = .ok (.ldc 199, 2) := dk_18 199 (dk_at dksX12_payingHere_0 14 rfl rfl)
theorem dX12_payingHere_16 : decode cX12_payingHere 16 = .ok (.invokevirtual 162, 3) := dk_182 0 162 (dk_at dksX12_payingHere_0 16 rfl rfl)
theorem dX12_payingHere_19 : decode cX12_payingHere 19 = .ok (.ifCond .eq 7, 3) := dk_153 0 7 (dk_at dksX12_payingHere_0 19 rfl rfl)
theorem dX12_payingHere_22 : decode cX12_payingHere 22 = .ok (.iconst 1, 1) := dk_4 (dk_at dksX12_payingHere_0 22 rfl rfl)
theorem dX12_payingHere_23 : decode cX12_payingHere 23 = .ok (.goto 30, 3) := dk_167 0 30 (dk_at dksX12_payingHere_1 0 rfl rfl)
theorem dX12_payingHere_26 : decode cX12_payingHere 26 = .ok (.aload_n 0, 1) := dk_42 (dk_at dksX12_payingHere_1 3 rfl rfl)
theorem dX12_payingHere_27 : decode cX12_payingHere 27 = .ok (.ldc 201, 2) := dk_18 201 (dk_at dksX12_payingHere_1 4 rfl rfl)
theorem dX12_payingHere_29 : decode cX12_payingHere 29 = .ok (.invokevirtual 162, 3) := dk_182 0 162 (dk_at dksX12_payingHere_1 6 rfl rfl)
theorem dX12_payingHere_32 : decode cX12_payingHere 32 = .ok (.ifCond .eq 7, 3) := dk_153 0 7 (dk_at dksX12_payingHere_1 9 rfl rfl)
theorem dX12_payingHere_35 : decode cX12_payingHere 35 = .ok (.iconst 2, 1) := dk_5 (dk_at dksX12_payingHere_1 12 rfl rfl)
theorem dX12_payingHere_36 : decode cX12_payingHere 36 = .ok (.goto 17, 3) := dk_167 0 17 (dk_at dksX12_payingHere_1 13 rfl rfl)
theorem dX12_payingHere_39 : decode cX12_payingHere 39 = .ok (.aload_n 0, 1) := dk_42 (dk_at dksX12_payingHere_1 16 rfl rfl)
theorem dX12_payingHere_40 : decode cX12_payingHere 40 = .ok (.ldc 203, 2) := dk_18 203 (dk_at dksX12_payingHere_1 17 rfl rfl)
theorem dX12_payingHere_42 : decode cX12_payingHere 42 = .ok (.invokevirtual 162, 3) := dk_182 0 162 (dk_at dksX12_payingHere_1 19 rfl rfl)
theorem dX12_payingHere_45 : decode cX12_payingHere 45 = .ok (.ifCond .eq 7, 3) := dk_153 0 7 (dk_at dksX12_payingHere_2 0 rfl rfl)
theorem dX12_payingHere_48 : decode cX12_payingHere 48 = .ok (.iconst 3, 1) := dk_6 (dk_at dksX12_payingHere_2 3 rfl rfl)
theorem dX12_payingHere_49 : decode cX12_payingHere 49 = .ok (.goto 4, 3) := dk_167 0 4 (dk_at dksX12_payingHere_2 4 rfl rfl)
theorem dX12_payingHere_52 : decode cX12_payingHere 52 = .ok (.iconst (-1), 1) := dk_2 (dk_at dksX12_payingHere_2 7 rfl rfl)
theorem dX12_payingHere_53 : decode cX12_payingHere 53 = .ok (.ireturn, 1) := dk_172 (dk_at dksX12_payingHere_2 8 rfl rfl)
abbrev cX12_is : ByteArray := prog_25_method_19_code
def yX12_is : MethodName := ⟨RX12, "is", "(Ljava/lang/String;)Z"⟩
def dkwX12_is_3 : List UInt8 := [167, 0, 4, 3, 61, 132, 3, 1, 167, 255, 216, 28, 172]
abbrev dktX12_is_3 : List UInt8 := dkwX12_is_3 ++ []
def dkwX12_is_2 : List UInt8 := [153, 0, 34, 42, 180, 0, 24, 42, 180, 0, 122, 29, 96, 51, 43, 29, 182, 0, 158, 160, 0, 7, 4]
abbrev dktX12_is_2 : List UInt8 := dkwX12_is_2 ++ dktX12_is_3
def dkwX12_is_1 : List UInt8 := [43, 182, 0, 152, 160, 0, 7, 4, 167, 0, 4, 3, 61, 3, 62, 29, 43, 182, 0, 152, 162, 0, 38, 28]
abbrev dktX12_is_1 : List UInt8 := dkwX12_is_1 ++ dktX12_is_2
def dkwX12_is_0 : List UInt8 := [42, 182, 0, 148, 153, 0, 31, 42, 180, 0, 125, 4, 160, 0, 23, 42, 180, 0, 115, 42, 180, 0, 122, 100]
abbrev dktX12_is_0 : List UInt8 := dkwX12_is_0 ++ dktX12_is_1
theorem dksX12_is_0 : cX12_is.data.toList.drop 0 = dktX12_is_0 := by decide +kernel
theorem dksX12_is_1 : cX12_is.data.toList.drop 24 = dktX12_is_1 := dk_seg dksX12_is_0 24 rfl rfl
theorem dksX12_is_2 : cX12_is.data.toList.drop 48 = dktX12_is_2 := dk_seg dksX12_is_1 24 rfl rfl
theorem dksX12_is_3 : cX12_is.data.toList.drop 71 = dktX12_is_3 := dk_seg dksX12_is_2 23 rfl rfl
theorem dX12_is_0 : decode cX12_is 0 = .ok (.aload_n 0, 1) := dk_42 (dk_at dksX12_is_0 0 rfl rfl)
theorem dX12_is_1 : decode cX12_is 1 = .ok (.invokevirtual 148, 3) := dk_182 0 148 (dk_at dksX12_is_0 1 rfl rfl)
theorem dX12_is_4 : decode cX12_is 4 = .ok (.ifCond .eq 31, 3) := dk_153 0 31 (dk_at dksX12_is_0 4 rfl rfl)
theorem dX12_is_7 : decode cX12_is 7 = .ok (.aload_n 0, 1) := dk_42 (dk_at dksX12_is_0 7 rfl rfl)
theorem dX12_is_8 : decode cX12_is 8 = .ok (.getfield 125, 3) := dk_180 0 125 (dk_at dksX12_is_0 8 rfl rfl)
theorem dX12_is_11 : decode cX12_is 11 = .ok (.iconst 1, 1) := dk_4 (dk_at dksX12_is_0 11 rfl rfl)
theorem dX12_is_12 : decode cX12_is 12 = .ok (.if_icmp .ne 23, 3) := dk_160 0 23 (dk_at dksX12_is_0 12 rfl rfl)
theorem dX12_is_15 : decode cX12_is 15 = .ok (.aload_n 0, 1) := dk_42 (dk_at dksX12_is_0 15 rfl rfl)
theorem dX12_is_16 : decode cX12_is 16 = .ok (.getfield 115, 3) := dk_180 0 115 (dk_at dksX12_is_0 16 rfl rfl)
theorem dX12_is_19 : decode cX12_is 19 = .ok (.aload_n 0, 1) := dk_42 (dk_at dksX12_is_0 19 rfl rfl)
theorem dX12_is_20 : decode cX12_is 20 = .ok (.getfield 122, 3) := dk_180 0 122 (dk_at dksX12_is_0 20 rfl rfl)
theorem dX12_is_23 : decode cX12_is 23 = .ok (.isub, 1) := dk_100 (dk_at dksX12_is_0 23 rfl rfl)
theorem dX12_is_24 : decode cX12_is 24 = .ok (.aload_n 1, 1) := dk_43 (dk_at dksX12_is_1 0 rfl rfl)
theorem dX12_is_25 : decode cX12_is 25 = .ok (.invokevirtual 152, 3) := dk_182 0 152 (dk_at dksX12_is_1 1 rfl rfl)
theorem dX12_is_28 : decode cX12_is 28 = .ok (.if_icmp .ne 7, 3) := dk_160 0 7 (dk_at dksX12_is_1 4 rfl rfl)
theorem dX12_is_31 : decode cX12_is 31 = .ok (.iconst 1, 1) := dk_4 (dk_at dksX12_is_1 7 rfl rfl)
theorem dX12_is_32 : decode cX12_is 32 = .ok (.goto 4, 3) := dk_167 0 4 (dk_at dksX12_is_1 8 rfl rfl)
theorem dX12_is_35 : decode cX12_is 35 = .ok (.iconst 0, 1) := dk_3 (dk_at dksX12_is_1 11 rfl rfl)
theorem dX12_is_36 : decode cX12_is 36 = .ok (.istore_n 2, 1) := dk_61 (dk_at dksX12_is_1 12 rfl rfl)
theorem dX12_is_37 : decode cX12_is 37 = .ok (.iconst 0, 1) := dk_3 (dk_at dksX12_is_1 13 rfl rfl)
theorem dX12_is_38 : decode cX12_is 38 = .ok (.istore_n 3, 1) := dk_62 (dk_at dksX12_is_1 14 rfl rfl)
theorem dX12_is_39 : decode cX12_is 39 = .ok (.iload_n 3, 1) := dk_29 (dk_at dksX12_is_1 15 rfl rfl)
theorem dX12_is_40 : decode cX12_is 40 = .ok (.aload_n 1, 1) := dk_43 (dk_at dksX12_is_1 16 rfl rfl)
theorem dX12_is_41 : decode cX12_is 41 = .ok (.invokevirtual 152, 3) := dk_182 0 152 (dk_at dksX12_is_1 17 rfl rfl)
theorem dX12_is_44 : decode cX12_is 44 = .ok (.if_icmp .ge 38, 3) := dk_162 0 38 (dk_at dksX12_is_1 20 rfl rfl)
theorem dX12_is_47 : decode cX12_is 47 = .ok (.iload_n 2, 1) := dk_28 (dk_at dksX12_is_1 23 rfl rfl)
theorem dX12_is_48 : decode cX12_is 48 = .ok (.ifCond .eq 34, 3) := dk_153 0 34 (dk_at dksX12_is_2 0 rfl rfl)
theorem dX12_is_51 : decode cX12_is 51 = .ok (.aload_n 0, 1) := dk_42 (dk_at dksX12_is_2 3 rfl rfl)
theorem dX12_is_52 : decode cX12_is 52 = .ok (.getfield 24, 3) := dk_180 0 24 (dk_at dksX12_is_2 4 rfl rfl)
theorem dX12_is_55 : decode cX12_is 55 = .ok (.aload_n 0, 1) := dk_42 (dk_at dksX12_is_2 7 rfl rfl)
theorem dX12_is_56 : decode cX12_is 56 = .ok (.getfield 122, 3) := dk_180 0 122 (dk_at dksX12_is_2 8 rfl rfl)
theorem dX12_is_59 : decode cX12_is 59 = .ok (.iload_n 3, 1) := dk_29 (dk_at dksX12_is_2 11 rfl rfl)
theorem dX12_is_60 : decode cX12_is 60 = .ok (.iadd, 1) := dk_96 (dk_at dksX12_is_2 12 rfl rfl)
theorem dX12_is_61 : decode cX12_is 61 = .ok (.baload, 1) := dk_51 (dk_at dksX12_is_2 13 rfl rfl)
theorem dX12_is_62 : decode cX12_is 62 = .ok (.aload_n 1, 1) := dk_43 (dk_at dksX12_is_2 14 rfl rfl)
theorem dX12_is_63 : decode cX12_is 63 = .ok (.iload_n 3, 1) := dk_29 (dk_at dksX12_is_2 15 rfl rfl)
theorem dX12_is_64 : decode cX12_is 64 = .ok (.invokevirtual 158, 3) := dk_182 0 158 (dk_at dksX12_is_2 16 rfl rfl)
theorem dX12_is_67 : decode cX12_is 67 = .ok (.if_icmp .ne 7, 3) := dk_160 0 7 (dk_at dksX12_is_2 19 rfl rfl)
theorem dX12_is_70 : decode cX12_is 70 = .ok (.iconst 1, 1) := dk_4 (dk_at dksX12_is_2 22 rfl rfl)
theorem dX12_is_71 : decode cX12_is 71 = .ok (.goto 4, 3) := dk_167 0 4 (dk_at dksX12_is_3 0 rfl rfl)
theorem dX12_is_74 : decode cX12_is 74 = .ok (.iconst 0, 1) := dk_3 (dk_at dksX12_is_3 3 rfl rfl)
theorem dX12_is_75 : decode cX12_is 75 = .ok (.istore_n 2, 1) := dk_61 (dk_at dksX12_is_3 4 rfl rfl)
theorem dX12_is_76 : decode cX12_is 76 = .ok (.iinc 3 1, 3) := dk_132 3 1 (dk_at dksX12_is_3 5 rfl rfl)
theorem dX12_is_79 : decode cX12_is 79 = .ok (.goto (-40), 3) := dk_167 255 216 (dk_at dksX12_is_3 8 rfl rfl)
theorem dX12_is_82 : decode cX12_is 82 = .ok (.iload_n 2, 1) := dk_28 (dk_at dksX12_is_3 11 rfl rfl)
theorem dX12_is_83 : decode cX12_is 83 = .ok (.ireturn, 1) := dk_172 (dk_at dksX12_is_3 12 rfl rfl)
abbrev cX12_errs : ByteArray := prog_25_method_18_code
def yX12_errs : MethodName := ⟨RX12, "errs", "(I)V"⟩
def dkwX12_errs_0 : List UInt8 := [42, 182, 0, 148, 154, 0, 4, 177, 42, 27, 181, 0, 145, 42, 42, 180, 0, 122, 181, 0, 31, 177]
abbrev dktX12_errs_0 : List UInt8 := dkwX12_errs_0 ++ []
theorem dksX12_errs_0 : cX12_errs.data.toList.drop 0 = dktX12_errs_0 := by decide +kernel
theorem dX12_errs_0 : decode cX12_errs 0 = .ok (.aload_n 0, 1) := dk_42 (dk_at dksX12_errs_0 0 rfl rfl)
theorem dX12_errs_1 : decode cX12_errs 1 = .ok (.invokevirtual 148, 3) := dk_182 0 148 (dk_at dksX12_errs_0 1 rfl rfl)
theorem dX12_errs_4 : decode cX12_errs 4 = .ok (.ifCond .ne 4, 3) := dk_154 0 4 (dk_at dksX12_errs_0 4 rfl rfl)
theorem dX12_errs_7 : decode cX12_errs 7 = .ok (.return_, 1) := dk_177 (dk_at dksX12_errs_0 7 rfl rfl)
theorem dX12_errs_8 : decode cX12_errs 8 = .ok (.aload_n 0, 1) := dk_42 (dk_at dksX12_errs_0 8 rfl rfl)
theorem dX12_errs_9 : decode cX12_errs 9 = .ok (.iload_n 1, 1) := dk_27 (dk_at dksX12_errs_0 9 rfl rfl)
theorem dX12_errs_10 : decode cX12_errs 10 = .ok (.putfield 145, 3) := dk_181 0 145 (dk_at dksX12_errs_0 10 rfl rfl)
theorem dX12_errs_13 : decode cX12_errs 13 = .ok (.aload_n 0, 1) := dk_42 (dk_at dksX12_errs_0 13 rfl rfl)
theorem dX12_errs_14 : decode cX12_errs 14 = .ok (.aload_n 0, 1) := dk_42 (dk_at dksX12_errs_0 14 rfl rfl)
theorem dX12_errs_15 : decode cX12_errs 15 = .ok (.getfield 122, 3) := dk_180 0 122 (dk_at dksX12_errs_0 15 rfl rfl)
theorem dX12_errs_18 : decode cX12_errs 18 = .ok (.putfield 31, 3) := dk_181 0 31 (dk_at dksX12_errs_0 18 rfl rfl)
theorem dX12_errs_21 : decode cX12_errs 21 = .ok (.return_, 1) := dk_177 (dk_at dksX12_errs_0 21 rfl rfl)
abbrev cX12_readOwes : ByteArray := prog_25_method_33_code
def yX12_readOwes : MethodName := ⟨RX12, "readOwes", "()V"⟩
def dkwX12_readOwes_6 : List UInt8 := [153, 0, 13, 42, 180, 0, 34, 4, 92, 46, 4, 96, 79, 177]
abbrev dktX12_readOwes_6 : List UInt8 := dkwX12_readOwes_6 ++ []
def dkwX12_readOwes_5 : List UInt8 := [27, 7, 96, 42, 180, 0, 34, 5, 46, 42, 180, 0, 34, 27, 6, 96, 46, 100, 79, 42, 182, 0, 148]
abbrev dktX12_readOwes_5 : List UInt8 := dkwX12_readOwes_5 ++ dktX12_readOwes_6
def dkwX12_readOwes_4 : List UInt8 := [182, 1, 5, 42, 19, 1, 8, 182, 0, 169, 153, 0, 10, 42, 182, 1, 5, 167, 255, 242, 42, 180, 0, 34]
abbrev dktX12_readOwes_4 : List UInt8 := dkwX12_readOwes_4 ++ dktX12_readOwes_5
def dkwX12_readOwes_3 : List UInt8 := [180, 0, 34, 27, 6, 96, 42, 180, 0, 34, 5, 46, 79, 42, 19, 1, 3, 182, 0, 169, 153, 0, 24, 42]
abbrev dktX12_readOwes_3 : List UInt8 := dkwX12_readOwes_3 ++ dktX12_readOwes_4
def dkwX12_readOwes_2 : List UInt8 := [182, 0, 217, 79, 42, 180, 0, 34, 27, 5, 96, 42, 19, 1, 1, 3, 16, 99, 182, 0, 206, 79, 42]
abbrev dktX12_readOwes_2 : List UInt8 := dkwX12_readOwes_2 ++ dktX12_readOwes_3
def dkwX12_readOwes_1 : List UInt8 := [182, 0, 217, 79, 42, 18, 255, 182, 0, 176, 42, 180, 0, 34, 27, 4, 96, 42, 42, 182, 0, 252]
abbrev dktX12_readOwes_1 : List UInt8 := dkwX12_readOwes_1 ++ dktX12_readOwes_2
def dkwX12_readOwes_0 : List UInt8 := [17, 0, 154, 8, 42, 180, 0, 34, 4, 46, 104, 96, 60, 42, 180, 0, 34, 27, 42, 42, 182, 0, 252]
abbrev dktX12_readOwes_0 : List UInt8 := dkwX12_readOwes_0 ++ dktX12_readOwes_1
theorem dksX12_readOwes_0 : cX12_readOwes.data.toList.drop 0 = dktX12_readOwes_0 := by decide +kernel
theorem dksX12_readOwes_1 : cX12_readOwes.data.toList.drop 23 = dktX12_readOwes_1 := dk_seg dksX12_readOwes_0 23 rfl rfl
theorem dksX12_readOwes_2 : cX12_readOwes.data.toList.drop 45 = dktX12_readOwes_2 := dk_seg dksX12_readOwes_1 22 rfl rfl
theorem dksX12_readOwes_3 : cX12_readOwes.data.toList.drop 68 = dktX12_readOwes_3 := dk_seg dksX12_readOwes_2 23 rfl rfl
theorem dksX12_readOwes_4 : cX12_readOwes.data.toList.drop 92 = dktX12_readOwes_4 := dk_seg dksX12_readOwes_3 24 rfl rfl
theorem dksX12_readOwes_5 : cX12_readOwes.data.toList.drop 116 = dktX12_readOwes_5 := dk_seg dksX12_readOwes_4 24 rfl rfl
theorem dksX12_readOwes_6 : cX12_readOwes.data.toList.drop 139 = dktX12_readOwes_6 := dk_seg dksX12_readOwes_5 23 rfl rfl
theorem dX12_readOwes_0 : decode cX12_readOwes 0 = .ok (.sipush 154, 3) := dk_17 0 154 (dk_at dksX12_readOwes_0 0 rfl rfl)
theorem dX12_readOwes_3 : decode cX12_readOwes 3 = .ok (.iconst 5, 1) := dk_8 (dk_at dksX12_readOwes_0 3 rfl rfl)
theorem dX12_readOwes_4 : decode cX12_readOwes 4 = .ok (.aload_n 0, 1) := dk_42 (dk_at dksX12_readOwes_0 4 rfl rfl)
theorem dX12_readOwes_5 : decode cX12_readOwes 5 = .ok (.getfield 34, 3) := dk_180 0 34 (dk_at dksX12_readOwes_0 5 rfl rfl)
theorem dX12_readOwes_8 : decode cX12_readOwes 8 = .ok (.iconst 1, 1) := dk_4 (dk_at dksX12_readOwes_0 8 rfl rfl)
theorem dX12_readOwes_9 : decode cX12_readOwes 9 = .ok (.iaload, 1) := dk_46 (dk_at dksX12_readOwes_0 9 rfl rfl)
theorem dX12_readOwes_10 : decode cX12_readOwes 10 = .ok (.imul, 1) := dk_104 (dk_at dksX12_readOwes_0 10 rfl rfl)
theorem dX12_readOwes_11 : decode cX12_readOwes 11 = .ok (.iadd, 1) := dk_96 (dk_at dksX12_readOwes_0 11 rfl rfl)
theorem dX12_readOwes_12 : decode cX12_readOwes 12 = .ok (.istore_n 1, 1) := dk_60 (dk_at dksX12_readOwes_0 12 rfl rfl)
theorem dX12_readOwes_13 : decode cX12_readOwes 13 = .ok (.aload_n 0, 1) := dk_42 (dk_at dksX12_readOwes_0 13 rfl rfl)
theorem dX12_readOwes_14 : decode cX12_readOwes 14 = .ok (.getfield 34, 3) := dk_180 0 34 (dk_at dksX12_readOwes_0 14 rfl rfl)
theorem dX12_readOwes_17 : decode cX12_readOwes 17 = .ok (.iload_n 1, 1) := dk_27 (dk_at dksX12_readOwes_0 17 rfl rfl)
theorem dX12_readOwes_18 : decode cX12_readOwes 18 = .ok (.aload_n 0, 1) := dk_42 (dk_at dksX12_readOwes_0 18 rfl rfl)
theorem dX12_readOwes_19 : decode cX12_readOwes 19 = .ok (.aload_n 0, 1) := dk_42 (dk_at dksX12_readOwes_0 19 rfl rfl)
theorem dX12_readOwes_20 : decode cX12_readOwes 20 = .ok (.invokevirtual 252, 3) := dk_182 0 252 (dk_at dksX12_readOwes_0 20 rfl rfl)
theorem dX12_readOwes_23 : decode cX12_readOwes 23 = .ok (.invokevirtual 217, 3) := dk_182 0 217 (dk_at dksX12_readOwes_1 0 rfl rfl)
theorem dX12_readOwes_26 : decode cX12_readOwes 26 = .ok (.iastore, 1) := dk_79 (dk_at dksX12_readOwes_1 3 rfl rfl)
theorem dX12_readOwes_27 : decode cX12_readOwes 27 = .ok (.aload_n 0, 1) := dk_42 (dk_at dksX12_readOwes_1 4 rfl rfl)
theorem dX12_readOwes_28 : decode cX12_readOwes 28 = .ok (.ldc 255, 2) := dk_18 255 (dk_at dksX12_readOwes_1 5 rfl rfl)
theorem dX12_readOwes_30 : decode cX12_readOwes 30 = .ok (.invokevirtual 176, 3) := dk_182 0 176 (dk_at dksX12_readOwes_1 7 rfl rfl)
theorem dX12_readOwes_33 : decode cX12_readOwes 33 = .ok (.aload_n 0, 1) := dk_42 (dk_at dksX12_readOwes_1 10 rfl rfl)
theorem dX12_readOwes_34 : decode cX12_readOwes 34 = .ok (.getfield 34, 3) := dk_180 0 34 (dk_at dksX12_readOwes_1 11 rfl rfl)
theorem dX12_readOwes_37 : decode cX12_readOwes 37 = .ok (.iload_n 1, 1) := dk_27 (dk_at dksX12_readOwes_1 14 rfl rfl)
theorem dX12_readOwes_38 : decode cX12_readOwes 38 = .ok (.iconst 1, 1) := dk_4 (dk_at dksX12_readOwes_1 15 rfl rfl)
theorem dX12_readOwes_39 : decode cX12_readOwes 39 = .ok (.iadd, 1) := dk_96 (dk_at dksX12_readOwes_1 16 rfl rfl)
theorem dX12_readOwes_40 : decode cX12_readOwes 40 = .ok (.aload_n 0, 1) := dk_42 (dk_at dksX12_readOwes_1 17 rfl rfl)
theorem dX12_readOwes_41 : decode cX12_readOwes 41 = .ok (.aload_n 0, 1) := dk_42 (dk_at dksX12_readOwes_1 18 rfl rfl)
theorem dX12_readOwes_42 : decode cX12_readOwes 42 = .ok (.invokevirtual 252, 3) := dk_182 0 252 (dk_at dksX12_readOwes_1 19 rfl rfl)
theorem dX12_readOwes_45 : decode cX12_readOwes 45 = .ok (.invokevirtual 217, 3) := dk_182 0 217 (dk_at dksX12_readOwes_2 0 rfl rfl)
theorem dX12_readOwes_48 : decode cX12_readOwes 48 = .ok (.iastore, 1) := dk_79 (dk_at dksX12_readOwes_2 3 rfl rfl)
theorem dX12_readOwes_49 : decode cX12_readOwes 49 = .ok (.aload_n 0, 1) := dk_42 (dk_at dksX12_readOwes_2 4 rfl rfl)
theorem dX12_readOwes_50 : decode cX12_readOwes 50 = .ok (.getfield 34, 3) := dk_180 0 34 (dk_at dksX12_readOwes_2 5 rfl rfl)
theorem dX12_readOwes_53 : decode cX12_readOwes 53 = .ok (.iload_n 1, 1) := dk_27 (dk_at dksX12_readOwes_2 8 rfl rfl)
theorem dX12_readOwes_54 : decode cX12_readOwes 54 = .ok (.iconst 2, 1) := dk_5 (dk_at dksX12_readOwes_2 9 rfl rfl)
theorem dX12_readOwes_55 : decode cX12_readOwes 55 = .ok (.iadd, 1) := dk_96 (dk_at dksX12_readOwes_2 10 rfl rfl)
theorem dX12_readOwes_56 : decode cX12_readOwes 56 = .ok (.aload_n 0, 1) := dk_42 (dk_at dksX12_readOwes_2 11 rfl rfl)
theorem dX12_readOwes_57 : decode cX12_readOwes 57 = .ok (.ldc_w 257, 3) := dk_19 1 1 (dk_at dksX12_readOwes_2 12 rfl rfl)
theorem dX12_readOwes_60 : decode cX12_readOwes 60 = .ok (.iconst 0, 1) := dk_3 (dk_at dksX12_readOwes_2 15 rfl rfl)
theorem dX12_readOwes_61 : decode cX12_readOwes 61 = .ok (.bipush 99, 2) := dk_16 99 (dk_at dksX12_readOwes_2 16 rfl rfl)
theorem dX12_readOwes_63 : decode cX12_readOwes 63 = .ok (.invokevirtual 206, 3) := dk_182 0 206 (dk_at dksX12_readOwes_2 18 rfl rfl)
theorem dX12_readOwes_66 : decode cX12_readOwes 66 = .ok (.iastore, 1) := dk_79 (dk_at dksX12_readOwes_2 21 rfl rfl)
theorem dX12_readOwes_67 : decode cX12_readOwes 67 = .ok (.aload_n 0, 1) := dk_42 (dk_at dksX12_readOwes_2 22 rfl rfl)
theorem dX12_readOwes_68 : decode cX12_readOwes 68 = .ok (.getfield 34, 3) := dk_180 0 34 (dk_at dksX12_readOwes_3 0 rfl rfl)
theorem dX12_readOwes_71 : decode cX12_readOwes 71 = .ok (.iload_n 1, 1) := dk_27 (dk_at dksX12_readOwes_3 3 rfl rfl)
theorem dX12_readOwes_72 : decode cX12_readOwes 72 = .ok (.iconst 3, 1) := dk_6 (dk_at dksX12_readOwes_3 4 rfl rfl)
theorem dX12_readOwes_73 : decode cX12_readOwes 73 = .ok (.iadd, 1) := dk_96 (dk_at dksX12_readOwes_3 5 rfl rfl)
theorem dX12_readOwes_74 : decode cX12_readOwes 74 = .ok (.aload_n 0, 1) := dk_42 (dk_at dksX12_readOwes_3 6 rfl rfl)
theorem dX12_readOwes_75 : decode cX12_readOwes 75 = .ok (.getfield 34, 3) := dk_180 0 34 (dk_at dksX12_readOwes_3 7 rfl rfl)
theorem dX12_readOwes_78 : decode cX12_readOwes 78 = .ok (.iconst 2, 1) := dk_5 (dk_at dksX12_readOwes_3 10 rfl rfl)
theorem dX12_readOwes_79 : decode cX12_readOwes 79 = .ok (.iaload, 1) := dk_46 (dk_at dksX12_readOwes_3 11 rfl rfl)
theorem dX12_readOwes_80 : decode cX12_readOwes 80 = .ok (.iastore, 1) := dk_79 (dk_at dksX12_readOwes_3 12 rfl rfl)
theorem dX12_readOwes_81 : decode cX12_readOwes 81 = .ok (.aload_n 0, 1) := dk_42 (dk_at dksX12_readOwes_3 13 rfl rfl)
theorem dX12_readOwes_82 : decode cX12_readOwes 82 = .ok (.ldc_w 259, 3) := dk_19 1 3 (dk_at dksX12_readOwes_3 14 rfl rfl)
theorem dX12_readOwes_85 : decode cX12_readOwes 85 = .ok (.invokevirtual 169, 3) := dk_182 0 169 (dk_at dksX12_readOwes_3 17 rfl rfl)
theorem dX12_readOwes_88 : decode cX12_readOwes 88 = .ok (.ifCond .eq 24, 3) := dk_153 0 24 (dk_at dksX12_readOwes_3 20 rfl rfl)
theorem dX12_readOwes_91 : decode cX12_readOwes 91 = .ok (.aload_n 0, 1) := dk_42 (dk_at dksX12_readOwes_3 23 rfl rfl)
theorem dX12_readOwes_92 : decode cX12_readOwes 92 = .ok (.invokevirtual 261, 3) := dk_182 1 5 (dk_at dksX12_readOwes_4 0 rfl rfl)
theorem dX12_readOwes_95 : decode cX12_readOwes 95 = .ok (.aload_n 0, 1) := dk_42 (dk_at dksX12_readOwes_4 3 rfl rfl)
theorem dX12_readOwes_96 : decode cX12_readOwes 96 = .ok (.ldc_w 264, 3) := dk_19 1 8 (dk_at dksX12_readOwes_4 4 rfl rfl)
theorem dX12_readOwes_99 : decode cX12_readOwes 99 = .ok (.invokevirtual 169, 3) := dk_182 0 169 (dk_at dksX12_readOwes_4 7 rfl rfl)
theorem dX12_readOwes_102 : decode cX12_readOwes 102 = .ok (.ifCond .eq 10, 3) := dk_153 0 10 (dk_at dksX12_readOwes_4 10 rfl rfl)
theorem dX12_readOwes_105 : decode cX12_readOwes 105 = .ok (.aload_n 0, 1) := dk_42 (dk_at dksX12_readOwes_4 13 rfl rfl)
theorem dX12_readOwes_106 : decode cX12_readOwes 106 = .ok (.invokevirtual 261, 3) := dk_182 1 5 (dk_at dksX12_readOwes_4 14 rfl rfl)
theorem dX12_readOwes_109 : decode cX12_readOwes 109 = .ok (.goto (-14), 3) := dk_167 255 242 (dk_at dksX12_readOwes_4 17 rfl rfl)
theorem dX12_readOwes_112 : decode cX12_readOwes 112 = .ok (.aload_n 0, 1) := dk_42 (dk_at dksX12_readOwes_4 20 rfl rfl)
theorem dX12_readOwes_113 : decode cX12_readOwes 113 = .ok (.getfield 34, 3) := dk_180 0 34 (dk_at dksX12_readOwes_4 21 rfl rfl)
theorem dX12_readOwes_116 : decode cX12_readOwes 116 = .ok (.iload_n 1, 1) := dk_27 (dk_at dksX12_readOwes_5 0 rfl rfl)
theorem dX12_readOwes_117 : decode cX12_readOwes 117 = .ok (.iconst 4, 1) := dk_7 (dk_at dksX12_readOwes_5 1 rfl rfl)
theorem dX12_readOwes_118 : decode cX12_readOwes 118 = .ok (.iadd, 1) := dk_96 (dk_at dksX12_readOwes_5 2 rfl rfl)
theorem dX12_readOwes_119 : decode cX12_readOwes 119 = .ok (.aload_n 0, 1) := dk_42 (dk_at dksX12_readOwes_5 3 rfl rfl)
theorem dX12_readOwes_120 : decode cX12_readOwes 120 = .ok (.getfield 34, 3) := dk_180 0 34 (dk_at dksX12_readOwes_5 4 rfl rfl)
theorem dX12_readOwes_123 : decode cX12_readOwes 123 = .ok (.iconst 2, 1) := dk_5 (dk_at dksX12_readOwes_5 7 rfl rfl)
theorem dX12_readOwes_124 : decode cX12_readOwes 124 = .ok (.iaload, 1) := dk_46 (dk_at dksX12_readOwes_5 8 rfl rfl)
theorem dX12_readOwes_125 : decode cX12_readOwes 125 = .ok (.aload_n 0, 1) := dk_42 (dk_at dksX12_readOwes_5 9 rfl rfl)
theorem dX12_readOwes_126 : decode cX12_readOwes 126 = .ok (.getfield 34, 3) := dk_180 0 34 (dk_at dksX12_readOwes_5 10 rfl rfl)
theorem dX12_readOwes_129 : decode cX12_readOwes 129 = .ok (.iload_n 1, 1) := dk_27 (dk_at dksX12_readOwes_5 13 rfl rfl)
theorem dX12_readOwes_130 : decode cX12_readOwes 130 = .ok (.iconst 3, 1) := dk_6 (dk_at dksX12_readOwes_5 14 rfl rfl)
theorem dX12_readOwes_131 : decode cX12_readOwes 131 = .ok (.iadd, 1) := dk_96 (dk_at dksX12_readOwes_5 15 rfl rfl)
theorem dX12_readOwes_132 : decode cX12_readOwes 132 = .ok (.iaload, 1) := dk_46 (dk_at dksX12_readOwes_5 16 rfl rfl)
theorem dX12_readOwes_133 : decode cX12_readOwes 133 = .ok (.isub, 1) := dk_100 (dk_at dksX12_readOwes_5 17 rfl rfl)
theorem dX12_readOwes_134 : decode cX12_readOwes 134 = .ok (.iastore, 1) := dk_79 (dk_at dksX12_readOwes_5 18 rfl rfl)
theorem dX12_readOwes_135 : decode cX12_readOwes 135 = .ok (.aload_n 0, 1) := dk_42 (dk_at dksX12_readOwes_5 19 rfl rfl)
theorem dX12_readOwes_136 : decode cX12_readOwes 136 = .ok (.invokevirtual 148, 3) := dk_182 0 148 (dk_at dksX12_readOwes_5 20 rfl rfl)
theorem dX12_readOwes_139 : decode cX12_readOwes 139 = .ok (.ifCond .eq 13, 3) := dk_153 0 13 (dk_at dksX12_readOwes_6 0 rfl rfl)
theorem dX12_readOwes_142 : decode cX12_readOwes 142 = .ok (.aload_n 0, 1) := dk_42 (dk_at dksX12_readOwes_6 3 rfl rfl)
theorem dX12_readOwes_143 : decode cX12_readOwes 143 = .ok (.getfield 34, 3) := dk_180 0 34 (dk_at dksX12_readOwes_6 4 rfl rfl)
theorem dX12_readOwes_146 : decode cX12_readOwes 146 = .ok (.iconst 1, 1) := dk_4 (dk_at dksX12_readOwes_6 7 rfl rfl)
theorem dX12_readOwes_147 : decode cX12_readOwes 147 = .ok (.dup2, 1) := dk_92 (dk_at dksX12_readOwes_6 8 rfl rfl)
theorem dX12_readOwes_148 : decode cX12_readOwes 148 = .ok (.iaload, 1) := dk_46 (dk_at dksX12_readOwes_6 9 rfl rfl)
theorem dX12_readOwes_149 : decode cX12_readOwes 149 = .ok (.iconst 1, 1) := dk_4 (dk_at dksX12_readOwes_6 10 rfl rfl)
theorem dX12_readOwes_150 : decode cX12_readOwes 150 = .ok (.iadd, 1) := dk_96 (dk_at dksX12_readOwes_6 11 rfl rfl)
theorem dX12_readOwes_151 : decode cX12_readOwes 151 = .ok (.iastore, 1) := dk_79 (dk_at dksX12_readOwes_6 12 rfl rfl)
theorem dX12_readOwes_152 : decode cX12_readOwes 152 = .ok (.return_, 1) := dk_177 (dk_at dksX12_readOwes_6 13 rfl rfl)
abbrev cX12_taken : ByteArray := prog_25_method_27_code
def yX12_taken : MethodName := ⟨RX12, "taken", "(I)I"⟩
def dkwX12_taken_0 : List UInt8 := [27, 2, 160, 0, 8, 42, 4, 182, 0, 172, 42, 182, 0, 148, 153, 0, 7, 42, 182, 0, 166, 27, 172]
abbrev dktX12_taken_0 : List UInt8 := dkwX12_taken_0 ++ []
theorem dksX12_taken_0 : cX12_taken.data.toList.drop 0 = dktX12_taken_0 := by decide +kernel
theorem dX12_taken_0 : decode cX12_taken 0 = .ok (.iload_n 1, 1) := dk_27 (dk_at dksX12_taken_0 0 rfl rfl)
theorem dX12_taken_1 : decode cX12_taken 1 = .ok (.iconst (-1), 1) := dk_2 (dk_at dksX12_taken_0 1 rfl rfl)
theorem dX12_taken_2 : decode cX12_taken 2 = .ok (.if_icmp .ne 8, 3) := dk_160 0 8 (dk_at dksX12_taken_0 2 rfl rfl)
theorem dX12_taken_5 : decode cX12_taken 5 = .ok (.aload_n 0, 1) := dk_42 (dk_at dksX12_taken_0 5 rfl rfl)
theorem dX12_taken_6 : decode cX12_taken 6 = .ok (.iconst 1, 1) := dk_4 (dk_at dksX12_taken_0 6 rfl rfl)
theorem dX12_taken_7 : decode cX12_taken 7 = .ok (.invokevirtual 172, 3) := dk_182 0 172 (dk_at dksX12_taken_0 7 rfl rfl)
theorem dX12_taken_10 : decode cX12_taken 10 = .ok (.aload_n 0, 1) := dk_42 (dk_at dksX12_taken_0 10 rfl rfl)
theorem dX12_taken_11 : decode cX12_taken 11 = .ok (.invokevirtual 148, 3) := dk_182 0 148 (dk_at dksX12_taken_0 11 rfl rfl)
theorem dX12_taken_14 : decode cX12_taken 14 = .ok (.ifCond .eq 7, 3) := dk_153 0 7 (dk_at dksX12_taken_0 14 rfl rfl)
theorem dX12_taken_17 : decode cX12_taken 17 = .ok (.aload_n 0, 1) := dk_42 (dk_at dksX12_taken_0 17 rfl rfl)
theorem dX12_taken_18 : decode cX12_taken 18 = .ok (.invokevirtual 166, 3) := dk_182 0 166 (dk_at dksX12_taken_0 18 rfl rfl)
theorem dX12_taken_21 : decode cX12_taken 21 = .ok (.iload_n 1, 1) := dk_27 (dk_at dksX12_taken_0 21 rfl rfl)
theorem dX12_taken_22 : decode cX12_taken 22 = .ok (.ireturn, 1) := dk_172 (dk_at dksX12_taken_0 22 rfl rfl)
abbrev cX12_needs : ByteArray := prog_25_method_21_code
def yX12_needs : MethodName := ⟨RX12, "needs", "(Ljava/lang/String;)V"⟩
def dkwX12_needs_0 : List UInt8 := [42, 43, 182, 0, 169, 154, 0, 8, 42, 4, 182, 0, 172, 177]
abbrev dktX12_needs_0 : List UInt8 := dkwX12_needs_0 ++ []
theorem dksX12_needs_0 : cX12_needs.data.toList.drop 0 = dktX12_needs_0 := by decide +kernel
theorem dX12_needs_0 : decode cX12_needs 0 = .ok (.aload_n 0, 1) := dk_42 (dk_at dksX12_needs_0 0 rfl rfl)
theorem dX12_needs_1 : decode cX12_needs 1 = .ok (.aload_n 1, 1) := dk_43 (dk_at dksX12_needs_0 1 rfl rfl)
theorem dX12_needs_2 : decode cX12_needs 2 = .ok (.invokevirtual 169, 3) := dk_182 0 169 (dk_at dksX12_needs_0 2 rfl rfl)
theorem dX12_needs_5 : decode cX12_needs 5 = .ok (.ifCond .ne 8, 3) := dk_154 0 8 (dk_at dksX12_needs_0 5 rfl rfl)
theorem dX12_needs_8 : decode cX12_needs 8 = .ok (.aload_n 0, 1) := dk_42 (dk_at dksX12_needs_0 8 rfl rfl)
theorem dX12_needs_9 : decode cX12_needs 9 = .ok (.iconst 1, 1) := dk_4 (dk_at dksX12_needs_0 9 rfl rfl)
theorem dX12_needs_10 : decode cX12_needs 10 = .ok (.invokevirtual 172, 3) := dk_182 0 172 (dk_at dksX12_needs_0 10 rfl rfl)
theorem dX12_needs_13 : decode cX12_needs 13 = .ok (.return_, 1) := dk_177 (dk_at dksX12_needs_0 13 rfl rfl)
abbrev cX12_takes : ByteArray := prog_25_method_20_code
def yX12_takes : MethodName := ⟨RX12, "takes", "(Ljava/lang/String;)Z"⟩
def dkwX12_takes_0 : List UInt8 := [42, 43, 182, 0, 162, 61, 28, 153, 0, 7, 42, 182, 0, 166, 28, 172]
abbrev dktX12_takes_0 : List UInt8 := dkwX12_takes_0 ++ []
theorem dksX12_takes_0 : cX12_takes.data.toList.drop 0 = dktX12_takes_0 := by decide +kernel
theorem dX12_takes_0 : decode cX12_takes 0 = .ok (.aload_n 0, 1) := dk_42 (dk_at dksX12_takes_0 0 rfl rfl)
theorem dX12_takes_1 : decode cX12_takes 1 = .ok (.aload_n 1, 1) := dk_43 (dk_at dksX12_takes_0 1 rfl rfl)
theorem dX12_takes_2 : decode cX12_takes 2 = .ok (.invokevirtual 162, 3) := dk_182 0 162 (dk_at dksX12_takes_0 2 rfl rfl)
theorem dX12_takes_5 : decode cX12_takes 5 = .ok (.istore_n 2, 1) := dk_61 (dk_at dksX12_takes_0 5 rfl rfl)
theorem dX12_takes_6 : decode cX12_takes 6 = .ok (.iload_n 2, 1) := dk_28 (dk_at dksX12_takes_0 6 rfl rfl)
theorem dX12_takes_7 : decode cX12_takes 7 = .ok (.ifCond .eq 7, 3) := dk_153 0 7 (dk_at dksX12_takes_0 7 rfl rfl)
theorem dX12_takes_10 : decode cX12_takes 10 = .ok (.aload_n 0, 1) := dk_42 (dk_at dksX12_takes_0 10 rfl rfl)
theorem dX12_takes_11 : decode cX12_takes 11 = .ok (.invokevirtual 166, 3) := dk_182 0 166 (dk_at dksX12_takes_0 11 rfl rfl)
theorem dX12_takes_14 : decode cX12_takes 14 = .ok (.iload_n 2, 1) := dk_28 (dk_at dksX12_takes_0 14 rfl rfl)
theorem dX12_takes_15 : decode cX12_takes 15 = .ok (.ireturn, 1) := dk_172 (dk_at dksX12_takes_0 15 rfl rfl)
abbrev cX12_told : ByteArray := prog_25_method_23_code
def yX12_told : MethodName := ⟨RX12, "told", "(Ljava/lang/String;II)I"⟩
def dkwX12_told_0 : List UInt8 := [42, 43, 182, 0, 176, 42, 28, 29, 182, 0, 180, 172]
abbrev dktX12_told_0 : List UInt8 := dkwX12_told_0 ++ []
theorem dksX12_told_0 : cX12_told.data.toList.drop 0 = dktX12_told_0 := by decide +kernel
theorem dX12_told_0 : decode cX12_told 0 = .ok (.aload_n 0, 1) := dk_42 (dk_at dksX12_told_0 0 rfl rfl)
theorem dX12_told_1 : decode cX12_told 1 = .ok (.aload_n 1, 1) := dk_43 (dk_at dksX12_told_0 1 rfl rfl)
theorem dX12_told_2 : decode cX12_told 2 = .ok (.invokevirtual 176, 3) := dk_182 0 176 (dk_at dksX12_told_0 2 rfl rfl)
theorem dX12_told_5 : decode cX12_told 5 = .ok (.aload_n 0, 1) := dk_42 (dk_at dksX12_told_0 5 rfl rfl)
theorem dX12_told_6 : decode cX12_told 6 = .ok (.iload_n 2, 1) := dk_28 (dk_at dksX12_told_0 6 rfl rfl)
theorem dX12_told_7 : decode cX12_told 7 = .ok (.iload_n 3, 1) := dk_29 (dk_at dksX12_told_0 7 rfl rfl)
theorem dX12_told_8 : decode cX12_told 8 = .ok (.invokevirtual 180, 3) := dk_182 0 180 (dk_at dksX12_told_0 8 rfl rfl)
theorem dX12_told_11 : decode cX12_told 11 = .ok (.ireturn, 1) := dk_172 (dk_at dksX12_told_0 11 rfl rfl)
abbrev cX12_number : ByteArray := prog_25_method_22_code
def yX12_number : MethodName := ⟨RX12, "number", "(II)I"⟩
def dkwX12_number_2 : List UInt8 := [182, 0, 148, 154, 0, 5, 3, 172, 42, 180, 0, 136, 62, 42, 182, 0, 166, 29, 172]
abbrev dktX12_number_2 : List UInt8 := dkwX12_number_2 ++ []
def dkwX12_number_1 : List UInt8 := [153, 0, 23, 42, 180, 0, 136, 133, 27, 133, 28, 133, 184, 0, 101, 154, 0, 8, 42, 5, 182, 0, 172, 42]
abbrev dktX12_number_1 : List UInt8 := dkwX12_number_1 ++ dktX12_number_2
def dkwX12_number_0 : List UInt8 := [42, 182, 0, 148, 153, 0, 16, 42, 180, 0, 125, 5, 159, 0, 8, 42, 4, 182, 0, 172, 42, 182, 0, 148]
abbrev dktX12_number_0 : List UInt8 := dkwX12_number_0 ++ dktX12_number_1
theorem dksX12_number_0 : cX12_number.data.toList.drop 0 = dktX12_number_0 := by decide +kernel
theorem dksX12_number_1 : cX12_number.data.toList.drop 24 = dktX12_number_1 := dk_seg dksX12_number_0 24 rfl rfl
theorem dksX12_number_2 : cX12_number.data.toList.drop 48 = dktX12_number_2 := dk_seg dksX12_number_1 24 rfl rfl
theorem dX12_number_0 : decode cX12_number 0 = .ok (.aload_n 0, 1) := dk_42 (dk_at dksX12_number_0 0 rfl rfl)
theorem dX12_number_1 : decode cX12_number 1 = .ok (.invokevirtual 148, 3) := dk_182 0 148 (dk_at dksX12_number_0 1 rfl rfl)
theorem dX12_number_4 : decode cX12_number 4 = .ok (.ifCond .eq 16, 3) := dk_153 0 16 (dk_at dksX12_number_0 4 rfl rfl)
theorem dX12_number_7 : decode cX12_number 7 = .ok (.aload_n 0, 1) := dk_42 (dk_at dksX12_number_0 7 rfl rfl)
theorem dX12_number_8 : decode cX12_number 8 = .ok (.getfield 125, 3) := dk_180 0 125 (dk_at dksX12_number_0 8 rfl rfl)
theorem dX12_number_11 : decode cX12_number 11 = .ok (.iconst 2, 1) := dk_5 (dk_at dksX12_number_0 11 rfl rfl)
theorem dX12_number_12 : decode cX12_number 12 = .ok (.if_icmp .eq 8, 3) := dk_159 0 8 (dk_at dksX12_number_0 12 rfl rfl)
theorem dX12_number_15 : decode cX12_number 15 = .ok (.aload_n 0, 1) := dk_42 (dk_at dksX12_number_0 15 rfl rfl)
theorem dX12_number_16 : decode cX12_number 16 = .ok (.iconst 1, 1) := dk_4 (dk_at dksX12_number_0 16 rfl rfl)
theorem dX12_number_17 : decode cX12_number 17 = .ok (.invokevirtual 172, 3) := dk_182 0 172 (dk_at dksX12_number_0 17 rfl rfl)
theorem dX12_number_20 : decode cX12_number 20 = .ok (.aload_n 0, 1) := dk_42 (dk_at dksX12_number_0 20 rfl rfl)
theorem dX12_number_21 : decode cX12_number 21 = .ok (.invokevirtual 148, 3) := dk_182 0 148 (dk_at dksX12_number_0 21 rfl rfl)
theorem dX12_number_24 : decode cX12_number 24 = .ok (.ifCond .eq 23, 3) := dk_153 0 23 (dk_at dksX12_number_1 0 rfl rfl)
theorem dX12_number_27 : decode cX12_number 27 = .ok (.aload_n 0, 1) := dk_42 (dk_at dksX12_number_1 3 rfl rfl)
theorem dX12_number_28 : decode cX12_number 28 = .ok (.getfield 136, 3) := dk_180 0 136 (dk_at dksX12_number_1 4 rfl rfl)
theorem dX12_number_31 : decode cX12_number 31 = .ok (.i2l, 1) := dk_133 (dk_at dksX12_number_1 7 rfl rfl)
theorem dX12_number_32 : decode cX12_number 32 = .ok (.iload_n 1, 1) := dk_27 (dk_at dksX12_number_1 8 rfl rfl)
theorem dX12_number_33 : decode cX12_number 33 = .ok (.i2l, 1) := dk_133 (dk_at dksX12_number_1 9 rfl rfl)
theorem dX12_number_34 : decode cX12_number 34 = .ok (.iload_n 2, 1) := dk_28 (dk_at dksX12_number_1 10 rfl rfl)
theorem dX12_number_35 : decode cX12_number 35 = .ok (.i2l, 1) := dk_133 (dk_at dksX12_number_1 11 rfl rfl)
theorem dX12_number_36 : decode cX12_number 36 = .ok (.invokestatic 101, 3) := dk_184 0 101 (dk_at dksX12_number_1 12 rfl rfl)
theorem dX12_number_39 : decode cX12_number 39 = .ok (.ifCond .ne 8, 3) := dk_154 0 8 (dk_at dksX12_number_1 15 rfl rfl)
theorem dX12_number_42 : decode cX12_number 42 = .ok (.aload_n 0, 1) := dk_42 (dk_at dksX12_number_1 18 rfl rfl)
theorem dX12_number_43 : decode cX12_number 43 = .ok (.iconst 2, 1) := dk_5 (dk_at dksX12_number_1 19 rfl rfl)
theorem dX12_number_44 : decode cX12_number 44 = .ok (.invokevirtual 172, 3) := dk_182 0 172 (dk_at dksX12_number_1 20 rfl rfl)
theorem dX12_number_47 : decode cX12_number 47 = .ok (.aload_n 0, 1) := dk_42 (dk_at dksX12_number_1 23 rfl rfl)
theorem dX12_number_48 : decode cX12_number 48 = .ok (.invokevirtual 148, 3) := dk_182 0 148 (dk_at dksX12_number_2 0 rfl rfl)
theorem dX12_number_51 : decode cX12_number 51 = .ok (.ifCond .ne 5, 3) := dk_154 0 5 (dk_at dksX12_number_2 3 rfl rfl)
theorem dX12_number_54 : decode cX12_number 54 = .ok (.iconst 0, 1) := dk_3 (dk_at dksX12_number_2 6 rfl rfl)
theorem dX12_number_55 : decode cX12_number 55 = .ok (.ireturn, 1) := dk_172 (dk_at dksX12_number_2 7 rfl rfl)
theorem dX12_number_56 : decode cX12_number 56 = .ok (.aload_n 0, 1) := dk_42 (dk_at dksX12_number_2 8 rfl rfl)
theorem dX12_number_57 : decode cX12_number 57 = .ok (.getfield 136, 3) := dk_180 0 136 (dk_at dksX12_number_2 9 rfl rfl)
theorem dX12_number_60 : decode cX12_number 60 = .ok (.istore_n 3, 1) := dk_62 (dk_at dksX12_number_2 12 rfl rfl)
theorem dX12_number_61 : decode cX12_number 61 = .ok (.aload_n 0, 1) := dk_42 (dk_at dksX12_number_2 13 rfl rfl)
theorem dX12_number_62 : decode cX12_number 62 = .ok (.invokevirtual 166, 3) := dk_182 0 166 (dk_at dksX12_number_2 14 rfl rfl)
theorem dX12_number_65 : decode cX12_number 65 = .ok (.iload_n 3, 1) := dk_29 (dk_at dksX12_number_2 17 rfl rfl)
theorem dX12_number_66 : decode cX12_number 66 = .ok (.ireturn, 1) := dk_172 (dk_at dksX12_number_2 18 rfl rfl)
abbrev cX12_readTest : ByteArray := prog_25_method_32_code
def yX12_readTest : MethodName := ⟨RX12, "readTest", "()V"⟩
def dkwX12_readTest_5 : List UInt8 := [180, 0, 34, 6, 46, 27, 100, 79, 42, 180, 0, 34, 5, 92, 46, 4, 96, 79, 177]
abbrev dktX12_readTest_5 : List UInt8 := dkwX12_readTest_5 ++ []
def dkwX12_readTest_4 : List UInt8 := [180, 0, 34, 29, 28, 79, 42, 180, 0, 34, 29, 4, 96, 27, 79, 42, 180, 0, 34, 29, 5, 96, 42]
abbrev dktX12_readTest_4 : List UInt8 := dkwX12_readTest_4 ++ dktX12_readTest_5
def dkwX12_readTest_3 : List UInt8 := [42, 182, 0, 148, 154, 0, 4, 177, 17, 1, 18, 6, 42, 180, 0, 34, 5, 46, 104, 96, 62, 42]
abbrev dktX12_readTest_3 : List UInt8 := dkwX12_readTest_3 ++ dktX12_readTest_4
def dkwX12_readTest_2 : List UInt8 := [153, 0, 7, 5, 167, 0, 4, 2, 182, 0, 217, 61, 42, 182, 0, 148, 153, 0, 8, 42, 7, 182, 0, 243]
abbrev dktX12_readTest_2 : List UInt8 := dkwX12_readTest_2 ++ dktX12_readTest_3
def dkwX12_readTest_1 : List UInt8 := [167, 0, 30, 42, 18, 248, 182, 0, 162, 153, 0, 7, 4, 167, 0, 17, 42, 18, 250, 182, 0, 162]
abbrev dktX12_readTest_1 : List UInt8 := dkwX12_readTest_1 ++ dktX12_readTest_2
def dkwX12_readTest_0 : List UInt8 := [42, 180, 0, 34, 6, 46, 60, 42, 3, 182, 0, 243, 42, 42, 18, 246, 182, 0, 162, 153, 0, 7, 3]
abbrev dktX12_readTest_0 : List UInt8 := dkwX12_readTest_0 ++ dktX12_readTest_1
theorem dksX12_readTest_0 : cX12_readTest.data.toList.drop 0 = dktX12_readTest_0 := by decide +kernel
theorem dksX12_readTest_1 : cX12_readTest.data.toList.drop 23 = dktX12_readTest_1 := dk_seg dksX12_readTest_0 23 rfl rfl
theorem dksX12_readTest_2 : cX12_readTest.data.toList.drop 45 = dktX12_readTest_2 := dk_seg dksX12_readTest_1 22 rfl rfl
theorem dksX12_readTest_3 : cX12_readTest.data.toList.drop 69 = dktX12_readTest_3 := dk_seg dksX12_readTest_2 24 rfl rfl
theorem dksX12_readTest_4 : cX12_readTest.data.toList.drop 91 = dktX12_readTest_4 := dk_seg dksX12_readTest_3 22 rfl rfl
theorem dksX12_readTest_5 : cX12_readTest.data.toList.drop 114 = dktX12_readTest_5 := dk_seg dksX12_readTest_4 23 rfl rfl
theorem dX12_readTest_0 : decode cX12_readTest 0 = .ok (.aload_n 0, 1) := dk_42 (dk_at dksX12_readTest_0 0 rfl rfl)
theorem dX12_readTest_1 : decode cX12_readTest 1 = .ok (.getfield 34, 3) := dk_180 0 34 (dk_at dksX12_readTest_0 1 rfl rfl)
theorem dX12_readTest_4 : decode cX12_readTest 4 = .ok (.iconst 3, 1) := dk_6 (dk_at dksX12_readTest_0 4 rfl rfl)
theorem dX12_readTest_5 : decode cX12_readTest 5 = .ok (.iaload, 1) := dk_46 (dk_at dksX12_readTest_0 5 rfl rfl)
theorem dX12_readTest_6 : decode cX12_readTest 6 = .ok (.istore_n 1, 1) := dk_60 (dk_at dksX12_readTest_0 6 rfl rfl)
theorem dX12_readTest_7 : decode cX12_readTest 7 = .ok (.aload_n 0, 1) := dk_42 (dk_at dksX12_readTest_0 7 rfl rfl)
theorem dX12_readTest_8 : decode cX12_readTest 8 = .ok (.iconst 0, 1) := dk_3 (dk_at dksX12_readTest_0 8 rfl rfl)
theorem dX12_readTest_9 : decode cX12_readTest 9 = .ok (.invokevirtual 243, 3) := dk_182 0 243 (dk_at dksX12_readTest_0 9 rfl rfl)
theorem dX12_readTest_12 : decode cX12_readTest 12 = .ok (.aload_n 0, 1) := dk_42 (dk_at dksX12_readTest_0 12 rfl rfl)
theorem dX12_readTest_13 : decode cX12_readTest 13 = .ok (.aload_n 0, 1) := dk_42 (dk_at dksX12_readTest_0 13 rfl rfl)
theorem dX12_readTest_14 : decode cX12_readTest 14 = .ok (.ldc 246, 2) := dk_18 246 (dk_at dksX12_readTest_0 14 rfl rfl)
theorem dX12_readTest_16 : decode cX12_readTest 16 = .ok (.invokevirtual 162, 3) := dk_182 0 162 (dk_at dksX12_readTest_0 16 rfl rfl)
theorem dX12_readTest_19 : decode cX12_readTest 19 = .ok (.ifCond .eq 7, 3) := dk_153 0 7 (dk_at dksX12_readTest_0 19 rfl rfl)
theorem dX12_readTest_22 : decode cX12_readTest 22 = .ok (.iconst 0, 1) := dk_3 (dk_at dksX12_readTest_0 22 rfl rfl)
theorem dX12_readTest_23 : decode cX12_readTest 23 = .ok (.goto 30, 3) := dk_167 0 30 (dk_at dksX12_readTest_1 0 rfl rfl)
theorem dX12_readTest_26 : decode cX12_readTest 26 = .ok (.aload_n 0, 1) := dk_42 (dk_at dksX12_readTest_1 3 rfl rfl)
theorem dX12_readTest_27 : decode cX12_readTest 27 = .ok (.ldc 248, 2) := dk_18 248 (dk_at dksX12_readTest_1 4 rfl rfl)
theorem dX12_readTest_29 : decode cX12_readTest 29 = .ok (.invokevirtual 162, 3) := dk_182 0 162 (dk_at dksX12_readTest_1 6 rfl rfl)
theorem dX12_readTest_32 : decode cX12_readTest 32 = .ok (.ifCond .eq 7, 3) := dk_153 0 7 (dk_at dksX12_readTest_1 9 rfl rfl)
theorem dX12_readTest_35 : decode cX12_readTest 35 = .ok (.iconst 1, 1) := dk_4 (dk_at dksX12_readTest_1 12 rfl rfl)
theorem dX12_readTest_36 : decode cX12_readTest 36 = .ok (.goto 17, 3) := dk_167 0 17 (dk_at dksX12_readTest_1 13 rfl rfl)
theorem dX12_readTest_39 : decode cX12_readTest 39 = .ok (.aload_n 0, 1) := dk_42 (dk_at dksX12_readTest_1 16 rfl rfl)
theorem dX12_readTest_40 : decode cX12_readTest 40 = .ok (.ldc 250, 2) := dk_18 250 (dk_at dksX12_readTest_1 17 rfl rfl)
theorem dX12_readTest_42 : decode cX12_readTest 42 = .ok (.invokevirtual 162, 3) := dk_182 0 162 (dk_at dksX12_readTest_1 19 rfl rfl)
theorem dX12_readTest_45 : decode cX12_readTest 45 = .ok (.ifCond .eq 7, 3) := dk_153 0 7 (dk_at dksX12_readTest_2 0 rfl rfl)
theorem dX12_readTest_48 : decode cX12_readTest 48 = .ok (.iconst 2, 1) := dk_5 (dk_at dksX12_readTest_2 3 rfl rfl)
theorem dX12_readTest_49 : decode cX12_readTest 49 = .ok (.goto 4, 3) := dk_167 0 4 (dk_at dksX12_readTest_2 4 rfl rfl)
theorem dX12_readTest_52 : decode cX12_readTest 52 = .ok (.iconst (-1), 1) := dk_2 (dk_at dksX12_readTest_2 7 rfl rfl)
theorem dX12_readTest_53 : decode cX12_readTest 53 = .ok (.invokevirtual 217, 3) := dk_182 0 217 (dk_at dksX12_readTest_2 8 rfl rfl)
theorem dX12_readTest_56 : decode cX12_readTest 56 = .ok (.istore_n 2, 1) := dk_61 (dk_at dksX12_readTest_2 11 rfl rfl)
theorem dX12_readTest_57 : decode cX12_readTest 57 = .ok (.aload_n 0, 1) := dk_42 (dk_at dksX12_readTest_2 12 rfl rfl)
theorem dX12_readTest_58 : decode cX12_readTest 58 = .ok (.invokevirtual 148, 3) := dk_182 0 148 (dk_at dksX12_readTest_2 13 rfl rfl)
theorem dX12_readTest_61 : decode cX12_readTest 61 = .ok (.ifCond .eq 8, 3) := dk_153 0 8 (dk_at dksX12_readTest_2 16 rfl rfl)
theorem dX12_readTest_64 : decode cX12_readTest 64 = .ok (.aload_n 0, 1) := dk_42 (dk_at dksX12_readTest_2 19 rfl rfl)
theorem dX12_readTest_65 : decode cX12_readTest 65 = .ok (.iconst 4, 1) := dk_7 (dk_at dksX12_readTest_2 20 rfl rfl)
theorem dX12_readTest_66 : decode cX12_readTest 66 = .ok (.invokevirtual 243, 3) := dk_182 0 243 (dk_at dksX12_readTest_2 21 rfl rfl)
theorem dX12_readTest_69 : decode cX12_readTest 69 = .ok (.aload_n 0, 1) := dk_42 (dk_at dksX12_readTest_3 0 rfl rfl)
theorem dX12_readTest_70 : decode cX12_readTest 70 = .ok (.invokevirtual 148, 3) := dk_182 0 148 (dk_at dksX12_readTest_3 1 rfl rfl)
theorem dX12_readTest_73 : decode cX12_readTest 73 = .ok (.ifCond .ne 4, 3) := dk_154 0 4 (dk_at dksX12_readTest_3 4 rfl rfl)
theorem dX12_readTest_76 : decode cX12_readTest 76 = .ok (.return_, 1) := dk_177 (dk_at dksX12_readTest_3 7 rfl rfl)
theorem dX12_readTest_77 : decode cX12_readTest 77 = .ok (.sipush 274, 3) := dk_17 1 18 (dk_at dksX12_readTest_3 8 rfl rfl)
theorem dX12_readTest_80 : decode cX12_readTest 80 = .ok (.iconst 3, 1) := dk_6 (dk_at dksX12_readTest_3 11 rfl rfl)
theorem dX12_readTest_81 : decode cX12_readTest 81 = .ok (.aload_n 0, 1) := dk_42 (dk_at dksX12_readTest_3 12 rfl rfl)
theorem dX12_readTest_82 : decode cX12_readTest 82 = .ok (.getfield 34, 3) := dk_180 0 34 (dk_at dksX12_readTest_3 13 rfl rfl)
theorem dX12_readTest_85 : decode cX12_readTest 85 = .ok (.iconst 2, 1) := dk_5 (dk_at dksX12_readTest_3 16 rfl rfl)
theorem dX12_readTest_86 : decode cX12_readTest 86 = .ok (.iaload, 1) := dk_46 (dk_at dksX12_readTest_3 17 rfl rfl)
theorem dX12_readTest_87 : decode cX12_readTest 87 = .ok (.imul, 1) := dk_104 (dk_at dksX12_readTest_3 18 rfl rfl)
theorem dX12_readTest_88 : decode cX12_readTest 88 = .ok (.iadd, 1) := dk_96 (dk_at dksX12_readTest_3 19 rfl rfl)
theorem dX12_readTest_89 : decode cX12_readTest 89 = .ok (.istore_n 3, 1) := dk_62 (dk_at dksX12_readTest_3 20 rfl rfl)
theorem dX12_readTest_90 : decode cX12_readTest 90 = .ok (.aload_n 0, 1) := dk_42 (dk_at dksX12_readTest_3 21 rfl rfl)
theorem dX12_readTest_91 : decode cX12_readTest 91 = .ok (.getfield 34, 3) := dk_180 0 34 (dk_at dksX12_readTest_4 0 rfl rfl)
theorem dX12_readTest_94 : decode cX12_readTest 94 = .ok (.iload_n 3, 1) := dk_29 (dk_at dksX12_readTest_4 3 rfl rfl)
theorem dX12_readTest_95 : decode cX12_readTest 95 = .ok (.iload_n 2, 1) := dk_28 (dk_at dksX12_readTest_4 4 rfl rfl)
theorem dX12_readTest_96 : decode cX12_readTest 96 = .ok (.iastore, 1) := dk_79 (dk_at dksX12_readTest_4 5 rfl rfl)
theorem dX12_readTest_97 : decode cX12_readTest 97 = .ok (.aload_n 0, 1) := dk_42 (dk_at dksX12_readTest_4 6 rfl rfl)
theorem dX12_readTest_98 : decode cX12_readTest 98 = .ok (.getfield 34, 3) := dk_180 0 34 (dk_at dksX12_readTest_4 7 rfl rfl)
theorem dX12_readTest_101 : decode cX12_readTest 101 = .ok (.iload_n 3, 1) := dk_29 (dk_at dksX12_readTest_4 10 rfl rfl)
theorem dX12_readTest_102 : decode cX12_readTest 102 = .ok (.iconst 1, 1) := dk_4 (dk_at dksX12_readTest_4 11 rfl rfl)
theorem dX12_readTest_103 : decode cX12_readTest 103 = .ok (.iadd, 1) := dk_96 (dk_at dksX12_readTest_4 12 rfl rfl)
theorem dX12_readTest_104 : decode cX12_readTest 104 = .ok (.iload_n 1, 1) := dk_27 (dk_at dksX12_readTest_4 13 rfl rfl)
theorem dX12_readTest_105 : decode cX12_readTest 105 = .ok (.iastore, 1) := dk_79 (dk_at dksX12_readTest_4 14 rfl rfl)
theorem dX12_readTest_106 : decode cX12_readTest 106 = .ok (.aload_n 0, 1) := dk_42 (dk_at dksX12_readTest_4 15 rfl rfl)
theorem dX12_readTest_107 : decode cX12_readTest 107 = .ok (.getfield 34, 3) := dk_180 0 34 (dk_at dksX12_readTest_4 16 rfl rfl)
theorem dX12_readTest_110 : decode cX12_readTest 110 = .ok (.iload_n 3, 1) := dk_29 (dk_at dksX12_readTest_4 19 rfl rfl)
theorem dX12_readTest_111 : decode cX12_readTest 111 = .ok (.iconst 2, 1) := dk_5 (dk_at dksX12_readTest_4 20 rfl rfl)
theorem dX12_readTest_112 : decode cX12_readTest 112 = .ok (.iadd, 1) := dk_96 (dk_at dksX12_readTest_4 21 rfl rfl)
theorem dX12_readTest_113 : decode cX12_readTest 113 = .ok (.aload_n 0, 1) := dk_42 (dk_at dksX12_readTest_4 22 rfl rfl)
theorem dX12_readTest_114 : decode cX12_readTest 114 = .ok (.getfield 34, 3) := dk_180 0 34 (dk_at dksX12_readTest_5 0 rfl rfl)
theorem dX12_readTest_117 : decode cX12_readTest 117 = .ok (.iconst 3, 1) := dk_6 (dk_at dksX12_readTest_5 3 rfl rfl)
theorem dX12_readTest_118 : decode cX12_readTest 118 = .ok (.iaload, 1) := dk_46 (dk_at dksX12_readTest_5 4 rfl rfl)
theorem dX12_readTest_119 : decode cX12_readTest 119 = .ok (.iload_n 1, 1) := dk_27 (dk_at dksX12_readTest_5 5 rfl rfl)
theorem dX12_readTest_120 : decode cX12_readTest 120 = .ok (.isub, 1) := dk_100 (dk_at dksX12_readTest_5 6 rfl rfl)
theorem dX12_readTest_121 : decode cX12_readTest 121 = .ok (.iastore, 1) := dk_79 (dk_at dksX12_readTest_5 7 rfl rfl)
theorem dX12_readTest_122 : decode cX12_readTest 122 = .ok (.aload_n 0, 1) := dk_42 (dk_at dksX12_readTest_5 8 rfl rfl)
theorem dX12_readTest_123 : decode cX12_readTest 123 = .ok (.getfield 34, 3) := dk_180 0 34 (dk_at dksX12_readTest_5 9 rfl rfl)
theorem dX12_readTest_126 : decode cX12_readTest 126 = .ok (.iconst 2, 1) := dk_5 (dk_at dksX12_readTest_5 12 rfl rfl)
theorem dX12_readTest_127 : decode cX12_readTest 127 = .ok (.dup2, 1) := dk_92 (dk_at dksX12_readTest_5 13 rfl rfl)
theorem dX12_readTest_128 : decode cX12_readTest 128 = .ok (.iaload, 1) := dk_46 (dk_at dksX12_readTest_5 14 rfl rfl)
theorem dX12_readTest_129 : decode cX12_readTest 129 = .ok (.iconst 1, 1) := dk_4 (dk_at dksX12_readTest_5 15 rfl rfl)
theorem dX12_readTest_130 : decode cX12_readTest 130 = .ok (.iadd, 1) := dk_96 (dk_at dksX12_readTest_5 16 rfl rfl)
theorem dX12_readTest_131 : decode cX12_readTest 131 = .ok (.iastore, 1) := dk_79 (dk_at dksX12_readTest_5 17 rfl rfl)
theorem dX12_readTest_132 : decode cX12_readTest 132 = .ok (.return_, 1) := dk_177 (dk_at dksX12_readTest_5 18 rfl rfl)
abbrev cX12_readSum : ByteArray := prog_25_method_31_code
def yX12_readSum : MethodName := ⟨RX12, "readSum", "(I)V"⟩
def dkwX12_readSum_3 : List UInt8 := [177]
abbrev dktX12_readSum_3 : List UInt8 := dkwX12_readSum_3 ++ []
def dkwX12_readSum_2 : List UInt8 := [182, 0, 162, 153, 0, 7, 5, 167, 0, 4, 6, 61, 42, 182, 0, 166, 42, 28, 182, 0, 234, 167, 255, 192]
abbrev dktX12_readSum_2 : List UInt8 := dkwX12_readSum_2 ++ dktX12_readSum_3
def dkwX12_readSum_1 : List UInt8 := [18, 241, 182, 0, 162, 153, 0, 43, 42, 18, 237, 182, 0, 162, 153, 0, 7, 4, 167, 0, 17, 42, 18, 239]
abbrev dktX12_readSum_1 : List UInt8 := dkwX12_readSum_1 ++ dktX12_readSum_2
def dkwX12_readSum_0 : List UInt8 := [42, 27, 182, 0, 234, 42, 18, 237, 182, 0, 162, 154, 0, 21, 42, 18, 239, 182, 0, 162, 154, 0, 12, 42]
abbrev dktX12_readSum_0 : List UInt8 := dkwX12_readSum_0 ++ dktX12_readSum_1
theorem dksX12_readSum_0 : cX12_readSum.data.toList.drop 0 = dktX12_readSum_0 := by decide +kernel
theorem dksX12_readSum_1 : cX12_readSum.data.toList.drop 24 = dktX12_readSum_1 := dk_seg dksX12_readSum_0 24 rfl rfl
theorem dksX12_readSum_2 : cX12_readSum.data.toList.drop 48 = dktX12_readSum_2 := dk_seg dksX12_readSum_1 24 rfl rfl
theorem dksX12_readSum_3 : cX12_readSum.data.toList.drop 72 = dktX12_readSum_3 := dk_seg dksX12_readSum_2 24 rfl rfl
theorem dX12_readSum_0 : decode cX12_readSum 0 = .ok (.aload_n 0, 1) := dk_42 (dk_at dksX12_readSum_0 0 rfl rfl)
theorem dX12_readSum_1 : decode cX12_readSum 1 = .ok (.iload_n 1, 1) := dk_27 (dk_at dksX12_readSum_0 1 rfl rfl)
theorem dX12_readSum_2 : decode cX12_readSum 2 = .ok (.invokevirtual 234, 3) := dk_182 0 234 (dk_at dksX12_readSum_0 2 rfl rfl)
theorem dX12_readSum_5 : decode cX12_readSum 5 = .ok (.aload_n 0, 1) := dk_42 (dk_at dksX12_readSum_0 5 rfl rfl)
theorem dX12_readSum_6 : decode cX12_readSum 6 = .ok (.ldc 237, 2) := dk_18 237 (dk_at dksX12_readSum_0 6 rfl rfl)
theorem dX12_readSum_8 : decode cX12_readSum 8 = .ok (.invokevirtual 162, 3) := dk_182 0 162 (dk_at dksX12_readSum_0 8 rfl rfl)
theorem dX12_readSum_11 : decode cX12_readSum 11 = .ok (.ifCond .ne 21, 3) := dk_154 0 21 (dk_at dksX12_readSum_0 11 rfl rfl)
theorem dX12_readSum_14 : decode cX12_readSum 14 = .ok (.aload_n 0, 1) := dk_42 (dk_at dksX12_readSum_0 14 rfl rfl)
theorem dX12_readSum_15 : decode cX12_readSum 15 = .ok (.ldc 239, 2) := dk_18 239 (dk_at dksX12_readSum_0 15 rfl rfl)
theorem dX12_readSum_17 : decode cX12_readSum 17 = .ok (.invokevirtual 162, 3) := dk_182 0 162 (dk_at dksX12_readSum_0 17 rfl rfl)
theorem dX12_readSum_20 : decode cX12_readSum 20 = .ok (.ifCond .ne 12, 3) := dk_154 0 12 (dk_at dksX12_readSum_0 20 rfl rfl)
theorem dX12_readSum_23 : decode cX12_readSum 23 = .ok (.aload_n 0, 1) := dk_42 (dk_at dksX12_readSum_0 23 rfl rfl)
theorem dX12_readSum_24 : decode cX12_readSum 24 = .ok (.ldc 241, 2) := dk_18 241 (dk_at dksX12_readSum_1 0 rfl rfl)
theorem dX12_readSum_26 : decode cX12_readSum 26 = .ok (.invokevirtual 162, 3) := dk_182 0 162 (dk_at dksX12_readSum_1 2 rfl rfl)
theorem dX12_readSum_29 : decode cX12_readSum 29 = .ok (.ifCond .eq 43, 3) := dk_153 0 43 (dk_at dksX12_readSum_1 5 rfl rfl)
theorem dX12_readSum_32 : decode cX12_readSum 32 = .ok (.aload_n 0, 1) := dk_42 (dk_at dksX12_readSum_1 8 rfl rfl)
theorem dX12_readSum_33 : decode cX12_readSum 33 = .ok (.ldc 237, 2) := dk_18 237 (dk_at dksX12_readSum_1 9 rfl rfl)
theorem dX12_readSum_35 : decode cX12_readSum 35 = .ok (.invokevirtual 162, 3) := dk_182 0 162 (dk_at dksX12_readSum_1 11 rfl rfl)
theorem dX12_readSum_38 : decode cX12_readSum 38 = .ok (.ifCond .eq 7, 3) := dk_153 0 7 (dk_at dksX12_readSum_1 14 rfl rfl)
theorem dX12_readSum_41 : decode cX12_readSum 41 = .ok (.iconst 1, 1) := dk_4 (dk_at dksX12_readSum_1 17 rfl rfl)
theorem dX12_readSum_42 : decode cX12_readSum 42 = .ok (.goto 17, 3) := dk_167 0 17 (dk_at dksX12_readSum_1 18 rfl rfl)
theorem dX12_readSum_45 : decode cX12_readSum 45 = .ok (.aload_n 0, 1) := dk_42 (dk_at dksX12_readSum_1 21 rfl rfl)
theorem dX12_readSum_46 : decode cX12_readSum 46 = .ok (.ldc 239, 2) := dk_18 239 (dk_at dksX12_readSum_1 22 rfl rfl)
theorem dX12_readSum_48 : decode cX12_readSum 48 = .ok (.invokevirtual 162, 3) := dk_182 0 162 (dk_at dksX12_readSum_2 0 rfl rfl)
theorem dX12_readSum_51 : decode cX12_readSum 51 = .ok (.ifCond .eq 7, 3) := dk_153 0 7 (dk_at dksX12_readSum_2 3 rfl rfl)
theorem dX12_readSum_54 : decode cX12_readSum 54 = .ok (.iconst 2, 1) := dk_5 (dk_at dksX12_readSum_2 6 rfl rfl)
theorem dX12_readSum_55 : decode cX12_readSum 55 = .ok (.goto 4, 3) := dk_167 0 4 (dk_at dksX12_readSum_2 7 rfl rfl)
theorem dX12_readSum_58 : decode cX12_readSum 58 = .ok (.iconst 3, 1) := dk_6 (dk_at dksX12_readSum_2 10 rfl rfl)
theorem dX12_readSum_59 : decode cX12_readSum 59 = .ok (.istore_n 2, 1) := dk_61 (dk_at dksX12_readSum_2 11 rfl rfl)
theorem dX12_readSum_60 : decode cX12_readSum 60 = .ok (.aload_n 0, 1) := dk_42 (dk_at dksX12_readSum_2 12 rfl rfl)
theorem dX12_readSum_61 : decode cX12_readSum 61 = .ok (.invokevirtual 166, 3) := dk_182 0 166 (dk_at dksX12_readSum_2 13 rfl rfl)
theorem dX12_readSum_64 : decode cX12_readSum 64 = .ok (.aload_n 0, 1) := dk_42 (dk_at dksX12_readSum_2 16 rfl rfl)
theorem dX12_readSum_65 : decode cX12_readSum 65 = .ok (.iload_n 2, 1) := dk_28 (dk_at dksX12_readSum_2 17 rfl rfl)
theorem dX12_readSum_66 : decode cX12_readSum 66 = .ok (.invokevirtual 234, 3) := dk_182 0 234 (dk_at dksX12_readSum_2 18 rfl rfl)
theorem dX12_readSum_69 : decode cX12_readSum 69 = .ok (.goto (-64), 3) := dk_167 255 192 (dk_at dksX12_readSum_2 21 rfl rfl)
theorem dX12_readSum_72 : decode cX12_readSum 72 = .ok (.return_, 1) := dk_177 (dk_at dksX12_readSum_3 0 rfl rfl)
abbrev cX12_readPart : ByteArray := prog_25_method_30_code
def yX12_readPart : MethodName := ⟨RX12, "readPart", "(I)V"⟩
def dkwX12_readPart_6 : List UInt8 := [96, 28, 79, 42, 180, 0, 34, 21, 4, 5, 96, 29, 79, 42, 180, 0, 34, 6, 92, 46, 4, 96, 79, 177]
abbrev dktX12_readPart_6 : List UInt8 := dkwX12_readPart_6 ++ []
def dkwX12_readPart_5 : List UInt8 := [180, 0, 34, 6, 46, 104, 96, 54, 4, 42, 180, 0, 34, 21, 4, 27, 79, 42, 180, 0, 34, 21, 4, 4]
abbrev dktX12_readPart_5 : List UInt8 := dkwX12_readPart_5 ++ dktX12_readPart_6
def dkwX12_readPart_4 : List UInt8 := [17, 3, 231, 182, 0, 180, 167, 0, 4, 3, 62, 42, 182, 0, 148, 154, 0, 4, 177, 17, 3, 46, 6, 42]
abbrev dktX12_readPart_4 : List UInt8 := dkwX12_readPart_4 ++ dktX12_readPart_5
def dkwX12_readPart_3 : List UInt8 := [182, 0, 148, 153, 0, 12, 28, 8, 159, 0, 7, 42, 182, 0, 166, 28, 8, 160, 0, 14, 42, 3]
abbrev dktX12_readPart_3 : List UInt8 := dkwX12_readPart_3 ++ dktX12_readPart_4
def dkwX12_readPart_2 : List UInt8 := [153, 0, 7, 6, 167, 0, 17, 42, 18, 232, 182, 0, 162, 153, 0, 7, 7, 167, 0, 4, 8, 61, 42]
abbrev dktX12_readPart_2 : List UInt8 := dkwX12_readPart_2 ++ dktX12_readPart_3
def dkwX12_readPart_1 : List UInt8 := [167, 0, 43, 42, 18, 228, 182, 0, 162, 153, 0, 7, 5, 167, 0, 30, 42, 18, 230, 182, 0, 162]
abbrev dktX12_readPart_1 : List UInt8 := dkwX12_readPart_1 ++ dktX12_readPart_2
def dkwX12_readPart_0 : List UInt8 := [42, 18, 224, 182, 0, 162, 153, 0, 7, 3, 167, 0, 56, 42, 18, 226, 182, 0, 162, 153, 0, 7, 4]
abbrev dktX12_readPart_0 : List UInt8 := dkwX12_readPart_0 ++ dktX12_readPart_1
theorem dksX12_readPart_0 : cX12_readPart.data.toList.drop 0 = dktX12_readPart_0 := by decide +kernel
theorem dksX12_readPart_1 : cX12_readPart.data.toList.drop 23 = dktX12_readPart_1 := dk_seg dksX12_readPart_0 23 rfl rfl
theorem dksX12_readPart_2 : cX12_readPart.data.toList.drop 45 = dktX12_readPart_2 := dk_seg dksX12_readPart_1 22 rfl rfl
theorem dksX12_readPart_3 : cX12_readPart.data.toList.drop 68 = dktX12_readPart_3 := dk_seg dksX12_readPart_2 23 rfl rfl
theorem dksX12_readPart_4 : cX12_readPart.data.toList.drop 90 = dktX12_readPart_4 := dk_seg dksX12_readPart_3 22 rfl rfl
theorem dksX12_readPart_5 : cX12_readPart.data.toList.drop 114 = dktX12_readPart_5 := dk_seg dksX12_readPart_4 24 rfl rfl
theorem dksX12_readPart_6 : cX12_readPart.data.toList.drop 138 = dktX12_readPart_6 := dk_seg dksX12_readPart_5 24 rfl rfl
theorem dX12_readPart_0 : decode cX12_readPart 0 = .ok (.aload_n 0, 1) := dk_42 (dk_at dksX12_readPart_0 0 rfl rfl)
theorem dX12_readPart_1 : decode cX12_readPart 1 = .ok (.ldc 224, 2) := dk_18 224 (dk_at dksX12_readPart_0 1 rfl rfl)
theorem dX12_readPart_3 : decode cX12_readPart 3 = .ok (.invokevirtual 162, 3) := dk_182 0 162 (dk_at dksX12_readPart_0 3 rfl rfl)
theorem dX12_readPart_6 : decode cX12_readPart 6 = .ok (.ifCond .eq 7, 3) := dk_153 0 7 (dk_at dksX12_readPart_0 6 rfl rfl)
theorem dX12_readPart_9 : decode cX12_readPart 9 = .ok (.iconst 0, 1) := dk_3 (dk_at dksX12_readPart_0 9 rfl rfl)
theorem dX12_readPart_10 : decode cX12_readPart 10 = .ok (.goto 56, 3) := dk_167 0 56 (dk_at dksX12_readPart_0 10 rfl rfl)
theorem dX12_readPart_13 : decode cX12_readPart 13 = .ok (.aload_n 0, 1) := dk_42 (dk_at dksX12_readPart_0 13 rfl rfl)
theorem dX12_readPart_14 : decode cX12_readPart 14 = .ok (.ldc 226, 2) := dk_18 226 (dk_at dksX12_readPart_0 14 rfl rfl)
theorem dX12_readPart_16 : decode cX12_readPart 16 = .ok (.invokevirtual 162, 3) := dk_182 0 162 (dk_at dksX12_readPart_0 16 rfl rfl)
theorem dX12_readPart_19 : decode cX12_readPart 19 = .ok (.ifCond .eq 7, 3) := dk_153 0 7 (dk_at dksX12_readPart_0 19 rfl rfl)
theorem dX12_readPart_22 : decode cX12_readPart 22 = .ok (.iconst 1, 1) := dk_4 (dk_at dksX12_readPart_0 22 rfl rfl)
theorem dX12_readPart_23 : decode cX12_readPart 23 = .ok (.goto 43, 3) := dk_167 0 43 (dk_at dksX12_readPart_1 0 rfl rfl)
theorem dX12_readPart_26 : decode cX12_readPart 26 = .ok (.aload_n 0, 1) := dk_42 (dk_at dksX12_readPart_1 3 rfl rfl)
theorem dX12_readPart_27 : decode cX12_readPart 27 = .ok (.ldc 228, 2) := dk_18 228 (dk_at dksX12_readPart_1 4 rfl rfl)
theorem dX12_readPart_29 : decode cX12_readPart 29 = .ok (.invokevirtual 162, 3) := dk_182 0 162 (dk_at dksX12_readPart_1 6 rfl rfl)
theorem dX12_readPart_32 : decode cX12_readPart 32 = .ok (.ifCond .eq 7, 3) := dk_153 0 7 (dk_at dksX12_readPart_1 9 rfl rfl)
theorem dX12_readPart_35 : decode cX12_readPart 35 = .ok (.iconst 2, 1) := dk_5 (dk_at dksX12_readPart_1 12 rfl rfl)
theorem dX12_readPart_36 : decode cX12_readPart 36 = .ok (.goto 30, 3) := dk_167 0 30 (dk_at dksX12_readPart_1 13 rfl rfl)
theorem dX12_readPart_39 : decode cX12_readPart 39 = .ok (.aload_n 0, 1) := dk_42 (dk_at dksX12_readPart_1 16 rfl rfl)
theorem dX12_readPart_40 : decode cX12_readPart 40 = .ok (.ldc 230, 2) := dk_18 230 (dk_at dksX12_readPart_1 17 rfl rfl)
theorem dX12_readPart_42 : decode cX12_readPart 42 = .ok (.invokevirtual 162, 3) := dk_182 0 162 (dk_at dksX12_readPart_1 19 rfl rfl)
theorem dX12_readPart_45 : decode cX12_readPart 45 = .ok (.ifCond .eq 7, 3) := dk_153 0 7 (dk_at dksX12_readPart_2 0 rfl rfl)
theorem dX12_readPart_48 : decode cX12_readPart 48 = .ok (.iconst 3, 1) := dk_6 (dk_at dksX12_readPart_2 3 rfl rfl)
theorem dX12_readPart_49 : decode cX12_readPart 49 = .ok (.goto 17, 3) := dk_167 0 17 (dk_at dksX12_readPart_2 4 rfl rfl)
theorem dX12_readPart_52 : decode cX12_readPart 52 = .ok (.aload_n 0, 1) := dk_42 (dk_at dksX12_readPart_2 7 rfl rfl)
theorem dX12_readPart_53 : decode cX12_readPart 53 = .ok (.ldc 232, 2) := dk_18 232 (dk_at dksX12_readPart_2 8 rfl rfl)
theorem dX12_readPart_55 : decode cX12_readPart 55 = .ok (.invokevirtual 162, 3) := dk_182 0 162 (dk_at dksX12_readPart_2 10 rfl rfl)
theorem dX12_readPart_58 : decode cX12_readPart 58 = .ok (.ifCond .eq 7, 3) := dk_153 0 7 (dk_at dksX12_readPart_2 13 rfl rfl)
theorem dX12_readPart_61 : decode cX12_readPart 61 = .ok (.iconst 4, 1) := dk_7 (dk_at dksX12_readPart_2 16 rfl rfl)
theorem dX12_readPart_62 : decode cX12_readPart 62 = .ok (.goto 4, 3) := dk_167 0 4 (dk_at dksX12_readPart_2 17 rfl rfl)
theorem dX12_readPart_65 : decode cX12_readPart 65 = .ok (.iconst 5, 1) := dk_8 (dk_at dksX12_readPart_2 20 rfl rfl)
theorem dX12_readPart_66 : decode cX12_readPart 66 = .ok (.istore_n 2, 1) := dk_61 (dk_at dksX12_readPart_2 21 rfl rfl)
theorem dX12_readPart_67 : decode cX12_readPart 67 = .ok (.aload_n 0, 1) := dk_42 (dk_at dksX12_readPart_2 22 rfl rfl)
theorem dX12_readPart_68 : decode cX12_readPart 68 = .ok (.invokevirtual 148, 3) := dk_182 0 148 (dk_at dksX12_readPart_3 0 rfl rfl)
theorem dX12_readPart_71 : decode cX12_readPart 71 = .ok (.ifCond .eq 12, 3) := dk_153 0 12 (dk_at dksX12_readPart_3 3 rfl rfl)
theorem dX12_readPart_74 : decode cX12_readPart 74 = .ok (.iload_n 2, 1) := dk_28 (dk_at dksX12_readPart_3 6 rfl rfl)
theorem dX12_readPart_75 : decode cX12_readPart 75 = .ok (.iconst 5, 1) := dk_8 (dk_at dksX12_readPart_3 7 rfl rfl)
theorem dX12_readPart_76 : decode cX12_readPart 76 = .ok (.if_icmp .eq 7, 3) := dk_159 0 7 (dk_at dksX12_readPart_3 8 rfl rfl)
theorem dX12_readPart_79 : decode cX12_readPart 79 = .ok (.aload_n 0, 1) := dk_42 (dk_at dksX12_readPart_3 11 rfl rfl)
theorem dX12_readPart_80 : decode cX12_readPart 80 = .ok (.invokevirtual 166, 3) := dk_182 0 166 (dk_at dksX12_readPart_3 12 rfl rfl)
theorem dX12_readPart_83 : decode cX12_readPart 83 = .ok (.iload_n 2, 1) := dk_28 (dk_at dksX12_readPart_3 15 rfl rfl)
theorem dX12_readPart_84 : decode cX12_readPart 84 = .ok (.iconst 5, 1) := dk_8 (dk_at dksX12_readPart_3 16 rfl rfl)
theorem dX12_readPart_85 : decode cX12_readPart 85 = .ok (.if_icmp .ne 14, 3) := dk_160 0 14 (dk_at dksX12_readPart_3 17 rfl rfl)
theorem dX12_readPart_88 : decode cX12_readPart 88 = .ok (.aload_n 0, 1) := dk_42 (dk_at dksX12_readPart_3 20 rfl rfl)
theorem dX12_readPart_89 : decode cX12_readPart 89 = .ok (.iconst 0, 1) := dk_3 (dk_at dksX12_readPart_3 21 rfl rfl)
theorem dX12_readPart_90 : decode cX12_readPart 90 = .ok (.sipush 999, 3) := dk_17 3 231 (dk_at dksX12_readPart_4 0 rfl rfl)
theorem dX12_readPart_93 : decode cX12_readPart 93 = .ok (.invokevirtual 180, 3) := dk_182 0 180 (dk_at dksX12_readPart_4 3 rfl rfl)
theorem dX12_readPart_96 : decode cX12_readPart 96 = .ok (.goto 4, 3) := dk_167 0 4 (dk_at dksX12_readPart_4 6 rfl rfl)
theorem dX12_readPart_99 : decode cX12_readPart 99 = .ok (.iconst 0, 1) := dk_3 (dk_at dksX12_readPart_4 9 rfl rfl)
theorem dX12_readPart_100 : decode cX12_readPart 100 = .ok (.istore_n 3, 1) := dk_62 (dk_at dksX12_readPart_4 10 rfl rfl)
theorem dX12_readPart_101 : decode cX12_readPart 101 = .ok (.aload_n 0, 1) := dk_42 (dk_at dksX12_readPart_4 11 rfl rfl)
theorem dX12_readPart_102 : decode cX12_readPart 102 = .ok (.invokevirtual 148, 3) := dk_182 0 148 (dk_at dksX12_readPart_4 12 rfl rfl)
theorem dX12_readPart_105 : decode cX12_readPart 105 = .ok (.ifCond .ne 4, 3) := dk_154 0 4 (dk_at dksX12_readPart_4 15 rfl rfl)
theorem dX12_readPart_108 : decode cX12_readPart 108 = .ok (.return_, 1) := dk_177 (dk_at dksX12_readPart_4 18 rfl rfl)
theorem dX12_readPart_109 : decode cX12_readPart 109 = .ok (.sipush 814, 3) := dk_17 3 46 (dk_at dksX12_readPart_4 19 rfl rfl)
theorem dX12_readPart_112 : decode cX12_readPart 112 = .ok (.iconst 3, 1) := dk_6 (dk_at dksX12_readPart_4 22 rfl rfl)
theorem dX12_readPart_113 : decode cX12_readPart 113 = .ok (.aload_n 0, 1) := dk_42 (dk_at dksX12_readPart_4 23 rfl rfl)
theorem dX12_readPart_114 : decode cX12_readPart 114 = .ok (.getfield 34, 3) := dk_180 0 34 (dk_at dksX12_readPart_5 0 rfl rfl)
theorem dX12_readPart_117 : decode cX12_readPart 117 = .ok (.iconst 3, 1) := dk_6 (dk_at dksX12_readPart_5 3 rfl rfl)
theorem dX12_readPart_118 : decode cX12_readPart 118 = .ok (.iaload, 1) := dk_46 (dk_at dksX12_readPart_5 4 rfl rfl)
theorem dX12_readPart_119 : decode cX12_readPart 119 = .ok (.imul, 1) := dk_104 (dk_at dksX12_readPart_5 5 rfl rfl)
theorem dX12_readPart_120 : decode cX12_readPart 120 = .ok (.iadd, 1) := dk_96 (dk_at dksX12_readPart_5 6 rfl rfl)
theorem dX12_readPart_121 : decode cX12_readPart 121 = .ok (.istore 4, 2) := dk_54 4 (dk_at dksX12_readPart_5 7 rfl rfl)
theorem dX12_readPart_123 : decode cX12_readPart 123 = .ok (.aload_n 0, 1) := dk_42 (dk_at dksX12_readPart_5 9 rfl rfl)
theorem dX12_readPart_124 : decode cX12_readPart 124 = .ok (.getfield 34, 3) := dk_180 0 34 (dk_at dksX12_readPart_5 10 rfl rfl)
theorem dX12_readPart_127 : decode cX12_readPart 127 = .ok (.iload 4, 2) := dk_21 4 (dk_at dksX12_readPart_5 13 rfl rfl)
theorem dX12_readPart_129 : decode cX12_readPart 129 = .ok (.iload_n 1, 1) := dk_27 (dk_at dksX12_readPart_5 15 rfl rfl)
theorem dX12_readPart_130 : decode cX12_readPart 130 = .ok (.iastore, 1) := dk_79 (dk_at dksX12_readPart_5 16 rfl rfl)
theorem dX12_readPart_131 : decode cX12_readPart 131 = .ok (.aload_n 0, 1) := dk_42 (dk_at dksX12_readPart_5 17 rfl rfl)
theorem dX12_readPart_132 : decode cX12_readPart 132 = .ok (.getfield 34, 3) := dk_180 0 34 (dk_at dksX12_readPart_5 18 rfl rfl)
theorem dX12_readPart_135 : decode cX12_readPart 135 = .ok (.iload 4, 2) := dk_21 4 (dk_at dksX12_readPart_5 21 rfl rfl)
theorem dX12_readPart_137 : decode cX12_readPart 137 = .ok (.iconst 1, 1) := dk_4 (dk_at dksX12_readPart_5 23 rfl rfl)
theorem dX12_readPart_138 : decode cX12_readPart 138 = .ok (.iadd, 1) := dk_96 (dk_at dksX12_readPart_6 0 rfl rfl)
theorem dX12_readPart_139 : decode cX12_readPart 139 = .ok (.iload_n 2, 1) := dk_28 (dk_at dksX12_readPart_6 1 rfl rfl)
theorem dX12_readPart_140 : decode cX12_readPart 140 = .ok (.iastore, 1) := dk_79 (dk_at dksX12_readPart_6 2 rfl rfl)
theorem dX12_readPart_141 : decode cX12_readPart 141 = .ok (.aload_n 0, 1) := dk_42 (dk_at dksX12_readPart_6 3 rfl rfl)
theorem dX12_readPart_142 : decode cX12_readPart 142 = .ok (.getfield 34, 3) := dk_180 0 34 (dk_at dksX12_readPart_6 4 rfl rfl)
theorem dX12_readPart_145 : decode cX12_readPart 145 = .ok (.iload 4, 2) := dk_21 4 (dk_at dksX12_readPart_6 7 rfl rfl)
theorem dX12_readPart_147 : decode cX12_readPart 147 = .ok (.iconst 2, 1) := dk_5 (dk_at dksX12_readPart_6 9 rfl rfl)
theorem dX12_readPart_148 : decode cX12_readPart 148 = .ok (.iadd, 1) := dk_96 (dk_at dksX12_readPart_6 10 rfl rfl)
theorem dX12_readPart_149 : decode cX12_readPart 149 = .ok (.iload_n 3, 1) := dk_29 (dk_at dksX12_readPart_6 11 rfl rfl)
theorem dX12_readPart_150 : decode cX12_readPart 150 = .ok (.iastore, 1) := dk_79 (dk_at dksX12_readPart_6 12 rfl rfl)
theorem dX12_readPart_151 : decode cX12_readPart 151 = .ok (.aload_n 0, 1) := dk_42 (dk_at dksX12_readPart_6 13 rfl rfl)
theorem dX12_readPart_152 : decode cX12_readPart 152 = .ok (.getfield 34, 3) := dk_180 0 34 (dk_at dksX12_readPart_6 14 rfl rfl)
theorem dX12_readPart_155 : decode cX12_readPart 155 = .ok (.iconst 3, 1) := dk_6 (dk_at dksX12_readPart_6 17 rfl rfl)
theorem dX12_readPart_156 : decode cX12_readPart 156 = .ok (.dup2, 1) := dk_92 (dk_at dksX12_readPart_6 18 rfl rfl)
theorem dX12_readPart_157 : decode cX12_readPart 157 = .ok (.iaload, 1) := dk_46 (dk_at dksX12_readPart_6 19 rfl rfl)
theorem dX12_readPart_158 : decode cX12_readPart 158 = .ok (.iconst 1, 1) := dk_4 (dk_at dksX12_readPart_6 20 rfl rfl)
theorem dX12_readPart_159 : decode cX12_readPart 159 = .ok (.iadd, 1) := dk_96 (dk_at dksX12_readPart_6 21 rfl rfl)
theorem dX12_readPart_160 : decode cX12_readPart 160 = .ok (.iastore, 1) := dk_79 (dk_at dksX12_readPart_6 22 rfl rfl)
theorem dX12_readPart_161 : decode cX12_readPart 161 = .ok (.return_, 1) := dk_177 (dk_at dksX12_readPart_6 23 rfl rfl)
abbrev cX12_readHouse : ByteArray := prog_25_method_28_code
def yX12_readHouse : MethodName := ⟨RX12, "readHouse", "()V"⟩
def dkwX12_readHouse_8 : List UInt8 := [16, 8, 96, 3, 79, 42, 182, 0, 148, 153, 0, 13, 42, 180, 0, 34, 3, 92, 46, 4, 96, 79, 177]
abbrev dktX12_readHouse_8 : List UInt8 := dkwX12_readHouse_8 ++ []
def dkwX12_readHouse_7 : List UInt8 := [182, 0, 169, 153, 0, 13, 42, 3, 16, 99, 182, 0, 180, 167, 0, 4, 3, 79, 42, 180, 0, 34, 27]
abbrev dktX12_readHouse_7 : List UInt8 := dkwX12_readHouse_7 ++ dktX12_readHouse_8
def dkwX12_readHouse_6 : List UInt8 := [42, 3, 17, 1, 143, 182, 0, 180, 167, 0, 4, 3, 79, 42, 180, 0, 34, 27, 16, 7, 96, 42, 18, 222]
abbrev dktX12_readHouse_6 : List UInt8 := dkwX12_readHouse_6 ++ dktX12_readHouse_7
def dkwX12_readHouse_5 : List UInt8 := [17, 0, 180, 182, 0, 180, 79, 42, 180, 0, 34, 27, 16, 6, 96, 42, 18, 220, 182, 0, 169, 153, 0, 14]
abbrev dktX12_readHouse_5 : List UInt8 := dkwX12_readHouse_5 ++ dktX12_readHouse_6
def dkwX12_readHouse_4 : List UInt8 := [17, 0, 180, 182, 0, 180, 79, 42, 180, 0, 34, 27, 8, 96, 42, 42, 180, 0, 34, 27, 7, 96, 46]
abbrev dktX12_readHouse_4 : List UInt8 := dkwX12_readHouse_4 ++ dktX12_readHouse_5
def dkwX12_readHouse_3 : List UInt8 := [180, 0, 34, 27, 6, 96, 42, 42, 182, 0, 214, 182, 0, 217, 79, 42, 180, 0, 34, 27, 7, 96, 42, 3]
abbrev dktX12_readHouse_3 : List UInt8 := dkwX12_readHouse_3 ++ dktX12_readHouse_4
def dkwX12_readHouse_2 : List UInt8 := [180, 0, 34, 27, 5, 96, 42, 18, 210, 3, 16, 9, 182, 0, 206, 79, 42, 18, 212, 182, 0, 176, 42]
abbrev dktX12_readHouse_2 : List UInt8 := dkwX12_readHouse_2 ++ dktX12_readHouse_3
def dkwX12_readHouse_1 : List UInt8 := [16, 99, 182, 0, 206, 79, 42, 180, 0, 34, 27, 4, 96, 42, 3, 16, 99, 182, 0, 180, 79, 42]
abbrev dktX12_readHouse_1 : List UInt8 := dkwX12_readHouse_1 ++ dktX12_readHouse_2
def dkwX12_readHouse_0 : List UInt8 := [16, 10, 16, 9, 42, 180, 0, 34, 3, 46, 104, 96, 60, 42, 180, 0, 34, 27, 3, 96, 42, 18, 205, 3]
abbrev dktX12_readHouse_0 : List UInt8 := dkwX12_readHouse_0 ++ dktX12_readHouse_1
theorem dksX12_readHouse_0 : cX12_readHouse.data.toList.drop 0 = dktX12_readHouse_0 := by decide +kernel
theorem dksX12_readHouse_1 : cX12_readHouse.data.toList.drop 24 = dktX12_readHouse_1 := dk_seg dksX12_readHouse_0 24 rfl rfl
theorem dksX12_readHouse_2 : cX12_readHouse.data.toList.drop 46 = dktX12_readHouse_2 := dk_seg dksX12_readHouse_1 22 rfl rfl
theorem dksX12_readHouse_3 : cX12_readHouse.data.toList.drop 69 = dktX12_readHouse_3 := dk_seg dksX12_readHouse_2 23 rfl rfl
theorem dksX12_readHouse_4 : cX12_readHouse.data.toList.drop 93 = dktX12_readHouse_4 := dk_seg dksX12_readHouse_3 24 rfl rfl
theorem dksX12_readHouse_5 : cX12_readHouse.data.toList.drop 116 = dktX12_readHouse_5 := dk_seg dksX12_readHouse_4 23 rfl rfl
theorem dksX12_readHouse_6 : cX12_readHouse.data.toList.drop 140 = dktX12_readHouse_6 := dk_seg dksX12_readHouse_5 24 rfl rfl
theorem dksX12_readHouse_7 : cX12_readHouse.data.toList.drop 164 = dktX12_readHouse_7 := dk_seg dksX12_readHouse_6 24 rfl rfl
theorem dksX12_readHouse_8 : cX12_readHouse.data.toList.drop 187 = dktX12_readHouse_8 := dk_seg dksX12_readHouse_7 23 rfl rfl
theorem dX12_readHouse_0 : decode cX12_readHouse 0 = .ok (.bipush 10, 2) := dk_16 10 (dk_at dksX12_readHouse_0 0 rfl rfl)
theorem dX12_readHouse_2 : decode cX12_readHouse 2 = .ok (.bipush 9, 2) := dk_16 9 (dk_at dksX12_readHouse_0 2 rfl rfl)
theorem dX12_readHouse_4 : decode cX12_readHouse 4 = .ok (.aload_n 0, 1) := dk_42 (dk_at dksX12_readHouse_0 4 rfl rfl)
theorem dX12_readHouse_5 : decode cX12_readHouse 5 = .ok (.getfield 34, 3) := dk_180 0 34 (dk_at dksX12_readHouse_0 5 rfl rfl)
theorem dX12_readHouse_8 : decode cX12_readHouse 8 = .ok (.iconst 0, 1) := dk_3 (dk_at dksX12_readHouse_0 8 rfl rfl)
theorem dX12_readHouse_9 : decode cX12_readHouse 9 = .ok (.iaload, 1) := dk_46 (dk_at dksX12_readHouse_0 9 rfl rfl)
theorem dX12_readHouse_10 : decode cX12_readHouse 10 = .ok (.imul, 1) := dk_104 (dk_at dksX12_readHouse_0 10 rfl rfl)
theorem dX12_readHouse_11 : decode cX12_readHouse 11 = .ok (.iadd, 1) := dk_96 (dk_at dksX12_readHouse_0 11 rfl rfl)
theorem dX12_readHouse_12 : decode cX12_readHouse 12 = .ok (.istore_n 1, 1) := dk_60 (dk_at dksX12_readHouse_0 12 rfl rfl)
theorem dX12_readHouse_13 : decode cX12_readHouse 13 = .ok (.aload_n 0, 1) := dk_42 (dk_at dksX12_readHouse_0 13 rfl rfl)
theorem dX12_readHouse_14 : decode cX12_readHouse 14 = .ok (.getfield 34, 3) := dk_180 0 34 (dk_at dksX12_readHouse_0 14 rfl rfl)
theorem dX12_readHouse_17 : decode cX12_readHouse 17 = .ok (.iload_n 1, 1) := dk_27 (dk_at dksX12_readHouse_0 17 rfl rfl)
theorem dX12_readHouse_18 : decode cX12_readHouse 18 = .ok (.iconst 0, 1) := dk_3 (dk_at dksX12_readHouse_0 18 rfl rfl)
theorem dX12_readHouse_19 : decode cX12_readHouse 19 = .ok (.iadd, 1) := dk_96 (dk_at dksX12_readHouse_0 19 rfl rfl)
theorem dX12_readHouse_20 : decode cX12_readHouse 20 = .ok (.aload_n 0, 1) := dk_42 (dk_at dksX12_readHouse_0 20 rfl rfl)
theorem dX12_readHouse_21 : decode cX12_readHouse 21 = .ok (.ldc 205, 2) := dk_18 205 (dk_at dksX12_readHouse_0 21 rfl rfl)
theorem dX12_readHouse_23 : decode cX12_readHouse 23 = .ok (.iconst 0, 1) := dk_3 (dk_at dksX12_readHouse_0 23 rfl rfl)
theorem dX12_readHouse_24 : decode cX12_readHouse 24 = .ok (.bipush 99, 2) := dk_16 99 (dk_at dksX12_readHouse_1 0 rfl rfl)
theorem dX12_readHouse_26 : decode cX12_readHouse 26 = .ok (.invokevirtual 206, 3) := dk_182 0 206 (dk_at dksX12_readHouse_1 2 rfl rfl)
theorem dX12_readHouse_29 : decode cX12_readHouse 29 = .ok (.iastore, 1) := dk_79 (dk_at dksX12_readHouse_1 5 rfl rfl)
theorem dX12_readHouse_30 : decode cX12_readHouse 30 = .ok (.aload_n 0, 1) := dk_42 (dk_at dksX12_readHouse_1 6 rfl rfl)
theorem dX12_readHouse_31 : decode cX12_readHouse 31 = .ok (.getfield 34, 3) := dk_180 0 34 (dk_at dksX12_readHouse_1 7 rfl rfl)
theorem dX12_readHouse_34 : decode cX12_readHouse 34 = .ok (.iload_n 1, 1) := dk_27 (dk_at dksX12_readHouse_1 10 rfl rfl)
theorem dX12_readHouse_35 : decode cX12_readHouse 35 = .ok (.iconst 1, 1) := dk_4 (dk_at dksX12_readHouse_1 11 rfl rfl)
theorem dX12_readHouse_36 : decode cX12_readHouse 36 = .ok (.iadd, 1) := dk_96 (dk_at dksX12_readHouse_1 12 rfl rfl)
theorem dX12_readHouse_37 : decode cX12_readHouse 37 = .ok (.aload_n 0, 1) := dk_42 (dk_at dksX12_readHouse_1 13 rfl rfl)
theorem dX12_readHouse_38 : decode cX12_readHouse 38 = .ok (.iconst 0, 1) := dk_3 (dk_at dksX12_readHouse_1 14 rfl rfl)
theorem dX12_readHouse_39 : decode cX12_readHouse 39 = .ok (.bipush 99, 2) := dk_16 99 (dk_at dksX12_readHouse_1 15 rfl rfl)
theorem dX12_readHouse_41 : decode cX12_readHouse 41 = .ok (.invokevirtual 180, 3) := dk_182 0 180 (dk_at dksX12_readHouse_1 17 rfl rfl)
theorem dX12_readHouse_44 : decode cX12_readHouse 44 = .ok (.iastore, 1) := dk_79 (dk_at dksX12_readHouse_1 20 rfl rfl)
theorem dX12_readHouse_45 : decode cX12_readHouse 45 = .ok (.aload_n 0, 1) := dk_42 (dk_at dksX12_readHouse_1 21 rfl rfl)
theorem dX12_readHouse_46 : decode cX12_readHouse 46 = .ok (.getfield 34, 3) := dk_180 0 34 (dk_at dksX12_readHouse_2 0 rfl rfl)
theorem dX12_readHouse_49 : decode cX12_readHouse 49 = .ok (.iload_n 1, 1) := dk_27 (dk_at dksX12_readHouse_2 3 rfl rfl)
theorem dX12_readHouse_50 : decode cX12_readHouse 50 = .ok (.iconst 2, 1) := dk_5 (dk_at dksX12_readHouse_2 4 rfl rfl)
theorem dX12_readHouse_51 : decode cX12_readHouse 51 = .ok (.iadd, 1) := dk_96 (dk_at dksX12_readHouse_2 5 rfl rfl)
theorem dX12_readHouse_52 : decode cX12_readHouse 52 = .ok (.aload_n 0, 1) := dk_42 (dk_at dksX12_readHouse_2 6 rfl rfl)
theorem dX12_readHouse_53 : decode cX12_readHouse 53 = .ok (.ldc 210, 2) := dk_18 210 (dk_at dksX12_readHouse_2 7 rfl rfl)
theorem dX12_readHouse_55 : decode cX12_readHouse 55 = .ok (.iconst 0, 1) := dk_3 (dk_at dksX12_readHouse_2 9 rfl rfl)
theorem dX12_readHouse_56 : decode cX12_readHouse 56 = .ok (.bipush 9, 2) := dk_16 9 (dk_at dksX12_readHouse_2 10 rfl rfl)
theorem dX12_readHouse_58 : decode cX12_readHouse 58 = .ok (.invokevirtual 206, 3) := dk_182 0 206 (dk_at dksX12_readHouse_2 12 rfl rfl)
theorem dX12_readHouse_61 : decode cX12_readHouse 61 = .ok (.iastore, 1) := dk_79 (dk_at dksX12_readHouse_2 15 rfl rfl)
theorem dX12_readHouse_62 : decode cX12_readHouse 62 = .ok (.aload_n 0, 1) := dk_42 (dk_at dksX12_readHouse_2 16 rfl rfl)
theorem dX12_readHouse_63 : decode cX12_readHouse 63 = .ok (.ldc 212, 2) := dk_18 212 (dk_at dksX12_readHouse_2 17 rfl rfl)
theorem dX12_readHouse_65 : decode cX12_readHouse 65 = .ok (.invokevirtual 176, 3) := dk_182 0 176 (dk_at dksX12_readHouse_2 19 rfl rfl)
theorem dX12_readHouse_68 : decode cX12_readHouse 68 = .ok (.aload_n 0, 1) := dk_42 (dk_at dksX12_readHouse_2 22 rfl rfl)
theorem dX12_readHouse_69 : decode cX12_readHouse 69 = .ok (.getfield 34, 3) := dk_180 0 34 (dk_at dksX12_readHouse_3 0 rfl rfl)
theorem dX12_readHouse_72 : decode cX12_readHouse 72 = .ok (.iload_n 1, 1) := dk_27 (dk_at dksX12_readHouse_3 3 rfl rfl)
theorem dX12_readHouse_73 : decode cX12_readHouse 73 = .ok (.iconst 3, 1) := dk_6 (dk_at dksX12_readHouse_3 4 rfl rfl)
theorem dX12_readHouse_74 : decode cX12_readHouse 74 = .ok (.iadd, 1) := dk_96 (dk_at dksX12_readHouse_3 5 rfl rfl)
theorem dX12_readHouse_75 : decode cX12_readHouse 75 = .ok (.aload_n 0, 1) := dk_42 (dk_at dksX12_readHouse_3 6 rfl rfl)
theorem dX12_readHouse_76 : decode cX12_readHouse 76 = .ok (.aload_n 0, 1) := dk_42 (dk_at dksX12_readHouse_3 7 rfl rfl)
theorem dX12_readHouse_77 : decode cX12_readHouse 77 = .ok (.invokevirtual 214, 3) := dk_182 0 214 (dk_at dksX12_readHouse_3 8 rfl rfl)
theorem dX12_readHouse_80 : decode cX12_readHouse 80 = .ok (.invokevirtual 217, 3) := dk_182 0 217 (dk_at dksX12_readHouse_3 11 rfl rfl)
theorem dX12_readHouse_83 : decode cX12_readHouse 83 = .ok (.iastore, 1) := dk_79 (dk_at dksX12_readHouse_3 14 rfl rfl)
theorem dX12_readHouse_84 : decode cX12_readHouse 84 = .ok (.aload_n 0, 1) := dk_42 (dk_at dksX12_readHouse_3 15 rfl rfl)
theorem dX12_readHouse_85 : decode cX12_readHouse 85 = .ok (.getfield 34, 3) := dk_180 0 34 (dk_at dksX12_readHouse_3 16 rfl rfl)
theorem dX12_readHouse_88 : decode cX12_readHouse 88 = .ok (.iload_n 1, 1) := dk_27 (dk_at dksX12_readHouse_3 19 rfl rfl)
theorem dX12_readHouse_89 : decode cX12_readHouse 89 = .ok (.iconst 4, 1) := dk_7 (dk_at dksX12_readHouse_3 20 rfl rfl)
theorem dX12_readHouse_90 : decode cX12_readHouse 90 = .ok (.iadd, 1) := dk_96 (dk_at dksX12_readHouse_3 21 rfl rfl)
theorem dX12_readHouse_91 : decode cX12_readHouse 91 = .ok (.aload_n 0, 1) := dk_42 (dk_at dksX12_readHouse_3 22 rfl rfl)
theorem dX12_readHouse_92 : decode cX12_readHouse 92 = .ok (.iconst 0, 1) := dk_3 (dk_at dksX12_readHouse_3 23 rfl rfl)
theorem dX12_readHouse_93 : decode cX12_readHouse 93 = .ok (.sipush 180, 3) := dk_17 0 180 (dk_at dksX12_readHouse_4 0 rfl rfl)
theorem dX12_readHouse_96 : decode cX12_readHouse 96 = .ok (.invokevirtual 180, 3) := dk_182 0 180 (dk_at dksX12_readHouse_4 3 rfl rfl)
theorem dX12_readHouse_99 : decode cX12_readHouse 99 = .ok (.iastore, 1) := dk_79 (dk_at dksX12_readHouse_4 6 rfl rfl)
theorem dX12_readHouse_100 : decode cX12_readHouse 100 = .ok (.aload_n 0, 1) := dk_42 (dk_at dksX12_readHouse_4 7 rfl rfl)
theorem dX12_readHouse_101 : decode cX12_readHouse 101 = .ok (.getfield 34, 3) := dk_180 0 34 (dk_at dksX12_readHouse_4 8 rfl rfl)
theorem dX12_readHouse_104 : decode cX12_readHouse 104 = .ok (.iload_n 1, 1) := dk_27 (dk_at dksX12_readHouse_4 11 rfl rfl)
theorem dX12_readHouse_105 : decode cX12_readHouse 105 = .ok (.iconst 5, 1) := dk_8 (dk_at dksX12_readHouse_4 12 rfl rfl)
theorem dX12_readHouse_106 : decode cX12_readHouse 106 = .ok (.iadd, 1) := dk_96 (dk_at dksX12_readHouse_4 13 rfl rfl)
theorem dX12_readHouse_107 : decode cX12_readHouse 107 = .ok (.aload_n 0, 1) := dk_42 (dk_at dksX12_readHouse_4 14 rfl rfl)
theorem dX12_readHouse_108 : decode cX12_readHouse 108 = .ok (.aload_n 0, 1) := dk_42 (dk_at dksX12_readHouse_4 15 rfl rfl)
theorem dX12_readHouse_109 : decode cX12_readHouse 109 = .ok (.getfield 34, 3) := dk_180 0 34 (dk_at dksX12_readHouse_4 16 rfl rfl)
theorem dX12_readHouse_112 : decode cX12_readHouse 112 = .ok (.iload_n 1, 1) := dk_27 (dk_at dksX12_readHouse_4 19 rfl rfl)
theorem dX12_readHouse_113 : decode cX12_readHouse 113 = .ok (.iconst 4, 1) := dk_7 (dk_at dksX12_readHouse_4 20 rfl rfl)
theorem dX12_readHouse_114 : decode cX12_readHouse 114 = .ok (.iadd, 1) := dk_96 (dk_at dksX12_readHouse_4 21 rfl rfl)
theorem dX12_readHouse_115 : decode cX12_readHouse 115 = .ok (.iaload, 1) := dk_46 (dk_at dksX12_readHouse_4 22 rfl rfl)
theorem dX12_readHouse_116 : decode cX12_readHouse 116 = .ok (.sipush 180, 3) := dk_17 0 180 (dk_at dksX12_readHouse_5 0 rfl rfl)
theorem dX12_readHouse_119 : decode cX12_readHouse 119 = .ok (.invokevirtual 180, 3) := dk_182 0 180 (dk_at dksX12_readHouse_5 3 rfl rfl)
theorem dX12_readHouse_122 : decode cX12_readHouse 122 = .ok (.iastore, 1) := dk_79 (dk_at dksX12_readHouse_5 6 rfl rfl)
theorem dX12_readHouse_123 : decode cX12_readHouse 123 = .ok (.aload_n 0, 1) := dk_42 (dk_at dksX12_readHouse_5 7 rfl rfl)
theorem dX12_readHouse_124 : decode cX12_readHouse 124 = .ok (.getfield 34, 3) := dk_180 0 34 (dk_at dksX12_readHouse_5 8 rfl rfl)
theorem dX12_readHouse_127 : decode cX12_readHouse 127 = .ok (.iload_n 1, 1) := dk_27 (dk_at dksX12_readHouse_5 11 rfl rfl)
theorem dX12_readHouse_128 : decode cX12_readHouse 128 = .ok (.bipush 6, 2) := dk_16 6 (dk_at dksX12_readHouse_5 12 rfl rfl)
theorem dX12_readHouse_130 : decode cX12_readHouse 130 = .ok (.iadd, 1) := dk_96 (dk_at dksX12_readHouse_5 14 rfl rfl)
theorem dX12_readHouse_131 : decode cX12_readHouse 131 = .ok (.aload_n 0, 1) := dk_42 (dk_at dksX12_readHouse_5 15 rfl rfl)
theorem dX12_readHouse_132 : decode cX12_readHouse 132 = .ok (.ldc 220, 2) := dk_18 220 (dk_at dksX12_readHouse_5 16 rfl rfl)
theorem dX12_readHouse_134 : decode cX12_readHouse 134 = .ok (.invokevirtual 169, 3) := dk_182 0 169 (dk_at dksX12_readHouse_5 18 rfl rfl)
theorem dX12_readHouse_137 : decode cX12_readHouse 137 = .ok (.ifCond .eq 14, 3) := dk_153 0 14 (dk_at dksX12_readHouse_5 21 rfl rfl)
theorem dX12_readHouse_140 : decode cX12_readHouse 140 = .ok (.aload_n 0, 1) := dk_42 (dk_at dksX12_readHouse_6 0 rfl rfl)
theorem dX12_readHouse_141 : decode cX12_readHouse 141 = .ok (.iconst 0, 1) := dk_3 (dk_at dksX12_readHouse_6 1 rfl rfl)
theorem dX12_readHouse_142 : decode cX12_readHouse 142 = .ok (.sipush 399, 3) := dk_17 1 143 (dk_at dksX12_readHouse_6 2 rfl rfl)
theorem dX12_readHouse_145 : decode cX12_readHouse 145 = .ok (.invokevirtual 180, 3) := dk_182 0 180 (dk_at dksX12_readHouse_6 5 rfl rfl)
theorem dX12_readHouse_148 : decode cX12_readHouse 148 = .ok (.goto 4, 3) := dk_167 0 4 (dk_at dksX12_readHouse_6 8 rfl rfl)
theorem dX12_readHouse_151 : decode cX12_readHouse 151 = .ok (.iconst 0, 1) := dk_3 (dk_at dksX12_readHouse_6 11 rfl rfl)
theorem dX12_readHouse_152 : decode cX12_readHouse 152 = .ok (.iastore, 1) := dk_79 (dk_at dksX12_readHouse_6 12 rfl rfl)
theorem dX12_readHouse_153 : decode cX12_readHouse 153 = .ok (.aload_n 0, 1) := dk_42 (dk_at dksX12_readHouse_6 13 rfl rfl)
theorem dX12_readHouse_154 : decode cX12_readHouse 154 = .ok (.getfield 34, 3) := dk_180 0 34 (dk_at dksX12_readHouse_6 14 rfl rfl)
theorem dX12_readHouse_157 : decode cX12_readHouse 157 = .ok (.iload_n 1, 1) := dk_27 (dk_at dksX12_readHouse_6 17 rfl rfl)
theorem dX12_readHouse_158 : decode cX12_readHouse 158 = .ok (.bipush 7, 2) := dk_16 7 (dk_at dksX12_readHouse_6 18 rfl rfl)
theorem dX12_readHouse_160 : decode cX12_readHouse 160 = .ok (.iadd, 1) := dk_96 (dk_at dksX12_readHouse_6 20 rfl rfl)
theorem dX12_readHouse_161 : decode cX12_readHouse 161 = .ok (.aload_n 0, 1) := dk_42 (dk_at dksX12_readHouse_6 21 rfl rfl)
theorem dX12_readHouse_162 : decode cX12_readHouse 162 = .ok (.ldc 222, 2) := dk_18 222 (dk_at dksX12_readHouse_6 22 rfl rfl)
theorem dX12_readHouse_164 : decode cX12_readHouse 164 = .ok (.invokevirtual 169, 3) := dk_182 0 169 (dk_at dksX12_readHouse_7 0 rfl rfl)
theorem dX12_readHouse_167 : decode cX12_readHouse 167 = .ok (.ifCond .eq 13, 3) := dk_153 0 13 (dk_at dksX12_readHouse_7 3 rfl rfl)
theorem dX12_readHouse_170 : decode cX12_readHouse 170 = .ok (.aload_n 0, 1) := dk_42 (dk_at dksX12_readHouse_7 6 rfl rfl)
theorem dX12_readHouse_171 : decode cX12_readHouse 171 = .ok (.iconst 0, 1) := dk_3 (dk_at dksX12_readHouse_7 7 rfl rfl)
theorem dX12_readHouse_172 : decode cX12_readHouse 172 = .ok (.bipush 99, 2) := dk_16 99 (dk_at dksX12_readHouse_7 8 rfl rfl)
theorem dX12_readHouse_174 : decode cX12_readHouse 174 = .ok (.invokevirtual 180, 3) := dk_182 0 180 (dk_at dksX12_readHouse_7 10 rfl rfl)
theorem dX12_readHouse_177 : decode cX12_readHouse 177 = .ok (.goto 4, 3) := dk_167 0 4 (dk_at dksX12_readHouse_7 13 rfl rfl)
theorem dX12_readHouse_180 : decode cX12_readHouse 180 = .ok (.iconst 0, 1) := dk_3 (dk_at dksX12_readHouse_7 16 rfl rfl)
theorem dX12_readHouse_181 : decode cX12_readHouse 181 = .ok (.iastore, 1) := dk_79 (dk_at dksX12_readHouse_7 17 rfl rfl)
theorem dX12_readHouse_182 : decode cX12_readHouse 182 = .ok (.aload_n 0, 1) := dk_42 (dk_at dksX12_readHouse_7 18 rfl rfl)
theorem dX12_readHouse_183 : decode cX12_readHouse 183 = .ok (.getfield 34, 3) := dk_180 0 34 (dk_at dksX12_readHouse_7 19 rfl rfl)
theorem dX12_readHouse_186 : decode cX12_readHouse 186 = .ok (.iload_n 1, 1) := dk_27 (dk_at dksX12_readHouse_7 22 rfl rfl)
theorem dX12_readHouse_187 : decode cX12_readHouse 187 = .ok (.bipush 8, 2) := dk_16 8 (dk_at dksX12_readHouse_8 0 rfl rfl)
theorem dX12_readHouse_189 : decode cX12_readHouse 189 = .ok (.iadd, 1) := dk_96 (dk_at dksX12_readHouse_8 2 rfl rfl)
theorem dX12_readHouse_190 : decode cX12_readHouse 190 = .ok (.iconst 0, 1) := dk_3 (dk_at dksX12_readHouse_8 3 rfl rfl)
theorem dX12_readHouse_191 : decode cX12_readHouse 191 = .ok (.iastore, 1) := dk_79 (dk_at dksX12_readHouse_8 4 rfl rfl)
theorem dX12_readHouse_192 : decode cX12_readHouse 192 = .ok (.aload_n 0, 1) := dk_42 (dk_at dksX12_readHouse_8 5 rfl rfl)
theorem dX12_readHouse_193 : decode cX12_readHouse 193 = .ok (.invokevirtual 148, 3) := dk_182 0 148 (dk_at dksX12_readHouse_8 6 rfl rfl)
theorem dX12_readHouse_196 : decode cX12_readHouse 196 = .ok (.ifCond .eq 13, 3) := dk_153 0 13 (dk_at dksX12_readHouse_8 9 rfl rfl)
theorem dX12_readHouse_199 : decode cX12_readHouse 199 = .ok (.aload_n 0, 1) := dk_42 (dk_at dksX12_readHouse_8 12 rfl rfl)
theorem dX12_readHouse_200 : decode cX12_readHouse 200 = .ok (.getfield 34, 3) := dk_180 0 34 (dk_at dksX12_readHouse_8 13 rfl rfl)
theorem dX12_readHouse_203 : decode cX12_readHouse 203 = .ok (.iconst 0, 1) := dk_3 (dk_at dksX12_readHouse_8 16 rfl rfl)
theorem dX12_readHouse_204 : decode cX12_readHouse 204 = .ok (.dup2, 1) := dk_92 (dk_at dksX12_readHouse_8 17 rfl rfl)
theorem dX12_readHouse_205 : decode cX12_readHouse 205 = .ok (.iaload, 1) := dk_46 (dk_at dksX12_readHouse_8 18 rfl rfl)
theorem dX12_readHouse_206 : decode cX12_readHouse 206 = .ok (.iconst 1, 1) := dk_4 (dk_at dksX12_readHouse_8 19 rfl rfl)
theorem dX12_readHouse_207 : decode cX12_readHouse 207 = .ok (.iadd, 1) := dk_96 (dk_at dksX12_readHouse_8 20 rfl rfl)
theorem dX12_readHouse_208 : decode cX12_readHouse 208 = .ok (.iastore, 1) := dk_79 (dk_at dksX12_readHouse_8 21 rfl rfl)
theorem dX12_readHouse_209 : decode cX12_readHouse 209 = .ok (.return_, 1) := dk_177 (dk_at dksX12_readHouse_8 22 rfl rfl)
abbrev cX12_dayHere : ByteArray := prog_25_method_25_code
def yX12_dayHere : MethodName := ⟨RX12, "dayHere", "()I"⟩
def dkwX12_dayHere_4 : List UInt8 := [2, 172]
abbrev dktX12_dayHere_4 : List UInt8 := dkwX12_dayHere_4 ++ []
def dkwX12_dayHere_3 : List UInt8 := [182, 0, 162, 153, 0, 7, 8, 167, 0, 18, 42, 18, 195, 182, 0, 162, 153, 0, 8, 16, 6, 167, 0, 4]
abbrev dktX12_dayHere_3 : List UInt8 := dkwX12_dayHere_3 ++ dktX12_dayHere_4
def dkwX12_dayHere_2 : List UInt8 := [153, 0, 7, 6, 167, 0, 44, 42, 18, 191, 182, 0, 162, 153, 0, 7, 7, 167, 0, 31, 42, 18, 193]
abbrev dktX12_dayHere_2 : List UInt8 := dkwX12_dayHere_2 ++ dktX12_dayHere_3
def dkwX12_dayHere_1 : List UInt8 := [167, 0, 70, 42, 18, 187, 182, 0, 162, 153, 0, 7, 5, 167, 0, 57, 42, 18, 189, 182, 0, 162]
abbrev dktX12_dayHere_1 : List UInt8 := dkwX12_dayHere_1 ++ dktX12_dayHere_2
def dkwX12_dayHere_0 : List UInt8 := [42, 18, 183, 182, 0, 162, 153, 0, 7, 3, 167, 0, 83, 42, 18, 185, 182, 0, 162, 153, 0, 7, 4]
abbrev dktX12_dayHere_0 : List UInt8 := dkwX12_dayHere_0 ++ dktX12_dayHere_1
theorem dksX12_dayHere_0 : cX12_dayHere.data.toList.drop 0 = dktX12_dayHere_0 := by decide +kernel
theorem dksX12_dayHere_1 : cX12_dayHere.data.toList.drop 23 = dktX12_dayHere_1 := dk_seg dksX12_dayHere_0 23 rfl rfl
theorem dksX12_dayHere_2 : cX12_dayHere.data.toList.drop 45 = dktX12_dayHere_2 := dk_seg dksX12_dayHere_1 22 rfl rfl
theorem dksX12_dayHere_3 : cX12_dayHere.data.toList.drop 68 = dktX12_dayHere_3 := dk_seg dksX12_dayHere_2 23 rfl rfl
theorem dksX12_dayHere_4 : cX12_dayHere.data.toList.drop 92 = dktX12_dayHere_4 := dk_seg dksX12_dayHere_3 24 rfl rfl
theorem dX12_dayHere_0 : decode cX12_dayHere 0 = .ok (.aload_n 0, 1) := dk_42 (dk_at dksX12_dayHere_0 0 rfl rfl)
theorem dX12_dayHere_1 : decode cX12_dayHere 1 = .ok (.ldc 183, 2) := dk_18 183 (dk_at dksX12_dayHere_0 1 rfl rfl)
theorem dX12_dayHere_3 : decode cX12_dayHere 3 = .ok (.invokevirtual 162, 3) := dk_182 0 162 (dk_at dksX12_dayHere_0 3 rfl rfl)
theorem dX12_dayHere_6 : decode cX12_dayHere 6 = .ok (.ifCond .eq 7, 3) := dk_153 0 7 (dk_at dksX12_dayHere_0 6 rfl rfl)
theorem dX12_dayHere_9 : decode cX12_dayHere 9 = .ok (.iconst 0, 1) := dk_3 (dk_at dksX12_dayHere_0 9 rfl rfl)
theorem dX12_dayHere_10 : decode cX12_dayHere 10 = .ok (.goto 83, 3) := dk_167 0 83 (dk_at dksX12_dayHere_0 10 rfl rfl)
theorem dX12_dayHere_13 : decode cX12_dayHere 13 = .ok (.aload_n 0, 1) := dk_42 (dk_at dksX12_dayHere_0 13 rfl rfl)
theorem dX12_dayHere_14 : decode cX12_dayHere 14 = .ok (.ldc 185, 2) := dk_18 185 (dk_at dksX12_dayHere_0 14 rfl rfl)
theorem dX12_dayHere_16 : decode cX12_dayHere 16 = .ok (.invokevirtual 162, 3) := dk_182 0 162 (dk_at dksX12_dayHere_0 16 rfl rfl)
theorem dX12_dayHere_19 : decode cX12_dayHere 19 = .ok (.ifCond .eq 7, 3) := dk_153 0 7 (dk_at dksX12_dayHere_0 19 rfl rfl)
theorem dX12_dayHere_22 : decode cX12_dayHere 22 = .ok (.iconst 1, 1) := dk_4 (dk_at dksX12_dayHere_0 22 rfl rfl)
theorem dX12_dayHere_23 : decode cX12_dayHere 23 = .ok (.goto 70, 3) := dk_167 0 70 (dk_at dksX12_dayHere_1 0 rfl rfl)
theorem dX12_dayHere_26 : decode cX12_dayHere 26 = .ok (.aload_n 0, 1) := dk_42 (dk_at dksX12_dayHere_1 3 rfl rfl)
theorem dX12_dayHere_27 : decode cX12_dayHere 27 = .ok (.ldc 187, 2) := dk_18 187 (dk_at dksX12_dayHere_1 4 rfl rfl)
theorem dX12_dayHere_29 : decode cX12_dayHere 29 = .ok (.invokevirtual 162, 3) := dk_182 0 162 (dk_at dksX12_dayHere_1 6 rfl rfl)
theorem dX12_dayHere_32 : decode cX12_dayHere 32 = .ok (.ifCond .eq 7, 3) := dk_153 0 7 (dk_at dksX12_dayHere_1 9 rfl rfl)
theorem dX12_dayHere_35 : decode cX12_dayHere 35 = .ok (.iconst 2, 1) := dk_5 (dk_at dksX12_dayHere_1 12 rfl rfl)
theorem dX12_dayHere_36 : decode cX12_dayHere 36 = .ok (.goto 57, 3) := dk_167 0 57 (dk_at dksX12_dayHere_1 13 rfl rfl)
theorem dX12_dayHere_39 : decode cX12_dayHere 39 = .ok (.aload_n 0, 1) := dk_42 (dk_at dksX12_dayHere_1 16 rfl rfl)
theorem dX12_dayHere_40 : decode cX12_dayHere 40 = .ok (.ldc 189, 2) := dk_18 189 (dk_at dksX12_dayHere_1 17 rfl rfl)
theorem dX12_dayHere_42 : decode cX12_dayHere 42 = .ok (.invokevirtual 162, 3) := dk_182 0 162 (dk_at dksX12_dayHere_1 19 rfl rfl)
theorem dX12_dayHere_45 : decode cX12_dayHere 45 = .ok (.ifCond .eq 7, 3) := dk_153 0 7 (dk_at dksX12_dayHere_2 0 rfl rfl)
theorem dX12_dayHere_48 : decode cX12_dayHere 48 = .ok (.iconst 3, 1) := dk_6 (dk_at dksX12_dayHere_2 3 rfl rfl)
theorem dX12_dayHere_49 : decode cX12_dayHere 49 = .ok (.goto 44, 3) := dk_167 0 44 (dk_at dksX12_dayHere_2 4 rfl rfl)
theorem dX12_dayHere_52 : decode cX12_dayHere 52 = .ok (.aload_n 0, 1) := dk_42 (dk_at dksX12_dayHere_2 7 rfl rfl)
theorem dX12_dayHere_53 : decode cX12_dayHere 53 = .ok (.ldc 191, 2) := dk_18 191 (dk_at dksX12_dayHere_2 8 rfl rfl)
theorem dX12_dayHere_55 : decode cX12_dayHere 55 = .ok (.invokevirtual 162, 3) := dk_182 0 162 (dk_at dksX12_dayHere_2 10 rfl rfl)
theorem dX12_dayHere_58 : decode cX12_dayHere 58 = .ok (.ifCond .eq 7, 3) := dk_153 0 7 (dk_at dksX12_dayHere_2 13 rfl rfl)
theorem dX12_dayHere_61 : decode cX12_dayHere 61 = .ok (.iconst 4, 1) := dk_7 (dk_at dksX12_dayHere_2 16 rfl rfl)
theorem dX12_dayHere_62 : decode cX12_dayHere 62 = .ok (.goto 31, 3) := dk_167 0 31 (dk_at dksX12_dayHere_2 17 rfl rfl)
theorem dX12_dayHere_65 : decode cX12_dayHere 65 = .ok (.aload_n 0, 1) := dk_42 (dk_at dksX12_dayHere_2 20 rfl rfl)
theorem dX12_dayHere_66 : decode cX12_dayHere 66 = .ok (.ldc 193, 2) := dk_18 193 (dk_at dksX12_dayHere_2 21 rfl rfl)
theorem dX12_dayHere_68 : decode cX12_dayHere 68 = .ok (.invokevirtual 162, 3) := dk_182 0 162 (dk_at dksX12_dayHere_3 0 rfl rfl)
theorem dX12_dayHere_71 : decode cX12_dayHere 71 = .ok (.ifCond .eq 7, 3) := dk_153 0 7 (dk_at dksX12_dayHere_3 3 rfl rfl)
theorem dX12_dayHere_74 : decode cX12_dayHere 74 = .ok (.iconst 5, 1) := dk_8 (dk_at dksX12_dayHere_3 6 rfl rfl)
theorem dX12_dayHere_75 : decode cX12_dayHere 75 = .ok (.goto 18, 3) := dk_167 0 18 (dk_at dksX12_dayHere_3 7 rfl rfl)
theorem dX12_dayHere_78 : decode cX12_dayHere 78 = .ok (.aload_n 0, 1) := dk_42 (dk_at dksX12_dayHere_3 10 rfl rfl)
theorem dX12_dayHere_79 : decode cX12_dayHere 79 = .ok (.ldc 195, 2) := dk_18 195 (dk_at dksX12_dayHere_3 11 rfl rfl)
theorem dX12_dayHere_81 : decode cX12_dayHere 81 = .ok (.invokevirtual 162, 3) := dk_182 0 162 (dk_at dksX12_dayHere_3 13 rfl rfl)
theorem dX12_dayHere_84 : decode cX12_dayHere 84 = .ok (.ifCond .eq 8, 3) := dk_153 0 8 (dk_at dksX12_dayHere_3 16 rfl rfl)
theorem dX12_dayHere_87 : decode cX12_dayHere 87 = .ok (.bipush 6, 2) := dk_16 6 (dk_at dksX12_dayHere_3 19 rfl rfl)
theorem dX12_dayHere_89 : decode cX12_dayHere 89 = .ok (.goto 4, 3) := dk_167 0 4 (dk_at dksX12_dayHere_3 21 rfl rfl)
theorem dX12_dayHere_92 : decode cX12_dayHere 92 = .ok (.iconst (-1), 1) := dk_2 (dk_at dksX12_dayHere_4 0 rfl rfl)
theorem dX12_dayHere_93 : decode cX12_dayHere 93 = .ok (.ireturn, 1) := dk_172 (dk_at dksX12_dayHere_4 1 rfl rfl)
abbrev cX12_readKnow : ByteArray := prog_25_method_29_code
def yX12_readKnow : MethodName := ⟨RX12, "readKnow", "()V"⟩
def dkwX12_readKnow_4 : List UInt8 := [16, 9, 28, 104, 96, 16, 8, 96, 92, 46, 4, 27, 120, 128, 79, 177]
abbrev dktX12_readKnow_4 : List UInt8 := dkwX12_readKnow_4 ++ []
def dkwX12_readKnow_3 : List UInt8 := [16, 10, 16, 9, 27, 104, 96, 16, 8, 96, 92, 46, 4, 28, 120, 128, 79, 42, 180, 0, 34, 16, 10]
abbrev dktX12_readKnow_3 : List UInt8 := dkwX12_readKnow_3 ++ dktX12_readKnow_4
def dkwX12_readKnow_2 : List UInt8 := [180, 0, 34, 3, 46, 4, 100, 182, 0, 180, 61, 42, 182, 0, 148, 154, 0, 4, 177, 42, 180, 0, 34]
abbrev dktX12_readKnow_2 : List UInt8 := dkwX12_readKnow_2 ++ dktX12_readKnow_3
def dkwX12_readKnow_1 : List UInt8 := [180, 0, 125, 5, 160, 0, 16, 42, 180, 0, 136, 27, 160, 0, 8, 42, 5, 182, 0, 172, 42, 3, 42]
abbrev dktX12_readKnow_1 : List UInt8 := dkwX12_readKnow_1 ++ dktX12_readKnow_2
def dkwX12_readKnow_0 : List UInt8 := [42, 3, 42, 180, 0, 34, 3, 46, 4, 100, 182, 0, 180, 60, 42, 182, 0, 148, 153, 0, 24, 42]
abbrev dktX12_readKnow_0 : List UInt8 := dkwX12_readKnow_0 ++ dktX12_readKnow_1
theorem dksX12_readKnow_0 : cX12_readKnow.data.toList.drop 0 = dktX12_readKnow_0 := by decide +kernel
theorem dksX12_readKnow_1 : cX12_readKnow.data.toList.drop 22 = dktX12_readKnow_1 := dk_seg dksX12_readKnow_0 22 rfl rfl
theorem dksX12_readKnow_2 : cX12_readKnow.data.toList.drop 45 = dktX12_readKnow_2 := dk_seg dksX12_readKnow_1 23 rfl rfl
theorem dksX12_readKnow_3 : cX12_readKnow.data.toList.drop 68 = dktX12_readKnow_3 := dk_seg dksX12_readKnow_2 23 rfl rfl
theorem dksX12_readKnow_4 : cX12_readKnow.data.toList.drop 91 = dktX12_readKnow_4 := dk_seg dksX12_readKnow_3 23 rfl rfl
theorem dX12_readKnow_0 : decode cX12_readKnow 0 = .ok (.aload_n 0, 1) := dk_42 (dk_at dksX12_readKnow_0 0 rfl rfl)
theorem dX12_readKnow_1 : decode cX12_readKnow 1 = .ok (.iconst 0, 1) := dk_3 (dk_at dksX12_readKnow_0 1 rfl rfl)
theorem dX12_readKnow_2 : decode cX12_readKnow 2 = .ok (.aload_n 0, 1) := dk_42 (dk_at dksX12_readKnow_0 2 rfl rfl)
theorem dX12_readKnow_3 : decode cX12_readKnow 3 = .ok (.getfield 34, 3) := dk_180 0 34 (dk_at dksX12_readKnow_0 3 rfl rfl)
theorem dX12_readKnow_6 : decode cX12_readKnow 6 = .ok (.iconst 0, 1) := dk_3 (dk_at dksX12_readKnow_0 6 rfl rfl)
theorem dX12_readKnow_7 : decode cX12_readKnow 7 = .ok (.iaload, 1) := dk_46 (dk_at dksX12_readKnow_0 7 rfl rfl)
theorem dX12_readKnow_8 : decode cX12_readKnow 8 = .ok (.iconst 1, 1) := dk_4 (dk_at dksX12_readKnow_0 8 rfl rfl)
theorem dX12_readKnow_9 : decode cX12_readKnow 9 = .ok (.isub, 1) := dk_100 (dk_at dksX12_readKnow_0 9 rfl rfl)
theorem dX12_readKnow_10 : decode cX12_readKnow 10 = .ok (.invokevirtual 180, 3) := dk_182 0 180 (dk_at dksX12_readKnow_0 10 rfl rfl)
theorem dX12_readKnow_13 : decode cX12_readKnow 13 = .ok (.istore_n 1, 1) := dk_60 (dk_at dksX12_readKnow_0 13 rfl rfl)
theorem dX12_readKnow_14 : decode cX12_readKnow 14 = .ok (.aload_n 0, 1) := dk_42 (dk_at dksX12_readKnow_0 14 rfl rfl)
theorem dX12_readKnow_15 : decode cX12_readKnow 15 = .ok (.invokevirtual 148, 3) := dk_182 0 148 (dk_at dksX12_readKnow_0 15 rfl rfl)
theorem dX12_readKnow_18 : decode cX12_readKnow 18 = .ok (.ifCond .eq 24, 3) := dk_153 0 24 (dk_at dksX12_readKnow_0 18 rfl rfl)
theorem dX12_readKnow_21 : decode cX12_readKnow 21 = .ok (.aload_n 0, 1) := dk_42 (dk_at dksX12_readKnow_0 21 rfl rfl)
theorem dX12_readKnow_22 : decode cX12_readKnow 22 = .ok (.getfield 125, 3) := dk_180 0 125 (dk_at dksX12_readKnow_1 0 rfl rfl)
theorem dX12_readKnow_25 : decode cX12_readKnow 25 = .ok (.iconst 2, 1) := dk_5 (dk_at dksX12_readKnow_1 3 rfl rfl)
theorem dX12_readKnow_26 : decode cX12_readKnow 26 = .ok (.if_icmp .ne 16, 3) := dk_160 0 16 (dk_at dksX12_readKnow_1 4 rfl rfl)
theorem dX12_readKnow_29 : decode cX12_readKnow 29 = .ok (.aload_n 0, 1) := dk_42 (dk_at dksX12_readKnow_1 7 rfl rfl)
theorem dX12_readKnow_30 : decode cX12_readKnow 30 = .ok (.getfield 136, 3) := dk_180 0 136 (dk_at dksX12_readKnow_1 8 rfl rfl)
theorem dX12_readKnow_33 : decode cX12_readKnow 33 = .ok (.iload_n 1, 1) := dk_27 (dk_at dksX12_readKnow_1 11 rfl rfl)
theorem dX12_readKnow_34 : decode cX12_readKnow 34 = .ok (.if_icmp .ne 8, 3) := dk_160 0 8 (dk_at dksX12_readKnow_1 12 rfl rfl)
theorem dX12_readKnow_37 : decode cX12_readKnow 37 = .ok (.aload_n 0, 1) := dk_42 (dk_at dksX12_readKnow_1 15 rfl rfl)
theorem dX12_readKnow_38 : decode cX12_readKnow 38 = .ok (.iconst 2, 1) := dk_5 (dk_at dksX12_readKnow_1 16 rfl rfl)
theorem dX12_readKnow_39 : decode cX12_readKnow 39 = .ok (.invokevirtual 172, 3) := dk_182 0 172 (dk_at dksX12_readKnow_1 17 rfl rfl)
theorem dX12_readKnow_42 : decode cX12_readKnow 42 = .ok (.aload_n 0, 1) := dk_42 (dk_at dksX12_readKnow_1 20 rfl rfl)
theorem dX12_readKnow_43 : decode cX12_readKnow 43 = .ok (.iconst 0, 1) := dk_3 (dk_at dksX12_readKnow_1 21 rfl rfl)
theorem dX12_readKnow_44 : decode cX12_readKnow 44 = .ok (.aload_n 0, 1) := dk_42 (dk_at dksX12_readKnow_1 22 rfl rfl)
theorem dX12_readKnow_45 : decode cX12_readKnow 45 = .ok (.getfield 34, 3) := dk_180 0 34 (dk_at dksX12_readKnow_2 0 rfl rfl)
theorem dX12_readKnow_48 : decode cX12_readKnow 48 = .ok (.iconst 0, 1) := dk_3 (dk_at dksX12_readKnow_2 3 rfl rfl)
theorem dX12_readKnow_49 : decode cX12_readKnow 49 = .ok (.iaload, 1) := dk_46 (dk_at dksX12_readKnow_2 4 rfl rfl)
theorem dX12_readKnow_50 : decode cX12_readKnow 50 = .ok (.iconst 1, 1) := dk_4 (dk_at dksX12_readKnow_2 5 rfl rfl)
theorem dX12_readKnow_51 : decode cX12_readKnow 51 = .ok (.isub, 1) := dk_100 (dk_at dksX12_readKnow_2 6 rfl rfl)
theorem dX12_readKnow_52 : decode cX12_readKnow 52 = .ok (.invokevirtual 180, 3) := dk_182 0 180 (dk_at dksX12_readKnow_2 7 rfl rfl)
theorem dX12_readKnow_55 : decode cX12_readKnow 55 = .ok (.istore_n 2, 1) := dk_61 (dk_at dksX12_readKnow_2 10 rfl rfl)
theorem dX12_readKnow_56 : decode cX12_readKnow 56 = .ok (.aload_n 0, 1) := dk_42 (dk_at dksX12_readKnow_2 11 rfl rfl)
theorem dX12_readKnow_57 : decode cX12_readKnow 57 = .ok (.invokevirtual 148, 3) := dk_182 0 148 (dk_at dksX12_readKnow_2 12 rfl rfl)
theorem dX12_readKnow_60 : decode cX12_readKnow 60 = .ok (.ifCond .ne 4, 3) := dk_154 0 4 (dk_at dksX12_readKnow_2 15 rfl rfl)
theorem dX12_readKnow_63 : decode cX12_readKnow 63 = .ok (.return_, 1) := dk_177 (dk_at dksX12_readKnow_2 18 rfl rfl)
theorem dX12_readKnow_64 : decode cX12_readKnow 64 = .ok (.aload_n 0, 1) := dk_42 (dk_at dksX12_readKnow_2 19 rfl rfl)
theorem dX12_readKnow_65 : decode cX12_readKnow 65 = .ok (.getfield 34, 3) := dk_180 0 34 (dk_at dksX12_readKnow_2 20 rfl rfl)
theorem dX12_readKnow_68 : decode cX12_readKnow 68 = .ok (.bipush 10, 2) := dk_16 10 (dk_at dksX12_readKnow_3 0 rfl rfl)
theorem dX12_readKnow_70 : decode cX12_readKnow 70 = .ok (.bipush 9, 2) := dk_16 9 (dk_at dksX12_readKnow_3 2 rfl rfl)
theorem dX12_readKnow_72 : decode cX12_readKnow 72 = .ok (.iload_n 1, 1) := dk_27 (dk_at dksX12_readKnow_3 4 rfl rfl)
theorem dX12_readKnow_73 : decode cX12_readKnow 73 = .ok (.imul, 1) := dk_104 (dk_at dksX12_readKnow_3 5 rfl rfl)
theorem dX12_readKnow_74 : decode cX12_readKnow 74 = .ok (.iadd, 1) := dk_96 (dk_at dksX12_readKnow_3 6 rfl rfl)
theorem dX12_readKnow_75 : decode cX12_readKnow 75 = .ok (.bipush 8, 2) := dk_16 8 (dk_at dksX12_readKnow_3 7 rfl rfl)
theorem dX12_readKnow_77 : decode cX12_readKnow 77 = .ok (.iadd, 1) := dk_96 (dk_at dksX12_readKnow_3 9 rfl rfl)
theorem dX12_readKnow_78 : decode cX12_readKnow 78 = .ok (.dup2, 1) := dk_92 (dk_at dksX12_readKnow_3 10 rfl rfl)
theorem dX12_readKnow_79 : decode cX12_readKnow 79 = .ok (.iaload, 1) := dk_46 (dk_at dksX12_readKnow_3 11 rfl rfl)
theorem dX12_readKnow_80 : decode cX12_readKnow 80 = .ok (.iconst 1, 1) := dk_4 (dk_at dksX12_readKnow_3 12 rfl rfl)
theorem dX12_readKnow_81 : decode cX12_readKnow 81 = .ok (.iload_n 2, 1) := dk_28 (dk_at dksX12_readKnow_3 13 rfl rfl)
theorem dX12_readKnow_82 : decode cX12_readKnow 82 = .ok (.ishl, 1) := dk_120 (dk_at dksX12_readKnow_3 14 rfl rfl)
theorem dX12_readKnow_83 : decode cX12_readKnow 83 = .ok (.ior, 1) := dk_128 (dk_at dksX12_readKnow_3 15 rfl rfl)
theorem dX12_readKnow_84 : decode cX12_readKnow 84 = .ok (.iastore, 1) := dk_79 (dk_at dksX12_readKnow_3 16 rfl rfl)
theorem dX12_readKnow_85 : decode cX12_readKnow 85 = .ok (.aload_n 0, 1) := dk_42 (dk_at dksX12_readKnow_3 17 rfl rfl)
theorem dX12_readKnow_86 : decode cX12_readKnow 86 = .ok (.getfield 34, 3) := dk_180 0 34 (dk_at dksX12_readKnow_3 18 rfl rfl)
theorem dX12_readKnow_89 : decode cX12_readKnow 89 = .ok (.bipush 10, 2) := dk_16 10 (dk_at dksX12_readKnow_3 21 rfl rfl)
theorem dX12_readKnow_91 : decode cX12_readKnow 91 = .ok (.bipush 9, 2) := dk_16 9 (dk_at dksX12_readKnow_4 0 rfl rfl)
theorem dX12_readKnow_93 : decode cX12_readKnow 93 = .ok (.iload_n 2, 1) := dk_28 (dk_at dksX12_readKnow_4 2 rfl rfl)
theorem dX12_readKnow_94 : decode cX12_readKnow 94 = .ok (.imul, 1) := dk_104 (dk_at dksX12_readKnow_4 3 rfl rfl)
theorem dX12_readKnow_95 : decode cX12_readKnow 95 = .ok (.iadd, 1) := dk_96 (dk_at dksX12_readKnow_4 4 rfl rfl)
theorem dX12_readKnow_96 : decode cX12_readKnow 96 = .ok (.bipush 8, 2) := dk_16 8 (dk_at dksX12_readKnow_4 5 rfl rfl)
theorem dX12_readKnow_98 : decode cX12_readKnow 98 = .ok (.iadd, 1) := dk_96 (dk_at dksX12_readKnow_4 7 rfl rfl)
theorem dX12_readKnow_99 : decode cX12_readKnow 99 = .ok (.dup2, 1) := dk_92 (dk_at dksX12_readKnow_4 8 rfl rfl)
theorem dX12_readKnow_100 : decode cX12_readKnow 100 = .ok (.iaload, 1) := dk_46 (dk_at dksX12_readKnow_4 9 rfl rfl)
theorem dX12_readKnow_101 : decode cX12_readKnow 101 = .ok (.iconst 1, 1) := dk_4 (dk_at dksX12_readKnow_4 10 rfl rfl)
theorem dX12_readKnow_102 : decode cX12_readKnow 102 = .ok (.iload_n 1, 1) := dk_27 (dk_at dksX12_readKnow_4 11 rfl rfl)
theorem dX12_readKnow_103 : decode cX12_readKnow 103 = .ok (.ishl, 1) := dk_120 (dk_at dksX12_readKnow_4 12 rfl rfl)
theorem dX12_readKnow_104 : decode cX12_readKnow 104 = .ok (.ior, 1) := dk_128 (dk_at dksX12_readKnow_4 13 rfl rfl)
theorem dX12_readKnow_105 : decode cX12_readKnow 105 = .ok (.iastore, 1) := dk_79 (dk_at dksX12_readKnow_4 14 rfl rfl)
theorem dX12_readKnow_106 : decode cX12_readKnow 106 = .ok (.return_, 1) := dk_177 (dk_at dksX12_readKnow_4 15 rfl rfl)
abbrev cX12_ofHouse : ByteArray := prog_25_method_8_code
def yX12_ofHouse : MethodName := ⟨RX12, "ofHouse", "(II)I"⟩
def dkwX12_ofHouse_0 : List UInt8 := [42, 180, 0, 13, 16, 10, 16, 9, 27, 104, 96, 28, 96, 46, 172]
abbrev dktX12_ofHouse_0 : List UInt8 := dkwX12_ofHouse_0 ++ []
theorem dksX12_ofHouse_0 : cX12_ofHouse.data.toList.drop 0 = dktX12_ofHouse_0 := by decide +kernel
theorem dX12_ofHouse_0 : decode cX12_ofHouse 0 = .ok (.aload_n 0, 1) := dk_42 (dk_at dksX12_ofHouse_0 0 rfl rfl)
theorem dX12_ofHouse_1 : decode cX12_ofHouse 1 = .ok (.getfield 13, 3) := dk_180 0 13 (dk_at dksX12_ofHouse_0 1 rfl rfl)
theorem dX12_ofHouse_4 : decode cX12_ofHouse 4 = .ok (.bipush 10, 2) := dk_16 10 (dk_at dksX12_ofHouse_0 4 rfl rfl)
theorem dX12_ofHouse_6 : decode cX12_ofHouse 6 = .ok (.bipush 9, 2) := dk_16 9 (dk_at dksX12_ofHouse_0 6 rfl rfl)
theorem dX12_ofHouse_8 : decode cX12_ofHouse 8 = .ok (.iload_n 1, 1) := dk_27 (dk_at dksX12_ofHouse_0 8 rfl rfl)
theorem dX12_ofHouse_9 : decode cX12_ofHouse 9 = .ok (.imul, 1) := dk_104 (dk_at dksX12_ofHouse_0 9 rfl rfl)
theorem dX12_ofHouse_10 : decode cX12_ofHouse 10 = .ok (.iadd, 1) := dk_96 (dk_at dksX12_ofHouse_0 10 rfl rfl)
theorem dX12_ofHouse_11 : decode cX12_ofHouse 11 = .ok (.iload_n 2, 1) := dk_28 (dk_at dksX12_ofHouse_0 11 rfl rfl)
theorem dX12_ofHouse_12 : decode cX12_ofHouse 12 = .ok (.iadd, 1) := dk_96 (dk_at dksX12_ofHouse_0 12 rfl rfl)
theorem dX12_ofHouse_13 : decode cX12_ofHouse 13 = .ok (.iaload, 1) := dk_46 (dk_at dksX12_ofHouse_0 13 rfl rfl)
theorem dX12_ofHouse_14 : decode cX12_ofHouse 14 = .ok (.ireturn, 1) := dk_172 (dk_at dksX12_ofHouse_0 14 rfl rfl)
abbrev cX12_days : ByteArray := prog_25_method_36_code
def yX12_days : MethodName := ⟨RX12, "days", "(I)I"⟩
def dkwX12_days_1 : List UInt8 := [16, 254, 172, 42, 180, 0, 13, 16, 6, 92, 46, 27, 96, 79, 42, 182, 1, 35, 172]
abbrev dktX12_days_1 : List UInt8 := dkwX12_days_1 ++ []
def dkwX12_days_0 : List UInt8 := [27, 133, 9, 20, 1, 33, 184, 0, 101, 153, 0, 15, 42, 182, 1, 35, 27, 96, 17, 1, 143, 164, 0, 6]
abbrev dktX12_days_0 : List UInt8 := dkwX12_days_0 ++ dktX12_days_1
theorem dksX12_days_0 : cX12_days.data.toList.drop 0 = dktX12_days_0 := by decide +kernel
theorem dksX12_days_1 : cX12_days.data.toList.drop 24 = dktX12_days_1 := dk_seg dksX12_days_0 24 rfl rfl
theorem dX12_days_0 : decode cX12_days 0 = .ok (.iload_n 1, 1) := dk_27 (dk_at dksX12_days_0 0 rfl rfl)
theorem dX12_days_1 : decode cX12_days 1 = .ok (.i2l, 1) := dk_133 (dk_at dksX12_days_0 1 rfl rfl)
theorem dX12_days_2 : decode cX12_days 2 = .ok (.lconst 0, 1) := dk_9 (dk_at dksX12_days_0 2 rfl rfl)
theorem dX12_days_3 : decode cX12_days 3 = .ok (.ldc2_w 289, 3) := dk_20 1 33 (dk_at dksX12_days_0 3 rfl rfl)
theorem dX12_days_6 : decode cX12_days 6 = .ok (.invokestatic 101, 3) := dk_184 0 101 (dk_at dksX12_days_0 6 rfl rfl)
theorem dX12_days_9 : decode cX12_days 9 = .ok (.ifCond .eq 15, 3) := dk_153 0 15 (dk_at dksX12_days_0 9 rfl rfl)
theorem dX12_days_12 : decode cX12_days 12 = .ok (.aload_n 0, 1) := dk_42 (dk_at dksX12_days_0 12 rfl rfl)
theorem dX12_days_13 : decode cX12_days 13 = .ok (.invokevirtual 291, 3) := dk_182 1 35 (dk_at dksX12_days_0 13 rfl rfl)
theorem dX12_days_16 : decode cX12_days 16 = .ok (.iload_n 1, 1) := dk_27 (dk_at dksX12_days_0 16 rfl rfl)
theorem dX12_days_17 : decode cX12_days 17 = .ok (.iadd, 1) := dk_96 (dk_at dksX12_days_0 17 rfl rfl)
theorem dX12_days_18 : decode cX12_days 18 = .ok (.sipush 399, 3) := dk_17 1 143 (dk_at dksX12_days_0 18 rfl rfl)
theorem dX12_days_21 : decode cX12_days 21 = .ok (.if_icmp .le 6, 3) := dk_164 0 6 (dk_at dksX12_days_0 21 rfl rfl)
theorem dX12_days_24 : decode cX12_days 24 = .ok (.bipush (-2), 2) := dk_16 254 (dk_at dksX12_days_1 0 rfl rfl)
theorem dX12_days_26 : decode cX12_days 26 = .ok (.ireturn, 1) := dk_172 (dk_at dksX12_days_1 2 rfl rfl)
theorem dX12_days_27 : decode cX12_days 27 = .ok (.aload_n 0, 1) := dk_42 (dk_at dksX12_days_1 3 rfl rfl)
theorem dX12_days_28 : decode cX12_days 28 = .ok (.getfield 13, 3) := dk_180 0 13 (dk_at dksX12_days_1 4 rfl rfl)
theorem dX12_days_31 : decode cX12_days 31 = .ok (.bipush 6, 2) := dk_16 6 (dk_at dksX12_days_1 7 rfl rfl)
theorem dX12_days_33 : decode cX12_days 33 = .ok (.dup2, 1) := dk_92 (dk_at dksX12_days_1 9 rfl rfl)
theorem dX12_days_34 : decode cX12_days 34 = .ok (.iaload, 1) := dk_46 (dk_at dksX12_days_1 10 rfl rfl)
theorem dX12_days_35 : decode cX12_days 35 = .ok (.iload_n 1, 1) := dk_27 (dk_at dksX12_days_1 11 rfl rfl)
theorem dX12_days_36 : decode cX12_days 36 = .ok (.iadd, 1) := dk_96 (dk_at dksX12_days_1 12 rfl rfl)
theorem dX12_days_37 : decode cX12_days 37 = .ok (.iastore, 1) := dk_79 (dk_at dksX12_days_1 13 rfl rfl)
theorem dX12_days_38 : decode cX12_days 38 = .ok (.aload_n 0, 1) := dk_42 (dk_at dksX12_days_1 14 rfl rfl)
theorem dX12_days_39 : decode cX12_days 39 = .ok (.invokevirtual 291, 3) := dk_182 1 35 (dk_at dksX12_days_1 15 rfl rfl)
theorem dX12_days_42 : decode cX12_days 42 = .ok (.ireturn, 1) := dk_172 (dk_at dksX12_days_1 18 rfl rfl)
abbrev cX12_today : ByteArray := prog_25_method_12_code
def yX12_today : MethodName := ⟨RX12, "today", "()I"⟩
def dkwX12_today_0 : List UInt8 := [42, 180, 0, 13, 16, 6, 46, 172]
abbrev dktX12_today_0 : List UInt8 := dkwX12_today_0 ++ []
theorem dksX12_today_0 : cX12_today.data.toList.drop 0 = dktX12_today_0 := by decide +kernel
theorem dX12_today_0 : decode cX12_today 0 = .ok (.aload_n 0, 1) := dk_42 (dk_at dksX12_today_0 0 rfl rfl)
theorem dX12_today_1 : decode cX12_today 1 = .ok (.getfield 13, 3) := dk_180 0 13 (dk_at dksX12_today_0 1 rfl rfl)
theorem dX12_today_4 : decode cX12_today 4 = .ok (.bipush 6, 2) := dk_16 6 (dk_at dksX12_today_0 4 rfl rfl)
theorem dX12_today_6 : decode cX12_today 6 = .ok (.iaload, 1) := dk_46 (dk_at dksX12_today_0 6 rfl rfl)
theorem dX12_today_7 : decode cX12_today 7 = .ok (.ireturn, 1) := dk_172 (dk_at dksX12_today_0 7 rfl rfl)
abbrev cX12_bars : ByteArray := prog_25_method_43_code
def yX12_bars : MethodName := ⟨RX12, "bars", "(III)I"⟩
def dkwX12_bars_1 : List UInt8 := [167, 0, 5, 16, 254, 172]
abbrev dktX12_bars_1 : List UInt8 := dkwX12_bars_1 ++ []
def dkwX12_bars_0 : List UInt8 := [42, 27, 28, 182, 1, 59, 153, 0, 20, 29, 184, 1, 62, 153, 0, 13, 42, 27, 28, 29, 182, 1, 65]
abbrev dktX12_bars_0 : List UInt8 := dkwX12_bars_0 ++ dktX12_bars_1
theorem dksX12_bars_0 : cX12_bars.data.toList.drop 0 = dktX12_bars_0 := by decide +kernel
theorem dksX12_bars_1 : cX12_bars.data.toList.drop 23 = dktX12_bars_1 := dk_seg dksX12_bars_0 23 rfl rfl
theorem dX12_bars_0 : decode cX12_bars 0 = .ok (.aload_n 0, 1) := dk_42 (dk_at dksX12_bars_0 0 rfl rfl)
theorem dX12_bars_1 : decode cX12_bars 1 = .ok (.iload_n 1, 1) := dk_27 (dk_at dksX12_bars_0 1 rfl rfl)
theorem dX12_bars_2 : decode cX12_bars 2 = .ok (.iload_n 2, 1) := dk_28 (dk_at dksX12_bars_0 2 rfl rfl)
theorem dX12_bars_3 : decode cX12_bars 3 = .ok (.invokevirtual 315, 3) := dk_182 1 59 (dk_at dksX12_bars_0 3 rfl rfl)
theorem dX12_bars_6 : decode cX12_bars 6 = .ok (.ifCond .eq 20, 3) := dk_153 0 20 (dk_at dksX12_bars_0 6 rfl rfl)
theorem dX12_bars_9 : decode cX12_bars 9 = .ok (.iload_n 3, 1) := dk_29 (dk_at dksX12_bars_0 9 rfl rfl)
theorem dX12_bars_10 : decode cX12_bars 10 = .ok (.invokestatic 318, 3) := dk_184 1 62 (dk_at dksX12_bars_0 10 rfl rfl)
theorem dX12_bars_13 : decode cX12_bars 13 = .ok (.ifCond .eq 13, 3) := dk_153 0 13 (dk_at dksX12_bars_0 13 rfl rfl)
theorem dX12_bars_16 : decode cX12_bars 16 = .ok (.aload_n 0, 1) := dk_42 (dk_at dksX12_bars_0 16 rfl rfl)
theorem dX12_bars_17 : decode cX12_bars 17 = .ok (.iload_n 1, 1) := dk_27 (dk_at dksX12_bars_0 17 rfl rfl)
theorem dX12_bars_18 : decode cX12_bars 18 = .ok (.iload_n 2, 1) := dk_28 (dk_at dksX12_bars_0 18 rfl rfl)
theorem dX12_bars_19 : decode cX12_bars 19 = .ok (.iload_n 3, 1) := dk_29 (dk_at dksX12_bars_0 19 rfl rfl)
theorem dX12_bars_20 : decode cX12_bars 20 = .ok (.invokevirtual 321, 3) := dk_182 1 65 (dk_at dksX12_bars_0 20 rfl rfl)
theorem dX12_bars_23 : decode cX12_bars 23 = .ok (.goto 5, 3) := dk_167 0 5 (dk_at dksX12_bars_1 0 rfl rfl)
theorem dX12_bars_26 : decode cX12_bars 26 = .ok (.bipush (-2), 2) := dk_16 254 (dk_at dksX12_bars_1 3 rfl rfl)
theorem dX12_bars_28 : decode cX12_bars 28 = .ok (.ireturn, 1) := dk_172 (dk_at dksX12_bars_1 5 rfl rfl)
abbrev cX12_areTwo : ByteArray := prog_25_method_11_code
def yX12_areTwo : MethodName := ⟨RX12, "areTwo", "(II)Z"⟩
def dkwX12_areTwo_1 : List UInt8 := [167, 0, 4, 3, 172]
abbrev dktX12_areTwo_1 : List UInt8 := dkwX12_areTwo_1 ++ []
def dkwX12_areTwo_0 : List UInt8 := [42, 27, 182, 0, 105, 153, 0, 20, 42, 28, 182, 0, 105, 153, 0, 12, 27, 28, 159, 0, 7, 4]
abbrev dktX12_areTwo_0 : List UInt8 := dkwX12_areTwo_0 ++ dktX12_areTwo_1
theorem dksX12_areTwo_0 : cX12_areTwo.data.toList.drop 0 = dktX12_areTwo_0 := by decide +kernel
theorem dksX12_areTwo_1 : cX12_areTwo.data.toList.drop 22 = dktX12_areTwo_1 := dk_seg dksX12_areTwo_0 22 rfl rfl
theorem dX12_areTwo_0 : decode cX12_areTwo 0 = .ok (.aload_n 0, 1) := dk_42 (dk_at dksX12_areTwo_0 0 rfl rfl)
theorem dX12_areTwo_1 : decode cX12_areTwo 1 = .ok (.iload_n 1, 1) := dk_27 (dk_at dksX12_areTwo_0 1 rfl rfl)
theorem dX12_areTwo_2 : decode cX12_areTwo 2 = .ok (.invokevirtual 105, 3) := dk_182 0 105 (dk_at dksX12_areTwo_0 2 rfl rfl)
theorem dX12_areTwo_5 : decode cX12_areTwo 5 = .ok (.ifCond .eq 20, 3) := dk_153 0 20 (dk_at dksX12_areTwo_0 5 rfl rfl)
theorem dX12_areTwo_8 : decode cX12_areTwo 8 = .ok (.aload_n 0, 1) := dk_42 (dk_at dksX12_areTwo_0 8 rfl rfl)
theorem dX12_areTwo_9 : decode cX12_areTwo 9 = .ok (.iload_n 2, 1) := dk_28 (dk_at dksX12_areTwo_0 9 rfl rfl)
theorem dX12_areTwo_10 : decode cX12_areTwo 10 = .ok (.invokevirtual 105, 3) := dk_182 0 105 (dk_at dksX12_areTwo_0 10 rfl rfl)
theorem dX12_areTwo_13 : decode cX12_areTwo 13 = .ok (.ifCond .eq 12, 3) := dk_153 0 12 (dk_at dksX12_areTwo_0 13 rfl rfl)
theorem dX12_areTwo_16 : decode cX12_areTwo 16 = .ok (.iload_n 1, 1) := dk_27 (dk_at dksX12_areTwo_0 16 rfl rfl)
theorem dX12_areTwo_17 : decode cX12_areTwo 17 = .ok (.iload_n 2, 1) := dk_28 (dk_at dksX12_areTwo_0 17 rfl rfl)
theorem dX12_areTwo_18 : decode cX12_areTwo 18 = .ok (.if_icmp .eq 7, 3) := dk_159 0 7 (dk_at dksX12_areTwo_0 18 rfl rfl)
theorem dX12_areTwo_21 : decode cX12_areTwo 21 = .ok (.iconst 1, 1) := dk_4 (dk_at dksX12_areTwo_0 21 rfl rfl)
theorem dX12_areTwo_22 : decode cX12_areTwo 22 = .ok (.goto 4, 3) := dk_167 0 4 (dk_at dksX12_areTwo_1 0 rfl rfl)
theorem dX12_areTwo_25 : decode cX12_areTwo 25 = .ok (.iconst 0, 1) := dk_3 (dk_at dksX12_areTwo_1 3 rfl rfl)
theorem dX12_areTwo_26 : decode cX12_areTwo 26 = .ok (.ireturn, 1) := dk_172 (dk_at dksX12_areTwo_1 4 rfl rfl)
abbrev cX12_isHouse : ByteArray := prog_25_method_10_code
def yX12_isHouse : MethodName := ⟨RX12, "isHouse", "(I)Z"⟩
def dkwX12_isHouse_0 : List UInt8 := [27, 133, 9, 42, 180, 0, 13, 3, 46, 4, 100, 133, 184, 0, 101, 172]
abbrev dktX12_isHouse_0 : List UInt8 := dkwX12_isHouse_0 ++ []
theorem dksX12_isHouse_0 : cX12_isHouse.data.toList.drop 0 = dktX12_isHouse_0 := by decide +kernel
theorem dX12_isHouse_0 : decode cX12_isHouse 0 = .ok (.iload_n 1, 1) := dk_27 (dk_at dksX12_isHouse_0 0 rfl rfl)
theorem dX12_isHouse_1 : decode cX12_isHouse 1 = .ok (.i2l, 1) := dk_133 (dk_at dksX12_isHouse_0 1 rfl rfl)
theorem dX12_isHouse_2 : decode cX12_isHouse 2 = .ok (.lconst 0, 1) := dk_9 (dk_at dksX12_isHouse_0 2 rfl rfl)
theorem dX12_isHouse_3 : decode cX12_isHouse 3 = .ok (.aload_n 0, 1) := dk_42 (dk_at dksX12_isHouse_0 3 rfl rfl)
theorem dX12_isHouse_4 : decode cX12_isHouse 4 = .ok (.getfield 13, 3) := dk_180 0 13 (dk_at dksX12_isHouse_0 4 rfl rfl)
theorem dX12_isHouse_7 : decode cX12_isHouse 7 = .ok (.iconst 0, 1) := dk_3 (dk_at dksX12_isHouse_0 7 rfl rfl)
theorem dX12_isHouse_8 : decode cX12_isHouse 8 = .ok (.iaload, 1) := dk_46 (dk_at dksX12_isHouse_0 8 rfl rfl)
theorem dX12_isHouse_9 : decode cX12_isHouse 9 = .ok (.iconst 1, 1) := dk_4 (dk_at dksX12_isHouse_0 9 rfl rfl)
theorem dX12_isHouse_10 : decode cX12_isHouse 10 = .ok (.isub, 1) := dk_100 (dk_at dksX12_isHouse_0 10 rfl rfl)
theorem dX12_isHouse_11 : decode cX12_isHouse 11 = .ok (.i2l, 1) := dk_133 (dk_at dksX12_isHouse_0 11 rfl rfl)
theorem dX12_isHouse_12 : decode cX12_isHouse 12 = .ok (.invokestatic 101, 3) := dk_184 0 101 (dk_at dksX12_isHouse_0 12 rfl rfl)
theorem dX12_isHouse_15 : decode cX12_isHouse 15 = .ok (.ireturn, 1) := dk_172 (dk_at dksX12_isHouse_0 15 rfl rfl)
abbrev cX12_isPaying : ByteArray := prog_25_method_42_code
def yX12_isPaying : MethodName := ⟨RX12, "isPaying", "(I)Z"⟩
def dkwX12_isPaying_0 : List UInt8 := [26, 133, 9, 20, 1, 57, 184, 0, 101, 172]
abbrev dktX12_isPaying_0 : List UInt8 := dkwX12_isPaying_0 ++ []
theorem dksX12_isPaying_0 : cX12_isPaying.data.toList.drop 0 = dktX12_isPaying_0 := by decide +kernel
theorem dX12_isPaying_0 : decode cX12_isPaying 0 = .ok (.iload_n 0, 1) := dk_26 (dk_at dksX12_isPaying_0 0 rfl rfl)
theorem dX12_isPaying_1 : decode cX12_isPaying 1 = .ok (.i2l, 1) := dk_133 (dk_at dksX12_isPaying_0 1 rfl rfl)
theorem dX12_isPaying_2 : decode cX12_isPaying 2 = .ok (.lconst 0, 1) := dk_9 (dk_at dksX12_isPaying_0 2 rfl rfl)
theorem dX12_isPaying_3 : decode cX12_isPaying 3 = .ok (.ldc2_w 313, 3) := dk_20 1 57 (dk_at dksX12_isPaying_0 3 rfl rfl)
theorem dX12_isPaying_6 : decode cX12_isPaying 6 = .ok (.invokestatic 101, 3) := dk_184 0 101 (dk_at dksX12_isPaying_0 6 rfl rfl)
theorem dX12_isPaying_9 : decode cX12_isPaying 9 = .ok (.ireturn, 1) := dk_172 (dk_at dksX12_isPaying_0 9 rfl rfl)
abbrev cX12_barsOf : ByteArray := prog_25_method_41_code
def yX12_barsOf : MethodName := ⟨RX12, "barsOf", "(III)I"⟩
def dkwX12_barsOf_6 : List UInt8 := [182, 1, 30, 96, 163, 0, 7, 6, 167, 0, 4, 3, 172]
abbrev dktX12_barsOf_6 : List UInt8 := dkwX12_barsOf_6 ++ []
def dkwX12_barsOf_5 : List UInt8 := [27, 16, 7, 182, 1, 30, 158, 0, 29, 42, 182, 1, 35, 42, 27, 16, 6, 182, 1, 30, 42, 27, 16, 7]
abbrev dktX12_barsOf_5 : List UInt8 := dkwX12_barsOf_5 ++ dktX12_barsOf_6
def dkwX12_barsOf_4 : List UInt8 := [162, 0, 5, 3, 172, 42, 182, 1, 35, 16, 7, 112, 42, 28, 6, 182, 1, 30, 159, 0, 5, 5, 172, 42]
abbrev dktX12_barsOf_4 : List UInt8 := dkwX12_barsOf_4 ++ dktX12_barsOf_5
def dkwX12_barsOf_3 : List UInt8 := [153, 0, 7, 4, 167, 0, 4, 3, 54, 5, 21, 4, 153, 0, 8, 21, 5, 154, 0, 5, 4, 172, 29, 5]
abbrev dktX12_barsOf_3 : List UInt8 := dkwX12_barsOf_3 ++ dktX12_barsOf_4
def dkwX12_barsOf_2 : List UInt8 := [42, 27, 182, 1, 51, 153, 0, 21, 42, 42, 180, 0, 13, 17, 7, 72, 27, 96, 46, 28, 182, 1, 54]
abbrev dktX12_barsOf_2 : List UInt8 := dkwX12_barsOf_2 ++ dktX12_barsOf_3
def dkwX12_barsOf_1 : List UInt8 := [4, 167, 0, 4, 3, 54, 4, 42, 27, 28, 182, 1, 48, 154, 0, 37, 42, 28, 182, 1, 51, 153, 0, 11]
abbrev dktX12_barsOf_1 : List UInt8 := dkwX12_barsOf_1 ++ dktX12_barsOf_2
def dkwX12_barsOf_0 : List UInt8 := [42, 27, 42, 182, 1, 35, 182, 1, 45, 153, 0, 19, 42, 28, 42, 182, 1, 35, 182, 1, 45, 153, 0, 7]
abbrev dktX12_barsOf_0 : List UInt8 := dkwX12_barsOf_0 ++ dktX12_barsOf_1
theorem dksX12_barsOf_0 : cX12_barsOf.data.toList.drop 0 = dktX12_barsOf_0 := by decide +kernel
theorem dksX12_barsOf_1 : cX12_barsOf.data.toList.drop 24 = dktX12_barsOf_1 := dk_seg dksX12_barsOf_0 24 rfl rfl
theorem dksX12_barsOf_2 : cX12_barsOf.data.toList.drop 48 = dktX12_barsOf_2 := dk_seg dksX12_barsOf_1 24 rfl rfl
theorem dksX12_barsOf_3 : cX12_barsOf.data.toList.drop 71 = dktX12_barsOf_3 := dk_seg dksX12_barsOf_2 23 rfl rfl
theorem dksX12_barsOf_4 : cX12_barsOf.data.toList.drop 95 = dktX12_barsOf_4 := dk_seg dksX12_barsOf_3 24 rfl rfl
theorem dksX12_barsOf_5 : cX12_barsOf.data.toList.drop 119 = dktX12_barsOf_5 := dk_seg dksX12_barsOf_4 24 rfl rfl
theorem dksX12_barsOf_6 : cX12_barsOf.data.toList.drop 143 = dktX12_barsOf_6 := dk_seg dksX12_barsOf_5 24 rfl rfl
theorem dX12_barsOf_0 : decode cX12_barsOf 0 = .ok (.aload_n 0, 1) := dk_42 (dk_at dksX12_barsOf_0 0 rfl rfl)
theorem dX12_barsOf_1 : decode cX12_barsOf 1 = .ok (.iload_n 1, 1) := dk_27 (dk_at dksX12_barsOf_0 1 rfl rfl)
theorem dX12_barsOf_2 : decode cX12_barsOf 2 = .ok (.aload_n 0, 1) := dk_42 (dk_at dksX12_barsOf_0 2 rfl rfl)
theorem dX12_barsOf_3 : decode cX12_barsOf 3 = .ok (.invokevirtual 291, 3) := dk_182 1 35 (dk_at dksX12_barsOf_0 3 rfl rfl)
theorem dX12_barsOf_6 : decode cX12_barsOf 6 = .ok (.invokevirtual 301, 3) := dk_182 1 45 (dk_at dksX12_barsOf_0 6 rfl rfl)
theorem dX12_barsOf_9 : decode cX12_barsOf 9 = .ok (.ifCond .eq 19, 3) := dk_153 0 19 (dk_at dksX12_barsOf_0 9 rfl rfl)
theorem dX12_barsOf_12 : decode cX12_barsOf 12 = .ok (.aload_n 0, 1) := dk_42 (dk_at dksX12_barsOf_0 12 rfl rfl)
theorem dX12_barsOf_13 : decode cX12_barsOf 13 = .ok (.iload_n 2, 1) := dk_28 (dk_at dksX12_barsOf_0 13 rfl rfl)
theorem dX12_barsOf_14 : decode cX12_barsOf 14 = .ok (.aload_n 0, 1) := dk_42 (dk_at dksX12_barsOf_0 14 rfl rfl)
theorem dX12_barsOf_15 : decode cX12_barsOf 15 = .ok (.invokevirtual 291, 3) := dk_182 1 35 (dk_at dksX12_barsOf_0 15 rfl rfl)
theorem dX12_barsOf_18 : decode cX12_barsOf 18 = .ok (.invokevirtual 301, 3) := dk_182 1 45 (dk_at dksX12_barsOf_0 18 rfl rfl)
theorem dX12_barsOf_21 : decode cX12_barsOf 21 = .ok (.ifCond .eq 7, 3) := dk_153 0 7 (dk_at dksX12_barsOf_0 21 rfl rfl)
theorem dX12_barsOf_24 : decode cX12_barsOf 24 = .ok (.iconst 1, 1) := dk_4 (dk_at dksX12_barsOf_1 0 rfl rfl)
theorem dX12_barsOf_25 : decode cX12_barsOf 25 = .ok (.goto 4, 3) := dk_167 0 4 (dk_at dksX12_barsOf_1 1 rfl rfl)
theorem dX12_barsOf_28 : decode cX12_barsOf 28 = .ok (.iconst 0, 1) := dk_3 (dk_at dksX12_barsOf_1 4 rfl rfl)
theorem dX12_barsOf_29 : decode cX12_barsOf 29 = .ok (.istore 4, 2) := dk_54 4 (dk_at dksX12_barsOf_1 5 rfl rfl)
theorem dX12_barsOf_31 : decode cX12_barsOf 31 = .ok (.aload_n 0, 1) := dk_42 (dk_at dksX12_barsOf_1 7 rfl rfl)
theorem dX12_barsOf_32 : decode cX12_barsOf 32 = .ok (.iload_n 1, 1) := dk_27 (dk_at dksX12_barsOf_1 8 rfl rfl)
theorem dX12_barsOf_33 : decode cX12_barsOf 33 = .ok (.iload_n 2, 1) := dk_28 (dk_at dksX12_barsOf_1 9 rfl rfl)
theorem dX12_barsOf_34 : decode cX12_barsOf 34 = .ok (.invokevirtual 304, 3) := dk_182 1 48 (dk_at dksX12_barsOf_1 10 rfl rfl)
theorem dX12_barsOf_37 : decode cX12_barsOf 37 = .ok (.ifCond .ne 37, 3) := dk_154 0 37 (dk_at dksX12_barsOf_1 13 rfl rfl)
theorem dX12_barsOf_40 : decode cX12_barsOf 40 = .ok (.aload_n 0, 1) := dk_42 (dk_at dksX12_barsOf_1 16 rfl rfl)
theorem dX12_barsOf_41 : decode cX12_barsOf 41 = .ok (.iload_n 2, 1) := dk_28 (dk_at dksX12_barsOf_1 17 rfl rfl)
theorem dX12_barsOf_42 : decode cX12_barsOf 42 = .ok (.invokevirtual 307, 3) := dk_182 1 51 (dk_at dksX12_barsOf_1 18 rfl rfl)
theorem dX12_barsOf_45 : decode cX12_barsOf 45 = .ok (.ifCond .eq 11, 3) := dk_153 0 11 (dk_at dksX12_barsOf_1 21 rfl rfl)
theorem dX12_barsOf_48 : decode cX12_barsOf 48 = .ok (.aload_n 0, 1) := dk_42 (dk_at dksX12_barsOf_2 0 rfl rfl)
theorem dX12_barsOf_49 : decode cX12_barsOf 49 = .ok (.iload_n 1, 1) := dk_27 (dk_at dksX12_barsOf_2 1 rfl rfl)
theorem dX12_barsOf_50 : decode cX12_barsOf 50 = .ok (.invokevirtual 307, 3) := dk_182 1 51 (dk_at dksX12_barsOf_2 2 rfl rfl)
theorem dX12_barsOf_53 : decode cX12_barsOf 53 = .ok (.ifCond .eq 21, 3) := dk_153 0 21 (dk_at dksX12_barsOf_2 5 rfl rfl)
theorem dX12_barsOf_56 : decode cX12_barsOf 56 = .ok (.aload_n 0, 1) := dk_42 (dk_at dksX12_barsOf_2 8 rfl rfl)
theorem dX12_barsOf_57 : decode cX12_barsOf 57 = .ok (.aload_n 0, 1) := dk_42 (dk_at dksX12_barsOf_2 9 rfl rfl)
theorem dX12_barsOf_58 : decode cX12_barsOf 58 = .ok (.getfield 13, 3) := dk_180 0 13 (dk_at dksX12_barsOf_2 10 rfl rfl)
theorem dX12_barsOf_61 : decode cX12_barsOf 61 = .ok (.sipush 1864, 3) := dk_17 7 72 (dk_at dksX12_barsOf_2 13 rfl rfl)
theorem dX12_barsOf_64 : decode cX12_barsOf 64 = .ok (.iload_n 1, 1) := dk_27 (dk_at dksX12_barsOf_2 16 rfl rfl)
theorem dX12_barsOf_65 : decode cX12_barsOf 65 = .ok (.iadd, 1) := dk_96 (dk_at dksX12_barsOf_2 17 rfl rfl)
theorem dX12_barsOf_66 : decode cX12_barsOf 66 = .ok (.iaload, 1) := dk_46 (dk_at dksX12_barsOf_2 18 rfl rfl)
theorem dX12_barsOf_67 : decode cX12_barsOf 67 = .ok (.iload_n 2, 1) := dk_28 (dk_at dksX12_barsOf_2 19 rfl rfl)
theorem dX12_barsOf_68 : decode cX12_barsOf 68 = .ok (.invokevirtual 310, 3) := dk_182 1 54 (dk_at dksX12_barsOf_2 20 rfl rfl)
theorem dX12_barsOf_71 : decode cX12_barsOf 71 = .ok (.ifCond .eq 7, 3) := dk_153 0 7 (dk_at dksX12_barsOf_3 0 rfl rfl)
theorem dX12_barsOf_74 : decode cX12_barsOf 74 = .ok (.iconst 1, 1) := dk_4 (dk_at dksX12_barsOf_3 3 rfl rfl)
theorem dX12_barsOf_75 : decode cX12_barsOf 75 = .ok (.goto 4, 3) := dk_167 0 4 (dk_at dksX12_barsOf_3 4 rfl rfl)
theorem dX12_barsOf_78 : decode cX12_barsOf 78 = .ok (.iconst 0, 1) := dk_3 (dk_at dksX12_barsOf_3 7 rfl rfl)
theorem dX12_barsOf_79 : decode cX12_barsOf 79 = .ok (.istore 5, 2) := dk_54 5 (dk_at dksX12_barsOf_3 8 rfl rfl)
theorem dX12_barsOf_81 : decode cX12_barsOf 81 = .ok (.iload 4, 2) := dk_21 4 (dk_at dksX12_barsOf_3 10 rfl rfl)
theorem dX12_barsOf_83 : decode cX12_barsOf 83 = .ok (.ifCond .eq 8, 3) := dk_153 0 8 (dk_at dksX12_barsOf_3 12 rfl rfl)
theorem dX12_barsOf_86 : decode cX12_barsOf 86 = .ok (.iload 5, 2) := dk_21 5 (dk_at dksX12_barsOf_3 15 rfl rfl)
theorem dX12_barsOf_88 : decode cX12_barsOf 88 = .ok (.ifCond .ne 5, 3) := dk_154 0 5 (dk_at dksX12_barsOf_3 17 rfl rfl)
theorem dX12_barsOf_91 : decode cX12_barsOf 91 = .ok (.iconst 1, 1) := dk_4 (dk_at dksX12_barsOf_3 20 rfl rfl)
theorem dX12_barsOf_92 : decode cX12_barsOf 92 = .ok (.ireturn, 1) := dk_172 (dk_at dksX12_barsOf_3 21 rfl rfl)
theorem dX12_barsOf_93 : decode cX12_barsOf 93 = .ok (.iload_n 3, 1) := dk_29 (dk_at dksX12_barsOf_3 22 rfl rfl)
theorem dX12_barsOf_94 : decode cX12_barsOf 94 = .ok (.iconst 2, 1) := dk_5 (dk_at dksX12_barsOf_3 23 rfl rfl)
theorem dX12_barsOf_95 : decode cX12_barsOf 95 = .ok (.if_icmp .ge 5, 3) := dk_162 0 5 (dk_at dksX12_barsOf_4 0 rfl rfl)
theorem dX12_barsOf_98 : decode cX12_barsOf 98 = .ok (.iconst 0, 1) := dk_3 (dk_at dksX12_barsOf_4 3 rfl rfl)
theorem dX12_barsOf_99 : decode cX12_barsOf 99 = .ok (.ireturn, 1) := dk_172 (dk_at dksX12_barsOf_4 4 rfl rfl)
theorem dX12_barsOf_100 : decode cX12_barsOf 100 = .ok (.aload_n 0, 1) := dk_42 (dk_at dksX12_barsOf_4 5 rfl rfl)
theorem dX12_barsOf_101 : decode cX12_barsOf 101 = .ok (.invokevirtual 291, 3) := dk_182 1 35 (dk_at dksX12_barsOf_4 6 rfl rfl)
theorem dX12_barsOf_104 : decode cX12_barsOf 104 = .ok (.bipush 7, 2) := dk_16 7 (dk_at dksX12_barsOf_4 9 rfl rfl)
theorem dX12_barsOf_106 : decode cX12_barsOf 106 = .ok (.irem, 1) := dk_112 (dk_at dksX12_barsOf_4 11 rfl rfl)
theorem dX12_barsOf_107 : decode cX12_barsOf 107 = .ok (.aload_n 0, 1) := dk_42 (dk_at dksX12_barsOf_4 12 rfl rfl)
theorem dX12_barsOf_108 : decode cX12_barsOf 108 = .ok (.iload_n 2, 1) := dk_28 (dk_at dksX12_barsOf_4 13 rfl rfl)
theorem dX12_barsOf_109 : decode cX12_barsOf 109 = .ok (.iconst 3, 1) := dk_6 (dk_at dksX12_barsOf_4 14 rfl rfl)
theorem dX12_barsOf_110 : decode cX12_barsOf 110 = .ok (.invokevirtual 286, 3) := dk_182 1 30 (dk_at dksX12_barsOf_4 15 rfl rfl)
theorem dX12_barsOf_113 : decode cX12_barsOf 113 = .ok (.if_icmp .eq 5, 3) := dk_159 0 5 (dk_at dksX12_barsOf_4 18 rfl rfl)
theorem dX12_barsOf_116 : decode cX12_barsOf 116 = .ok (.iconst 2, 1) := dk_5 (dk_at dksX12_barsOf_4 21 rfl rfl)
theorem dX12_barsOf_117 : decode cX12_barsOf 117 = .ok (.ireturn, 1) := dk_172 (dk_at dksX12_barsOf_4 22 rfl rfl)
theorem dX12_barsOf_118 : decode cX12_barsOf 118 = .ok (.aload_n 0, 1) := dk_42 (dk_at dksX12_barsOf_4 23 rfl rfl)
theorem dX12_barsOf_119 : decode cX12_barsOf 119 = .ok (.iload_n 1, 1) := dk_27 (dk_at dksX12_barsOf_5 0 rfl rfl)
theorem dX12_barsOf_120 : decode cX12_barsOf 120 = .ok (.bipush 7, 2) := dk_16 7 (dk_at dksX12_barsOf_5 1 rfl rfl)
theorem dX12_barsOf_122 : decode cX12_barsOf 122 = .ok (.invokevirtual 286, 3) := dk_182 1 30 (dk_at dksX12_barsOf_5 3 rfl rfl)
theorem dX12_barsOf_125 : decode cX12_barsOf 125 = .ok (.ifCond .le 29, 3) := dk_158 0 29 (dk_at dksX12_barsOf_5 6 rfl rfl)
theorem dX12_barsOf_128 : decode cX12_barsOf 128 = .ok (.aload_n 0, 1) := dk_42 (dk_at dksX12_barsOf_5 9 rfl rfl)
theorem dX12_barsOf_129 : decode cX12_barsOf 129 = .ok (.invokevirtual 291, 3) := dk_182 1 35 (dk_at dksX12_barsOf_5 10 rfl rfl)
theorem dX12_barsOf_132 : decode cX12_barsOf 132 = .ok (.aload_n 0, 1) := dk_42 (dk_at dksX12_barsOf_5 13 rfl rfl)
theorem dX12_barsOf_133 : decode cX12_barsOf 133 = .ok (.iload_n 1, 1) := dk_27 (dk_at dksX12_barsOf_5 14 rfl rfl)
theorem dX12_barsOf_134 : decode cX12_barsOf 134 = .ok (.bipush 6, 2) := dk_16 6 (dk_at dksX12_barsOf_5 15 rfl rfl)
theorem dX12_barsOf_136 : decode cX12_barsOf 136 = .ok (.invokevirtual 286, 3) := dk_182 1 30 (dk_at dksX12_barsOf_5 17 rfl rfl)
theorem dX12_barsOf_139 : decode cX12_barsOf 139 = .ok (.aload_n 0, 1) := dk_42 (dk_at dksX12_barsOf_5 20 rfl rfl)
theorem dX12_barsOf_140 : decode cX12_barsOf 140 = .ok (.iload_n 1, 1) := dk_27 (dk_at dksX12_barsOf_5 21 rfl rfl)
theorem dX12_barsOf_141 : decode cX12_barsOf 141 = .ok (.bipush 7, 2) := dk_16 7 (dk_at dksX12_barsOf_5 22 rfl rfl)
theorem dX12_barsOf_143 : decode cX12_barsOf 143 = .ok (.invokevirtual 286, 3) := dk_182 1 30 (dk_at dksX12_barsOf_6 0 rfl rfl)
theorem dX12_barsOf_146 : decode cX12_barsOf 146 = .ok (.iadd, 1) := dk_96 (dk_at dksX12_barsOf_6 3 rfl rfl)
theorem dX12_barsOf_147 : decode cX12_barsOf 147 = .ok (.if_icmp .gt 7, 3) := dk_163 0 7 (dk_at dksX12_barsOf_6 4 rfl rfl)
theorem dX12_barsOf_150 : decode cX12_barsOf 150 = .ok (.iconst 3, 1) := dk_6 (dk_at dksX12_barsOf_6 7 rfl rfl)
theorem dX12_barsOf_151 : decode cX12_barsOf 151 = .ok (.goto 4, 3) := dk_167 0 4 (dk_at dksX12_barsOf_6 8 rfl rfl)
theorem dX12_barsOf_154 : decode cX12_barsOf 154 = .ok (.iconst 0, 1) := dk_3 (dk_at dksX12_barsOf_6 11 rfl rfl)
theorem dX12_barsOf_155 : decode cX12_barsOf 155 = .ok (.ireturn, 1) := dk_172 (dk_at dksX12_barsOf_6 12 rfl rfl)
abbrev cX12_isThere : ByteArray := prog_25_method_37_code
def yX12_isThere : MethodName := ⟨RX12, "isThere", "(II)Z"⟩
def dkwX12_isThere_0 : List UInt8 := [42, 27, 16, 6, 182, 1, 30, 28, 163, 0, 7, 4, 167, 0, 4, 3, 172]
abbrev dktX12_isThere_0 : List UInt8 := dkwX12_isThere_0 ++ []
theorem dksX12_isThere_0 : cX12_isThere.data.toList.drop 0 = dktX12_isThere_0 := by decide +kernel
theorem dX12_isThere_0 : decode cX12_isThere 0 = .ok (.aload_n 0, 1) := dk_42 (dk_at dksX12_isThere_0 0 rfl rfl)
theorem dX12_isThere_1 : decode cX12_isThere 1 = .ok (.iload_n 1, 1) := dk_27 (dk_at dksX12_isThere_0 1 rfl rfl)
theorem dX12_isThere_2 : decode cX12_isThere 2 = .ok (.bipush 6, 2) := dk_16 6 (dk_at dksX12_isThere_0 2 rfl rfl)
theorem dX12_isThere_4 : decode cX12_isThere 4 = .ok (.invokevirtual 286, 3) := dk_182 1 30 (dk_at dksX12_isThere_0 4 rfl rfl)
theorem dX12_isThere_7 : decode cX12_isThere 7 = .ok (.iload_n 2, 1) := dk_28 (dk_at dksX12_isThere_0 7 rfl rfl)
theorem dX12_isThere_8 : decode cX12_isThere 8 = .ok (.if_icmp .gt 7, 3) := dk_163 0 7 (dk_at dksX12_isThere_0 8 rfl rfl)
theorem dX12_isThere_11 : decode cX12_isThere 11 = .ok (.iconst 1, 1) := dk_4 (dk_at dksX12_isThere_0 11 rfl rfl)
theorem dX12_isThere_12 : decode cX12_isThere 12 = .ok (.goto 4, 3) := dk_167 0 4 (dk_at dksX12_isThere_0 12 rfl rfl)
theorem dX12_isThere_15 : decode cX12_isThere 15 = .ok (.iconst 0, 1) := dk_3 (dk_at dksX12_isThere_0 15 rfl rfl)
theorem dX12_isThere_16 : decode cX12_isThere 16 = .ok (.ireturn, 1) := dk_172 (dk_at dksX12_isThere_0 16 rfl rfl)
abbrev cX12_areKnown : ByteArray := prog_25_method_39_code
def yX12_areKnown : MethodName := ⟨RX12, "areKnown", "(II)Z"⟩
def dkwX12_areKnown_0 : List UInt8 := [42, 180, 0, 13, 17, 7, 72, 27, 96, 46, 28, 184, 1, 38, 172]
abbrev dktX12_areKnown_0 : List UInt8 := dkwX12_areKnown_0 ++ []
theorem dksX12_areKnown_0 : cX12_areKnown.data.toList.drop 0 = dktX12_areKnown_0 := by decide +kernel
theorem dX12_areKnown_0 : decode cX12_areKnown 0 = .ok (.aload_n 0, 1) := dk_42 (dk_at dksX12_areKnown_0 0 rfl rfl)
theorem dX12_areKnown_1 : decode cX12_areKnown 1 = .ok (.getfield 13, 3) := dk_180 0 13 (dk_at dksX12_areKnown_0 1 rfl rfl)
theorem dX12_areKnown_4 : decode cX12_areKnown 4 = .ok (.sipush 1864, 3) := dk_17 7 72 (dk_at dksX12_areKnown_0 4 rfl rfl)
theorem dX12_areKnown_7 : decode cX12_areKnown 7 = .ok (.iload_n 1, 1) := dk_27 (dk_at dksX12_areKnown_0 7 rfl rfl)
theorem dX12_areKnown_8 : decode cX12_areKnown 8 = .ok (.iadd, 1) := dk_96 (dk_at dksX12_areKnown_0 8 rfl rfl)
theorem dX12_areKnown_9 : decode cX12_areKnown 9 = .ok (.iaload, 1) := dk_46 (dk_at dksX12_areKnown_0 9 rfl rfl)
theorem dX12_areKnown_10 : decode cX12_areKnown 10 = .ok (.iload_n 2, 1) := dk_28 (dk_at dksX12_areKnown_0 10 rfl rfl)
theorem dX12_areKnown_11 : decode cX12_areKnown 11 = .ok (.invokestatic 294, 3) := dk_184 1 38 (dk_at dksX12_areKnown_0 11 rfl rfl)
theorem dX12_areKnown_14 : decode cX12_areKnown 14 = .ok (.ireturn, 1) := dk_172 (dk_at dksX12_areKnown_0 14 rfl rfl)
abbrev cX12_holds : ByteArray := prog_25_method_3_code
def yX12_holds : MethodName := ⟨RX12, "holds", "(II)Z"⟩
def dkwX12_holds_0 : List UInt8 := [26, 27, 122, 4, 126, 4, 160, 0, 7, 4, 167, 0, 4, 3, 172]
abbrev dktX12_holds_0 : List UInt8 := dkwX12_holds_0 ++ []
theorem dksX12_holds_0 : cX12_holds.data.toList.drop 0 = dktX12_holds_0 := by decide +kernel
theorem dX12_holds_0 : decode cX12_holds 0 = .ok (.iload_n 0, 1) := dk_26 (dk_at dksX12_holds_0 0 rfl rfl)
theorem dX12_holds_1 : decode cX12_holds 1 = .ok (.iload_n 1, 1) := dk_27 (dk_at dksX12_holds_0 1 rfl rfl)
theorem dX12_holds_2 : decode cX12_holds 2 = .ok (.ishr, 1) := dk_122 (dk_at dksX12_holds_0 2 rfl rfl)
theorem dX12_holds_3 : decode cX12_holds 3 = .ok (.iconst 1, 1) := dk_4 (dk_at dksX12_holds_0 3 rfl rfl)
theorem dX12_holds_4 : decode cX12_holds 4 = .ok (.iand, 1) := dk_126 (dk_at dksX12_holds_0 4 rfl rfl)
theorem dX12_holds_5 : decode cX12_holds 5 = .ok (.iconst 1, 1) := dk_4 (dk_at dksX12_holds_0 5 rfl rfl)
theorem dX12_holds_6 : decode cX12_holds 6 = .ok (.if_icmp .ne 7, 3) := dk_160 0 7 (dk_at dksX12_holds_0 6 rfl rfl)
theorem dX12_holds_9 : decode cX12_holds 9 = .ok (.iconst 1, 1) := dk_4 (dk_at dksX12_holds_0 9 rfl rfl)
theorem dX12_holds_10 : decode cX12_holds 10 = .ok (.goto 4, 3) := dk_167 0 4 (dk_at dksX12_holds_0 10 rfl rfl)
theorem dX12_holds_13 : decode cX12_holds 13 = .ok (.iconst 0, 1) := dk_3 (dk_at dksX12_holds_0 13 rfl rfl)
theorem dX12_holds_14 : decode cX12_holds 14 = .ok (.ireturn, 1) := dk_172 (dk_at dksX12_holds_0 14 rfl rfl)
abbrev cX12_isNew : ByteArray := prog_25_method_38_code
def yX12_isNew : MethodName := ⟨RX12, "isNew", "(I)Z"⟩
def dkwX12_isNew_1 : List UInt8 := [167, 0, 4, 3, 172]
abbrev dktX12_isNew_1 : List UInt8 := dkwX12_isNew_1 ++ []
def dkwX12_isNew_0 : List UInt8 := [42, 182, 1, 35, 42, 27, 16, 6, 182, 1, 30, 100, 42, 180, 0, 13, 7, 46, 163, 0, 7, 4]
abbrev dktX12_isNew_0 : List UInt8 := dkwX12_isNew_0 ++ dktX12_isNew_1
theorem dksX12_isNew_0 : cX12_isNew.data.toList.drop 0 = dktX12_isNew_0 := by decide +kernel
theorem dksX12_isNew_1 : cX12_isNew.data.toList.drop 22 = dktX12_isNew_1 := dk_seg dksX12_isNew_0 22 rfl rfl
theorem dX12_isNew_0 : decode cX12_isNew 0 = .ok (.aload_n 0, 1) := dk_42 (dk_at dksX12_isNew_0 0 rfl rfl)
theorem dX12_isNew_1 : decode cX12_isNew 1 = .ok (.invokevirtual 291, 3) := dk_182 1 35 (dk_at dksX12_isNew_0 1 rfl rfl)
theorem dX12_isNew_4 : decode cX12_isNew 4 = .ok (.aload_n 0, 1) := dk_42 (dk_at dksX12_isNew_0 4 rfl rfl)
theorem dX12_isNew_5 : decode cX12_isNew 5 = .ok (.iload_n 1, 1) := dk_27 (dk_at dksX12_isNew_0 5 rfl rfl)
theorem dX12_isNew_6 : decode cX12_isNew 6 = .ok (.bipush 6, 2) := dk_16 6 (dk_at dksX12_isNew_0 6 rfl rfl)
theorem dX12_isNew_8 : decode cX12_isNew 8 = .ok (.invokevirtual 286, 3) := dk_182 1 30 (dk_at dksX12_isNew_0 8 rfl rfl)
theorem dX12_isNew_11 : decode cX12_isNew 11 = .ok (.isub, 1) := dk_100 (dk_at dksX12_isNew_0 11 rfl rfl)
theorem dX12_isNew_12 : decode cX12_isNew 12 = .ok (.aload_n 0, 1) := dk_42 (dk_at dksX12_isNew_0 12 rfl rfl)
theorem dX12_isNew_13 : decode cX12_isNew 13 = .ok (.getfield 13, 3) := dk_180 0 13 (dk_at dksX12_isNew_0 13 rfl rfl)
theorem dX12_isNew_16 : decode cX12_isNew 16 = .ok (.iconst 4, 1) := dk_7 (dk_at dksX12_isNew_0 16 rfl rfl)
theorem dX12_isNew_17 : decode cX12_isNew 17 = .ok (.iaload, 1) := dk_46 (dk_at dksX12_isNew_0 17 rfl rfl)
theorem dX12_isNew_18 : decode cX12_isNew 18 = .ok (.if_icmp .gt 7, 3) := dk_163 0 7 (dk_at dksX12_isNew_0 18 rfl rfl)
theorem dX12_isNew_21 : decode cX12_isNew 21 = .ok (.iconst 1, 1) := dk_4 (dk_at dksX12_isNew_0 21 rfl rfl)
theorem dX12_isNew_22 : decode cX12_isNew 22 = .ok (.goto 4, 3) := dk_167 0 4 (dk_at dksX12_isNew_1 0 rfl rfl)
theorem dX12_isNew_25 : decode cX12_isNew 25 = .ok (.iconst 0, 1) := dk_3 (dk_at dksX12_isNew_1 3 rfl rfl)
theorem dX12_isNew_26 : decode cX12_isNew 26 = .ok (.ireturn, 1) := dk_172 (dk_at dksX12_isNew_1 4 rfl rfl)
abbrev cX12_isIntroduced : ByteArray := prog_25_method_40_code
def yX12_isIntroduced : MethodName := ⟨RX12, "isIntroduced", "(II)Z"⟩
def dkwX12_isIntroduced_1 : List UInt8 := [4, 167, 0, 4, 3, 172]
abbrev dktX12_isIntroduced_1 : List UInt8 := dkwX12_isIntroduced_1 ++ []
def dkwX12_isIntroduced_0 : List UInt8 := [27, 42, 180, 0, 13, 17, 7, 72, 28, 96, 46, 126, 184, 1, 42, 42, 180, 0, 13, 8, 46, 161, 0, 7]
abbrev dktX12_isIntroduced_0 : List UInt8 := dkwX12_isIntroduced_0 ++ dktX12_isIntroduced_1
theorem dksX12_isIntroduced_0 : cX12_isIntroduced.data.toList.drop 0 = dktX12_isIntroduced_0 := by decide +kernel
theorem dksX12_isIntroduced_1 : cX12_isIntroduced.data.toList.drop 24 = dktX12_isIntroduced_1 := dk_seg dksX12_isIntroduced_0 24 rfl rfl
theorem dX12_isIntroduced_0 : decode cX12_isIntroduced 0 = .ok (.iload_n 1, 1) := dk_27 (dk_at dksX12_isIntroduced_0 0 rfl rfl)
theorem dX12_isIntroduced_1 : decode cX12_isIntroduced 1 = .ok (.aload_n 0, 1) := dk_42 (dk_at dksX12_isIntroduced_0 1 rfl rfl)
theorem dX12_isIntroduced_2 : decode cX12_isIntroduced 2 = .ok (.getfield 13, 3) := dk_180 0 13 (dk_at dksX12_isIntroduced_0 2 rfl rfl)
theorem dX12_isIntroduced_5 : decode cX12_isIntroduced 5 = .ok (.sipush 1864, 3) := dk_17 7 72 (dk_at dksX12_isIntroduced_0 5 rfl rfl)
theorem dX12_isIntroduced_8 : decode cX12_isIntroduced 8 = .ok (.iload_n 2, 1) := dk_28 (dk_at dksX12_isIntroduced_0 8 rfl rfl)
theorem dX12_isIntroduced_9 : decode cX12_isIntroduced 9 = .ok (.iadd, 1) := dk_96 (dk_at dksX12_isIntroduced_0 9 rfl rfl)
theorem dX12_isIntroduced_10 : decode cX12_isIntroduced 10 = .ok (.iaload, 1) := dk_46 (dk_at dksX12_isIntroduced_0 10 rfl rfl)
theorem dX12_isIntroduced_11 : decode cX12_isIntroduced 11 = .ok (.iand, 1) := dk_126 (dk_at dksX12_isIntroduced_0 11 rfl rfl)
theorem dX12_isIntroduced_12 : decode cX12_isIntroduced 12 = .ok (.invokestatic 298, 3) := dk_184 1 42 (dk_at dksX12_isIntroduced_0 12 rfl rfl)
theorem dX12_isIntroduced_15 : decode cX12_isIntroduced 15 = .ok (.aload_n 0, 1) := dk_42 (dk_at dksX12_isIntroduced_0 15 rfl rfl)
theorem dX12_isIntroduced_16 : decode cX12_isIntroduced 16 = .ok (.getfield 13, 3) := dk_180 0 13 (dk_at dksX12_isIntroduced_0 16 rfl rfl)
theorem dX12_isIntroduced_19 : decode cX12_isIntroduced 19 = .ok (.iconst 5, 1) := dk_8 (dk_at dksX12_isIntroduced_0 19 rfl rfl)
theorem dX12_isIntroduced_20 : decode cX12_isIntroduced 20 = .ok (.iaload, 1) := dk_46 (dk_at dksX12_isIntroduced_0 20 rfl rfl)
theorem dX12_isIntroduced_21 : decode cX12_isIntroduced 21 = .ok (.if_icmp .lt 7, 3) := dk_161 0 7 (dk_at dksX12_isIntroduced_0 21 rfl rfl)
theorem dX12_isIntroduced_24 : decode cX12_isIntroduced 24 = .ok (.iconst 1, 1) := dk_4 (dk_at dksX12_isIntroduced_1 0 rfl rfl)
theorem dX12_isIntroduced_25 : decode cX12_isIntroduced 25 = .ok (.goto 4, 3) := dk_167 0 4 (dk_at dksX12_isIntroduced_1 1 rfl rfl)
theorem dX12_isIntroduced_28 : decode cX12_isIntroduced 28 = .ok (.iconst 0, 1) := dk_3 (dk_at dksX12_isIntroduced_1 4 rfl rfl)
theorem dX12_isIntroduced_29 : decode cX12_isIntroduced 29 = .ok (.ireturn, 1) := dk_172 (dk_at dksX12_isIntroduced_1 5 rfl rfl)
abbrev cX12_ones : ByteArray := prog_25_method_4_code
def yX12_ones : MethodName := ⟨RX12, "ones", "(I)I"⟩
def dkwX12_ones_1 : List UInt8 := [27, 172]
abbrev dktX12_ones_1 : List UInt8 := dkwX12_ones_1 ++ []
def dkwX12_ones_0 : List UInt8 := [3, 60, 3, 61, 28, 16, 16, 162, 0, 17, 27, 26, 28, 122, 4, 126, 96, 60, 132, 2, 1, 167, 255, 239]
abbrev dktX12_ones_0 : List UInt8 := dkwX12_ones_0 ++ dktX12_ones_1
theorem dksX12_ones_0 : cX12_ones.data.toList.drop 0 = dktX12_ones_0 := by decide +kernel
theorem dksX12_ones_1 : cX12_ones.data.toList.drop 24 = dktX12_ones_1 := dk_seg dksX12_ones_0 24 rfl rfl
theorem dX12_ones_0 : decode cX12_ones 0 = .ok (.iconst 0, 1) := dk_3 (dk_at dksX12_ones_0 0 rfl rfl)
theorem dX12_ones_1 : decode cX12_ones 1 = .ok (.istore_n 1, 1) := dk_60 (dk_at dksX12_ones_0 1 rfl rfl)
theorem dX12_ones_2 : decode cX12_ones 2 = .ok (.iconst 0, 1) := dk_3 (dk_at dksX12_ones_0 2 rfl rfl)
theorem dX12_ones_3 : decode cX12_ones 3 = .ok (.istore_n 2, 1) := dk_61 (dk_at dksX12_ones_0 3 rfl rfl)
theorem dX12_ones_4 : decode cX12_ones 4 = .ok (.iload_n 2, 1) := dk_28 (dk_at dksX12_ones_0 4 rfl rfl)
theorem dX12_ones_5 : decode cX12_ones 5 = .ok (.bipush 16, 2) := dk_16 16 (dk_at dksX12_ones_0 5 rfl rfl)
theorem dX12_ones_7 : decode cX12_ones 7 = .ok (.if_icmp .ge 17, 3) := dk_162 0 17 (dk_at dksX12_ones_0 7 rfl rfl)
theorem dX12_ones_10 : decode cX12_ones 10 = .ok (.iload_n 1, 1) := dk_27 (dk_at dksX12_ones_0 10 rfl rfl)
theorem dX12_ones_11 : decode cX12_ones 11 = .ok (.iload_n 0, 1) := dk_26 (dk_at dksX12_ones_0 11 rfl rfl)
theorem dX12_ones_12 : decode cX12_ones 12 = .ok (.iload_n 2, 1) := dk_28 (dk_at dksX12_ones_0 12 rfl rfl)
theorem dX12_ones_13 : decode cX12_ones 13 = .ok (.ishr, 1) := dk_122 (dk_at dksX12_ones_0 13 rfl rfl)
theorem dX12_ones_14 : decode cX12_ones 14 = .ok (.iconst 1, 1) := dk_4 (dk_at dksX12_ones_0 14 rfl rfl)
theorem dX12_ones_15 : decode cX12_ones 15 = .ok (.iand, 1) := dk_126 (dk_at dksX12_ones_0 15 rfl rfl)
theorem dX12_ones_16 : decode cX12_ones 16 = .ok (.iadd, 1) := dk_96 (dk_at dksX12_ones_0 16 rfl rfl)
theorem dX12_ones_17 : decode cX12_ones 17 = .ok (.istore_n 1, 1) := dk_60 (dk_at dksX12_ones_0 17 rfl rfl)
theorem dX12_ones_18 : decode cX12_ones 18 = .ok (.iinc 2 1, 3) := dk_132 2 1 (dk_at dksX12_ones_0 18 rfl rfl)
theorem dX12_ones_21 : decode cX12_ones 21 = .ok (.goto (-17), 3) := dk_167 255 239 (dk_at dksX12_ones_0 21 rfl rfl)
theorem dX12_ones_24 : decode cX12_ones 24 = .ok (.iload_n 1, 1) := dk_27 (dk_at dksX12_ones_1 0 rfl rfl)
theorem dX12_ones_25 : decode cX12_ones 25 = .ok (.ireturn, 1) := dk_172 (dk_at dksX12_ones_1 1 rfl rfl)
abbrev cX12_known : ByteArray := prog_25_method_44_code
def yX12_known : MethodName := ⟨RX12, "known", "(II)I"⟩
def dkwX12_known_1 : List UInt8 := [167, 0, 4, 3, 172]
abbrev dktX12_known_1 : List UInt8 := dkwX12_known_1 ++ []
def dkwX12_known_0 : List UInt8 := [42, 27, 28, 182, 1, 59, 154, 0, 8, 16, 254, 167, 0, 17, 42, 27, 28, 182, 1, 48, 153, 0, 7, 4]
abbrev dktX12_known_0 : List UInt8 := dkwX12_known_0 ++ dktX12_known_1
theorem dksX12_known_0 : cX12_known.data.toList.drop 0 = dktX12_known_0 := by decide +kernel
theorem dksX12_known_1 : cX12_known.data.toList.drop 24 = dktX12_known_1 := dk_seg dksX12_known_0 24 rfl rfl
theorem dX12_known_0 : decode cX12_known 0 = .ok (.aload_n 0, 1) := dk_42 (dk_at dksX12_known_0 0 rfl rfl)
theorem dX12_known_1 : decode cX12_known 1 = .ok (.iload_n 1, 1) := dk_27 (dk_at dksX12_known_0 1 rfl rfl)
theorem dX12_known_2 : decode cX12_known 2 = .ok (.iload_n 2, 1) := dk_28 (dk_at dksX12_known_0 2 rfl rfl)
theorem dX12_known_3 : decode cX12_known 3 = .ok (.invokevirtual 315, 3) := dk_182 1 59 (dk_at dksX12_known_0 3 rfl rfl)
theorem dX12_known_6 : decode cX12_known 6 = .ok (.ifCond .ne 8, 3) := dk_154 0 8 (dk_at dksX12_known_0 6 rfl rfl)
theorem dX12_known_9 : decode cX12_known 9 = .ok (.bipush (-2), 2) := dk_16 254 (dk_at dksX12_known_0 9 rfl rfl)
theorem dX12_known_11 : decode cX12_known 11 = .ok (.goto 17, 3) := dk_167 0 17 (dk_at dksX12_known_0 11 rfl rfl)
theorem dX12_known_14 : decode cX12_known 14 = .ok (.aload_n 0, 1) := dk_42 (dk_at dksX12_known_0 14 rfl rfl)
theorem dX12_known_15 : decode cX12_known 15 = .ok (.iload_n 1, 1) := dk_27 (dk_at dksX12_known_0 15 rfl rfl)
theorem dX12_known_16 : decode cX12_known 16 = .ok (.iload_n 2, 1) := dk_28 (dk_at dksX12_known_0 16 rfl rfl)
theorem dX12_known_17 : decode cX12_known 17 = .ok (.invokevirtual 304, 3) := dk_182 1 48 (dk_at dksX12_known_0 17 rfl rfl)
theorem dX12_known_20 : decode cX12_known 20 = .ok (.ifCond .eq 7, 3) := dk_153 0 7 (dk_at dksX12_known_0 20 rfl rfl)
theorem dX12_known_23 : decode cX12_known 23 = .ok (.iconst 1, 1) := dk_4 (dk_at dksX12_known_0 23 rfl rfl)
theorem dX12_known_24 : decode cX12_known 24 = .ok (.goto 4, 3) := dk_167 0 4 (dk_at dksX12_known_1 0 rfl rfl)
theorem dX12_known_27 : decode cX12_known 27 = .ok (.iconst 0, 1) := dk_3 (dk_at dksX12_known_1 3 rfl rfl)
theorem dX12_known_28 : decode cX12_known 28 = .ok (.ireturn, 1) := dk_172 (dk_at dksX12_known_1 4 rfl rfl)
abbrev cX12_does : ByteArray := prog_25_method_56_code
def yX12_does : MethodName := ⟨RX12, "does", "(III)I"⟩
def dkwX12_does_2 : List UInt8 := [172, 42, 27, 28, 29, 182, 1, 112, 172]
abbrev dktX12_does_2 : List UInt8 := dkwX12_does_2 ++ []
def dkwX12_does_1 : List UInt8 := [182, 1, 65, 153, 0, 6, 16, 251, 172, 42, 180, 0, 13, 16, 8, 46, 17, 2, 88, 160, 0, 6, 16, 253]
abbrev dktX12_does_1 : List UInt8 := dkwX12_does_1 ++ dktX12_does_2
def dkwX12_does_0 : List UInt8 := [42, 27, 28, 182, 1, 59, 153, 0, 10, 29, 184, 1, 62, 154, 0, 6, 16, 254, 172, 42, 27, 28, 29]
abbrev dktX12_does_0 : List UInt8 := dkwX12_does_0 ++ dktX12_does_1
theorem dksX12_does_0 : cX12_does.data.toList.drop 0 = dktX12_does_0 := by decide +kernel
theorem dksX12_does_1 : cX12_does.data.toList.drop 23 = dktX12_does_1 := dk_seg dksX12_does_0 23 rfl rfl
theorem dksX12_does_2 : cX12_does.data.toList.drop 47 = dktX12_does_2 := dk_seg dksX12_does_1 24 rfl rfl
theorem dX12_does_0 : decode cX12_does 0 = .ok (.aload_n 0, 1) := dk_42 (dk_at dksX12_does_0 0 rfl rfl)
theorem dX12_does_1 : decode cX12_does 1 = .ok (.iload_n 1, 1) := dk_27 (dk_at dksX12_does_0 1 rfl rfl)
theorem dX12_does_2 : decode cX12_does 2 = .ok (.iload_n 2, 1) := dk_28 (dk_at dksX12_does_0 2 rfl rfl)
theorem dX12_does_3 : decode cX12_does 3 = .ok (.invokevirtual 315, 3) := dk_182 1 59 (dk_at dksX12_does_0 3 rfl rfl)
theorem dX12_does_6 : decode cX12_does 6 = .ok (.ifCond .eq 10, 3) := dk_153 0 10 (dk_at dksX12_does_0 6 rfl rfl)
theorem dX12_does_9 : decode cX12_does 9 = .ok (.iload_n 3, 1) := dk_29 (dk_at dksX12_does_0 9 rfl rfl)
theorem dX12_does_10 : decode cX12_does 10 = .ok (.invokestatic 318, 3) := dk_184 1 62 (dk_at dksX12_does_0 10 rfl rfl)
theorem dX12_does_13 : decode cX12_does 13 = .ok (.ifCond .ne 6, 3) := dk_154 0 6 (dk_at dksX12_does_0 13 rfl rfl)
theorem dX12_does_16 : decode cX12_does 16 = .ok (.bipush (-2), 2) := dk_16 254 (dk_at dksX12_does_0 16 rfl rfl)
theorem dX12_does_18 : decode cX12_does 18 = .ok (.ireturn, 1) := dk_172 (dk_at dksX12_does_0 18 rfl rfl)
theorem dX12_does_19 : decode cX12_does 19 = .ok (.aload_n 0, 1) := dk_42 (dk_at dksX12_does_0 19 rfl rfl)
theorem dX12_does_20 : decode cX12_does 20 = .ok (.iload_n 1, 1) := dk_27 (dk_at dksX12_does_0 20 rfl rfl)
theorem dX12_does_21 : decode cX12_does 21 = .ok (.iload_n 2, 1) := dk_28 (dk_at dksX12_does_0 21 rfl rfl)
theorem dX12_does_22 : decode cX12_does 22 = .ok (.iload_n 3, 1) := dk_29 (dk_at dksX12_does_0 22 rfl rfl)
theorem dX12_does_23 : decode cX12_does 23 = .ok (.invokevirtual 321, 3) := dk_182 1 65 (dk_at dksX12_does_1 0 rfl rfl)
theorem dX12_does_26 : decode cX12_does 26 = .ok (.ifCond .eq 6, 3) := dk_153 0 6 (dk_at dksX12_does_1 3 rfl rfl)
theorem dX12_does_29 : decode cX12_does 29 = .ok (.bipush (-5), 2) := dk_16 251 (dk_at dksX12_does_1 6 rfl rfl)
theorem dX12_does_31 : decode cX12_does 31 = .ok (.ireturn, 1) := dk_172 (dk_at dksX12_does_1 8 rfl rfl)
theorem dX12_does_32 : decode cX12_does 32 = .ok (.aload_n 0, 1) := dk_42 (dk_at dksX12_does_1 9 rfl rfl)
theorem dX12_does_33 : decode cX12_does 33 = .ok (.getfield 13, 3) := dk_180 0 13 (dk_at dksX12_does_1 10 rfl rfl)
theorem dX12_does_36 : decode cX12_does 36 = .ok (.bipush 8, 2) := dk_16 8 (dk_at dksX12_does_1 13 rfl rfl)
theorem dX12_does_38 : decode cX12_does 38 = .ok (.iaload, 1) := dk_46 (dk_at dksX12_does_1 15 rfl rfl)
theorem dX12_does_39 : decode cX12_does 39 = .ok (.sipush 600, 3) := dk_17 2 88 (dk_at dksX12_does_1 16 rfl rfl)
theorem dX12_does_42 : decode cX12_does 42 = .ok (.if_icmp .ne 6, 3) := dk_160 0 6 (dk_at dksX12_does_1 19 rfl rfl)
theorem dX12_does_45 : decode cX12_does 45 = .ok (.bipush (-3), 2) := dk_16 253 (dk_at dksX12_does_1 22 rfl rfl)
theorem dX12_does_47 : decode cX12_does 47 = .ok (.ireturn, 1) := dk_172 (dk_at dksX12_does_2 0 rfl rfl)
theorem dX12_does_48 : decode cX12_does 48 = .ok (.aload_n 0, 1) := dk_42 (dk_at dksX12_does_2 1 rfl rfl)
theorem dX12_does_49 : decode cX12_does 49 = .ok (.iload_n 1, 1) := dk_27 (dk_at dksX12_does_2 2 rfl rfl)
theorem dX12_does_50 : decode cX12_does 50 = .ok (.iload_n 2, 1) := dk_28 (dk_at dksX12_does_2 3 rfl rfl)
theorem dX12_does_51 : decode cX12_does 51 = .ok (.iload_n 3, 1) := dk_29 (dk_at dksX12_does_2 4 rfl rfl)
theorem dX12_does_52 : decode cX12_does 52 = .ok (.invokevirtual 368, 3) := dk_182 1 112 (dk_at dksX12_does_2 5 rfl rfl)
theorem dX12_does_55 : decode cX12_does 55 = .ok (.ireturn, 1) := dk_172 (dk_at dksX12_does_2 8 rfl rfl)
abbrev cX12_notes : ByteArray := prog_25_method_55_code
def yX12_notes : MethodName := ⟨RX12, "notes", "(III)I"⟩
def dkwX12_notes_3 : List UInt8 := [42, 182, 1, 35, 182, 1, 108, 54, 5, 42, 180, 0, 13, 16, 9, 92, 46, 21, 5, 96, 79, 21, 5, 172]
abbrev dktX12_notes_3 : List UInt8 := dkwX12_notes_3 ++ []
def dkwX12_notes_2 : List UInt8 := [21, 4, 6, 96, 42, 182, 1, 35, 79, 42, 180, 0, 13, 16, 8, 92, 46, 4, 96, 79, 42, 27, 28, 29]
abbrev dktX12_notes_2 : List UInt8 := dkwX12_notes_2 ++ dktX12_notes_3
def dkwX12_notes_1 : List UInt8 := [180, 0, 13, 21, 4, 4, 96, 28, 79, 42, 180, 0, 13, 21, 4, 5, 96, 29, 79, 42, 180, 0, 13]
abbrev dktX12_notes_1 : List UInt8 := dkwX12_notes_1 ++ dktX12_notes_2
def dkwX12_notes_0 : List UInt8 := [17, 26, 24, 7, 42, 180, 0, 13, 16, 8, 46, 104, 96, 54, 4, 42, 180, 0, 13, 21, 4, 27, 79, 42]
abbrev dktX12_notes_0 : List UInt8 := dkwX12_notes_0 ++ dktX12_notes_1
theorem dksX12_notes_0 : cX12_notes.data.toList.drop 0 = dktX12_notes_0 := by decide +kernel
theorem dksX12_notes_1 : cX12_notes.data.toList.drop 24 = dktX12_notes_1 := dk_seg dksX12_notes_0 24 rfl rfl
theorem dksX12_notes_2 : cX12_notes.data.toList.drop 47 = dktX12_notes_2 := dk_seg dksX12_notes_1 23 rfl rfl
theorem dksX12_notes_3 : cX12_notes.data.toList.drop 71 = dktX12_notes_3 := dk_seg dksX12_notes_2 24 rfl rfl
theorem dX12_notes_0 : decode cX12_notes 0 = .ok (.sipush 6680, 3) := dk_17 26 24 (dk_at dksX12_notes_0 0 rfl rfl)
theorem dX12_notes_3 : decode cX12_notes 3 = .ok (.iconst 4, 1) := dk_7 (dk_at dksX12_notes_0 3 rfl rfl)
theorem dX12_notes_4 : decode cX12_notes 4 = .ok (.aload_n 0, 1) := dk_42 (dk_at dksX12_notes_0 4 rfl rfl)
theorem dX12_notes_5 : decode cX12_notes 5 = .ok (.getfield 13, 3) := dk_180 0 13 (dk_at dksX12_notes_0 5 rfl rfl)
theorem dX12_notes_8 : decode cX12_notes 8 = .ok (.bipush 8, 2) := dk_16 8 (dk_at dksX12_notes_0 8 rfl rfl)
theorem dX12_notes_10 : decode cX12_notes 10 = .ok (.iaload, 1) := dk_46 (dk_at dksX12_notes_0 10 rfl rfl)
theorem dX12_notes_11 : decode cX12_notes 11 = .ok (.imul, 1) := dk_104 (dk_at dksX12_notes_0 11 rfl rfl)
theorem dX12_notes_12 : decode cX12_notes 12 = .ok (.iadd, 1) := dk_96 (dk_at dksX12_notes_0 12 rfl rfl)
theorem dX12_notes_13 : decode cX12_notes 13 = .ok (.istore 4, 2) := dk_54 4 (dk_at dksX12_notes_0 13 rfl rfl)
theorem dX12_notes_15 : decode cX12_notes 15 = .ok (.aload_n 0, 1) := dk_42 (dk_at dksX12_notes_0 15 rfl rfl)
theorem dX12_notes_16 : decode cX12_notes 16 = .ok (.getfield 13, 3) := dk_180 0 13 (dk_at dksX12_notes_0 16 rfl rfl)
theorem dX12_notes_19 : decode cX12_notes 19 = .ok (.iload 4, 2) := dk_21 4 (dk_at dksX12_notes_0 19 rfl rfl)
theorem dX12_notes_21 : decode cX12_notes 21 = .ok (.iload_n 1, 1) := dk_27 (dk_at dksX12_notes_0 21 rfl rfl)
theorem dX12_notes_22 : decode cX12_notes 22 = .ok (.iastore, 1) := dk_79 (dk_at dksX12_notes_0 22 rfl rfl)
theorem dX12_notes_23 : decode cX12_notes 23 = .ok (.aload_n 0, 1) := dk_42 (dk_at dksX12_notes_0 23 rfl rfl)
theorem dX12_notes_24 : decode cX12_notes 24 = .ok (.getfield 13, 3) := dk_180 0 13 (dk_at dksX12_notes_1 0 rfl rfl)
theorem dX12_notes_27 : decode cX12_notes 27 = .ok (.iload 4, 2) := dk_21 4 (dk_at dksX12_notes_1 3 rfl rfl)
theorem dX12_notes_29 : decode cX12_notes 29 = .ok (.iconst 1, 1) := dk_4 (dk_at dksX12_notes_1 5 rfl rfl)
theorem dX12_notes_30 : decode cX12_notes 30 = .ok (.iadd, 1) := dk_96 (dk_at dksX12_notes_1 6 rfl rfl)
theorem dX12_notes_31 : decode cX12_notes 31 = .ok (.iload_n 2, 1) := dk_28 (dk_at dksX12_notes_1 7 rfl rfl)
theorem dX12_notes_32 : decode cX12_notes 32 = .ok (.iastore, 1) := dk_79 (dk_at dksX12_notes_1 8 rfl rfl)
theorem dX12_notes_33 : decode cX12_notes 33 = .ok (.aload_n 0, 1) := dk_42 (dk_at dksX12_notes_1 9 rfl rfl)
theorem dX12_notes_34 : decode cX12_notes 34 = .ok (.getfield 13, 3) := dk_180 0 13 (dk_at dksX12_notes_1 10 rfl rfl)
theorem dX12_notes_37 : decode cX12_notes 37 = .ok (.iload 4, 2) := dk_21 4 (dk_at dksX12_notes_1 13 rfl rfl)
theorem dX12_notes_39 : decode cX12_notes 39 = .ok (.iconst 2, 1) := dk_5 (dk_at dksX12_notes_1 15 rfl rfl)
theorem dX12_notes_40 : decode cX12_notes 40 = .ok (.iadd, 1) := dk_96 (dk_at dksX12_notes_1 16 rfl rfl)
theorem dX12_notes_41 : decode cX12_notes 41 = .ok (.iload_n 3, 1) := dk_29 (dk_at dksX12_notes_1 17 rfl rfl)
theorem dX12_notes_42 : decode cX12_notes 42 = .ok (.iastore, 1) := dk_79 (dk_at dksX12_notes_1 18 rfl rfl)
theorem dX12_notes_43 : decode cX12_notes 43 = .ok (.aload_n 0, 1) := dk_42 (dk_at dksX12_notes_1 19 rfl rfl)
theorem dX12_notes_44 : decode cX12_notes 44 = .ok (.getfield 13, 3) := dk_180 0 13 (dk_at dksX12_notes_1 20 rfl rfl)
theorem dX12_notes_47 : decode cX12_notes 47 = .ok (.iload 4, 2) := dk_21 4 (dk_at dksX12_notes_2 0 rfl rfl)
theorem dX12_notes_49 : decode cX12_notes 49 = .ok (.iconst 3, 1) := dk_6 (dk_at dksX12_notes_2 2 rfl rfl)
theorem dX12_notes_50 : decode cX12_notes 50 = .ok (.iadd, 1) := dk_96 (dk_at dksX12_notes_2 3 rfl rfl)
theorem dX12_notes_51 : decode cX12_notes 51 = .ok (.aload_n 0, 1) := dk_42 (dk_at dksX12_notes_2 4 rfl rfl)
theorem dX12_notes_52 : decode cX12_notes 52 = .ok (.invokevirtual 291, 3) := dk_182 1 35 (dk_at dksX12_notes_2 5 rfl rfl)
theorem dX12_notes_55 : decode cX12_notes 55 = .ok (.iastore, 1) := dk_79 (dk_at dksX12_notes_2 8 rfl rfl)
theorem dX12_notes_56 : decode cX12_notes 56 = .ok (.aload_n 0, 1) := dk_42 (dk_at dksX12_notes_2 9 rfl rfl)
theorem dX12_notes_57 : decode cX12_notes 57 = .ok (.getfield 13, 3) := dk_180 0 13 (dk_at dksX12_notes_2 10 rfl rfl)
theorem dX12_notes_60 : decode cX12_notes 60 = .ok (.bipush 8, 2) := dk_16 8 (dk_at dksX12_notes_2 13 rfl rfl)
theorem dX12_notes_62 : decode cX12_notes 62 = .ok (.dup2, 1) := dk_92 (dk_at dksX12_notes_2 15 rfl rfl)
theorem dX12_notes_63 : decode cX12_notes 63 = .ok (.iaload, 1) := dk_46 (dk_at dksX12_notes_2 16 rfl rfl)
theorem dX12_notes_64 : decode cX12_notes 64 = .ok (.iconst 1, 1) := dk_4 (dk_at dksX12_notes_2 17 rfl rfl)
theorem dX12_notes_65 : decode cX12_notes 65 = .ok (.iadd, 1) := dk_96 (dk_at dksX12_notes_2 18 rfl rfl)
theorem dX12_notes_66 : decode cX12_notes 66 = .ok (.iastore, 1) := dk_79 (dk_at dksX12_notes_2 19 rfl rfl)
theorem dX12_notes_67 : decode cX12_notes 67 = .ok (.aload_n 0, 1) := dk_42 (dk_at dksX12_notes_2 20 rfl rfl)
theorem dX12_notes_68 : decode cX12_notes 68 = .ok (.iload_n 1, 1) := dk_27 (dk_at dksX12_notes_2 21 rfl rfl)
theorem dX12_notes_69 : decode cX12_notes 69 = .ok (.iload_n 2, 1) := dk_28 (dk_at dksX12_notes_2 22 rfl rfl)
theorem dX12_notes_70 : decode cX12_notes 70 = .ok (.iload_n 3, 1) := dk_29 (dk_at dksX12_notes_2 23 rfl rfl)
theorem dX12_notes_71 : decode cX12_notes 71 = .ok (.aload_n 0, 1) := dk_42 (dk_at dksX12_notes_3 0 rfl rfl)
theorem dX12_notes_72 : decode cX12_notes 72 = .ok (.invokevirtual 291, 3) := dk_182 1 35 (dk_at dksX12_notes_3 1 rfl rfl)
theorem dX12_notes_75 : decode cX12_notes 75 = .ok (.invokevirtual 364, 3) := dk_182 1 108 (dk_at dksX12_notes_3 4 rfl rfl)
theorem dX12_notes_78 : decode cX12_notes 78 = .ok (.istore 5, 2) := dk_54 5 (dk_at dksX12_notes_3 7 rfl rfl)
theorem dX12_notes_80 : decode cX12_notes 80 = .ok (.aload_n 0, 1) := dk_42 (dk_at dksX12_notes_3 9 rfl rfl)
theorem dX12_notes_81 : decode cX12_notes 81 = .ok (.getfield 13, 3) := dk_180 0 13 (dk_at dksX12_notes_3 10 rfl rfl)
theorem dX12_notes_84 : decode cX12_notes 84 = .ok (.bipush 9, 2) := dk_16 9 (dk_at dksX12_notes_3 13 rfl rfl)
theorem dX12_notes_86 : decode cX12_notes 86 = .ok (.dup2, 1) := dk_92 (dk_at dksX12_notes_3 15 rfl rfl)
theorem dX12_notes_87 : decode cX12_notes 87 = .ok (.iaload, 1) := dk_46 (dk_at dksX12_notes_3 16 rfl rfl)
theorem dX12_notes_88 : decode cX12_notes 88 = .ok (.iload 5, 2) := dk_21 5 (dk_at dksX12_notes_3 17 rfl rfl)
theorem dX12_notes_90 : decode cX12_notes 90 = .ok (.iadd, 1) := dk_96 (dk_at dksX12_notes_3 19 rfl rfl)
theorem dX12_notes_91 : decode cX12_notes 91 = .ok (.iastore, 1) := dk_79 (dk_at dksX12_notes_3 20 rfl rfl)
theorem dX12_notes_92 : decode cX12_notes 92 = .ok (.iload 5, 2) := dk_21 5 (dk_at dksX12_notes_3 21 rfl rfl)
theorem dX12_notes_94 : decode cX12_notes 94 = .ok (.ireturn, 1) := dk_172 (dk_at dksX12_notes_3 23 rfl rfl)
abbrev cX12_goes : ByteArray := prog_25_method_54_code
def yX12_goes : MethodName := ⟨RX12, "goes", "(IIII)I"⟩
def dkwX12_goes_5 : List UInt8 := [21, 5, 172]
abbrev dktX12_goes_5 : List UInt8 := dkwX12_goes_5 ++ []
def dkwX12_goes_4 : List UInt8 := [96, 5, 96, 46, 96, 184, 0, 139, 21, 4, 182, 1, 104, 29, 5, 161, 0, 9, 42, 27, 28, 182, 1, 89]
abbrev dktX12_goes_4 : List UInt8 := dkwX12_goes_4 ++ dktX12_goes_5
def dkwX12_goes_3 : List UInt8 := [154, 0, 37, 42, 28, 27, 21, 7, 17, 1, 143, 21, 4, 42, 180, 0, 13, 17, 0, 154, 8, 21, 6, 104]
abbrev dktX12_goes_3 : List UInt8 := dkwX12_goes_3 ++ dktX12_goes_4
def dkwX12_goes_2 : List UInt8 := [180, 0, 13, 17, 0, 154, 8, 21, 6, 104, 96, 4, 96, 46, 54, 7, 42, 28, 27, 21, 7, 182, 1, 100]
abbrev dktX12_goes_2 : List UInt8 := dkwX12_goes_2 ++ dktX12_goes_3
def dkwX12_goes_1 : List UInt8 := [28, 29, 42, 27, 28, 182, 1, 48, 21, 4, 182, 1, 96, 54, 6, 21, 6, 2, 159, 0, 65, 42]
abbrev dktX12_goes_1 : List UInt8 := dkwX12_goes_1 ++ dktX12_goes_2
def dkwX12_goes_0 : List UInt8 := [29, 7, 160, 0, 11, 42, 27, 28, 182, 1, 89, 3, 172, 42, 27, 28, 29, 182, 1, 93, 54, 5, 42, 27]
abbrev dktX12_goes_0 : List UInt8 := dkwX12_goes_0 ++ dktX12_goes_1
theorem dksX12_goes_0 : cX12_goes.data.toList.drop 0 = dktX12_goes_0 := by decide +kernel
theorem dksX12_goes_1 : cX12_goes.data.toList.drop 24 = dktX12_goes_1 := dk_seg dksX12_goes_0 24 rfl rfl
theorem dksX12_goes_2 : cX12_goes.data.toList.drop 46 = dktX12_goes_2 := dk_seg dksX12_goes_1 22 rfl rfl
theorem dksX12_goes_3 : cX12_goes.data.toList.drop 70 = dktX12_goes_3 := dk_seg dksX12_goes_2 24 rfl rfl
theorem dksX12_goes_4 : cX12_goes.data.toList.drop 94 = dktX12_goes_4 := dk_seg dksX12_goes_3 24 rfl rfl
theorem dksX12_goes_5 : cX12_goes.data.toList.drop 118 = dktX12_goes_5 := dk_seg dksX12_goes_4 24 rfl rfl
theorem dX12_goes_0 : decode cX12_goes 0 = .ok (.iload_n 3, 1) := dk_29 (dk_at dksX12_goes_0 0 rfl rfl)
theorem dX12_goes_1 : decode cX12_goes 1 = .ok (.iconst 4, 1) := dk_7 (dk_at dksX12_goes_0 1 rfl rfl)
theorem dX12_goes_2 : decode cX12_goes 2 = .ok (.if_icmp .ne 11, 3) := dk_160 0 11 (dk_at dksX12_goes_0 2 rfl rfl)
theorem dX12_goes_5 : decode cX12_goes 5 = .ok (.aload_n 0, 1) := dk_42 (dk_at dksX12_goes_0 5 rfl rfl)
theorem dX12_goes_6 : decode cX12_goes 6 = .ok (.iload_n 1, 1) := dk_27 (dk_at dksX12_goes_0 6 rfl rfl)
theorem dX12_goes_7 : decode cX12_goes 7 = .ok (.iload_n 2, 1) := dk_28 (dk_at dksX12_goes_0 7 rfl rfl)
theorem dX12_goes_8 : decode cX12_goes 8 = .ok (.invokevirtual 345, 3) := dk_182 1 89 (dk_at dksX12_goes_0 8 rfl rfl)
theorem dX12_goes_11 : decode cX12_goes 11 = .ok (.iconst 0, 1) := dk_3 (dk_at dksX12_goes_0 11 rfl rfl)
theorem dX12_goes_12 : decode cX12_goes 12 = .ok (.ireturn, 1) := dk_172 (dk_at dksX12_goes_0 12 rfl rfl)
theorem dX12_goes_13 : decode cX12_goes 13 = .ok (.aload_n 0, 1) := dk_42 (dk_at dksX12_goes_0 13 rfl rfl)
theorem dX12_goes_14 : decode cX12_goes 14 = .ok (.iload_n 1, 1) := dk_27 (dk_at dksX12_goes_0 14 rfl rfl)
theorem dX12_goes_15 : decode cX12_goes 15 = .ok (.iload_n 2, 1) := dk_28 (dk_at dksX12_goes_0 15 rfl rfl)
theorem dX12_goes_16 : decode cX12_goes 16 = .ok (.iload_n 3, 1) := dk_29 (dk_at dksX12_goes_0 16 rfl rfl)
theorem dX12_goes_17 : decode cX12_goes 17 = .ok (.invokevirtual 349, 3) := dk_182 1 93 (dk_at dksX12_goes_0 17 rfl rfl)
theorem dX12_goes_20 : decode cX12_goes 20 = .ok (.istore 5, 2) := dk_54 5 (dk_at dksX12_goes_0 20 rfl rfl)
theorem dX12_goes_22 : decode cX12_goes 22 = .ok (.aload_n 0, 1) := dk_42 (dk_at dksX12_goes_0 22 rfl rfl)
theorem dX12_goes_23 : decode cX12_goes 23 = .ok (.iload_n 1, 1) := dk_27 (dk_at dksX12_goes_0 23 rfl rfl)
theorem dX12_goes_24 : decode cX12_goes 24 = .ok (.iload_n 2, 1) := dk_28 (dk_at dksX12_goes_1 0 rfl rfl)
theorem dX12_goes_25 : decode cX12_goes 25 = .ok (.iload_n 3, 1) := dk_29 (dk_at dksX12_goes_1 1 rfl rfl)
theorem dX12_goes_26 : decode cX12_goes 26 = .ok (.aload_n 0, 1) := dk_42 (dk_at dksX12_goes_1 2 rfl rfl)
theorem dX12_goes_27 : decode cX12_goes 27 = .ok (.iload_n 1, 1) := dk_27 (dk_at dksX12_goes_1 3 rfl rfl)
theorem dX12_goes_28 : decode cX12_goes 28 = .ok (.iload_n 2, 1) := dk_28 (dk_at dksX12_goes_1 4 rfl rfl)
theorem dX12_goes_29 : decode cX12_goes 29 = .ok (.invokevirtual 304, 3) := dk_182 1 48 (dk_at dksX12_goes_1 5 rfl rfl)
theorem dX12_goes_32 : decode cX12_goes 32 = .ok (.iload 4, 2) := dk_21 4 (dk_at dksX12_goes_1 8 rfl rfl)
theorem dX12_goes_34 : decode cX12_goes 34 = .ok (.invokevirtual 352, 3) := dk_182 1 96 (dk_at dksX12_goes_1 10 rfl rfl)
theorem dX12_goes_37 : decode cX12_goes 37 = .ok (.istore 6, 2) := dk_54 6 (dk_at dksX12_goes_1 13 rfl rfl)
theorem dX12_goes_39 : decode cX12_goes 39 = .ok (.iload 6, 2) := dk_21 6 (dk_at dksX12_goes_1 15 rfl rfl)
theorem dX12_goes_41 : decode cX12_goes 41 = .ok (.iconst (-1), 1) := dk_2 (dk_at dksX12_goes_1 17 rfl rfl)
theorem dX12_goes_42 : decode cX12_goes 42 = .ok (.if_icmp .eq 65, 3) := dk_159 0 65 (dk_at dksX12_goes_1 18 rfl rfl)
theorem dX12_goes_45 : decode cX12_goes 45 = .ok (.aload_n 0, 1) := dk_42 (dk_at dksX12_goes_1 21 rfl rfl)
theorem dX12_goes_46 : decode cX12_goes 46 = .ok (.getfield 13, 3) := dk_180 0 13 (dk_at dksX12_goes_2 0 rfl rfl)
theorem dX12_goes_49 : decode cX12_goes 49 = .ok (.sipush 154, 3) := dk_17 0 154 (dk_at dksX12_goes_2 3 rfl rfl)
theorem dX12_goes_52 : decode cX12_goes 52 = .ok (.iconst 5, 1) := dk_8 (dk_at dksX12_goes_2 6 rfl rfl)
theorem dX12_goes_53 : decode cX12_goes 53 = .ok (.iload 6, 2) := dk_21 6 (dk_at dksX12_goes_2 7 rfl rfl)
theorem dX12_goes_55 : decode cX12_goes 55 = .ok (.imul, 1) := dk_104 (dk_at dksX12_goes_2 9 rfl rfl)
theorem dX12_goes_56 : decode cX12_goes 56 = .ok (.iadd, 1) := dk_96 (dk_at dksX12_goes_2 10 rfl rfl)
theorem dX12_goes_57 : decode cX12_goes 57 = .ok (.iconst 1, 1) := dk_4 (dk_at dksX12_goes_2 11 rfl rfl)
theorem dX12_goes_58 : decode cX12_goes 58 = .ok (.iadd, 1) := dk_96 (dk_at dksX12_goes_2 12 rfl rfl)
theorem dX12_goes_59 : decode cX12_goes 59 = .ok (.iaload, 1) := dk_46 (dk_at dksX12_goes_2 13 rfl rfl)
theorem dX12_goes_60 : decode cX12_goes 60 = .ok (.istore 7, 2) := dk_54 7 (dk_at dksX12_goes_2 14 rfl rfl)
theorem dX12_goes_62 : decode cX12_goes 62 = .ok (.aload_n 0, 1) := dk_42 (dk_at dksX12_goes_2 16 rfl rfl)
theorem dX12_goes_63 : decode cX12_goes 63 = .ok (.iload_n 2, 1) := dk_28 (dk_at dksX12_goes_2 17 rfl rfl)
theorem dX12_goes_64 : decode cX12_goes 64 = .ok (.iload_n 1, 1) := dk_27 (dk_at dksX12_goes_2 18 rfl rfl)
theorem dX12_goes_65 : decode cX12_goes 65 = .ok (.iload 7, 2) := dk_21 7 (dk_at dksX12_goes_2 19 rfl rfl)
theorem dX12_goes_67 : decode cX12_goes 67 = .ok (.invokevirtual 356, 3) := dk_182 1 100 (dk_at dksX12_goes_2 21 rfl rfl)
theorem dX12_goes_70 : decode cX12_goes 70 = .ok (.ifCond .ne 37, 3) := dk_154 0 37 (dk_at dksX12_goes_3 0 rfl rfl)
theorem dX12_goes_73 : decode cX12_goes 73 = .ok (.aload_n 0, 1) := dk_42 (dk_at dksX12_goes_3 3 rfl rfl)
theorem dX12_goes_74 : decode cX12_goes 74 = .ok (.iload_n 2, 1) := dk_28 (dk_at dksX12_goes_3 4 rfl rfl)
theorem dX12_goes_75 : decode cX12_goes 75 = .ok (.iload_n 1, 1) := dk_27 (dk_at dksX12_goes_3 5 rfl rfl)
theorem dX12_goes_76 : decode cX12_goes 76 = .ok (.iload 7, 2) := dk_21 7 (dk_at dksX12_goes_3 6 rfl rfl)
theorem dX12_goes_78 : decode cX12_goes 78 = .ok (.sipush 399, 3) := dk_17 1 143 (dk_at dksX12_goes_3 8 rfl rfl)
theorem dX12_goes_81 : decode cX12_goes 81 = .ok (.iload 4, 2) := dk_21 4 (dk_at dksX12_goes_3 11 rfl rfl)
theorem dX12_goes_83 : decode cX12_goes 83 = .ok (.aload_n 0, 1) := dk_42 (dk_at dksX12_goes_3 13 rfl rfl)
theorem dX12_goes_84 : decode cX12_goes 84 = .ok (.getfield 13, 3) := dk_180 0 13 (dk_at dksX12_goes_3 14 rfl rfl)
theorem dX12_goes_87 : decode cX12_goes 87 = .ok (.sipush 154, 3) := dk_17 0 154 (dk_at dksX12_goes_3 17 rfl rfl)
theorem dX12_goes_90 : decode cX12_goes 90 = .ok (.iconst 5, 1) := dk_8 (dk_at dksX12_goes_3 20 rfl rfl)
theorem dX12_goes_91 : decode cX12_goes 91 = .ok (.iload 6, 2) := dk_21 6 (dk_at dksX12_goes_3 21 rfl rfl)
theorem dX12_goes_93 : decode cX12_goes 93 = .ok (.imul, 1) := dk_104 (dk_at dksX12_goes_3 23 rfl rfl)
theorem dX12_goes_94 : decode cX12_goes 94 = .ok (.iadd, 1) := dk_96 (dk_at dksX12_goes_4 0 rfl rfl)
theorem dX12_goes_95 : decode cX12_goes 95 = .ok (.iconst 2, 1) := dk_5 (dk_at dksX12_goes_4 1 rfl rfl)
theorem dX12_goes_96 : decode cX12_goes 96 = .ok (.iadd, 1) := dk_96 (dk_at dksX12_goes_4 2 rfl rfl)
theorem dX12_goes_97 : decode cX12_goes 97 = .ok (.iaload, 1) := dk_46 (dk_at dksX12_goes_4 3 rfl rfl)
theorem dX12_goes_98 : decode cX12_goes 98 = .ok (.iadd, 1) := dk_96 (dk_at dksX12_goes_4 4 rfl rfl)
theorem dX12_goes_99 : decode cX12_goes 99 = .ok (.invokestatic 139, 3) := dk_184 0 139 (dk_at dksX12_goes_4 5 rfl rfl)
theorem dX12_goes_102 : decode cX12_goes 102 = .ok (.iload 4, 2) := dk_21 4 (dk_at dksX12_goes_4 8 rfl rfl)
theorem dX12_goes_104 : decode cX12_goes 104 = .ok (.invokevirtual 360, 3) := dk_182 1 104 (dk_at dksX12_goes_4 10 rfl rfl)
theorem dX12_goes_107 : decode cX12_goes 107 = .ok (.iload_n 3, 1) := dk_29 (dk_at dksX12_goes_4 13 rfl rfl)
theorem dX12_goes_108 : decode cX12_goes 108 = .ok (.iconst 2, 1) := dk_5 (dk_at dksX12_goes_4 14 rfl rfl)
theorem dX12_goes_109 : decode cX12_goes 109 = .ok (.if_icmp .lt 9, 3) := dk_161 0 9 (dk_at dksX12_goes_4 15 rfl rfl)
theorem dX12_goes_112 : decode cX12_goes 112 = .ok (.aload_n 0, 1) := dk_42 (dk_at dksX12_goes_4 18 rfl rfl)
theorem dX12_goes_113 : decode cX12_goes 113 = .ok (.iload_n 1, 1) := dk_27 (dk_at dksX12_goes_4 19 rfl rfl)
theorem dX12_goes_114 : decode cX12_goes 114 = .ok (.iload_n 2, 1) := dk_28 (dk_at dksX12_goes_4 20 rfl rfl)
theorem dX12_goes_115 : decode cX12_goes 115 = .ok (.invokevirtual 345, 3) := dk_182 1 89 (dk_at dksX12_goes_4 21 rfl rfl)
theorem dX12_goes_118 : decode cX12_goes 118 = .ok (.iload 5, 2) := dk_21 5 (dk_at dksX12_goes_5 0 rfl rfl)
theorem dX12_goes_120 : decode cX12_goes 120 = .ok (.ireturn, 1) := dk_172 (dk_at dksX12_goes_5 2 rfl rfl)
abbrev cX12_meets : ByteArray := prog_25_method_53_code
def yX12_meets : MethodName := ⟨RX12, "meets", "(II)V"⟩
def dkwX12_meets_1 : List UInt8 := [96, 92, 46, 4, 27, 120, 128, 79, 177]
abbrev dktX12_meets_1 : List UInt8 := dkwX12_meets_1 ++ []
def dkwX12_meets_0 : List UInt8 := [42, 180, 0, 13, 17, 7, 72, 27, 96, 92, 46, 4, 28, 120, 128, 79, 42, 180, 0, 13, 17, 7, 72, 28]
abbrev dktX12_meets_0 : List UInt8 := dkwX12_meets_0 ++ dktX12_meets_1
theorem dksX12_meets_0 : cX12_meets.data.toList.drop 0 = dktX12_meets_0 := by decide +kernel
theorem dksX12_meets_1 : cX12_meets.data.toList.drop 24 = dktX12_meets_1 := dk_seg dksX12_meets_0 24 rfl rfl
theorem dX12_meets_0 : decode cX12_meets 0 = .ok (.aload_n 0, 1) := dk_42 (dk_at dksX12_meets_0 0 rfl rfl)
theorem dX12_meets_1 : decode cX12_meets 1 = .ok (.getfield 13, 3) := dk_180 0 13 (dk_at dksX12_meets_0 1 rfl rfl)
theorem dX12_meets_4 : decode cX12_meets 4 = .ok (.sipush 1864, 3) := dk_17 7 72 (dk_at dksX12_meets_0 4 rfl rfl)
theorem dX12_meets_7 : decode cX12_meets 7 = .ok (.iload_n 1, 1) := dk_27 (dk_at dksX12_meets_0 7 rfl rfl)
theorem dX12_meets_8 : decode cX12_meets 8 = .ok (.iadd, 1) := dk_96 (dk_at dksX12_meets_0 8 rfl rfl)
theorem dX12_meets_9 : decode cX12_meets 9 = .ok (.dup2, 1) := dk_92 (dk_at dksX12_meets_0 9 rfl rfl)
theorem dX12_meets_10 : decode cX12_meets 10 = .ok (.iaload, 1) := dk_46 (dk_at dksX12_meets_0 10 rfl rfl)
theorem dX12_meets_11 : decode cX12_meets 11 = .ok (.iconst 1, 1) := dk_4 (dk_at dksX12_meets_0 11 rfl rfl)
theorem dX12_meets_12 : decode cX12_meets 12 = .ok (.iload_n 2, 1) := dk_28 (dk_at dksX12_meets_0 12 rfl rfl)
theorem dX12_meets_13 : decode cX12_meets 13 = .ok (.ishl, 1) := dk_120 (dk_at dksX12_meets_0 13 rfl rfl)
theorem dX12_meets_14 : decode cX12_meets 14 = .ok (.ior, 1) := dk_128 (dk_at dksX12_meets_0 14 rfl rfl)
theorem dX12_meets_15 : decode cX12_meets 15 = .ok (.iastore, 1) := dk_79 (dk_at dksX12_meets_0 15 rfl rfl)
theorem dX12_meets_16 : decode cX12_meets 16 = .ok (.aload_n 0, 1) := dk_42 (dk_at dksX12_meets_0 16 rfl rfl)
theorem dX12_meets_17 : decode cX12_meets 17 = .ok (.getfield 13, 3) := dk_180 0 13 (dk_at dksX12_meets_0 17 rfl rfl)
theorem dX12_meets_20 : decode cX12_meets 20 = .ok (.sipush 1864, 3) := dk_17 7 72 (dk_at dksX12_meets_0 20 rfl rfl)
theorem dX12_meets_23 : decode cX12_meets 23 = .ok (.iload_n 2, 1) := dk_28 (dk_at dksX12_meets_0 23 rfl rfl)
theorem dX12_meets_24 : decode cX12_meets 24 = .ok (.iadd, 1) := dk_96 (dk_at dksX12_meets_1 0 rfl rfl)
theorem dX12_meets_25 : decode cX12_meets 25 = .ok (.dup2, 1) := dk_92 (dk_at dksX12_meets_1 1 rfl rfl)
theorem dX12_meets_26 : decode cX12_meets 26 = .ok (.iaload, 1) := dk_46 (dk_at dksX12_meets_1 2 rfl rfl)
theorem dX12_meets_27 : decode cX12_meets 27 = .ok (.iconst 1, 1) := dk_4 (dk_at dksX12_meets_1 3 rfl rfl)
theorem dX12_meets_28 : decode cX12_meets 28 = .ok (.iload_n 1, 1) := dk_27 (dk_at dksX12_meets_1 4 rfl rfl)
theorem dX12_meets_29 : decode cX12_meets 29 = .ok (.ishl, 1) := dk_120 (dk_at dksX12_meets_1 5 rfl rfl)
theorem dX12_meets_30 : decode cX12_meets 30 = .ok (.ior, 1) := dk_128 (dk_at dksX12_meets_1 6 rfl rfl)
theorem dX12_meets_31 : decode cX12_meets 31 = .ok (.iastore, 1) := dk_79 (dk_at dksX12_meets_1 7 rfl rfl)
theorem dX12_meets_32 : decode cX12_meets 32 = .ok (.return_, 1) := dk_177 (dk_at dksX12_meets_1 8 rfl rfl)
abbrev cX12_pays : ByteArray := prog_25_method_47_code
def yX12_pays : MethodName := ⟨RX12, "pays", "(III)I"⟩
def dkwX12_pays_3 : List UInt8 := [167, 255, 203, 21, 4, 172]
abbrev dktX12_pays_3 : List UInt8 := dkwX12_pays_3 ++ []
def dkwX12_pays_2 : List UInt8 := [182, 1, 69, 29, 164, 0, 6, 167, 0, 12, 42, 21, 5, 182, 1, 72, 132, 4, 1, 132, 5, 255]
abbrev dktX12_pays_2 : List UInt8 := dkwX12_pays_2 ++ dktX12_pays_3
def dkwX12_pays_1 : List UInt8 := [182, 1, 69, 27, 160, 0, 37, 42, 21, 5, 4, 182, 1, 69, 28, 160, 0, 26, 42, 21, 5, 5]
abbrev dktX12_pays_1 : List UInt8 := dkwX12_pays_1 ++ dktX12_pays_2
def dkwX12_pays_0 : List UInt8 := [3, 54, 4, 42, 180, 0, 13, 16, 7, 46, 4, 100, 54, 5, 21, 5, 155, 0, 54, 42, 21, 5, 3]
abbrev dktX12_pays_0 : List UInt8 := dkwX12_pays_0 ++ dktX12_pays_1
theorem dksX12_pays_0 : cX12_pays.data.toList.drop 0 = dktX12_pays_0 := by decide +kernel
theorem dksX12_pays_1 : cX12_pays.data.toList.drop 23 = dktX12_pays_1 := dk_seg dksX12_pays_0 23 rfl rfl
theorem dksX12_pays_2 : cX12_pays.data.toList.drop 45 = dktX12_pays_2 := dk_seg dksX12_pays_1 22 rfl rfl
theorem dksX12_pays_3 : cX12_pays.data.toList.drop 67 = dktX12_pays_3 := dk_seg dksX12_pays_2 22 rfl rfl
theorem dX12_pays_0 : decode cX12_pays 0 = .ok (.iconst 0, 1) := dk_3 (dk_at dksX12_pays_0 0 rfl rfl)
theorem dX12_pays_1 : decode cX12_pays 1 = .ok (.istore 4, 2) := dk_54 4 (dk_at dksX12_pays_0 1 rfl rfl)
theorem dX12_pays_3 : decode cX12_pays 3 = .ok (.aload_n 0, 1) := dk_42 (dk_at dksX12_pays_0 3 rfl rfl)
theorem dX12_pays_4 : decode cX12_pays 4 = .ok (.getfield 13, 3) := dk_180 0 13 (dk_at dksX12_pays_0 4 rfl rfl)
theorem dX12_pays_7 : decode cX12_pays 7 = .ok (.bipush 7, 2) := dk_16 7 (dk_at dksX12_pays_0 7 rfl rfl)
theorem dX12_pays_9 : decode cX12_pays 9 = .ok (.iaload, 1) := dk_46 (dk_at dksX12_pays_0 9 rfl rfl)
theorem dX12_pays_10 : decode cX12_pays 10 = .ok (.iconst 1, 1) := dk_4 (dk_at dksX12_pays_0 10 rfl rfl)
theorem dX12_pays_11 : decode cX12_pays 11 = .ok (.isub, 1) := dk_100 (dk_at dksX12_pays_0 11 rfl rfl)
theorem dX12_pays_12 : decode cX12_pays 12 = .ok (.istore 5, 2) := dk_54 5 (dk_at dksX12_pays_0 12 rfl rfl)
theorem dX12_pays_14 : decode cX12_pays 14 = .ok (.iload 5, 2) := dk_21 5 (dk_at dksX12_pays_0 14 rfl rfl)
theorem dX12_pays_16 : decode cX12_pays 16 = .ok (.ifCond .lt 54, 3) := dk_155 0 54 (dk_at dksX12_pays_0 16 rfl rfl)
theorem dX12_pays_19 : decode cX12_pays 19 = .ok (.aload_n 0, 1) := dk_42 (dk_at dksX12_pays_0 19 rfl rfl)
theorem dX12_pays_20 : decode cX12_pays 20 = .ok (.iload 5, 2) := dk_21 5 (dk_at dksX12_pays_0 20 rfl rfl)
theorem dX12_pays_22 : decode cX12_pays 22 = .ok (.iconst 0, 1) := dk_3 (dk_at dksX12_pays_0 22 rfl rfl)
theorem dX12_pays_23 : decode cX12_pays 23 = .ok (.invokevirtual 325, 3) := dk_182 1 69 (dk_at dksX12_pays_1 0 rfl rfl)
theorem dX12_pays_26 : decode cX12_pays 26 = .ok (.iload_n 1, 1) := dk_27 (dk_at dksX12_pays_1 3 rfl rfl)
theorem dX12_pays_27 : decode cX12_pays 27 = .ok (.if_icmp .ne 37, 3) := dk_160 0 37 (dk_at dksX12_pays_1 4 rfl rfl)
theorem dX12_pays_30 : decode cX12_pays 30 = .ok (.aload_n 0, 1) := dk_42 (dk_at dksX12_pays_1 7 rfl rfl)
theorem dX12_pays_31 : decode cX12_pays 31 = .ok (.iload 5, 2) := dk_21 5 (dk_at dksX12_pays_1 8 rfl rfl)
theorem dX12_pays_33 : decode cX12_pays 33 = .ok (.iconst 1, 1) := dk_4 (dk_at dksX12_pays_1 10 rfl rfl)
theorem dX12_pays_34 : decode cX12_pays 34 = .ok (.invokevirtual 325, 3) := dk_182 1 69 (dk_at dksX12_pays_1 11 rfl rfl)
theorem dX12_pays_37 : decode cX12_pays 37 = .ok (.iload_n 2, 1) := dk_28 (dk_at dksX12_pays_1 14 rfl rfl)
theorem dX12_pays_38 : decode cX12_pays 38 = .ok (.if_icmp .ne 26, 3) := dk_160 0 26 (dk_at dksX12_pays_1 15 rfl rfl)
theorem dX12_pays_41 : decode cX12_pays 41 = .ok (.aload_n 0, 1) := dk_42 (dk_at dksX12_pays_1 18 rfl rfl)
theorem dX12_pays_42 : decode cX12_pays 42 = .ok (.iload 5, 2) := dk_21 5 (dk_at dksX12_pays_1 19 rfl rfl)
theorem dX12_pays_44 : decode cX12_pays 44 = .ok (.iconst 2, 1) := dk_5 (dk_at dksX12_pays_1 21 rfl rfl)
theorem dX12_pays_45 : decode cX12_pays 45 = .ok (.invokevirtual 325, 3) := dk_182 1 69 (dk_at dksX12_pays_2 0 rfl rfl)
theorem dX12_pays_48 : decode cX12_pays 48 = .ok (.iload_n 3, 1) := dk_29 (dk_at dksX12_pays_2 3 rfl rfl)
theorem dX12_pays_49 : decode cX12_pays 49 = .ok (.if_icmp .le 6, 3) := dk_164 0 6 (dk_at dksX12_pays_2 4 rfl rfl)
theorem dX12_pays_52 : decode cX12_pays 52 = .ok (.goto 12, 3) := dk_167 0 12 (dk_at dksX12_pays_2 7 rfl rfl)
theorem dX12_pays_55 : decode cX12_pays 55 = .ok (.aload_n 0, 1) := dk_42 (dk_at dksX12_pays_2 10 rfl rfl)
theorem dX12_pays_56 : decode cX12_pays 56 = .ok (.iload 5, 2) := dk_21 5 (dk_at dksX12_pays_2 11 rfl rfl)
theorem dX12_pays_58 : decode cX12_pays 58 = .ok (.invokevirtual 328, 3) := dk_182 1 72 (dk_at dksX12_pays_2 13 rfl rfl)
theorem dX12_pays_61 : decode cX12_pays 61 = .ok (.iinc 4 1, 3) := dk_132 4 1 (dk_at dksX12_pays_2 16 rfl rfl)
theorem dX12_pays_64 : decode cX12_pays 64 = .ok (.iinc 5 (-1), 3) := dk_132 5 255 (dk_at dksX12_pays_2 19 rfl rfl)
theorem dX12_pays_67 : decode cX12_pays 67 = .ok (.goto (-53), 3) := dk_167 255 203 (dk_at dksX12_pays_3 0 rfl rfl)
theorem dX12_pays_70 : decode cX12_pays 70 = .ok (.iload 4, 2) := dk_21 4 (dk_at dksX12_pays_3 3 rfl rfl)
theorem dX12_pays_72 : decode cX12_pays 72 = .ok (.ireturn, 1) := dk_172 (dk_at dksX12_pays_3 5 rfl rfl)
abbrev cX12_ofDebt : ByteArray := prog_25_method_9_code
def yX12_ofDebt : MethodName := ⟨RX12, "ofDebt", "(II)I"⟩
def dkwX12_ofDebt_0 : List UInt8 := [42, 180, 0, 13, 17, 7, 88, 8, 27, 104, 96, 28, 96, 46, 172]
abbrev dktX12_ofDebt_0 : List UInt8 := dkwX12_ofDebt_0 ++ []
theorem dksX12_ofDebt_0 : cX12_ofDebt.data.toList.drop 0 = dktX12_ofDebt_0 := by decide +kernel
theorem dX12_ofDebt_0 : decode cX12_ofDebt 0 = .ok (.aload_n 0, 1) := dk_42 (dk_at dksX12_ofDebt_0 0 rfl rfl)
theorem dX12_ofDebt_1 : decode cX12_ofDebt 1 = .ok (.getfield 13, 3) := dk_180 0 13 (dk_at dksX12_ofDebt_0 1 rfl rfl)
theorem dX12_ofDebt_4 : decode cX12_ofDebt 4 = .ok (.sipush 1880, 3) := dk_17 7 88 (dk_at dksX12_ofDebt_0 4 rfl rfl)
theorem dX12_ofDebt_7 : decode cX12_ofDebt 7 = .ok (.iconst 5, 1) := dk_8 (dk_at dksX12_ofDebt_0 7 rfl rfl)
theorem dX12_ofDebt_8 : decode cX12_ofDebt 8 = .ok (.iload_n 1, 1) := dk_27 (dk_at dksX12_ofDebt_0 8 rfl rfl)
theorem dX12_ofDebt_9 : decode cX12_ofDebt 9 = .ok (.imul, 1) := dk_104 (dk_at dksX12_ofDebt_0 9 rfl rfl)
theorem dX12_ofDebt_10 : decode cX12_ofDebt 10 = .ok (.iadd, 1) := dk_96 (dk_at dksX12_ofDebt_0 10 rfl rfl)
theorem dX12_ofDebt_11 : decode cX12_ofDebt 11 = .ok (.iload_n 2, 1) := dk_28 (dk_at dksX12_ofDebt_0 11 rfl rfl)
theorem dX12_ofDebt_12 : decode cX12_ofDebt 12 = .ok (.iadd, 1) := dk_96 (dk_at dksX12_ofDebt_0 12 rfl rfl)
theorem dX12_ofDebt_13 : decode cX12_ofDebt 13 = .ok (.iaload, 1) := dk_46 (dk_at dksX12_ofDebt_0 13 rfl rfl)
theorem dX12_ofDebt_14 : decode cX12_ofDebt 14 = .ok (.ireturn, 1) := dk_172 (dk_at dksX12_ofDebt_0 14 rfl rfl)
abbrev cX12_drops : ByteArray := prog_25_method_46_code
def yX12_drops : MethodName := ⟨RX12, "drops", "(I)V"⟩
def dkwX12_drops_2 : List UInt8 := [42, 180, 0, 13, 16, 7, 92, 46, 4, 100, 79, 177]
abbrev dktX12_drops_2 : List UInt8 := dkwX12_drops_2 ++ []
def dkwX12_drops_1 : List UInt8 := [17, 7, 88, 28, 96, 42, 180, 0, 13, 17, 7, 88, 28, 96, 8, 96, 46, 79, 132, 2, 1, 167, 255, 216]
abbrev dktX12_drops_1 : List UInt8 := dkwX12_drops_1 ++ dktX12_drops_2
def dkwX12_drops_0 : List UInt8 := [8, 27, 104, 61, 28, 8, 42, 180, 0, 13, 16, 7, 46, 4, 100, 104, 162, 0, 31, 42, 180, 0, 13]
abbrev dktX12_drops_0 : List UInt8 := dkwX12_drops_0 ++ dktX12_drops_1
theorem dksX12_drops_0 : cX12_drops.data.toList.drop 0 = dktX12_drops_0 := by decide +kernel
theorem dksX12_drops_1 : cX12_drops.data.toList.drop 23 = dktX12_drops_1 := dk_seg dksX12_drops_0 23 rfl rfl
theorem dksX12_drops_2 : cX12_drops.data.toList.drop 47 = dktX12_drops_2 := dk_seg dksX12_drops_1 24 rfl rfl
theorem dX12_drops_0 : decode cX12_drops 0 = .ok (.iconst 5, 1) := dk_8 (dk_at dksX12_drops_0 0 rfl rfl)
theorem dX12_drops_1 : decode cX12_drops 1 = .ok (.iload_n 1, 1) := dk_27 (dk_at dksX12_drops_0 1 rfl rfl)
theorem dX12_drops_2 : decode cX12_drops 2 = .ok (.imul, 1) := dk_104 (dk_at dksX12_drops_0 2 rfl rfl)
theorem dX12_drops_3 : decode cX12_drops 3 = .ok (.istore_n 2, 1) := dk_61 (dk_at dksX12_drops_0 3 rfl rfl)
theorem dX12_drops_4 : decode cX12_drops 4 = .ok (.iload_n 2, 1) := dk_28 (dk_at dksX12_drops_0 4 rfl rfl)
theorem dX12_drops_5 : decode cX12_drops 5 = .ok (.iconst 5, 1) := dk_8 (dk_at dksX12_drops_0 5 rfl rfl)
theorem dX12_drops_6 : decode cX12_drops 6 = .ok (.aload_n 0, 1) := dk_42 (dk_at dksX12_drops_0 6 rfl rfl)
theorem dX12_drops_7 : decode cX12_drops 7 = .ok (.getfield 13, 3) := dk_180 0 13 (dk_at dksX12_drops_0 7 rfl rfl)
theorem dX12_drops_10 : decode cX12_drops 10 = .ok (.bipush 7, 2) := dk_16 7 (dk_at dksX12_drops_0 10 rfl rfl)
theorem dX12_drops_12 : decode cX12_drops 12 = .ok (.iaload, 1) := dk_46 (dk_at dksX12_drops_0 12 rfl rfl)
theorem dX12_drops_13 : decode cX12_drops 13 = .ok (.iconst 1, 1) := dk_4 (dk_at dksX12_drops_0 13 rfl rfl)
theorem dX12_drops_14 : decode cX12_drops 14 = .ok (.isub, 1) := dk_100 (dk_at dksX12_drops_0 14 rfl rfl)
theorem dX12_drops_15 : decode cX12_drops 15 = .ok (.imul, 1) := dk_104 (dk_at dksX12_drops_0 15 rfl rfl)
theorem dX12_drops_16 : decode cX12_drops 16 = .ok (.if_icmp .ge 31, 3) := dk_162 0 31 (dk_at dksX12_drops_0 16 rfl rfl)
theorem dX12_drops_19 : decode cX12_drops 19 = .ok (.aload_n 0, 1) := dk_42 (dk_at dksX12_drops_0 19 rfl rfl)
theorem dX12_drops_20 : decode cX12_drops 20 = .ok (.getfield 13, 3) := dk_180 0 13 (dk_at dksX12_drops_0 20 rfl rfl)
theorem dX12_drops_23 : decode cX12_drops 23 = .ok (.sipush 1880, 3) := dk_17 7 88 (dk_at dksX12_drops_1 0 rfl rfl)
theorem dX12_drops_26 : decode cX12_drops 26 = .ok (.iload_n 2, 1) := dk_28 (dk_at dksX12_drops_1 3 rfl rfl)
theorem dX12_drops_27 : decode cX12_drops 27 = .ok (.iadd, 1) := dk_96 (dk_at dksX12_drops_1 4 rfl rfl)
theorem dX12_drops_28 : decode cX12_drops 28 = .ok (.aload_n 0, 1) := dk_42 (dk_at dksX12_drops_1 5 rfl rfl)
theorem dX12_drops_29 : decode cX12_drops 29 = .ok (.getfield 13, 3) := dk_180 0 13 (dk_at dksX12_drops_1 6 rfl rfl)
theorem dX12_drops_32 : decode cX12_drops 32 = .ok (.sipush 1880, 3) := dk_17 7 88 (dk_at dksX12_drops_1 9 rfl rfl)
theorem dX12_drops_35 : decode cX12_drops 35 = .ok (.iload_n 2, 1) := dk_28 (dk_at dksX12_drops_1 12 rfl rfl)
theorem dX12_drops_36 : decode cX12_drops 36 = .ok (.iadd, 1) := dk_96 (dk_at dksX12_drops_1 13 rfl rfl)
theorem dX12_drops_37 : decode cX12_drops 37 = .ok (.iconst 5, 1) := dk_8 (dk_at dksX12_drops_1 14 rfl rfl)
theorem dX12_drops_38 : decode cX12_drops 38 = .ok (.iadd, 1) := dk_96 (dk_at dksX12_drops_1 15 rfl rfl)
theorem dX12_drops_39 : decode cX12_drops 39 = .ok (.iaload, 1) := dk_46 (dk_at dksX12_drops_1 16 rfl rfl)
theorem dX12_drops_40 : decode cX12_drops 40 = .ok (.iastore, 1) := dk_79 (dk_at dksX12_drops_1 17 rfl rfl)
theorem dX12_drops_41 : decode cX12_drops 41 = .ok (.iinc 2 1, 3) := dk_132 2 1 (dk_at dksX12_drops_1 18 rfl rfl)
theorem dX12_drops_44 : decode cX12_drops 44 = .ok (.goto (-40), 3) := dk_167 255 216 (dk_at dksX12_drops_1 21 rfl rfl)
theorem dX12_drops_47 : decode cX12_drops 47 = .ok (.aload_n 0, 1) := dk_42 (dk_at dksX12_drops_2 0 rfl rfl)
theorem dX12_drops_48 : decode cX12_drops 48 = .ok (.getfield 13, 3) := dk_180 0 13 (dk_at dksX12_drops_2 1 rfl rfl)
theorem dX12_drops_51 : decode cX12_drops 51 = .ok (.bipush 7, 2) := dk_16 7 (dk_at dksX12_drops_2 4 rfl rfl)
theorem dX12_drops_53 : decode cX12_drops 53 = .ok (.dup2, 1) := dk_92 (dk_at dksX12_drops_2 6 rfl rfl)
theorem dX12_drops_54 : decode cX12_drops 54 = .ok (.iaload, 1) := dk_46 (dk_at dksX12_drops_2 7 rfl rfl)
theorem dX12_drops_55 : decode cX12_drops 55 = .ok (.iconst 1, 1) := dk_4 (dk_at dksX12_drops_2 8 rfl rfl)
theorem dX12_drops_56 : decode cX12_drops 56 = .ok (.isub, 1) := dk_100 (dk_at dksX12_drops_2 9 rfl rfl)
theorem dX12_drops_57 : decode cX12_drops 57 = .ok (.iastore, 1) := dk_79 (dk_at dksX12_drops_2 10 rfl rfl)
theorem dX12_drops_58 : decode cX12_drops 58 = .ok (.return_, 1) := dk_177 (dk_at dksX12_drops_2 11 rfl rfl)
abbrev cX12_lineFor : ByteArray := prog_25_method_51_code
def yX12_lineFor : MethodName := ⟨RX12, "lineFor", "(IIIZI)I"⟩
def dkwX12_lineFor_6 : List UInt8 := [132, 9, 1, 167, 255, 216, 21, 8, 153, 0, 6, 21, 6, 172, 132, 6, 1, 167, 255, 161, 2, 172]
abbrev dktX12_lineFor_6 : List UInt8 := dkwX12_lineFor_6 ++ []
def dkwX12_lineFor_5 : List UInt8 := [21, 8, 153, 0, 27, 42, 42, 180, 0, 13, 21, 7, 6, 96, 46, 21, 9, 96, 182, 1, 86, 54, 8]
abbrev dktX12_lineFor_5 : List UInt8 := dkwX12_lineFor_5 ++ dktX12_lineFor_6
def dkwX12_lineFor_4 : List UInt8 := [167, 0, 60, 4, 54, 8, 3, 54, 9, 21, 9, 42, 180, 0, 13, 21, 7, 7, 96, 46, 162, 0, 32]
abbrev dktX12_lineFor_4 : List UInt8 := dkwX12_lineFor_4 ++ dktX12_lineFor_5
def dkwX12_lineFor_3 : List UInt8 := [162, 0, 90, 17, 0, 154, 8, 21, 6, 104, 96, 54, 7, 42, 180, 0, 13, 21, 7, 46, 29, 159, 0, 6]
abbrev dktX12_lineFor_3 : List UInt8 := dkwX12_lineFor_3 ++ dktX12_lineFor_4
def dkwX12_lineFor_2 : List UInt8 := [21, 4, 153, 0, 7, 4, 167, 0, 4, 3, 79, 3, 54, 6, 21, 6, 42, 180, 0, 13, 4, 46]
abbrev dktX12_lineFor_2 : List UInt8 := dkwX12_lineFor_2 ++ dktX12_lineFor_3
def dkwX12_lineFor_1 : List UInt8 := [42, 180, 0, 37, 5, 42, 28, 182, 1, 83, 79, 42, 180, 0, 37, 6, 21, 5, 79, 42, 180, 0, 37, 7]
abbrev dktX12_lineFor_1 : List UInt8 := dkwX12_lineFor_1 ++ dktX12_lineFor_2
def dkwX12_lineFor_0 : List UInt8 := [42, 180, 0, 37, 3, 42, 27, 5, 182, 1, 30, 79, 42, 180, 0, 37, 4, 42, 28, 5, 182, 1, 30, 79]
abbrev dktX12_lineFor_0 : List UInt8 := dkwX12_lineFor_0 ++ dktX12_lineFor_1
theorem dksX12_lineFor_0 : cX12_lineFor.data.toList.drop 0 = dktX12_lineFor_0 := by decide +kernel
theorem dksX12_lineFor_1 : cX12_lineFor.data.toList.drop 24 = dktX12_lineFor_1 := dk_seg dksX12_lineFor_0 24 rfl rfl
theorem dksX12_lineFor_2 : cX12_lineFor.data.toList.drop 48 = dktX12_lineFor_2 := dk_seg dksX12_lineFor_1 24 rfl rfl
theorem dksX12_lineFor_3 : cX12_lineFor.data.toList.drop 70 = dktX12_lineFor_3 := dk_seg dksX12_lineFor_2 22 rfl rfl
theorem dksX12_lineFor_4 : cX12_lineFor.data.toList.drop 94 = dktX12_lineFor_4 := dk_seg dksX12_lineFor_3 24 rfl rfl
theorem dksX12_lineFor_5 : cX12_lineFor.data.toList.drop 117 = dktX12_lineFor_5 := dk_seg dksX12_lineFor_4 23 rfl rfl
theorem dksX12_lineFor_6 : cX12_lineFor.data.toList.drop 140 = dktX12_lineFor_6 := dk_seg dksX12_lineFor_5 23 rfl rfl
theorem dX12_lineFor_0 : decode cX12_lineFor 0 = .ok (.aload_n 0, 1) := dk_42 (dk_at dksX12_lineFor_0 0 rfl rfl)
theorem dX12_lineFor_1 : decode cX12_lineFor 1 = .ok (.getfield 37, 3) := dk_180 0 37 (dk_at dksX12_lineFor_0 1 rfl rfl)
theorem dX12_lineFor_4 : decode cX12_lineFor 4 = .ok (.iconst 0, 1) := dk_3 (dk_at dksX12_lineFor_0 4 rfl rfl)
theorem dX12_lineFor_5 : decode cX12_lineFor 5 = .ok (.aload_n 0, 1) := dk_42 (dk_at dksX12_lineFor_0 5 rfl rfl)
theorem dX12_lineFor_6 : decode cX12_lineFor 6 = .ok (.iload_n 1, 1) := dk_27 (dk_at dksX12_lineFor_0 6 rfl rfl)
theorem dX12_lineFor_7 : decode cX12_lineFor 7 = .ok (.iconst 2, 1) := dk_5 (dk_at dksX12_lineFor_0 7 rfl rfl)
theorem dX12_lineFor_8 : decode cX12_lineFor 8 = .ok (.invokevirtual 286, 3) := dk_182 1 30 (dk_at dksX12_lineFor_0 8 rfl rfl)
theorem dX12_lineFor_11 : decode cX12_lineFor 11 = .ok (.iastore, 1) := dk_79 (dk_at dksX12_lineFor_0 11 rfl rfl)
theorem dX12_lineFor_12 : decode cX12_lineFor 12 = .ok (.aload_n 0, 1) := dk_42 (dk_at dksX12_lineFor_0 12 rfl rfl)
theorem dX12_lineFor_13 : decode cX12_lineFor 13 = .ok (.getfield 37, 3) := dk_180 0 37 (dk_at dksX12_lineFor_0 13 rfl rfl)
theorem dX12_lineFor_16 : decode cX12_lineFor 16 = .ok (.iconst 1, 1) := dk_4 (dk_at dksX12_lineFor_0 16 rfl rfl)
theorem dX12_lineFor_17 : decode cX12_lineFor 17 = .ok (.aload_n 0, 1) := dk_42 (dk_at dksX12_lineFor_0 17 rfl rfl)
theorem dX12_lineFor_18 : decode cX12_lineFor 18 = .ok (.iload_n 2, 1) := dk_28 (dk_at dksX12_lineFor_0 18 rfl rfl)
theorem dX12_lineFor_19 : decode cX12_lineFor 19 = .ok (.iconst 2, 1) := dk_5 (dk_at dksX12_lineFor_0 19 rfl rfl)
theorem dX12_lineFor_20 : decode cX12_lineFor 20 = .ok (.invokevirtual 286, 3) := dk_182 1 30 (dk_at dksX12_lineFor_0 20 rfl rfl)
theorem dX12_lineFor_23 : decode cX12_lineFor 23 = .ok (.iastore, 1) := dk_79 (dk_at dksX12_lineFor_0 23 rfl rfl)
theorem dX12_lineFor_24 : decode cX12_lineFor 24 = .ok (.aload_n 0, 1) := dk_42 (dk_at dksX12_lineFor_1 0 rfl rfl)
theorem dX12_lineFor_25 : decode cX12_lineFor 25 = .ok (.getfield 37, 3) := dk_180 0 37 (dk_at dksX12_lineFor_1 1 rfl rfl)
theorem dX12_lineFor_28 : decode cX12_lineFor 28 = .ok (.iconst 2, 1) := dk_5 (dk_at dksX12_lineFor_1 4 rfl rfl)
theorem dX12_lineFor_29 : decode cX12_lineFor 29 = .ok (.aload_n 0, 1) := dk_42 (dk_at dksX12_lineFor_1 5 rfl rfl)
theorem dX12_lineFor_30 : decode cX12_lineFor 30 = .ok (.iload_n 2, 1) := dk_28 (dk_at dksX12_lineFor_1 6 rfl rfl)
theorem dX12_lineFor_31 : decode cX12_lineFor 31 = .ok (.invokevirtual 339, 3) := dk_182 1 83 (dk_at dksX12_lineFor_1 7 rfl rfl)
theorem dX12_lineFor_34 : decode cX12_lineFor 34 = .ok (.iastore, 1) := dk_79 (dk_at dksX12_lineFor_1 10 rfl rfl)
theorem dX12_lineFor_35 : decode cX12_lineFor 35 = .ok (.aload_n 0, 1) := dk_42 (dk_at dksX12_lineFor_1 11 rfl rfl)
theorem dX12_lineFor_36 : decode cX12_lineFor 36 = .ok (.getfield 37, 3) := dk_180 0 37 (dk_at dksX12_lineFor_1 12 rfl rfl)
theorem dX12_lineFor_39 : decode cX12_lineFor 39 = .ok (.iconst 3, 1) := dk_6 (dk_at dksX12_lineFor_1 15 rfl rfl)
theorem dX12_lineFor_40 : decode cX12_lineFor 40 = .ok (.iload 5, 2) := dk_21 5 (dk_at dksX12_lineFor_1 16 rfl rfl)
theorem dX12_lineFor_42 : decode cX12_lineFor 42 = .ok (.iastore, 1) := dk_79 (dk_at dksX12_lineFor_1 18 rfl rfl)
theorem dX12_lineFor_43 : decode cX12_lineFor 43 = .ok (.aload_n 0, 1) := dk_42 (dk_at dksX12_lineFor_1 19 rfl rfl)
theorem dX12_lineFor_44 : decode cX12_lineFor 44 = .ok (.getfield 37, 3) := dk_180 0 37 (dk_at dksX12_lineFor_1 20 rfl rfl)
theorem dX12_lineFor_47 : decode cX12_lineFor 47 = .ok (.iconst 4, 1) := dk_7 (dk_at dksX12_lineFor_1 23 rfl rfl)
theorem dX12_lineFor_48 : decode cX12_lineFor 48 = .ok (.iload 4, 2) := dk_21 4 (dk_at dksX12_lineFor_2 0 rfl rfl)
theorem dX12_lineFor_50 : decode cX12_lineFor 50 = .ok (.ifCond .eq 7, 3) := dk_153 0 7 (dk_at dksX12_lineFor_2 2 rfl rfl)
theorem dX12_lineFor_53 : decode cX12_lineFor 53 = .ok (.iconst 1, 1) := dk_4 (dk_at dksX12_lineFor_2 5 rfl rfl)
theorem dX12_lineFor_54 : decode cX12_lineFor 54 = .ok (.goto 4, 3) := dk_167 0 4 (dk_at dksX12_lineFor_2 6 rfl rfl)
theorem dX12_lineFor_57 : decode cX12_lineFor 57 = .ok (.iconst 0, 1) := dk_3 (dk_at dksX12_lineFor_2 9 rfl rfl)
theorem dX12_lineFor_58 : decode cX12_lineFor 58 = .ok (.iastore, 1) := dk_79 (dk_at dksX12_lineFor_2 10 rfl rfl)
theorem dX12_lineFor_59 : decode cX12_lineFor 59 = .ok (.iconst 0, 1) := dk_3 (dk_at dksX12_lineFor_2 11 rfl rfl)
theorem dX12_lineFor_60 : decode cX12_lineFor 60 = .ok (.istore 6, 2) := dk_54 6 (dk_at dksX12_lineFor_2 12 rfl rfl)
theorem dX12_lineFor_62 : decode cX12_lineFor 62 = .ok (.iload 6, 2) := dk_21 6 (dk_at dksX12_lineFor_2 14 rfl rfl)
theorem dX12_lineFor_64 : decode cX12_lineFor 64 = .ok (.aload_n 0, 1) := dk_42 (dk_at dksX12_lineFor_2 16 rfl rfl)
theorem dX12_lineFor_65 : decode cX12_lineFor 65 = .ok (.getfield 13, 3) := dk_180 0 13 (dk_at dksX12_lineFor_2 17 rfl rfl)
theorem dX12_lineFor_68 : decode cX12_lineFor 68 = .ok (.iconst 1, 1) := dk_4 (dk_at dksX12_lineFor_2 20 rfl rfl)
theorem dX12_lineFor_69 : decode cX12_lineFor 69 = .ok (.iaload, 1) := dk_46 (dk_at dksX12_lineFor_2 21 rfl rfl)
theorem dX12_lineFor_70 : decode cX12_lineFor 70 = .ok (.if_icmp .ge 90, 3) := dk_162 0 90 (dk_at dksX12_lineFor_3 0 rfl rfl)
theorem dX12_lineFor_73 : decode cX12_lineFor 73 = .ok (.sipush 154, 3) := dk_17 0 154 (dk_at dksX12_lineFor_3 3 rfl rfl)
theorem dX12_lineFor_76 : decode cX12_lineFor 76 = .ok (.iconst 5, 1) := dk_8 (dk_at dksX12_lineFor_3 6 rfl rfl)
theorem dX12_lineFor_77 : decode cX12_lineFor 77 = .ok (.iload 6, 2) := dk_21 6 (dk_at dksX12_lineFor_3 7 rfl rfl)
theorem dX12_lineFor_79 : decode cX12_lineFor 79 = .ok (.imul, 1) := dk_104 (dk_at dksX12_lineFor_3 9 rfl rfl)
theorem dX12_lineFor_80 : decode cX12_lineFor 80 = .ok (.iadd, 1) := dk_96 (dk_at dksX12_lineFor_3 10 rfl rfl)
theorem dX12_lineFor_81 : decode cX12_lineFor 81 = .ok (.istore 7, 2) := dk_54 7 (dk_at dksX12_lineFor_3 11 rfl rfl)
theorem dX12_lineFor_83 : decode cX12_lineFor 83 = .ok (.aload_n 0, 1) := dk_42 (dk_at dksX12_lineFor_3 13 rfl rfl)
theorem dX12_lineFor_84 : decode cX12_lineFor 84 = .ok (.getfield 13, 3) := dk_180 0 13 (dk_at dksX12_lineFor_3 14 rfl rfl)
theorem dX12_lineFor_87 : decode cX12_lineFor 87 = .ok (.iload 7, 2) := dk_21 7 (dk_at dksX12_lineFor_3 17 rfl rfl)
theorem dX12_lineFor_89 : decode cX12_lineFor 89 = .ok (.iaload, 1) := dk_46 (dk_at dksX12_lineFor_3 19 rfl rfl)
theorem dX12_lineFor_90 : decode cX12_lineFor 90 = .ok (.iload_n 3, 1) := dk_29 (dk_at dksX12_lineFor_3 20 rfl rfl)
theorem dX12_lineFor_91 : decode cX12_lineFor 91 = .ok (.if_icmp .eq 6, 3) := dk_159 0 6 (dk_at dksX12_lineFor_3 21 rfl rfl)
theorem dX12_lineFor_94 : decode cX12_lineFor 94 = .ok (.goto 60, 3) := dk_167 0 60 (dk_at dksX12_lineFor_4 0 rfl rfl)
theorem dX12_lineFor_97 : decode cX12_lineFor 97 = .ok (.iconst 1, 1) := dk_4 (dk_at dksX12_lineFor_4 3 rfl rfl)
theorem dX12_lineFor_98 : decode cX12_lineFor 98 = .ok (.istore 8, 2) := dk_54 8 (dk_at dksX12_lineFor_4 4 rfl rfl)
theorem dX12_lineFor_100 : decode cX12_lineFor 100 = .ok (.iconst 0, 1) := dk_3 (dk_at dksX12_lineFor_4 6 rfl rfl)
theorem dX12_lineFor_101 : decode cX12_lineFor 101 = .ok (.istore 9, 2) := dk_54 9 (dk_at dksX12_lineFor_4 7 rfl rfl)
theorem dX12_lineFor_103 : decode cX12_lineFor 103 = .ok (.iload 9, 2) := dk_21 9 (dk_at dksX12_lineFor_4 9 rfl rfl)
theorem dX12_lineFor_105 : decode cX12_lineFor 105 = .ok (.aload_n 0, 1) := dk_42 (dk_at dksX12_lineFor_4 11 rfl rfl)
theorem dX12_lineFor_106 : decode cX12_lineFor 106 = .ok (.getfield 13, 3) := dk_180 0 13 (dk_at dksX12_lineFor_4 12 rfl rfl)
theorem dX12_lineFor_109 : decode cX12_lineFor 109 = .ok (.iload 7, 2) := dk_21 7 (dk_at dksX12_lineFor_4 15 rfl rfl)
theorem dX12_lineFor_111 : decode cX12_lineFor 111 = .ok (.iconst 4, 1) := dk_7 (dk_at dksX12_lineFor_4 17 rfl rfl)
theorem dX12_lineFor_112 : decode cX12_lineFor 112 = .ok (.iadd, 1) := dk_96 (dk_at dksX12_lineFor_4 18 rfl rfl)
theorem dX12_lineFor_113 : decode cX12_lineFor 113 = .ok (.iaload, 1) := dk_46 (dk_at dksX12_lineFor_4 19 rfl rfl)
theorem dX12_lineFor_114 : decode cX12_lineFor 114 = .ok (.if_icmp .ge 32, 3) := dk_162 0 32 (dk_at dksX12_lineFor_4 20 rfl rfl)
theorem dX12_lineFor_117 : decode cX12_lineFor 117 = .ok (.iload 8, 2) := dk_21 8 (dk_at dksX12_lineFor_5 0 rfl rfl)
theorem dX12_lineFor_119 : decode cX12_lineFor 119 = .ok (.ifCond .eq 27, 3) := dk_153 0 27 (dk_at dksX12_lineFor_5 2 rfl rfl)
theorem dX12_lineFor_122 : decode cX12_lineFor 122 = .ok (.aload_n 0, 1) := dk_42 (dk_at dksX12_lineFor_5 5 rfl rfl)
theorem dX12_lineFor_123 : decode cX12_lineFor 123 = .ok (.aload_n 0, 1) := dk_42 (dk_at dksX12_lineFor_5 6 rfl rfl)
theorem dX12_lineFor_124 : decode cX12_lineFor 124 = .ok (.getfield 13, 3) := dk_180 0 13 (dk_at dksX12_lineFor_5 7 rfl rfl)
theorem dX12_lineFor_127 : decode cX12_lineFor 127 = .ok (.iload 7, 2) := dk_21 7 (dk_at dksX12_lineFor_5 10 rfl rfl)
theorem dX12_lineFor_129 : decode cX12_lineFor 129 = .ok (.iconst 3, 1) := dk_6 (dk_at dksX12_lineFor_5 12 rfl rfl)
theorem dX12_lineFor_130 : decode cX12_lineFor 130 = .ok (.iadd, 1) := dk_96 (dk_at dksX12_lineFor_5 13 rfl rfl)
theorem dX12_lineFor_131 : decode cX12_lineFor 131 = .ok (.iaload, 1) := dk_46 (dk_at dksX12_lineFor_5 14 rfl rfl)
theorem dX12_lineFor_132 : decode cX12_lineFor 132 = .ok (.iload 9, 2) := dk_21 9 (dk_at dksX12_lineFor_5 15 rfl rfl)
theorem dX12_lineFor_134 : decode cX12_lineFor 134 = .ok (.iadd, 1) := dk_96 (dk_at dksX12_lineFor_5 17 rfl rfl)
theorem dX12_lineFor_135 : decode cX12_lineFor 135 = .ok (.invokevirtual 342, 3) := dk_182 1 86 (dk_at dksX12_lineFor_5 18 rfl rfl)
theorem dX12_lineFor_138 : decode cX12_lineFor 138 = .ok (.istore 8, 2) := dk_54 8 (dk_at dksX12_lineFor_5 21 rfl rfl)
theorem dX12_lineFor_140 : decode cX12_lineFor 140 = .ok (.iinc 9 1, 3) := dk_132 9 1 (dk_at dksX12_lineFor_6 0 rfl rfl)
theorem dX12_lineFor_143 : decode cX12_lineFor 143 = .ok (.goto (-40), 3) := dk_167 255 216 (dk_at dksX12_lineFor_6 3 rfl rfl)
theorem dX12_lineFor_146 : decode cX12_lineFor 146 = .ok (.iload 8, 2) := dk_21 8 (dk_at dksX12_lineFor_6 6 rfl rfl)
theorem dX12_lineFor_148 : decode cX12_lineFor 148 = .ok (.ifCond .eq 6, 3) := dk_153 0 6 (dk_at dksX12_lineFor_6 8 rfl rfl)
theorem dX12_lineFor_151 : decode cX12_lineFor 151 = .ok (.iload 6, 2) := dk_21 6 (dk_at dksX12_lineFor_6 11 rfl rfl)
theorem dX12_lineFor_153 : decode cX12_lineFor 153 = .ok (.ireturn, 1) := dk_172 (dk_at dksX12_lineFor_6 13 rfl rfl)
theorem dX12_lineFor_154 : decode cX12_lineFor 154 = .ok (.iinc 6 1, 3) := dk_132 6 1 (dk_at dksX12_lineFor_6 14 rfl rfl)
theorem dX12_lineFor_157 : decode cX12_lineFor 157 = .ok (.goto (-95), 3) := dk_167 255 161 (dk_at dksX12_lineFor_6 17 rfl rfl)
theorem dX12_lineFor_160 : decode cX12_lineFor 160 = .ok (.iconst (-1), 1) := dk_2 (dk_at dksX12_lineFor_6 20 rfl rfl)
theorem dX12_lineFor_161 : decode cX12_lineFor 161 = .ok (.ireturn, 1) := dk_172 (dk_at dksX12_lineFor_6 21 rfl rfl)
abbrev cX12_debtsOf : ByteArray := prog_25_method_45_code
def yX12_debtsOf : MethodName := ⟨RX12, "debtsOf", "(I)I"⟩
def dkwX12_debtsOf_1 : List UInt8 := [160, 0, 7, 4, 167, 0, 4, 3, 96, 61, 132, 3, 1, 167, 255, 224, 28, 172]
abbrev dktX12_debtsOf_1 : List UInt8 := dkwX12_debtsOf_1 ++ []
def dkwX12_debtsOf_0 : List UInt8 := [3, 61, 3, 62, 29, 42, 180, 0, 13, 16, 7, 46, 162, 0, 27, 28, 42, 29, 3, 182, 1, 69, 27]
abbrev dktX12_debtsOf_0 : List UInt8 := dkwX12_debtsOf_0 ++ dktX12_debtsOf_1
theorem dksX12_debtsOf_0 : cX12_debtsOf.data.toList.drop 0 = dktX12_debtsOf_0 := by decide +kernel
theorem dksX12_debtsOf_1 : cX12_debtsOf.data.toList.drop 23 = dktX12_debtsOf_1 := dk_seg dksX12_debtsOf_0 23 rfl rfl
theorem dX12_debtsOf_0 : decode cX12_debtsOf 0 = .ok (.iconst 0, 1) := dk_3 (dk_at dksX12_debtsOf_0 0 rfl rfl)
theorem dX12_debtsOf_1 : decode cX12_debtsOf 1 = .ok (.istore_n 2, 1) := dk_61 (dk_at dksX12_debtsOf_0 1 rfl rfl)
theorem dX12_debtsOf_2 : decode cX12_debtsOf 2 = .ok (.iconst 0, 1) := dk_3 (dk_at dksX12_debtsOf_0 2 rfl rfl)
theorem dX12_debtsOf_3 : decode cX12_debtsOf 3 = .ok (.istore_n 3, 1) := dk_62 (dk_at dksX12_debtsOf_0 3 rfl rfl)
theorem dX12_debtsOf_4 : decode cX12_debtsOf 4 = .ok (.iload_n 3, 1) := dk_29 (dk_at dksX12_debtsOf_0 4 rfl rfl)
theorem dX12_debtsOf_5 : decode cX12_debtsOf 5 = .ok (.aload_n 0, 1) := dk_42 (dk_at dksX12_debtsOf_0 5 rfl rfl)
theorem dX12_debtsOf_6 : decode cX12_debtsOf 6 = .ok (.getfield 13, 3) := dk_180 0 13 (dk_at dksX12_debtsOf_0 6 rfl rfl)
theorem dX12_debtsOf_9 : decode cX12_debtsOf 9 = .ok (.bipush 7, 2) := dk_16 7 (dk_at dksX12_debtsOf_0 9 rfl rfl)
theorem dX12_debtsOf_11 : decode cX12_debtsOf 11 = .ok (.iaload, 1) := dk_46 (dk_at dksX12_debtsOf_0 11 rfl rfl)
theorem dX12_debtsOf_12 : decode cX12_debtsOf 12 = .ok (.if_icmp .ge 27, 3) := dk_162 0 27 (dk_at dksX12_debtsOf_0 12 rfl rfl)
theorem dX12_debtsOf_15 : decode cX12_debtsOf 15 = .ok (.iload_n 2, 1) := dk_28 (dk_at dksX12_debtsOf_0 15 rfl rfl)
theorem dX12_debtsOf_16 : decode cX12_debtsOf 16 = .ok (.aload_n 0, 1) := dk_42 (dk_at dksX12_debtsOf_0 16 rfl rfl)
theorem dX12_debtsOf_17 : decode cX12_debtsOf 17 = .ok (.iload_n 3, 1) := dk_29 (dk_at dksX12_debtsOf_0 17 rfl rfl)
theorem dX12_debtsOf_18 : decode cX12_debtsOf 18 = .ok (.iconst 0, 1) := dk_3 (dk_at dksX12_debtsOf_0 18 rfl rfl)
theorem dX12_debtsOf_19 : decode cX12_debtsOf 19 = .ok (.invokevirtual 325, 3) := dk_182 1 69 (dk_at dksX12_debtsOf_0 19 rfl rfl)
theorem dX12_debtsOf_22 : decode cX12_debtsOf 22 = .ok (.iload_n 1, 1) := dk_27 (dk_at dksX12_debtsOf_0 22 rfl rfl)
theorem dX12_debtsOf_23 : decode cX12_debtsOf 23 = .ok (.if_icmp .ne 7, 3) := dk_160 0 7 (dk_at dksX12_debtsOf_1 0 rfl rfl)
theorem dX12_debtsOf_26 : decode cX12_debtsOf 26 = .ok (.iconst 1, 1) := dk_4 (dk_at dksX12_debtsOf_1 3 rfl rfl)
theorem dX12_debtsOf_27 : decode cX12_debtsOf 27 = .ok (.goto 4, 3) := dk_167 0 4 (dk_at dksX12_debtsOf_1 4 rfl rfl)
theorem dX12_debtsOf_30 : decode cX12_debtsOf 30 = .ok (.iconst 0, 1) := dk_3 (dk_at dksX12_debtsOf_1 7 rfl rfl)
theorem dX12_debtsOf_31 : decode cX12_debtsOf 31 = .ok (.iadd, 1) := dk_96 (dk_at dksX12_debtsOf_1 8 rfl rfl)
theorem dX12_debtsOf_32 : decode cX12_debtsOf 32 = .ok (.istore_n 2, 1) := dk_61 (dk_at dksX12_debtsOf_1 9 rfl rfl)
theorem dX12_debtsOf_33 : decode cX12_debtsOf 33 = .ok (.iinc 3 1, 3) := dk_132 3 1 (dk_at dksX12_debtsOf_1 10 rfl rfl)
theorem dX12_debtsOf_36 : decode cX12_debtsOf 36 = .ok (.goto (-32), 3) := dk_167 255 224 (dk_at dksX12_debtsOf_1 13 rfl rfl)
theorem dX12_debtsOf_39 : decode cX12_debtsOf 39 = .ok (.iload_n 2, 1) := dk_28 (dk_at dksX12_debtsOf_1 16 rfl rfl)
theorem dX12_debtsOf_40 : decode cX12_debtsOf 40 = .ok (.ireturn, 1) := dk_172 (dk_at dksX12_debtsOf_1 17 rfl rfl)
abbrev cX12_testHolds : ByteArray := prog_25_method_50_code
def yX12_testHolds : MethodName := ⟨RX12, "testHolds", "(I)Z"⟩
def dkwX12_testHolds_10 : List UInt8 := [167, 0, 16, 22, 4, 22, 6, 148, 154, 0, 7, 4, 167, 0, 4, 3, 172]
abbrev dktX12_testHolds_10 : List UInt8 := dkwX12_testHolds_10 ++ []
def dkwX12_testHolds_9 : List UInt8 := [167, 0, 38, 21, 8, 4, 160, 0, 19, 22, 4, 22, 6, 148, 156, 0, 7, 4, 167, 0, 20, 3]
abbrev dktX12_testHolds_9 : List UInt8 := dkwX12_testHolds_9 ++ dktX12_testHolds_10
def dkwX12_testHolds_8 : List UInt8 := [96, 46, 54, 8, 21, 8, 154, 0, 19, 22, 4, 22, 6, 148, 158, 0, 7, 4, 167, 0, 42, 3]
abbrev dktX12_testHolds_8 : List UInt8 := dkwX12_testHolds_8 ++ dktX12_testHolds_9
def dkwX12_testHolds_7 : List UInt8 := [20, 1, 81, 184, 0, 101, 154, 0, 5, 3, 172, 167, 255, 124, 42, 180, 0, 13, 17, 1, 18, 6, 27, 104]
abbrev dktX12_testHolds_7 : List UInt8 := dkwX12_testHolds_7 ++ dktX12_testHolds_8
def dkwX12_testHolds_6 : List UInt8 := [160, 0, 11, 22, 6, 22, 9, 101, 167, 0, 8, 22, 6, 22, 9, 97, 55, 6, 22, 6, 20, 1, 79]
abbrev dktX12_testHolds_6 : List UInt8 := dkwX12_testHolds_6 ++ dktX12_testHolds_7
def dkwX12_testHolds_5 : List UInt8 := [132, 2, 1, 167, 255, 206, 21, 8, 7, 160, 0, 10, 22, 6, 55, 4, 9, 55, 6, 21, 8, 5]
abbrev dktX12_testHolds_5 : List UInt8 := dkwX12_testHolds_5 ++ dktX12_testHolds_6
def dkwX12_testHolds_4 : List UInt8 := [182, 1, 75, 105, 55, 9, 22, 9, 20, 1, 79, 20, 1, 81, 184, 0, 101, 154, 0, 5, 3, 172]
abbrev dktX12_testHolds_4 : List UInt8 := dkwX12_testHolds_4 ++ dktX12_testHolds_5
def dkwX12_testHolds_3 : List UInt8 := [162, 0, 51, 42, 180, 0, 13, 17, 3, 46, 6, 28, 104, 96, 46, 6, 160, 0, 35, 22, 9, 42, 28]
abbrev dktX12_testHolds_3 : List UInt8 := dkwX12_testHolds_3 ++ dktX12_testHolds_4
def dkwX12_testHolds_2 : List UInt8 := [17, 3, 46, 6, 28, 104, 96, 46, 54, 8, 42, 28, 182, 1, 75, 55, 9, 132, 2, 1, 28, 29]
abbrev dktX12_testHolds_2 : List UInt8 := dkwX12_testHolds_2 ++ dktX12_testHolds_3
def dkwX12_testHolds_1 : List UInt8 := [27, 104, 96, 5, 96, 46, 96, 62, 9, 55, 4, 9, 55, 6, 28, 29, 162, 0, 133, 42, 180, 0, 13]
abbrev dktX12_testHolds_1 : List UInt8 := dkwX12_testHolds_1 ++ dktX12_testHolds_2
def dkwX12_testHolds_0 : List UInt8 := [42, 180, 0, 13, 17, 1, 18, 6, 27, 104, 96, 4, 96, 46, 61, 28, 42, 180, 0, 13, 17, 1, 18, 6]
abbrev dktX12_testHolds_0 : List UInt8 := dkwX12_testHolds_0 ++ dktX12_testHolds_1
theorem dksX12_testHolds_0 : cX12_testHolds.data.toList.drop 0 = dktX12_testHolds_0 := by decide +kernel
theorem dksX12_testHolds_1 : cX12_testHolds.data.toList.drop 24 = dktX12_testHolds_1 := dk_seg dksX12_testHolds_0 24 rfl rfl
theorem dksX12_testHolds_2 : cX12_testHolds.data.toList.drop 47 = dktX12_testHolds_2 := dk_seg dksX12_testHolds_1 23 rfl rfl
theorem dksX12_testHolds_3 : cX12_testHolds.data.toList.drop 69 = dktX12_testHolds_3 := dk_seg dksX12_testHolds_2 22 rfl rfl
theorem dksX12_testHolds_4 : cX12_testHolds.data.toList.drop 92 = dktX12_testHolds_4 := dk_seg dksX12_testHolds_3 23 rfl rfl
theorem dksX12_testHolds_5 : cX12_testHolds.data.toList.drop 114 = dktX12_testHolds_5 := dk_seg dksX12_testHolds_4 22 rfl rfl
theorem dksX12_testHolds_6 : cX12_testHolds.data.toList.drop 136 = dktX12_testHolds_6 := dk_seg dksX12_testHolds_5 22 rfl rfl
theorem dksX12_testHolds_7 : cX12_testHolds.data.toList.drop 159 = dktX12_testHolds_7 := dk_seg dksX12_testHolds_6 23 rfl rfl
theorem dksX12_testHolds_8 : cX12_testHolds.data.toList.drop 183 = dktX12_testHolds_8 := dk_seg dksX12_testHolds_7 24 rfl rfl
theorem dksX12_testHolds_9 : cX12_testHolds.data.toList.drop 205 = dktX12_testHolds_9 := dk_seg dksX12_testHolds_8 22 rfl rfl
theorem dksX12_testHolds_10 : cX12_testHolds.data.toList.drop 227 = dktX12_testHolds_10 := dk_seg dksX12_testHolds_9 22 rfl rfl
theorem dX12_testHolds_0 : decode cX12_testHolds 0 = .ok (.aload_n 0, 1) := dk_42 (dk_at dksX12_testHolds_0 0 rfl rfl)
theorem dX12_testHolds_1 : decode cX12_testHolds 1 = .ok (.getfield 13, 3) := dk_180 0 13 (dk_at dksX12_testHolds_0 1 rfl rfl)
theorem dX12_testHolds_4 : decode cX12_testHolds 4 = .ok (.sipush 274, 3) := dk_17 1 18 (dk_at dksX12_testHolds_0 4 rfl rfl)
theorem dX12_testHolds_7 : decode cX12_testHolds 7 = .ok (.iconst 3, 1) := dk_6 (dk_at dksX12_testHolds_0 7 rfl rfl)
theorem dX12_testHolds_8 : decode cX12_testHolds 8 = .ok (.iload_n 1, 1) := dk_27 (dk_at dksX12_testHolds_0 8 rfl rfl)
theorem dX12_testHolds_9 : decode cX12_testHolds 9 = .ok (.imul, 1) := dk_104 (dk_at dksX12_testHolds_0 9 rfl rfl)
theorem dX12_testHolds_10 : decode cX12_testHolds 10 = .ok (.iadd, 1) := dk_96 (dk_at dksX12_testHolds_0 10 rfl rfl)
theorem dX12_testHolds_11 : decode cX12_testHolds 11 = .ok (.iconst 1, 1) := dk_4 (dk_at dksX12_testHolds_0 11 rfl rfl)
theorem dX12_testHolds_12 : decode cX12_testHolds 12 = .ok (.iadd, 1) := dk_96 (dk_at dksX12_testHolds_0 12 rfl rfl)
theorem dX12_testHolds_13 : decode cX12_testHolds 13 = .ok (.iaload, 1) := dk_46 (dk_at dksX12_testHolds_0 13 rfl rfl)
theorem dX12_testHolds_14 : decode cX12_testHolds 14 = .ok (.istore_n 2, 1) := dk_61 (dk_at dksX12_testHolds_0 14 rfl rfl)
theorem dX12_testHolds_15 : decode cX12_testHolds 15 = .ok (.iload_n 2, 1) := dk_28 (dk_at dksX12_testHolds_0 15 rfl rfl)
theorem dX12_testHolds_16 : decode cX12_testHolds 16 = .ok (.aload_n 0, 1) := dk_42 (dk_at dksX12_testHolds_0 16 rfl rfl)
theorem dX12_testHolds_17 : decode cX12_testHolds 17 = .ok (.getfield 13, 3) := dk_180 0 13 (dk_at dksX12_testHolds_0 17 rfl rfl)
theorem dX12_testHolds_20 : decode cX12_testHolds 20 = .ok (.sipush 274, 3) := dk_17 1 18 (dk_at dksX12_testHolds_0 20 rfl rfl)
theorem dX12_testHolds_23 : decode cX12_testHolds 23 = .ok (.iconst 3, 1) := dk_6 (dk_at dksX12_testHolds_0 23 rfl rfl)
theorem dX12_testHolds_24 : decode cX12_testHolds 24 = .ok (.iload_n 1, 1) := dk_27 (dk_at dksX12_testHolds_1 0 rfl rfl)
theorem dX12_testHolds_25 : decode cX12_testHolds 25 = .ok (.imul, 1) := dk_104 (dk_at dksX12_testHolds_1 1 rfl rfl)
theorem dX12_testHolds_26 : decode cX12_testHolds 26 = .ok (.iadd, 1) := dk_96 (dk_at dksX12_testHolds_1 2 rfl rfl)
theorem dX12_testHolds_27 : decode cX12_testHolds 27 = .ok (.iconst 2, 1) := dk_5 (dk_at dksX12_testHolds_1 3 rfl rfl)
theorem dX12_testHolds_28 : decode cX12_testHolds 28 = .ok (.iadd, 1) := dk_96 (dk_at dksX12_testHolds_1 4 rfl rfl)
theorem dX12_testHolds_29 : decode cX12_testHolds 29 = .ok (.iaload, 1) := dk_46 (dk_at dksX12_testHolds_1 5 rfl rfl)
theorem dX12_testHolds_30 : decode cX12_testHolds 30 = .ok (.iadd, 1) := dk_96 (dk_at dksX12_testHolds_1 6 rfl rfl)
theorem dX12_testHolds_31 : decode cX12_testHolds 31 = .ok (.istore_n 3, 1) := dk_62 (dk_at dksX12_testHolds_1 7 rfl rfl)
theorem dX12_testHolds_32 : decode cX12_testHolds 32 = .ok (.lconst 0, 1) := dk_9 (dk_at dksX12_testHolds_1 8 rfl rfl)
theorem dX12_testHolds_33 : decode cX12_testHolds 33 = .ok (.lstore 4, 2) := dk_55 4 (dk_at dksX12_testHolds_1 9 rfl rfl)
theorem dX12_testHolds_35 : decode cX12_testHolds 35 = .ok (.lconst 0, 1) := dk_9 (dk_at dksX12_testHolds_1 11 rfl rfl)
theorem dX12_testHolds_36 : decode cX12_testHolds 36 = .ok (.lstore 6, 2) := dk_55 6 (dk_at dksX12_testHolds_1 12 rfl rfl)
theorem dX12_testHolds_38 : decode cX12_testHolds 38 = .ok (.iload_n 2, 1) := dk_28 (dk_at dksX12_testHolds_1 14 rfl rfl)
theorem dX12_testHolds_39 : decode cX12_testHolds 39 = .ok (.iload_n 3, 1) := dk_29 (dk_at dksX12_testHolds_1 15 rfl rfl)
theorem dX12_testHolds_40 : decode cX12_testHolds 40 = .ok (.if_icmp .ge 133, 3) := dk_162 0 133 (dk_at dksX12_testHolds_1 16 rfl rfl)
theorem dX12_testHolds_43 : decode cX12_testHolds 43 = .ok (.aload_n 0, 1) := dk_42 (dk_at dksX12_testHolds_1 19 rfl rfl)
theorem dX12_testHolds_44 : decode cX12_testHolds 44 = .ok (.getfield 13, 3) := dk_180 0 13 (dk_at dksX12_testHolds_1 20 rfl rfl)
theorem dX12_testHolds_47 : decode cX12_testHolds 47 = .ok (.sipush 814, 3) := dk_17 3 46 (dk_at dksX12_testHolds_2 0 rfl rfl)
theorem dX12_testHolds_50 : decode cX12_testHolds 50 = .ok (.iconst 3, 1) := dk_6 (dk_at dksX12_testHolds_2 3 rfl rfl)
theorem dX12_testHolds_51 : decode cX12_testHolds 51 = .ok (.iload_n 2, 1) := dk_28 (dk_at dksX12_testHolds_2 4 rfl rfl)
theorem dX12_testHolds_52 : decode cX12_testHolds 52 = .ok (.imul, 1) := dk_104 (dk_at dksX12_testHolds_2 5 rfl rfl)
theorem dX12_testHolds_53 : decode cX12_testHolds 53 = .ok (.iadd, 1) := dk_96 (dk_at dksX12_testHolds_2 6 rfl rfl)
theorem dX12_testHolds_54 : decode cX12_testHolds 54 = .ok (.iaload, 1) := dk_46 (dk_at dksX12_testHolds_2 7 rfl rfl)
theorem dX12_testHolds_55 : decode cX12_testHolds 55 = .ok (.istore 8, 2) := dk_54 8 (dk_at dksX12_testHolds_2 8 rfl rfl)
theorem dX12_testHolds_57 : decode cX12_testHolds 57 = .ok (.aload_n 0, 1) := dk_42 (dk_at dksX12_testHolds_2 10 rfl rfl)
theorem dX12_testHolds_58 : decode cX12_testHolds 58 = .ok (.iload_n 2, 1) := dk_28 (dk_at dksX12_testHolds_2 11 rfl rfl)
theorem dX12_testHolds_59 : decode cX12_testHolds 59 = .ok (.invokevirtual 331, 3) := dk_182 1 75 (dk_at dksX12_testHolds_2 12 rfl rfl)
theorem dX12_testHolds_62 : decode cX12_testHolds 62 = .ok (.lstore 9, 2) := dk_55 9 (dk_at dksX12_testHolds_2 15 rfl rfl)
theorem dX12_testHolds_64 : decode cX12_testHolds 64 = .ok (.iinc 2 1, 3) := dk_132 2 1 (dk_at dksX12_testHolds_2 17 rfl rfl)
theorem dX12_testHolds_67 : decode cX12_testHolds 67 = .ok (.iload_n 2, 1) := dk_28 (dk_at dksX12_testHolds_2 20 rfl rfl)
theorem dX12_testHolds_68 : decode cX12_testHolds 68 = .ok (.iload_n 3, 1) := dk_29 (dk_at dksX12_testHolds_2 21 rfl rfl)
theorem dX12_testHolds_69 : decode cX12_testHolds 69 = .ok (.if_icmp .ge 51, 3) := dk_162 0 51 (dk_at dksX12_testHolds_3 0 rfl rfl)
theorem dX12_testHolds_72 : decode cX12_testHolds 72 = .ok (.aload_n 0, 1) := dk_42 (dk_at dksX12_testHolds_3 3 rfl rfl)
theorem dX12_testHolds_73 : decode cX12_testHolds 73 = .ok (.getfield 13, 3) := dk_180 0 13 (dk_at dksX12_testHolds_3 4 rfl rfl)
theorem dX12_testHolds_76 : decode cX12_testHolds 76 = .ok (.sipush 814, 3) := dk_17 3 46 (dk_at dksX12_testHolds_3 7 rfl rfl)
theorem dX12_testHolds_79 : decode cX12_testHolds 79 = .ok (.iconst 3, 1) := dk_6 (dk_at dksX12_testHolds_3 10 rfl rfl)
theorem dX12_testHolds_80 : decode cX12_testHolds 80 = .ok (.iload_n 2, 1) := dk_28 (dk_at dksX12_testHolds_3 11 rfl rfl)
theorem dX12_testHolds_81 : decode cX12_testHolds 81 = .ok (.imul, 1) := dk_104 (dk_at dksX12_testHolds_3 12 rfl rfl)
theorem dX12_testHolds_82 : decode cX12_testHolds 82 = .ok (.iadd, 1) := dk_96 (dk_at dksX12_testHolds_3 13 rfl rfl)
theorem dX12_testHolds_83 : decode cX12_testHolds 83 = .ok (.iaload, 1) := dk_46 (dk_at dksX12_testHolds_3 14 rfl rfl)
theorem dX12_testHolds_84 : decode cX12_testHolds 84 = .ok (.iconst 3, 1) := dk_6 (dk_at dksX12_testHolds_3 15 rfl rfl)
theorem dX12_testHolds_85 : decode cX12_testHolds 85 = .ok (.if_icmp .ne 35, 3) := dk_160 0 35 (dk_at dksX12_testHolds_3 16 rfl rfl)
theorem dX12_testHolds_88 : decode cX12_testHolds 88 = .ok (.lload 9, 2) := dk_22 9 (dk_at dksX12_testHolds_3 19 rfl rfl)
theorem dX12_testHolds_90 : decode cX12_testHolds 90 = .ok (.aload_n 0, 1) := dk_42 (dk_at dksX12_testHolds_3 21 rfl rfl)
theorem dX12_testHolds_91 : decode cX12_testHolds 91 = .ok (.iload_n 2, 1) := dk_28 (dk_at dksX12_testHolds_3 22 rfl rfl)
theorem dX12_testHolds_92 : decode cX12_testHolds 92 = .ok (.invokevirtual 331, 3) := dk_182 1 75 (dk_at dksX12_testHolds_4 0 rfl rfl)
theorem dX12_testHolds_95 : decode cX12_testHolds 95 = .ok (.lmul, 1) := dk_105 (dk_at dksX12_testHolds_4 3 rfl rfl)
theorem dX12_testHolds_96 : decode cX12_testHolds 96 = .ok (.lstore 9, 2) := dk_55 9 (dk_at dksX12_testHolds_4 4 rfl rfl)
theorem dX12_testHolds_98 : decode cX12_testHolds 98 = .ok (.lload 9, 2) := dk_22 9 (dk_at dksX12_testHolds_4 6 rfl rfl)
theorem dX12_testHolds_100 : decode cX12_testHolds 100 = .ok (.ldc2_w 335, 3) := dk_20 1 79 (dk_at dksX12_testHolds_4 8 rfl rfl)
theorem dX12_testHolds_103 : decode cX12_testHolds 103 = .ok (.ldc2_w 337, 3) := dk_20 1 81 (dk_at dksX12_testHolds_4 11 rfl rfl)
theorem dX12_testHolds_106 : decode cX12_testHolds 106 = .ok (.invokestatic 101, 3) := dk_184 0 101 (dk_at dksX12_testHolds_4 14 rfl rfl)
theorem dX12_testHolds_109 : decode cX12_testHolds 109 = .ok (.ifCond .ne 5, 3) := dk_154 0 5 (dk_at dksX12_testHolds_4 17 rfl rfl)
theorem dX12_testHolds_112 : decode cX12_testHolds 112 = .ok (.iconst 0, 1) := dk_3 (dk_at dksX12_testHolds_4 20 rfl rfl)
theorem dX12_testHolds_113 : decode cX12_testHolds 113 = .ok (.ireturn, 1) := dk_172 (dk_at dksX12_testHolds_4 21 rfl rfl)
theorem dX12_testHolds_114 : decode cX12_testHolds 114 = .ok (.iinc 2 1, 3) := dk_132 2 1 (dk_at dksX12_testHolds_5 0 rfl rfl)
theorem dX12_testHolds_117 : decode cX12_testHolds 117 = .ok (.goto (-50), 3) := dk_167 255 206 (dk_at dksX12_testHolds_5 3 rfl rfl)
theorem dX12_testHolds_120 : decode cX12_testHolds 120 = .ok (.iload 8, 2) := dk_21 8 (dk_at dksX12_testHolds_5 6 rfl rfl)
theorem dX12_testHolds_122 : decode cX12_testHolds 122 = .ok (.iconst 4, 1) := dk_7 (dk_at dksX12_testHolds_5 8 rfl rfl)
theorem dX12_testHolds_123 : decode cX12_testHolds 123 = .ok (.if_icmp .ne 10, 3) := dk_160 0 10 (dk_at dksX12_testHolds_5 9 rfl rfl)
theorem dX12_testHolds_126 : decode cX12_testHolds 126 = .ok (.lload 6, 2) := dk_22 6 (dk_at dksX12_testHolds_5 12 rfl rfl)
theorem dX12_testHolds_128 : decode cX12_testHolds 128 = .ok (.lstore 4, 2) := dk_55 4 (dk_at dksX12_testHolds_5 14 rfl rfl)
theorem dX12_testHolds_130 : decode cX12_testHolds 130 = .ok (.lconst 0, 1) := dk_9 (dk_at dksX12_testHolds_5 16 rfl rfl)
theorem dX12_testHolds_131 : decode cX12_testHolds 131 = .ok (.lstore 6, 2) := dk_55 6 (dk_at dksX12_testHolds_5 17 rfl rfl)
theorem dX12_testHolds_133 : decode cX12_testHolds 133 = .ok (.iload 8, 2) := dk_21 8 (dk_at dksX12_testHolds_5 19 rfl rfl)
theorem dX12_testHolds_135 : decode cX12_testHolds 135 = .ok (.iconst 2, 1) := dk_5 (dk_at dksX12_testHolds_5 21 rfl rfl)
theorem dX12_testHolds_136 : decode cX12_testHolds 136 = .ok (.if_icmp .ne 11, 3) := dk_160 0 11 (dk_at dksX12_testHolds_6 0 rfl rfl)
theorem dX12_testHolds_139 : decode cX12_testHolds 139 = .ok (.lload 6, 2) := dk_22 6 (dk_at dksX12_testHolds_6 3 rfl rfl)
theorem dX12_testHolds_141 : decode cX12_testHolds 141 = .ok (.lload 9, 2) := dk_22 9 (dk_at dksX12_testHolds_6 5 rfl rfl)
theorem dX12_testHolds_143 : decode cX12_testHolds 143 = .ok (.lsub, 1) := dk_101 (dk_at dksX12_testHolds_6 7 rfl rfl)
theorem dX12_testHolds_144 : decode cX12_testHolds 144 = .ok (.goto 8, 3) := dk_167 0 8 (dk_at dksX12_testHolds_6 8 rfl rfl)
theorem dX12_testHolds_147 : decode cX12_testHolds 147 = .ok (.lload 6, 2) := dk_22 6 (dk_at dksX12_testHolds_6 11 rfl rfl)
theorem dX12_testHolds_149 : decode cX12_testHolds 149 = .ok (.lload 9, 2) := dk_22 9 (dk_at dksX12_testHolds_6 13 rfl rfl)
theorem dX12_testHolds_151 : decode cX12_testHolds 151 = .ok (.ladd, 1) := dk_97 (dk_at dksX12_testHolds_6 15 rfl rfl)
theorem dX12_testHolds_152 : decode cX12_testHolds 152 = .ok (.lstore 6, 2) := dk_55 6 (dk_at dksX12_testHolds_6 16 rfl rfl)
theorem dX12_testHolds_154 : decode cX12_testHolds 154 = .ok (.lload 6, 2) := dk_22 6 (dk_at dksX12_testHolds_6 18 rfl rfl)
theorem dX12_testHolds_156 : decode cX12_testHolds 156 = .ok (.ldc2_w 335, 3) := dk_20 1 79 (dk_at dksX12_testHolds_6 20 rfl rfl)
theorem dX12_testHolds_159 : decode cX12_testHolds 159 = .ok (.ldc2_w 337, 3) := dk_20 1 81 (dk_at dksX12_testHolds_7 0 rfl rfl)
theorem dX12_testHolds_162 : decode cX12_testHolds 162 = .ok (.invokestatic 101, 3) := dk_184 0 101 (dk_at dksX12_testHolds_7 3 rfl rfl)
theorem dX12_testHolds_165 : decode cX12_testHolds 165 = .ok (.ifCond .ne 5, 3) := dk_154 0 5 (dk_at dksX12_testHolds_7 6 rfl rfl)
theorem dX12_testHolds_168 : decode cX12_testHolds 168 = .ok (.iconst 0, 1) := dk_3 (dk_at dksX12_testHolds_7 9 rfl rfl)
theorem dX12_testHolds_169 : decode cX12_testHolds 169 = .ok (.ireturn, 1) := dk_172 (dk_at dksX12_testHolds_7 10 rfl rfl)
theorem dX12_testHolds_170 : decode cX12_testHolds 170 = .ok (.goto (-132), 3) := dk_167 255 124 (dk_at dksX12_testHolds_7 11 rfl rfl)
theorem dX12_testHolds_173 : decode cX12_testHolds 173 = .ok (.aload_n 0, 1) := dk_42 (dk_at dksX12_testHolds_7 14 rfl rfl)
theorem dX12_testHolds_174 : decode cX12_testHolds 174 = .ok (.getfield 13, 3) := dk_180 0 13 (dk_at dksX12_testHolds_7 15 rfl rfl)
theorem dX12_testHolds_177 : decode cX12_testHolds 177 = .ok (.sipush 274, 3) := dk_17 1 18 (dk_at dksX12_testHolds_7 18 rfl rfl)
theorem dX12_testHolds_180 : decode cX12_testHolds 180 = .ok (.iconst 3, 1) := dk_6 (dk_at dksX12_testHolds_7 21 rfl rfl)
theorem dX12_testHolds_181 : decode cX12_testHolds 181 = .ok (.iload_n 1, 1) := dk_27 (dk_at dksX12_testHolds_7 22 rfl rfl)
theorem dX12_testHolds_182 : decode cX12_testHolds 182 = .ok (.imul, 1) := dk_104 (dk_at dksX12_testHolds_7 23 rfl rfl)
theorem dX12_testHolds_183 : decode cX12_testHolds 183 = .ok (.iadd, 1) := dk_96 (dk_at dksX12_testHolds_8 0 rfl rfl)
theorem dX12_testHolds_184 : decode cX12_testHolds 184 = .ok (.iaload, 1) := dk_46 (dk_at dksX12_testHolds_8 1 rfl rfl)
theorem dX12_testHolds_185 : decode cX12_testHolds 185 = .ok (.istore 8, 2) := dk_54 8 (dk_at dksX12_testHolds_8 2 rfl rfl)
theorem dX12_testHolds_187 : decode cX12_testHolds 187 = .ok (.iload 8, 2) := dk_21 8 (dk_at dksX12_testHolds_8 4 rfl rfl)
theorem dX12_testHolds_189 : decode cX12_testHolds 189 = .ok (.ifCond .ne 19, 3) := dk_154 0 19 (dk_at dksX12_testHolds_8 6 rfl rfl)
theorem dX12_testHolds_192 : decode cX12_testHolds 192 = .ok (.lload 4, 2) := dk_22 4 (dk_at dksX12_testHolds_8 9 rfl rfl)
theorem dX12_testHolds_194 : decode cX12_testHolds 194 = .ok (.lload 6, 2) := dk_22 6 (dk_at dksX12_testHolds_8 11 rfl rfl)
theorem dX12_testHolds_196 : decode cX12_testHolds 196 = .ok (.lcmp, 1) := dk_148 (dk_at dksX12_testHolds_8 13 rfl rfl)
theorem dX12_testHolds_197 : decode cX12_testHolds 197 = .ok (.ifCond .le 7, 3) := dk_158 0 7 (dk_at dksX12_testHolds_8 14 rfl rfl)
theorem dX12_testHolds_200 : decode cX12_testHolds 200 = .ok (.iconst 1, 1) := dk_4 (dk_at dksX12_testHolds_8 17 rfl rfl)
theorem dX12_testHolds_201 : decode cX12_testHolds 201 = .ok (.goto 42, 3) := dk_167 0 42 (dk_at dksX12_testHolds_8 18 rfl rfl)
theorem dX12_testHolds_204 : decode cX12_testHolds 204 = .ok (.iconst 0, 1) := dk_3 (dk_at dksX12_testHolds_8 21 rfl rfl)
theorem dX12_testHolds_205 : decode cX12_testHolds 205 = .ok (.goto 38, 3) := dk_167 0 38 (dk_at dksX12_testHolds_9 0 rfl rfl)
theorem dX12_testHolds_208 : decode cX12_testHolds 208 = .ok (.iload 8, 2) := dk_21 8 (dk_at dksX12_testHolds_9 3 rfl rfl)
theorem dX12_testHolds_210 : decode cX12_testHolds 210 = .ok (.iconst 1, 1) := dk_4 (dk_at dksX12_testHolds_9 5 rfl rfl)
theorem dX12_testHolds_211 : decode cX12_testHolds 211 = .ok (.if_icmp .ne 19, 3) := dk_160 0 19 (dk_at dksX12_testHolds_9 6 rfl rfl)
theorem dX12_testHolds_214 : decode cX12_testHolds 214 = .ok (.lload 4, 2) := dk_22 4 (dk_at dksX12_testHolds_9 9 rfl rfl)
theorem dX12_testHolds_216 : decode cX12_testHolds 216 = .ok (.lload 6, 2) := dk_22 6 (dk_at dksX12_testHolds_9 11 rfl rfl)
theorem dX12_testHolds_218 : decode cX12_testHolds 218 = .ok (.lcmp, 1) := dk_148 (dk_at dksX12_testHolds_9 13 rfl rfl)
theorem dX12_testHolds_219 : decode cX12_testHolds 219 = .ok (.ifCond .ge 7, 3) := dk_156 0 7 (dk_at dksX12_testHolds_9 14 rfl rfl)
theorem dX12_testHolds_222 : decode cX12_testHolds 222 = .ok (.iconst 1, 1) := dk_4 (dk_at dksX12_testHolds_9 17 rfl rfl)
theorem dX12_testHolds_223 : decode cX12_testHolds 223 = .ok (.goto 20, 3) := dk_167 0 20 (dk_at dksX12_testHolds_9 18 rfl rfl)
theorem dX12_testHolds_226 : decode cX12_testHolds 226 = .ok (.iconst 0, 1) := dk_3 (dk_at dksX12_testHolds_9 21 rfl rfl)
theorem dX12_testHolds_227 : decode cX12_testHolds 227 = .ok (.goto 16, 3) := dk_167 0 16 (dk_at dksX12_testHolds_10 0 rfl rfl)
theorem dX12_testHolds_230 : decode cX12_testHolds 230 = .ok (.lload 4, 2) := dk_22 4 (dk_at dksX12_testHolds_10 3 rfl rfl)
theorem dX12_testHolds_232 : decode cX12_testHolds 232 = .ok (.lload 6, 2) := dk_22 6 (dk_at dksX12_testHolds_10 5 rfl rfl)
theorem dX12_testHolds_234 : decode cX12_testHolds 234 = .ok (.lcmp, 1) := dk_148 (dk_at dksX12_testHolds_10 7 rfl rfl)
theorem dX12_testHolds_235 : decode cX12_testHolds 235 = .ok (.ifCond .ne 7, 3) := dk_154 0 7 (dk_at dksX12_testHolds_10 8 rfl rfl)
theorem dX12_testHolds_238 : decode cX12_testHolds 238 = .ok (.iconst 1, 1) := dk_4 (dk_at dksX12_testHolds_10 11 rfl rfl)
theorem dX12_testHolds_239 : decode cX12_testHolds 239 = .ok (.goto 4, 3) := dk_167 0 4 (dk_at dksX12_testHolds_10 12 rfl rfl)
theorem dX12_testHolds_242 : decode cX12_testHolds 242 = .ok (.iconst 0, 1) := dk_3 (dk_at dksX12_testHolds_10 15 rfl rfl)
theorem dX12_testHolds_243 : decode cX12_testHolds 243 = .ok (.ireturn, 1) := dk_172 (dk_at dksX12_testHolds_10 16 rfl rfl)
abbrev cX12_partOf : ByteArray := prog_25_method_49_code
def yX12_partOf : MethodName := ⟨RX12, "partOf", "(I)J"⟩
def dkwX12_partOf_1 : List UInt8 := [17, 3, 46, 6, 27, 104, 96, 5, 96, 46, 133, 167, 0, 10, 42, 180, 0, 37, 28, 46, 133, 173]
abbrev dktX12_partOf_1 : List UInt8 := dkwX12_partOf_1 ++ []
def dkwX12_partOf_0 : List UInt8 := [42, 180, 0, 13, 17, 3, 46, 6, 27, 104, 96, 4, 96, 46, 61, 28, 8, 160, 0, 21, 42, 180, 0, 13]
abbrev dktX12_partOf_0 : List UInt8 := dkwX12_partOf_0 ++ dktX12_partOf_1
theorem dksX12_partOf_0 : cX12_partOf.data.toList.drop 0 = dktX12_partOf_0 := by decide +kernel
theorem dksX12_partOf_1 : cX12_partOf.data.toList.drop 24 = dktX12_partOf_1 := dk_seg dksX12_partOf_0 24 rfl rfl
theorem dX12_partOf_0 : decode cX12_partOf 0 = .ok (.aload_n 0, 1) := dk_42 (dk_at dksX12_partOf_0 0 rfl rfl)
theorem dX12_partOf_1 : decode cX12_partOf 1 = .ok (.getfield 13, 3) := dk_180 0 13 (dk_at dksX12_partOf_0 1 rfl rfl)
theorem dX12_partOf_4 : decode cX12_partOf 4 = .ok (.sipush 814, 3) := dk_17 3 46 (dk_at dksX12_partOf_0 4 rfl rfl)
theorem dX12_partOf_7 : decode cX12_partOf 7 = .ok (.iconst 3, 1) := dk_6 (dk_at dksX12_partOf_0 7 rfl rfl)
theorem dX12_partOf_8 : decode cX12_partOf 8 = .ok (.iload_n 1, 1) := dk_27 (dk_at dksX12_partOf_0 8 rfl rfl)
theorem dX12_partOf_9 : decode cX12_partOf 9 = .ok (.imul, 1) := dk_104 (dk_at dksX12_partOf_0 9 rfl rfl)
theorem dX12_partOf_10 : decode cX12_partOf 10 = .ok (.iadd, 1) := dk_96 (dk_at dksX12_partOf_0 10 rfl rfl)
theorem dX12_partOf_11 : decode cX12_partOf 11 = .ok (.iconst 1, 1) := dk_4 (dk_at dksX12_partOf_0 11 rfl rfl)
theorem dX12_partOf_12 : decode cX12_partOf 12 = .ok (.iadd, 1) := dk_96 (dk_at dksX12_partOf_0 12 rfl rfl)
theorem dX12_partOf_13 : decode cX12_partOf 13 = .ok (.iaload, 1) := dk_46 (dk_at dksX12_partOf_0 13 rfl rfl)
theorem dX12_partOf_14 : decode cX12_partOf 14 = .ok (.istore_n 2, 1) := dk_61 (dk_at dksX12_partOf_0 14 rfl rfl)
theorem dX12_partOf_15 : decode cX12_partOf 15 = .ok (.iload_n 2, 1) := dk_28 (dk_at dksX12_partOf_0 15 rfl rfl)
theorem dX12_partOf_16 : decode cX12_partOf 16 = .ok (.iconst 5, 1) := dk_8 (dk_at dksX12_partOf_0 16 rfl rfl)
theorem dX12_partOf_17 : decode cX12_partOf 17 = .ok (.if_icmp .ne 21, 3) := dk_160 0 21 (dk_at dksX12_partOf_0 17 rfl rfl)
theorem dX12_partOf_20 : decode cX12_partOf 20 = .ok (.aload_n 0, 1) := dk_42 (dk_at dksX12_partOf_0 20 rfl rfl)
theorem dX12_partOf_21 : decode cX12_partOf 21 = .ok (.getfield 13, 3) := dk_180 0 13 (dk_at dksX12_partOf_0 21 rfl rfl)
theorem dX12_partOf_24 : decode cX12_partOf 24 = .ok (.sipush 814, 3) := dk_17 3 46 (dk_at dksX12_partOf_1 0 rfl rfl)
theorem dX12_partOf_27 : decode cX12_partOf 27 = .ok (.iconst 3, 1) := dk_6 (dk_at dksX12_partOf_1 3 rfl rfl)
theorem dX12_partOf_28 : decode cX12_partOf 28 = .ok (.iload_n 1, 1) := dk_27 (dk_at dksX12_partOf_1 4 rfl rfl)
theorem dX12_partOf_29 : decode cX12_partOf 29 = .ok (.imul, 1) := dk_104 (dk_at dksX12_partOf_1 5 rfl rfl)
theorem dX12_partOf_30 : decode cX12_partOf 30 = .ok (.iadd, 1) := dk_96 (dk_at dksX12_partOf_1 6 rfl rfl)
theorem dX12_partOf_31 : decode cX12_partOf 31 = .ok (.iconst 2, 1) := dk_5 (dk_at dksX12_partOf_1 7 rfl rfl)
theorem dX12_partOf_32 : decode cX12_partOf 32 = .ok (.iadd, 1) := dk_96 (dk_at dksX12_partOf_1 8 rfl rfl)
theorem dX12_partOf_33 : decode cX12_partOf 33 = .ok (.iaload, 1) := dk_46 (dk_at dksX12_partOf_1 9 rfl rfl)
theorem dX12_partOf_34 : decode cX12_partOf 34 = .ok (.i2l, 1) := dk_133 (dk_at dksX12_partOf_1 10 rfl rfl)
theorem dX12_partOf_35 : decode cX12_partOf 35 = .ok (.goto 10, 3) := dk_167 0 10 (dk_at dksX12_partOf_1 11 rfl rfl)
theorem dX12_partOf_38 : decode cX12_partOf 38 = .ok (.aload_n 0, 1) := dk_42 (dk_at dksX12_partOf_1 14 rfl rfl)
theorem dX12_partOf_39 : decode cX12_partOf 39 = .ok (.getfield 37, 3) := dk_180 0 37 (dk_at dksX12_partOf_1 15 rfl rfl)
theorem dX12_partOf_42 : decode cX12_partOf 42 = .ok (.iload_n 2, 1) := dk_28 (dk_at dksX12_partOf_1 18 rfl rfl)
theorem dX12_partOf_43 : decode cX12_partOf 43 = .ok (.iaload, 1) := dk_46 (dk_at dksX12_partOf_1 19 rfl rfl)
theorem dX12_partOf_44 : decode cX12_partOf 44 = .ok (.i2l, 1) := dk_133 (dk_at dksX12_partOf_1 20 rfl rfl)
theorem dX12_partOf_45 : decode cX12_partOf 45 = .ok (.lreturn, 1) := dk_173 (dk_at dksX12_partOf_1 21 rfl rfl)
abbrev cX12_owesAlready : ByteArray := prog_25_method_48_code
def yX12_owesAlready : MethodName := ⟨RX12, "owesAlready", "(III)Z"⟩
def dkwX12_owesAlready_2 : List UInt8 := [160, 0, 5, 4, 172, 132, 4, 1, 167, 255, 206, 3, 172]
abbrev dktX12_owesAlready_2 : List UInt8 := dkwX12_owesAlready_2 ++ []
def dkwX12_owesAlready_1 : List UInt8 := [160, 0, 27, 42, 21, 4, 4, 182, 1, 69, 28, 160, 0, 16, 42, 21, 4, 5, 182, 1, 69, 29]
abbrev dktX12_owesAlready_1 : List UInt8 := dkwX12_owesAlready_1 ++ dktX12_owesAlready_2
def dkwX12_owesAlready_0 : List UInt8 := [3, 54, 4, 21, 4, 42, 180, 0, 13, 16, 7, 46, 162, 0, 44, 42, 21, 4, 3, 182, 1, 69, 27]
abbrev dktX12_owesAlready_0 : List UInt8 := dkwX12_owesAlready_0 ++ dktX12_owesAlready_1
theorem dksX12_owesAlready_0 : cX12_owesAlready.data.toList.drop 0 = dktX12_owesAlready_0 := by decide +kernel
theorem dksX12_owesAlready_1 : cX12_owesAlready.data.toList.drop 23 = dktX12_owesAlready_1 := dk_seg dksX12_owesAlready_0 23 rfl rfl
theorem dksX12_owesAlready_2 : cX12_owesAlready.data.toList.drop 45 = dktX12_owesAlready_2 := dk_seg dksX12_owesAlready_1 22 rfl rfl
theorem dX12_owesAlready_0 : decode cX12_owesAlready 0 = .ok (.iconst 0, 1) := dk_3 (dk_at dksX12_owesAlready_0 0 rfl rfl)
theorem dX12_owesAlready_1 : decode cX12_owesAlready 1 = .ok (.istore 4, 2) := dk_54 4 (dk_at dksX12_owesAlready_0 1 rfl rfl)
theorem dX12_owesAlready_3 : decode cX12_owesAlready 3 = .ok (.iload 4, 2) := dk_21 4 (dk_at dksX12_owesAlready_0 3 rfl rfl)
theorem dX12_owesAlready_5 : decode cX12_owesAlready 5 = .ok (.aload_n 0, 1) := dk_42 (dk_at dksX12_owesAlready_0 5 rfl rfl)
theorem dX12_owesAlready_6 : decode cX12_owesAlready 6 = .ok (.getfield 13, 3) := dk_180 0 13 (dk_at dksX12_owesAlready_0 6 rfl rfl)
theorem dX12_owesAlready_9 : decode cX12_owesAlready 9 = .ok (.bipush 7, 2) := dk_16 7 (dk_at dksX12_owesAlready_0 9 rfl rfl)
theorem dX12_owesAlready_11 : decode cX12_owesAlready 11 = .ok (.iaload, 1) := dk_46 (dk_at dksX12_owesAlready_0 11 rfl rfl)
theorem dX12_owesAlready_12 : decode cX12_owesAlready 12 = .ok (.if_icmp .ge 44, 3) := dk_162 0 44 (dk_at dksX12_owesAlready_0 12 rfl rfl)
theorem dX12_owesAlready_15 : decode cX12_owesAlready 15 = .ok (.aload_n 0, 1) := dk_42 (dk_at dksX12_owesAlready_0 15 rfl rfl)
theorem dX12_owesAlready_16 : decode cX12_owesAlready 16 = .ok (.iload 4, 2) := dk_21 4 (dk_at dksX12_owesAlready_0 16 rfl rfl)
theorem dX12_owesAlready_18 : decode cX12_owesAlready 18 = .ok (.iconst 0, 1) := dk_3 (dk_at dksX12_owesAlready_0 18 rfl rfl)
theorem dX12_owesAlready_19 : decode cX12_owesAlready 19 = .ok (.invokevirtual 325, 3) := dk_182 1 69 (dk_at dksX12_owesAlready_0 19 rfl rfl)
theorem dX12_owesAlready_22 : decode cX12_owesAlready 22 = .ok (.iload_n 1, 1) := dk_27 (dk_at dksX12_owesAlready_0 22 rfl rfl)
theorem dX12_owesAlready_23 : decode cX12_owesAlready 23 = .ok (.if_icmp .ne 27, 3) := dk_160 0 27 (dk_at dksX12_owesAlready_1 0 rfl rfl)
theorem dX12_owesAlready_26 : decode cX12_owesAlready 26 = .ok (.aload_n 0, 1) := dk_42 (dk_at dksX12_owesAlready_1 3 rfl rfl)
theorem dX12_owesAlready_27 : decode cX12_owesAlready 27 = .ok (.iload 4, 2) := dk_21 4 (dk_at dksX12_owesAlready_1 4 rfl rfl)
theorem dX12_owesAlready_29 : decode cX12_owesAlready 29 = .ok (.iconst 1, 1) := dk_4 (dk_at dksX12_owesAlready_1 6 rfl rfl)
theorem dX12_owesAlready_30 : decode cX12_owesAlready 30 = .ok (.invokevirtual 325, 3) := dk_182 1 69 (dk_at dksX12_owesAlready_1 7 rfl rfl)
theorem dX12_owesAlready_33 : decode cX12_owesAlready 33 = .ok (.iload_n 2, 1) := dk_28 (dk_at dksX12_owesAlready_1 10 rfl rfl)
theorem dX12_owesAlready_34 : decode cX12_owesAlready 34 = .ok (.if_icmp .ne 16, 3) := dk_160 0 16 (dk_at dksX12_owesAlready_1 11 rfl rfl)
theorem dX12_owesAlready_37 : decode cX12_owesAlready 37 = .ok (.aload_n 0, 1) := dk_42 (dk_at dksX12_owesAlready_1 14 rfl rfl)
theorem dX12_owesAlready_38 : decode cX12_owesAlready 38 = .ok (.iload 4, 2) := dk_21 4 (dk_at dksX12_owesAlready_1 15 rfl rfl)
theorem dX12_owesAlready_40 : decode cX12_owesAlready 40 = .ok (.iconst 2, 1) := dk_5 (dk_at dksX12_owesAlready_1 17 rfl rfl)
theorem dX12_owesAlready_41 : decode cX12_owesAlready 41 = .ok (.invokevirtual 325, 3) := dk_182 1 69 (dk_at dksX12_owesAlready_1 18 rfl rfl)
theorem dX12_owesAlready_44 : decode cX12_owesAlready 44 = .ok (.iload_n 3, 1) := dk_29 (dk_at dksX12_owesAlready_1 21 rfl rfl)
theorem dX12_owesAlready_45 : decode cX12_owesAlready 45 = .ok (.if_icmp .ne 5, 3) := dk_160 0 5 (dk_at dksX12_owesAlready_2 0 rfl rfl)
theorem dX12_owesAlready_48 : decode cX12_owesAlready 48 = .ok (.iconst 1, 1) := dk_4 (dk_at dksX12_owesAlready_2 3 rfl rfl)
theorem dX12_owesAlready_49 : decode cX12_owesAlready 49 = .ok (.ireturn, 1) := dk_172 (dk_at dksX12_owesAlready_2 4 rfl rfl)
theorem dX12_owesAlready_50 : decode cX12_owesAlready 50 = .ok (.iinc 4 1, 3) := dk_132 4 1 (dk_at dksX12_owesAlready_2 5 rfl rfl)
theorem dX12_owesAlready_53 : decode cX12_owesAlready 53 = .ok (.goto (-50), 3) := dk_167 255 206 (dk_at dksX12_owesAlready_2 8 rfl rfl)
theorem dX12_owesAlready_56 : decode cX12_owesAlready 56 = .ok (.iconst 0, 1) := dk_3 (dk_at dksX12_owesAlready_2 11 rfl rfl)
theorem dX12_owesAlready_57 : decode cX12_owesAlready 57 = .ok (.ireturn, 1) := dk_172 (dk_at dksX12_owesAlready_2 12 rfl rfl)
abbrev cX12_comes : ByteArray := prog_25_method_52_code
def yX12_comes : MethodName := ⟨RX12, "comes", "(IIIII)V"⟩
def dkwX12_comes_3 : List UInt8 := [92, 46, 4, 96, 79, 177]
abbrev dktX12_comes_3 : List UInt8 := dkwX12_comes_3 ++ []
def dkwX12_comes_2 : List UInt8 := [21, 6, 6, 96, 21, 4, 79, 42, 180, 0, 13, 21, 6, 7, 96, 21, 5, 79, 42, 180, 0, 13, 16, 7]
abbrev dktX12_comes_2 : List UInt8 := dkwX12_comes_2 ++ dktX12_comes_3
def dkwX12_comes_1 : List UInt8 := [180, 0, 13, 21, 6, 4, 96, 28, 79, 42, 180, 0, 13, 21, 6, 5, 96, 29, 79, 42, 180, 0, 13]
abbrev dktX12_comes_1 : List UInt8 := dkwX12_comes_1 ++ dktX12_comes_2
def dkwX12_comes_0 : List UInt8 := [17, 7, 88, 8, 42, 180, 0, 13, 16, 7, 46, 104, 96, 54, 6, 42, 180, 0, 13, 21, 6, 27, 79, 42]
abbrev dktX12_comes_0 : List UInt8 := dkwX12_comes_0 ++ dktX12_comes_1
theorem dksX12_comes_0 : cX12_comes.data.toList.drop 0 = dktX12_comes_0 := by decide +kernel
theorem dksX12_comes_1 : cX12_comes.data.toList.drop 24 = dktX12_comes_1 := dk_seg dksX12_comes_0 24 rfl rfl
theorem dksX12_comes_2 : cX12_comes.data.toList.drop 47 = dktX12_comes_2 := dk_seg dksX12_comes_1 23 rfl rfl
theorem dksX12_comes_3 : cX12_comes.data.toList.drop 71 = dktX12_comes_3 := dk_seg dksX12_comes_2 24 rfl rfl
theorem dX12_comes_0 : decode cX12_comes 0 = .ok (.sipush 1880, 3) := dk_17 7 88 (dk_at dksX12_comes_0 0 rfl rfl)
theorem dX12_comes_3 : decode cX12_comes 3 = .ok (.iconst 5, 1) := dk_8 (dk_at dksX12_comes_0 3 rfl rfl)
theorem dX12_comes_4 : decode cX12_comes 4 = .ok (.aload_n 0, 1) := dk_42 (dk_at dksX12_comes_0 4 rfl rfl)
theorem dX12_comes_5 : decode cX12_comes 5 = .ok (.getfield 13, 3) := dk_180 0 13 (dk_at dksX12_comes_0 5 rfl rfl)
theorem dX12_comes_8 : decode cX12_comes 8 = .ok (.bipush 7, 2) := dk_16 7 (dk_at dksX12_comes_0 8 rfl rfl)
theorem dX12_comes_10 : decode cX12_comes 10 = .ok (.iaload, 1) := dk_46 (dk_at dksX12_comes_0 10 rfl rfl)
theorem dX12_comes_11 : decode cX12_comes 11 = .ok (.imul, 1) := dk_104 (dk_at dksX12_comes_0 11 rfl rfl)
theorem dX12_comes_12 : decode cX12_comes 12 = .ok (.iadd, 1) := dk_96 (dk_at dksX12_comes_0 12 rfl rfl)
theorem dX12_comes_13 : decode cX12_comes 13 = .ok (.istore 6, 2) := dk_54 6 (dk_at dksX12_comes_0 13 rfl rfl)
theorem dX12_comes_15 : decode cX12_comes 15 = .ok (.aload_n 0, 1) := dk_42 (dk_at dksX12_comes_0 15 rfl rfl)
theorem dX12_comes_16 : decode cX12_comes 16 = .ok (.getfield 13, 3) := dk_180 0 13 (dk_at dksX12_comes_0 16 rfl rfl)
theorem dX12_comes_19 : decode cX12_comes 19 = .ok (.iload 6, 2) := dk_21 6 (dk_at dksX12_comes_0 19 rfl rfl)
theorem dX12_comes_21 : decode cX12_comes 21 = .ok (.iload_n 1, 1) := dk_27 (dk_at dksX12_comes_0 21 rfl rfl)
theorem dX12_comes_22 : decode cX12_comes 22 = .ok (.iastore, 1) := dk_79 (dk_at dksX12_comes_0 22 rfl rfl)
theorem dX12_comes_23 : decode cX12_comes 23 = .ok (.aload_n 0, 1) := dk_42 (dk_at dksX12_comes_0 23 rfl rfl)
theorem dX12_comes_24 : decode cX12_comes 24 = .ok (.getfield 13, 3) := dk_180 0 13 (dk_at dksX12_comes_1 0 rfl rfl)
theorem dX12_comes_27 : decode cX12_comes 27 = .ok (.iload 6, 2) := dk_21 6 (dk_at dksX12_comes_1 3 rfl rfl)
theorem dX12_comes_29 : decode cX12_comes 29 = .ok (.iconst 1, 1) := dk_4 (dk_at dksX12_comes_1 5 rfl rfl)
theorem dX12_comes_30 : decode cX12_comes 30 = .ok (.iadd, 1) := dk_96 (dk_at dksX12_comes_1 6 rfl rfl)
theorem dX12_comes_31 : decode cX12_comes 31 = .ok (.iload_n 2, 1) := dk_28 (dk_at dksX12_comes_1 7 rfl rfl)
theorem dX12_comes_32 : decode cX12_comes 32 = .ok (.iastore, 1) := dk_79 (dk_at dksX12_comes_1 8 rfl rfl)
theorem dX12_comes_33 : decode cX12_comes 33 = .ok (.aload_n 0, 1) := dk_42 (dk_at dksX12_comes_1 9 rfl rfl)
theorem dX12_comes_34 : decode cX12_comes 34 = .ok (.getfield 13, 3) := dk_180 0 13 (dk_at dksX12_comes_1 10 rfl rfl)
theorem dX12_comes_37 : decode cX12_comes 37 = .ok (.iload 6, 2) := dk_21 6 (dk_at dksX12_comes_1 13 rfl rfl)
theorem dX12_comes_39 : decode cX12_comes 39 = .ok (.iconst 2, 1) := dk_5 (dk_at dksX12_comes_1 15 rfl rfl)
theorem dX12_comes_40 : decode cX12_comes 40 = .ok (.iadd, 1) := dk_96 (dk_at dksX12_comes_1 16 rfl rfl)
theorem dX12_comes_41 : decode cX12_comes 41 = .ok (.iload_n 3, 1) := dk_29 (dk_at dksX12_comes_1 17 rfl rfl)
theorem dX12_comes_42 : decode cX12_comes 42 = .ok (.iastore, 1) := dk_79 (dk_at dksX12_comes_1 18 rfl rfl)
theorem dX12_comes_43 : decode cX12_comes 43 = .ok (.aload_n 0, 1) := dk_42 (dk_at dksX12_comes_1 19 rfl rfl)
theorem dX12_comes_44 : decode cX12_comes 44 = .ok (.getfield 13, 3) := dk_180 0 13 (dk_at dksX12_comes_1 20 rfl rfl)
theorem dX12_comes_47 : decode cX12_comes 47 = .ok (.iload 6, 2) := dk_21 6 (dk_at dksX12_comes_2 0 rfl rfl)
theorem dX12_comes_49 : decode cX12_comes 49 = .ok (.iconst 3, 1) := dk_6 (dk_at dksX12_comes_2 2 rfl rfl)
theorem dX12_comes_50 : decode cX12_comes 50 = .ok (.iadd, 1) := dk_96 (dk_at dksX12_comes_2 3 rfl rfl)
theorem dX12_comes_51 : decode cX12_comes 51 = .ok (.iload 4, 2) := dk_21 4 (dk_at dksX12_comes_2 4 rfl rfl)
theorem dX12_comes_53 : decode cX12_comes 53 = .ok (.iastore, 1) := dk_79 (dk_at dksX12_comes_2 6 rfl rfl)
theorem dX12_comes_54 : decode cX12_comes 54 = .ok (.aload_n 0, 1) := dk_42 (dk_at dksX12_comes_2 7 rfl rfl)
theorem dX12_comes_55 : decode cX12_comes 55 = .ok (.getfield 13, 3) := dk_180 0 13 (dk_at dksX12_comes_2 8 rfl rfl)
theorem dX12_comes_58 : decode cX12_comes 58 = .ok (.iload 6, 2) := dk_21 6 (dk_at dksX12_comes_2 11 rfl rfl)
theorem dX12_comes_60 : decode cX12_comes 60 = .ok (.iconst 4, 1) := dk_7 (dk_at dksX12_comes_2 13 rfl rfl)
theorem dX12_comes_61 : decode cX12_comes 61 = .ok (.iadd, 1) := dk_96 (dk_at dksX12_comes_2 14 rfl rfl)
theorem dX12_comes_62 : decode cX12_comes 62 = .ok (.iload 5, 2) := dk_21 5 (dk_at dksX12_comes_2 15 rfl rfl)
theorem dX12_comes_64 : decode cX12_comes 64 = .ok (.iastore, 1) := dk_79 (dk_at dksX12_comes_2 17 rfl rfl)
theorem dX12_comes_65 : decode cX12_comes 65 = .ok (.aload_n 0, 1) := dk_42 (dk_at dksX12_comes_2 18 rfl rfl)
theorem dX12_comes_66 : decode cX12_comes 66 = .ok (.getfield 13, 3) := dk_180 0 13 (dk_at dksX12_comes_2 19 rfl rfl)
theorem dX12_comes_69 : decode cX12_comes 69 = .ok (.bipush 7, 2) := dk_16 7 (dk_at dksX12_comes_2 22 rfl rfl)
theorem dX12_comes_71 : decode cX12_comes 71 = .ok (.dup2, 1) := dk_92 (dk_at dksX12_comes_3 0 rfl rfl)
theorem dX12_comes_72 : decode cX12_comes 72 = .ok (.iaload, 1) := dk_46 (dk_at dksX12_comes_3 1 rfl rfl)
theorem dX12_comes_73 : decode cX12_comes 73 = .ok (.iconst 1, 1) := dk_4 (dk_at dksX12_comes_3 2 rfl rfl)
theorem dX12_comes_74 : decode cX12_comes 74 = .ok (.iadd, 1) := dk_96 (dk_at dksX12_comes_3 3 rfl rfl)
theorem dX12_comes_75 : decode cX12_comes 75 = .ok (.iastore, 1) := dk_79 (dk_at dksX12_comes_3 4 rfl rfl)
theorem dX12_comes_76 : decode cX12_comes 76 = .ok (.return_, 1) := dk_177 (dk_at dksX12_comes_3 5 rfl rfl)
abbrev cX12_meet : ByteArray := prog_25_method_57_code
def yX12_meet : MethodName := ⟨RX12, "meet", "(II)I"⟩
def dkwX12_meet_2 : List UInt8 := [7, 182, 1, 112, 87, 29, 172]
abbrev dktX12_meet_2 : List UInt8 := dkwX12_meet_2 ++ []
def dkwX12_meet_1 : List UInt8 := [160, 0, 6, 16, 253, 172, 42, 27, 28, 182, 1, 48, 153, 0, 7, 3, 167, 0, 4, 4, 62, 42, 27, 28]
abbrev dktX12_meet_1 : List UInt8 := dkwX12_meet_1 ++ dktX12_meet_2
def dkwX12_meet_0 : List UInt8 := [42, 27, 28, 182, 1, 59, 154, 0, 6, 16, 254, 172, 42, 180, 0, 13, 16, 8, 46, 17, 2, 88]
abbrev dktX12_meet_0 : List UInt8 := dkwX12_meet_0 ++ dktX12_meet_1
theorem dksX12_meet_0 : cX12_meet.data.toList.drop 0 = dktX12_meet_0 := by decide +kernel
theorem dksX12_meet_1 : cX12_meet.data.toList.drop 22 = dktX12_meet_1 := dk_seg dksX12_meet_0 22 rfl rfl
theorem dksX12_meet_2 : cX12_meet.data.toList.drop 46 = dktX12_meet_2 := dk_seg dksX12_meet_1 24 rfl rfl
theorem dX12_meet_0 : decode cX12_meet 0 = .ok (.aload_n 0, 1) := dk_42 (dk_at dksX12_meet_0 0 rfl rfl)
theorem dX12_meet_1 : decode cX12_meet 1 = .ok (.iload_n 1, 1) := dk_27 (dk_at dksX12_meet_0 1 rfl rfl)
theorem dX12_meet_2 : decode cX12_meet 2 = .ok (.iload_n 2, 1) := dk_28 (dk_at dksX12_meet_0 2 rfl rfl)
theorem dX12_meet_3 : decode cX12_meet 3 = .ok (.invokevirtual 315, 3) := dk_182 1 59 (dk_at dksX12_meet_0 3 rfl rfl)
theorem dX12_meet_6 : decode cX12_meet 6 = .ok (.ifCond .ne 6, 3) := dk_154 0 6 (dk_at dksX12_meet_0 6 rfl rfl)
theorem dX12_meet_9 : decode cX12_meet 9 = .ok (.bipush (-2), 2) := dk_16 254 (dk_at dksX12_meet_0 9 rfl rfl)
theorem dX12_meet_11 : decode cX12_meet 11 = .ok (.ireturn, 1) := dk_172 (dk_at dksX12_meet_0 11 rfl rfl)
theorem dX12_meet_12 : decode cX12_meet 12 = .ok (.aload_n 0, 1) := dk_42 (dk_at dksX12_meet_0 12 rfl rfl)
theorem dX12_meet_13 : decode cX12_meet 13 = .ok (.getfield 13, 3) := dk_180 0 13 (dk_at dksX12_meet_0 13 rfl rfl)
theorem dX12_meet_16 : decode cX12_meet 16 = .ok (.bipush 8, 2) := dk_16 8 (dk_at dksX12_meet_0 16 rfl rfl)
theorem dX12_meet_18 : decode cX12_meet 18 = .ok (.iaload, 1) := dk_46 (dk_at dksX12_meet_0 18 rfl rfl)
theorem dX12_meet_19 : decode cX12_meet 19 = .ok (.sipush 600, 3) := dk_17 2 88 (dk_at dksX12_meet_0 19 rfl rfl)
theorem dX12_meet_22 : decode cX12_meet 22 = .ok (.if_icmp .ne 6, 3) := dk_160 0 6 (dk_at dksX12_meet_1 0 rfl rfl)
theorem dX12_meet_25 : decode cX12_meet 25 = .ok (.bipush (-3), 2) := dk_16 253 (dk_at dksX12_meet_1 3 rfl rfl)
theorem dX12_meet_27 : decode cX12_meet 27 = .ok (.ireturn, 1) := dk_172 (dk_at dksX12_meet_1 5 rfl rfl)
theorem dX12_meet_28 : decode cX12_meet 28 = .ok (.aload_n 0, 1) := dk_42 (dk_at dksX12_meet_1 6 rfl rfl)
theorem dX12_meet_29 : decode cX12_meet 29 = .ok (.iload_n 1, 1) := dk_27 (dk_at dksX12_meet_1 7 rfl rfl)
theorem dX12_meet_30 : decode cX12_meet 30 = .ok (.iload_n 2, 1) := dk_28 (dk_at dksX12_meet_1 8 rfl rfl)
theorem dX12_meet_31 : decode cX12_meet 31 = .ok (.invokevirtual 304, 3) := dk_182 1 48 (dk_at dksX12_meet_1 9 rfl rfl)
theorem dX12_meet_34 : decode cX12_meet 34 = .ok (.ifCond .eq 7, 3) := dk_153 0 7 (dk_at dksX12_meet_1 12 rfl rfl)
theorem dX12_meet_37 : decode cX12_meet 37 = .ok (.iconst 0, 1) := dk_3 (dk_at dksX12_meet_1 15 rfl rfl)
theorem dX12_meet_38 : decode cX12_meet 38 = .ok (.goto 4, 3) := dk_167 0 4 (dk_at dksX12_meet_1 16 rfl rfl)
theorem dX12_meet_41 : decode cX12_meet 41 = .ok (.iconst 1, 1) := dk_4 (dk_at dksX12_meet_1 19 rfl rfl)
theorem dX12_meet_42 : decode cX12_meet 42 = .ok (.istore_n 3, 1) := dk_62 (dk_at dksX12_meet_1 20 rfl rfl)
theorem dX12_meet_43 : decode cX12_meet 43 = .ok (.aload_n 0, 1) := dk_42 (dk_at dksX12_meet_1 21 rfl rfl)
theorem dX12_meet_44 : decode cX12_meet 44 = .ok (.iload_n 1, 1) := dk_27 (dk_at dksX12_meet_1 22 rfl rfl)
theorem dX12_meet_45 : decode cX12_meet 45 = .ok (.iload_n 2, 1) := dk_28 (dk_at dksX12_meet_1 23 rfl rfl)
theorem dX12_meet_46 : decode cX12_meet 46 = .ok (.iconst 4, 1) := dk_7 (dk_at dksX12_meet_2 0 rfl rfl)
theorem dX12_meet_47 : decode cX12_meet 47 = .ok (.invokevirtual 368, 3) := dk_182 1 112 (dk_at dksX12_meet_2 1 rfl rfl)
theorem dX12_meet_50 : decode cX12_meet 50 = .ok (.pop, 1) := dk_87 (dk_at dksX12_meet_2 4 rfl rfl)
theorem dX12_meet_51 : decode cX12_meet 51 = .ok (.iload_n 3, 1) := dk_29 (dk_at dksX12_meet_2 5 rfl rfl)
theorem dX12_meet_52 : decode cX12_meet 52 = .ok (.ireturn, 1) := dk_172 (dk_at dksX12_meet_2 6 rfl rfl)
abbrev cX12_done : ByteArray := prog_25_method_58_code
def yX12_done : MethodName := ⟨RX12, "done", "(I)I"⟩
def dkwX12_done_7 : List UInt8 := [4, 167, 0, 4, 3, 96, 61, 132, 3, 3, 167, 255, 109, 28, 172]
abbrev dktX12_done_7 : List UInt8 := dkwX12_done_7 ++ []
def dkwX12_done_6 : List UInt8 := [167, 0, 16, 42, 22, 4, 136, 22, 6, 136, 22, 8, 136, 182, 1, 125, 54, 10, 28, 21, 10, 155, 0, 7]
abbrev dktX12_done_6 : List UInt8 := dkwX12_done_6 ++ dktX12_done_7
def dkwX12_done_5 : List UInt8 := [167, 0, 53, 22, 8, 20, 1, 120, 148, 154, 0, 16, 42, 22, 4, 136, 22, 6, 136, 182, 1, 122]
abbrev dktX12_done_5 : List UInt8 := dkwX12_done_5 ++ dktX12_done_6
def dkwX12_done_4 : List UInt8 := [22, 6, 9, 20, 1, 118, 184, 0, 101, 153, 0, 68, 22, 8, 9, 20, 1, 120, 184, 0, 101, 154, 0, 6]
abbrev dktX12_done_4 : List UInt8 := dkwX12_done_4 ++ dktX12_done_5
def dkwX12_done_3 : List UInt8 := [16, 60, 27, 104, 29, 96, 5, 96, 47, 55, 8, 22, 4, 9, 20, 1, 118, 184, 0, 101, 153, 0, 80]
abbrev dktX12_done_3 : List UInt8 := dkwX12_done_3 ++ dktX12_done_4
def dkwX12_done_2 : List UInt8 := [96, 47, 55, 4, 42, 180, 0, 92, 16, 60, 27, 104, 29, 96, 4, 96, 47, 55, 6, 42, 180, 0, 92]
abbrev dktX12_done_2 : List UInt8 := dkwX12_done_2 ++ dktX12_done_3
def dkwX12_done_1 : List UInt8 := [61, 3, 62, 29, 5, 96, 42, 180, 0, 86, 27, 46, 162, 0, 141, 42, 180, 0, 92, 16, 60, 27, 104, 29]
abbrev dktX12_done_1 : List UInt8 := dkwX12_done_1 ++ dktX12_done_2
def dkwX12_done_0 : List UInt8 := [27, 184, 1, 115, 154, 0, 6, 16, 254, 172, 42, 180, 0, 86, 27, 46, 2, 160, 0, 6, 16, 250, 172, 3]
abbrev dktX12_done_0 : List UInt8 := dkwX12_done_0 ++ dktX12_done_1
theorem dksX12_done_0 : cX12_done.data.toList.drop 0 = dktX12_done_0 := by decide +kernel
theorem dksX12_done_1 : cX12_done.data.toList.drop 24 = dktX12_done_1 := dk_seg dksX12_done_0 24 rfl rfl
theorem dksX12_done_2 : cX12_done.data.toList.drop 48 = dktX12_done_2 := dk_seg dksX12_done_1 24 rfl rfl
theorem dksX12_done_3 : cX12_done.data.toList.drop 71 = dktX12_done_3 := dk_seg dksX12_done_2 23 rfl rfl
theorem dksX12_done_4 : cX12_done.data.toList.drop 94 = dktX12_done_4 := dk_seg dksX12_done_3 23 rfl rfl
theorem dksX12_done_5 : cX12_done.data.toList.drop 118 = dktX12_done_5 := dk_seg dksX12_done_4 24 rfl rfl
theorem dksX12_done_6 : cX12_done.data.toList.drop 140 = dktX12_done_6 := dk_seg dksX12_done_5 22 rfl rfl
theorem dksX12_done_7 : cX12_done.data.toList.drop 164 = dktX12_done_7 := dk_seg dksX12_done_6 24 rfl rfl
theorem dX12_done_0 : decode cX12_done 0 = .ok (.iload_n 1, 1) := dk_27 (dk_at dksX12_done_0 0 rfl rfl)
theorem dX12_done_1 : decode cX12_done 1 = .ok (.invokestatic 371, 3) := dk_184 1 115 (dk_at dksX12_done_0 1 rfl rfl)
theorem dX12_done_4 : decode cX12_done 4 = .ok (.ifCond .ne 6, 3) := dk_154 0 6 (dk_at dksX12_done_0 4 rfl rfl)
theorem dX12_done_7 : decode cX12_done 7 = .ok (.bipush (-2), 2) := dk_16 254 (dk_at dksX12_done_0 7 rfl rfl)
theorem dX12_done_9 : decode cX12_done 9 = .ok (.ireturn, 1) := dk_172 (dk_at dksX12_done_0 9 rfl rfl)
theorem dX12_done_10 : decode cX12_done 10 = .ok (.aload_n 0, 1) := dk_42 (dk_at dksX12_done_0 10 rfl rfl)
theorem dX12_done_11 : decode cX12_done 11 = .ok (.getfield 86, 3) := dk_180 0 86 (dk_at dksX12_done_0 11 rfl rfl)
theorem dX12_done_14 : decode cX12_done 14 = .ok (.iload_n 1, 1) := dk_27 (dk_at dksX12_done_0 14 rfl rfl)
theorem dX12_done_15 : decode cX12_done 15 = .ok (.iaload, 1) := dk_46 (dk_at dksX12_done_0 15 rfl rfl)
theorem dX12_done_16 : decode cX12_done 16 = .ok (.iconst (-1), 1) := dk_2 (dk_at dksX12_done_0 16 rfl rfl)
theorem dX12_done_17 : decode cX12_done 17 = .ok (.if_icmp .ne 6, 3) := dk_160 0 6 (dk_at dksX12_done_0 17 rfl rfl)
theorem dX12_done_20 : decode cX12_done 20 = .ok (.bipush (-6), 2) := dk_16 250 (dk_at dksX12_done_0 20 rfl rfl)
theorem dX12_done_22 : decode cX12_done 22 = .ok (.ireturn, 1) := dk_172 (dk_at dksX12_done_0 22 rfl rfl)
theorem dX12_done_23 : decode cX12_done 23 = .ok (.iconst 0, 1) := dk_3 (dk_at dksX12_done_0 23 rfl rfl)
theorem dX12_done_24 : decode cX12_done 24 = .ok (.istore_n 2, 1) := dk_61 (dk_at dksX12_done_1 0 rfl rfl)
theorem dX12_done_25 : decode cX12_done 25 = .ok (.iconst 0, 1) := dk_3 (dk_at dksX12_done_1 1 rfl rfl)
theorem dX12_done_26 : decode cX12_done 26 = .ok (.istore_n 3, 1) := dk_62 (dk_at dksX12_done_1 2 rfl rfl)
theorem dX12_done_27 : decode cX12_done 27 = .ok (.iload_n 3, 1) := dk_29 (dk_at dksX12_done_1 3 rfl rfl)
theorem dX12_done_28 : decode cX12_done 28 = .ok (.iconst 2, 1) := dk_5 (dk_at dksX12_done_1 4 rfl rfl)
theorem dX12_done_29 : decode cX12_done 29 = .ok (.iadd, 1) := dk_96 (dk_at dksX12_done_1 5 rfl rfl)
theorem dX12_done_30 : decode cX12_done 30 = .ok (.aload_n 0, 1) := dk_42 (dk_at dksX12_done_1 6 rfl rfl)
theorem dX12_done_31 : decode cX12_done 31 = .ok (.getfield 86, 3) := dk_180 0 86 (dk_at dksX12_done_1 7 rfl rfl)
theorem dX12_done_34 : decode cX12_done 34 = .ok (.iload_n 1, 1) := dk_27 (dk_at dksX12_done_1 10 rfl rfl)
theorem dX12_done_35 : decode cX12_done 35 = .ok (.iaload, 1) := dk_46 (dk_at dksX12_done_1 11 rfl rfl)
theorem dX12_done_36 : decode cX12_done 36 = .ok (.if_icmp .ge 141, 3) := dk_162 0 141 (dk_at dksX12_done_1 12 rfl rfl)
theorem dX12_done_39 : decode cX12_done 39 = .ok (.aload_n 0, 1) := dk_42 (dk_at dksX12_done_1 15 rfl rfl)
theorem dX12_done_40 : decode cX12_done 40 = .ok (.getfield 92, 3) := dk_180 0 92 (dk_at dksX12_done_1 16 rfl rfl)
theorem dX12_done_43 : decode cX12_done 43 = .ok (.bipush 60, 2) := dk_16 60 (dk_at dksX12_done_1 19 rfl rfl)
theorem dX12_done_45 : decode cX12_done 45 = .ok (.iload_n 1, 1) := dk_27 (dk_at dksX12_done_1 21 rfl rfl)
theorem dX12_done_46 : decode cX12_done 46 = .ok (.imul, 1) := dk_104 (dk_at dksX12_done_1 22 rfl rfl)
theorem dX12_done_47 : decode cX12_done 47 = .ok (.iload_n 3, 1) := dk_29 (dk_at dksX12_done_1 23 rfl rfl)
theorem dX12_done_48 : decode cX12_done 48 = .ok (.iadd, 1) := dk_96 (dk_at dksX12_done_2 0 rfl rfl)
theorem dX12_done_49 : decode cX12_done 49 = .ok (.laload, 1) := dk_47 (dk_at dksX12_done_2 1 rfl rfl)
theorem dX12_done_50 : decode cX12_done 50 = .ok (.lstore 4, 2) := dk_55 4 (dk_at dksX12_done_2 2 rfl rfl)
theorem dX12_done_52 : decode cX12_done 52 = .ok (.aload_n 0, 1) := dk_42 (dk_at dksX12_done_2 4 rfl rfl)
theorem dX12_done_53 : decode cX12_done 53 = .ok (.getfield 92, 3) := dk_180 0 92 (dk_at dksX12_done_2 5 rfl rfl)
theorem dX12_done_56 : decode cX12_done 56 = .ok (.bipush 60, 2) := dk_16 60 (dk_at dksX12_done_2 8 rfl rfl)
theorem dX12_done_58 : decode cX12_done 58 = .ok (.iload_n 1, 1) := dk_27 (dk_at dksX12_done_2 10 rfl rfl)
theorem dX12_done_59 : decode cX12_done 59 = .ok (.imul, 1) := dk_104 (dk_at dksX12_done_2 11 rfl rfl)
theorem dX12_done_60 : decode cX12_done 60 = .ok (.iload_n 3, 1) := dk_29 (dk_at dksX12_done_2 12 rfl rfl)
theorem dX12_done_61 : decode cX12_done 61 = .ok (.iadd, 1) := dk_96 (dk_at dksX12_done_2 13 rfl rfl)
theorem dX12_done_62 : decode cX12_done 62 = .ok (.iconst 1, 1) := dk_4 (dk_at dksX12_done_2 14 rfl rfl)
theorem dX12_done_63 : decode cX12_done 63 = .ok (.iadd, 1) := dk_96 (dk_at dksX12_done_2 15 rfl rfl)
theorem dX12_done_64 : decode cX12_done 64 = .ok (.laload, 1) := dk_47 (dk_at dksX12_done_2 16 rfl rfl)
theorem dX12_done_65 : decode cX12_done 65 = .ok (.lstore 6, 2) := dk_55 6 (dk_at dksX12_done_2 17 rfl rfl)
theorem dX12_done_67 : decode cX12_done 67 = .ok (.aload_n 0, 1) := dk_42 (dk_at dksX12_done_2 19 rfl rfl)
theorem dX12_done_68 : decode cX12_done 68 = .ok (.getfield 92, 3) := dk_180 0 92 (dk_at dksX12_done_2 20 rfl rfl)
theorem dX12_done_71 : decode cX12_done 71 = .ok (.bipush 60, 2) := dk_16 60 (dk_at dksX12_done_3 0 rfl rfl)
theorem dX12_done_73 : decode cX12_done 73 = .ok (.iload_n 1, 1) := dk_27 (dk_at dksX12_done_3 2 rfl rfl)
theorem dX12_done_74 : decode cX12_done 74 = .ok (.imul, 1) := dk_104 (dk_at dksX12_done_3 3 rfl rfl)
theorem dX12_done_75 : decode cX12_done 75 = .ok (.iload_n 3, 1) := dk_29 (dk_at dksX12_done_3 4 rfl rfl)
theorem dX12_done_76 : decode cX12_done 76 = .ok (.iadd, 1) := dk_96 (dk_at dksX12_done_3 5 rfl rfl)
theorem dX12_done_77 : decode cX12_done 77 = .ok (.iconst 2, 1) := dk_5 (dk_at dksX12_done_3 6 rfl rfl)
theorem dX12_done_78 : decode cX12_done 78 = .ok (.iadd, 1) := dk_96 (dk_at dksX12_done_3 7 rfl rfl)
theorem dX12_done_79 : decode cX12_done 79 = .ok (.laload, 1) := dk_47 (dk_at dksX12_done_3 8 rfl rfl)
theorem dX12_done_80 : decode cX12_done 80 = .ok (.lstore 8, 2) := dk_55 8 (dk_at dksX12_done_3 9 rfl rfl)
theorem dX12_done_82 : decode cX12_done 82 = .ok (.lload 4, 2) := dk_22 4 (dk_at dksX12_done_3 11 rfl rfl)
theorem dX12_done_84 : decode cX12_done 84 = .ok (.lconst 0, 1) := dk_9 (dk_at dksX12_done_3 13 rfl rfl)
theorem dX12_done_85 : decode cX12_done 85 = .ok (.ldc2_w 374, 3) := dk_20 1 118 (dk_at dksX12_done_3 14 rfl rfl)
theorem dX12_done_88 : decode cX12_done 88 = .ok (.invokestatic 101, 3) := dk_184 0 101 (dk_at dksX12_done_3 17 rfl rfl)
theorem dX12_done_91 : decode cX12_done 91 = .ok (.ifCond .eq 80, 3) := dk_153 0 80 (dk_at dksX12_done_3 20 rfl rfl)
theorem dX12_done_94 : decode cX12_done 94 = .ok (.lload 6, 2) := dk_22 6 (dk_at dksX12_done_4 0 rfl rfl)
theorem dX12_done_96 : decode cX12_done 96 = .ok (.lconst 0, 1) := dk_9 (dk_at dksX12_done_4 2 rfl rfl)
theorem dX12_done_97 : decode cX12_done 97 = .ok (.ldc2_w 374, 3) := dk_20 1 118 (dk_at dksX12_done_4 3 rfl rfl)
theorem dX12_done_100 : decode cX12_done 100 = .ok (.invokestatic 101, 3) := dk_184 0 101 (dk_at dksX12_done_4 6 rfl rfl)
theorem dX12_done_103 : decode cX12_done 103 = .ok (.ifCond .eq 68, 3) := dk_153 0 68 (dk_at dksX12_done_4 9 rfl rfl)
theorem dX12_done_106 : decode cX12_done 106 = .ok (.lload 8, 2) := dk_22 8 (dk_at dksX12_done_4 12 rfl rfl)
theorem dX12_done_108 : decode cX12_done 108 = .ok (.lconst 0, 1) := dk_9 (dk_at dksX12_done_4 14 rfl rfl)
theorem dX12_done_109 : decode cX12_done 109 = .ok (.ldc2_w 376, 3) := dk_20 1 120 (dk_at dksX12_done_4 15 rfl rfl)
theorem dX12_done_112 : decode cX12_done 112 = .ok (.invokestatic 101, 3) := dk_184 0 101 (dk_at dksX12_done_4 18 rfl rfl)
theorem dX12_done_115 : decode cX12_done 115 = .ok (.ifCond .ne 6, 3) := dk_154 0 6 (dk_at dksX12_done_4 21 rfl rfl)
theorem dX12_done_118 : decode cX12_done 118 = .ok (.goto 53, 3) := dk_167 0 53 (dk_at dksX12_done_5 0 rfl rfl)
theorem dX12_done_121 : decode cX12_done 121 = .ok (.lload 8, 2) := dk_22 8 (dk_at dksX12_done_5 3 rfl rfl)
theorem dX12_done_123 : decode cX12_done 123 = .ok (.ldc2_w 376, 3) := dk_20 1 120 (dk_at dksX12_done_5 5 rfl rfl)
theorem dX12_done_126 : decode cX12_done 126 = .ok (.lcmp, 1) := dk_148 (dk_at dksX12_done_5 8 rfl rfl)
theorem dX12_done_127 : decode cX12_done 127 = .ok (.ifCond .ne 16, 3) := dk_154 0 16 (dk_at dksX12_done_5 9 rfl rfl)
theorem dX12_done_130 : decode cX12_done 130 = .ok (.aload_n 0, 1) := dk_42 (dk_at dksX12_done_5 12 rfl rfl)
theorem dX12_done_131 : decode cX12_done 131 = .ok (.lload 4, 2) := dk_22 4 (dk_at dksX12_done_5 13 rfl rfl)
theorem dX12_done_133 : decode cX12_done 133 = .ok (.l2i, 1) := dk_136 (dk_at dksX12_done_5 15 rfl rfl)
theorem dX12_done_134 : decode cX12_done 134 = .ok (.lload 6, 2) := dk_22 6 (dk_at dksX12_done_5 16 rfl rfl)
theorem dX12_done_136 : decode cX12_done 136 = .ok (.l2i, 1) := dk_136 (dk_at dksX12_done_5 18 rfl rfl)
theorem dX12_done_137 : decode cX12_done 137 = .ok (.invokevirtual 378, 3) := dk_182 1 122 (dk_at dksX12_done_5 19 rfl rfl)
theorem dX12_done_140 : decode cX12_done 140 = .ok (.goto 16, 3) := dk_167 0 16 (dk_at dksX12_done_6 0 rfl rfl)
theorem dX12_done_143 : decode cX12_done 143 = .ok (.aload_n 0, 1) := dk_42 (dk_at dksX12_done_6 3 rfl rfl)
theorem dX12_done_144 : decode cX12_done 144 = .ok (.lload 4, 2) := dk_22 4 (dk_at dksX12_done_6 4 rfl rfl)
theorem dX12_done_146 : decode cX12_done 146 = .ok (.l2i, 1) := dk_136 (dk_at dksX12_done_6 6 rfl rfl)
theorem dX12_done_147 : decode cX12_done 147 = .ok (.lload 6, 2) := dk_22 6 (dk_at dksX12_done_6 7 rfl rfl)
theorem dX12_done_149 : decode cX12_done 149 = .ok (.l2i, 1) := dk_136 (dk_at dksX12_done_6 9 rfl rfl)
theorem dX12_done_150 : decode cX12_done 150 = .ok (.lload 8, 2) := dk_22 8 (dk_at dksX12_done_6 10 rfl rfl)
theorem dX12_done_152 : decode cX12_done 152 = .ok (.l2i, 1) := dk_136 (dk_at dksX12_done_6 12 rfl rfl)
theorem dX12_done_153 : decode cX12_done 153 = .ok (.invokevirtual 381, 3) := dk_182 1 125 (dk_at dksX12_done_6 13 rfl rfl)
theorem dX12_done_156 : decode cX12_done 156 = .ok (.istore 10, 2) := dk_54 10 (dk_at dksX12_done_6 16 rfl rfl)
theorem dX12_done_158 : decode cX12_done 158 = .ok (.iload_n 2, 1) := dk_28 (dk_at dksX12_done_6 18 rfl rfl)
theorem dX12_done_159 : decode cX12_done 159 = .ok (.iload 10, 2) := dk_21 10 (dk_at dksX12_done_6 19 rfl rfl)
theorem dX12_done_161 : decode cX12_done 161 = .ok (.ifCond .lt 7, 3) := dk_155 0 7 (dk_at dksX12_done_6 21 rfl rfl)
theorem dX12_done_164 : decode cX12_done 164 = .ok (.iconst 1, 1) := dk_4 (dk_at dksX12_done_7 0 rfl rfl)
theorem dX12_done_165 : decode cX12_done 165 = .ok (.goto 4, 3) := dk_167 0 4 (dk_at dksX12_done_7 1 rfl rfl)
theorem dX12_done_168 : decode cX12_done 168 = .ok (.iconst 0, 1) := dk_3 (dk_at dksX12_done_7 4 rfl rfl)
theorem dX12_done_169 : decode cX12_done 169 = .ok (.iadd, 1) := dk_96 (dk_at dksX12_done_7 5 rfl rfl)
theorem dX12_done_170 : decode cX12_done 170 = .ok (.istore_n 2, 1) := dk_61 (dk_at dksX12_done_7 6 rfl rfl)
theorem dX12_done_171 : decode cX12_done 171 = .ok (.iinc 3 3, 3) := dk_132 3 3 (dk_at dksX12_done_7 7 rfl rfl)
theorem dX12_done_174 : decode cX12_done 174 = .ok (.goto (-147), 3) := dk_167 255 109 (dk_at dksX12_done_7 10 rfl rfl)
theorem dX12_done_177 : decode cX12_done 177 = .ok (.iload_n 2, 1) := dk_28 (dk_at dksX12_done_7 13 rfl rfl)
theorem dX12_done_178 : decode cX12_done 178 = .ok (.ireturn, 1) := dk_172 (dk_at dksX12_done_7 14 rfl rfl)
abbrev cX12_isSlot : ByteArray := prog_25_method_99_code
def yX12_isSlot : MethodName := ⟨RX12, "isSlot", "(I)Z"⟩
def dkwX12_isSlot_0 : List UInt8 := [26, 133, 9, 20, 1, 57, 184, 0, 101, 172]
abbrev dktX12_isSlot_0 : List UInt8 := dkwX12_isSlot_0 ++ []
theorem dksX12_isSlot_0 : cX12_isSlot.data.toList.drop 0 = dktX12_isSlot_0 := by decide +kernel
theorem dX12_isSlot_0 : decode cX12_isSlot 0 = .ok (.iload_n 0, 1) := dk_26 (dk_at dksX12_isSlot_0 0 rfl rfl)
theorem dX12_isSlot_1 : decode cX12_isSlot 1 = .ok (.i2l, 1) := dk_133 (dk_at dksX12_isSlot_0 1 rfl rfl)
theorem dX12_isSlot_2 : decode cX12_isSlot 2 = .ok (.lconst 0, 1) := dk_9 (dk_at dksX12_isSlot_0 2 rfl rfl)
theorem dX12_isSlot_3 : decode cX12_isSlot 3 = .ok (.ldc2_w 313, 3) := dk_20 1 57 (dk_at dksX12_isSlot_0 3 rfl rfl)
theorem dX12_isSlot_6 : decode cX12_isSlot 6 = .ok (.invokestatic 101, 3) := dk_184 0 101 (dk_at dksX12_isSlot_0 6 rfl rfl)
theorem dX12_isSlot_9 : decode cX12_isSlot 9 = .ok (.ireturn, 1) := dk_172 (dk_at dksX12_isSlot_0 9 rfl rfl)
abbrev cX12_debts : ByteArray := prog_25_method_59_code
def yX12_debts : MethodName := ⟨RX12, "debts", "(I)I"⟩
def dkwX12_debts_0 : List UInt8 := [42, 27, 182, 0, 105, 153, 0, 11, 42, 27, 182, 1, 83, 167, 0, 5, 16, 254, 172]
abbrev dktX12_debts_0 : List UInt8 := dkwX12_debts_0 ++ []
theorem dksX12_debts_0 : cX12_debts.data.toList.drop 0 = dktX12_debts_0 := by decide +kernel
theorem dX12_debts_0 : decode cX12_debts 0 = .ok (.aload_n 0, 1) := dk_42 (dk_at dksX12_debts_0 0 rfl rfl)
theorem dX12_debts_1 : decode cX12_debts 1 = .ok (.iload_n 1, 1) := dk_27 (dk_at dksX12_debts_0 1 rfl rfl)
theorem dX12_debts_2 : decode cX12_debts 2 = .ok (.invokevirtual 105, 3) := dk_182 0 105 (dk_at dksX12_debts_0 2 rfl rfl)
theorem dX12_debts_5 : decode cX12_debts 5 = .ok (.ifCond .eq 11, 3) := dk_153 0 11 (dk_at dksX12_debts_0 5 rfl rfl)
theorem dX12_debts_8 : decode cX12_debts 8 = .ok (.aload_n 0, 1) := dk_42 (dk_at dksX12_debts_0 8 rfl rfl)
theorem dX12_debts_9 : decode cX12_debts 9 = .ok (.iload_n 1, 1) := dk_27 (dk_at dksX12_debts_0 9 rfl rfl)
theorem dX12_debts_10 : decode cX12_debts 10 = .ok (.invokevirtual 339, 3) := dk_182 1 83 (dk_at dksX12_debts_0 10 rfl rfl)
theorem dX12_debts_13 : decode cX12_debts 13 = .ok (.goto 5, 3) := dk_167 0 5 (dk_at dksX12_debts_0 13 rfl rfl)
theorem dX12_debts_16 : decode cX12_debts 16 = .ok (.bipush (-2), 2) := dk_16 254 (dk_at dksX12_debts_0 16 rfl rfl)
theorem dX12_debts_18 : decode cX12_debts 18 = .ok (.ireturn, 1) := dk_172 (dk_at dksX12_debts_0 18 rfl rfl)
abbrev cX12_debt : ByteArray := prog_25_method_61_code
def yX12_debt : MethodName := ⟨RX12, "debt", "(III)I"⟩
def dkwX12_debt_2 : List UInt8 := [4, 96, 182, 1, 69, 172]
abbrev dktX12_debt_2 : List UInt8 := dkwX12_debt_2 ++ []
def dkwX12_debt_1 : List UInt8 := [2, 172, 42, 27, 28, 182, 1, 128, 54, 4, 21, 4, 2, 160, 0, 7, 2, 167, 0, 12, 42, 21, 4, 29]
abbrev dktX12_debt_1 : List UInt8 := dkwX12_debt_1 ++ dktX12_debt_2
def dkwX12_debt_0 : List UInt8 := [42, 27, 182, 0, 105, 153, 0, 19, 28, 155, 0, 15, 29, 133, 9, 20, 1, 57, 184, 0, 101, 154, 0, 5]
abbrev dktX12_debt_0 : List UInt8 := dkwX12_debt_0 ++ dktX12_debt_1
theorem dksX12_debt_0 : cX12_debt.data.toList.drop 0 = dktX12_debt_0 := by decide +kernel
theorem dksX12_debt_1 : cX12_debt.data.toList.drop 24 = dktX12_debt_1 := dk_seg dksX12_debt_0 24 rfl rfl
theorem dksX12_debt_2 : cX12_debt.data.toList.drop 48 = dktX12_debt_2 := dk_seg dksX12_debt_1 24 rfl rfl
theorem dX12_debt_0 : decode cX12_debt 0 = .ok (.aload_n 0, 1) := dk_42 (dk_at dksX12_debt_0 0 rfl rfl)
theorem dX12_debt_1 : decode cX12_debt 1 = .ok (.iload_n 1, 1) := dk_27 (dk_at dksX12_debt_0 1 rfl rfl)
theorem dX12_debt_2 : decode cX12_debt 2 = .ok (.invokevirtual 105, 3) := dk_182 0 105 (dk_at dksX12_debt_0 2 rfl rfl)
theorem dX12_debt_5 : decode cX12_debt 5 = .ok (.ifCond .eq 19, 3) := dk_153 0 19 (dk_at dksX12_debt_0 5 rfl rfl)
theorem dX12_debt_8 : decode cX12_debt 8 = .ok (.iload_n 2, 1) := dk_28 (dk_at dksX12_debt_0 8 rfl rfl)
theorem dX12_debt_9 : decode cX12_debt 9 = .ok (.ifCond .lt 15, 3) := dk_155 0 15 (dk_at dksX12_debt_0 9 rfl rfl)
theorem dX12_debt_12 : decode cX12_debt 12 = .ok (.iload_n 3, 1) := dk_29 (dk_at dksX12_debt_0 12 rfl rfl)
theorem dX12_debt_13 : decode cX12_debt 13 = .ok (.i2l, 1) := dk_133 (dk_at dksX12_debt_0 13 rfl rfl)
theorem dX12_debt_14 : decode cX12_debt 14 = .ok (.lconst 0, 1) := dk_9 (dk_at dksX12_debt_0 14 rfl rfl)
theorem dX12_debt_15 : decode cX12_debt 15 = .ok (.ldc2_w 313, 3) := dk_20 1 57 (dk_at dksX12_debt_0 15 rfl rfl)
theorem dX12_debt_18 : decode cX12_debt 18 = .ok (.invokestatic 101, 3) := dk_184 0 101 (dk_at dksX12_debt_0 18 rfl rfl)
theorem dX12_debt_21 : decode cX12_debt 21 = .ok (.ifCond .ne 5, 3) := dk_154 0 5 (dk_at dksX12_debt_0 21 rfl rfl)
theorem dX12_debt_24 : decode cX12_debt 24 = .ok (.iconst (-1), 1) := dk_2 (dk_at dksX12_debt_1 0 rfl rfl)
theorem dX12_debt_25 : decode cX12_debt 25 = .ok (.ireturn, 1) := dk_172 (dk_at dksX12_debt_1 1 rfl rfl)
theorem dX12_debt_26 : decode cX12_debt 26 = .ok (.aload_n 0, 1) := dk_42 (dk_at dksX12_debt_1 2 rfl rfl)
theorem dX12_debt_27 : decode cX12_debt 27 = .ok (.iload_n 1, 1) := dk_27 (dk_at dksX12_debt_1 3 rfl rfl)
theorem dX12_debt_28 : decode cX12_debt 28 = .ok (.iload_n 2, 1) := dk_28 (dk_at dksX12_debt_1 4 rfl rfl)
theorem dX12_debt_29 : decode cX12_debt 29 = .ok (.invokevirtual 384, 3) := dk_182 1 128 (dk_at dksX12_debt_1 5 rfl rfl)
theorem dX12_debt_32 : decode cX12_debt 32 = .ok (.istore 4, 2) := dk_54 4 (dk_at dksX12_debt_1 8 rfl rfl)
theorem dX12_debt_34 : decode cX12_debt 34 = .ok (.iload 4, 2) := dk_21 4 (dk_at dksX12_debt_1 10 rfl rfl)
theorem dX12_debt_36 : decode cX12_debt 36 = .ok (.iconst (-1), 1) := dk_2 (dk_at dksX12_debt_1 12 rfl rfl)
theorem dX12_debt_37 : decode cX12_debt 37 = .ok (.if_icmp .ne 7, 3) := dk_160 0 7 (dk_at dksX12_debt_1 13 rfl rfl)
theorem dX12_debt_40 : decode cX12_debt 40 = .ok (.iconst (-1), 1) := dk_2 (dk_at dksX12_debt_1 16 rfl rfl)
theorem dX12_debt_41 : decode cX12_debt 41 = .ok (.goto 12, 3) := dk_167 0 12 (dk_at dksX12_debt_1 17 rfl rfl)
theorem dX12_debt_44 : decode cX12_debt 44 = .ok (.aload_n 0, 1) := dk_42 (dk_at dksX12_debt_1 20 rfl rfl)
theorem dX12_debt_45 : decode cX12_debt 45 = .ok (.iload 4, 2) := dk_21 4 (dk_at dksX12_debt_1 21 rfl rfl)
theorem dX12_debt_47 : decode cX12_debt 47 = .ok (.iload_n 3, 1) := dk_29 (dk_at dksX12_debt_1 23 rfl rfl)
theorem dX12_debt_48 : decode cX12_debt 48 = .ok (.iconst 1, 1) := dk_4 (dk_at dksX12_debt_2 0 rfl rfl)
theorem dX12_debt_49 : decode cX12_debt 49 = .ok (.iadd, 1) := dk_96 (dk_at dksX12_debt_2 1 rfl rfl)
theorem dX12_debt_50 : decode cX12_debt 50 = .ok (.invokevirtual 325, 3) := dk_182 1 69 (dk_at dksX12_debt_2 2 rfl rfl)
theorem dX12_debt_53 : decode cX12_debt 53 = .ok (.ireturn, 1) := dk_172 (dk_at dksX12_debt_2 5 rfl rfl)
abbrev cX12_placeOf : ByteArray := prog_25_method_60_code
def yX12_placeOf : MethodName := ⟨RX12, "placeOf", "(II)I"⟩
def dkwX12_placeOf_2 : List UInt8 := [2, 172]
abbrev dktX12_placeOf_2 : List UInt8 := dkwX12_placeOf_2 ++ []
def dkwX12_placeOf_1 : List UInt8 := [27, 159, 0, 6, 167, 0, 14, 29, 28, 160, 0, 6, 21, 4, 172, 132, 3, 1, 132, 4, 1, 167, 255, 216]
abbrev dktX12_placeOf_1 : List UInt8 := dkwX12_placeOf_1 ++ dktX12_placeOf_2
def dkwX12_placeOf_0 : List UInt8 := [3, 62, 3, 54, 4, 21, 4, 42, 180, 0, 13, 16, 7, 46, 162, 0, 34, 42, 21, 4, 3, 182, 1, 69]
abbrev dktX12_placeOf_0 : List UInt8 := dkwX12_placeOf_0 ++ dktX12_placeOf_1
theorem dksX12_placeOf_0 : cX12_placeOf.data.toList.drop 0 = dktX12_placeOf_0 := by decide +kernel
theorem dksX12_placeOf_1 : cX12_placeOf.data.toList.drop 24 = dktX12_placeOf_1 := dk_seg dksX12_placeOf_0 24 rfl rfl
theorem dksX12_placeOf_2 : cX12_placeOf.data.toList.drop 48 = dktX12_placeOf_2 := dk_seg dksX12_placeOf_1 24 rfl rfl
theorem dX12_placeOf_0 : decode cX12_placeOf 0 = .ok (.iconst 0, 1) := dk_3 (dk_at dksX12_placeOf_0 0 rfl rfl)
theorem dX12_placeOf_1 : decode cX12_placeOf 1 = .ok (.istore_n 3, 1) := dk_62 (dk_at dksX12_placeOf_0 1 rfl rfl)
theorem dX12_placeOf_2 : decode cX12_placeOf 2 = .ok (.iconst 0, 1) := dk_3 (dk_at dksX12_placeOf_0 2 rfl rfl)
theorem dX12_placeOf_3 : decode cX12_placeOf 3 = .ok (.istore 4, 2) := dk_54 4 (dk_at dksX12_placeOf_0 3 rfl rfl)
theorem dX12_placeOf_5 : decode cX12_placeOf 5 = .ok (.iload 4, 2) := dk_21 4 (dk_at dksX12_placeOf_0 5 rfl rfl)
theorem dX12_placeOf_7 : decode cX12_placeOf 7 = .ok (.aload_n 0, 1) := dk_42 (dk_at dksX12_placeOf_0 7 rfl rfl)
theorem dX12_placeOf_8 : decode cX12_placeOf 8 = .ok (.getfield 13, 3) := dk_180 0 13 (dk_at dksX12_placeOf_0 8 rfl rfl)
theorem dX12_placeOf_11 : decode cX12_placeOf 11 = .ok (.bipush 7, 2) := dk_16 7 (dk_at dksX12_placeOf_0 11 rfl rfl)
theorem dX12_placeOf_13 : decode cX12_placeOf 13 = .ok (.iaload, 1) := dk_46 (dk_at dksX12_placeOf_0 13 rfl rfl)
theorem dX12_placeOf_14 : decode cX12_placeOf 14 = .ok (.if_icmp .ge 34, 3) := dk_162 0 34 (dk_at dksX12_placeOf_0 14 rfl rfl)
theorem dX12_placeOf_17 : decode cX12_placeOf 17 = .ok (.aload_n 0, 1) := dk_42 (dk_at dksX12_placeOf_0 17 rfl rfl)
theorem dX12_placeOf_18 : decode cX12_placeOf 18 = .ok (.iload 4, 2) := dk_21 4 (dk_at dksX12_placeOf_0 18 rfl rfl)
theorem dX12_placeOf_20 : decode cX12_placeOf 20 = .ok (.iconst 0, 1) := dk_3 (dk_at dksX12_placeOf_0 20 rfl rfl)
theorem dX12_placeOf_21 : decode cX12_placeOf 21 = .ok (.invokevirtual 325, 3) := dk_182 1 69 (dk_at dksX12_placeOf_0 21 rfl rfl)
theorem dX12_placeOf_24 : decode cX12_placeOf 24 = .ok (.iload_n 1, 1) := dk_27 (dk_at dksX12_placeOf_1 0 rfl rfl)
theorem dX12_placeOf_25 : decode cX12_placeOf 25 = .ok (.if_icmp .eq 6, 3) := dk_159 0 6 (dk_at dksX12_placeOf_1 1 rfl rfl)
theorem dX12_placeOf_28 : decode cX12_placeOf 28 = .ok (.goto 14, 3) := dk_167 0 14 (dk_at dksX12_placeOf_1 4 rfl rfl)
theorem dX12_placeOf_31 : decode cX12_placeOf 31 = .ok (.iload_n 3, 1) := dk_29 (dk_at dksX12_placeOf_1 7 rfl rfl)
theorem dX12_placeOf_32 : decode cX12_placeOf 32 = .ok (.iload_n 2, 1) := dk_28 (dk_at dksX12_placeOf_1 8 rfl rfl)
theorem dX12_placeOf_33 : decode cX12_placeOf 33 = .ok (.if_icmp .ne 6, 3) := dk_160 0 6 (dk_at dksX12_placeOf_1 9 rfl rfl)
theorem dX12_placeOf_36 : decode cX12_placeOf 36 = .ok (.iload 4, 2) := dk_21 4 (dk_at dksX12_placeOf_1 12 rfl rfl)
theorem dX12_placeOf_38 : decode cX12_placeOf 38 = .ok (.ireturn, 1) := dk_172 (dk_at dksX12_placeOf_1 14 rfl rfl)
theorem dX12_placeOf_39 : decode cX12_placeOf 39 = .ok (.iinc 3 1, 3) := dk_132 3 1 (dk_at dksX12_placeOf_1 15 rfl rfl)
theorem dX12_placeOf_42 : decode cX12_placeOf 42 = .ok (.iinc 4 1, 3) := dk_132 4 1 (dk_at dksX12_placeOf_1 18 rfl rfl)
theorem dX12_placeOf_45 : decode cX12_placeOf 45 = .ok (.goto (-40), 3) := dk_167 255 216 (dk_at dksX12_placeOf_1 21 rfl rfl)
theorem dX12_placeOf_48 : decode cX12_placeOf 48 = .ok (.iconst (-1), 1) := dk_2 (dk_at dksX12_placeOf_2 0 rfl rfl)
theorem dX12_placeOf_49 : decode cX12_placeOf 49 = .ok (.ireturn, 1) := dk_172 (dk_at dksX12_placeOf_2 1 rfl rfl)
abbrev cX12_slights : ByteArray := prog_25_method_63_code
def yX12_slights : MethodName := ⟨RX12, "slights", "(I)I"⟩
def dkwX12_slights_0 : List UInt8 := [42, 27, 182, 0, 105, 153, 0, 11, 42, 27, 182, 1, 131, 167, 0, 5, 16, 254, 172]
abbrev dktX12_slights_0 : List UInt8 := dkwX12_slights_0 ++ []
theorem dksX12_slights_0 : cX12_slights.data.toList.drop 0 = dktX12_slights_0 := by decide +kernel
theorem dX12_slights_0 : decode cX12_slights 0 = .ok (.aload_n 0, 1) := dk_42 (dk_at dksX12_slights_0 0 rfl rfl)
theorem dX12_slights_1 : decode cX12_slights 1 = .ok (.iload_n 1, 1) := dk_27 (dk_at dksX12_slights_0 1 rfl rfl)
theorem dX12_slights_2 : decode cX12_slights 2 = .ok (.invokevirtual 105, 3) := dk_182 0 105 (dk_at dksX12_slights_0 2 rfl rfl)
theorem dX12_slights_5 : decode cX12_slights 5 = .ok (.ifCond .eq 11, 3) := dk_153 0 11 (dk_at dksX12_slights_0 5 rfl rfl)
theorem dX12_slights_8 : decode cX12_slights 8 = .ok (.aload_n 0, 1) := dk_42 (dk_at dksX12_slights_0 8 rfl rfl)
theorem dX12_slights_9 : decode cX12_slights 9 = .ok (.iload_n 1, 1) := dk_27 (dk_at dksX12_slights_0 9 rfl rfl)
theorem dX12_slights_10 : decode cX12_slights 10 = .ok (.invokevirtual 387, 3) := dk_182 1 131 (dk_at dksX12_slights_0 10 rfl rfl)
theorem dX12_slights_13 : decode cX12_slights 13 = .ok (.goto 5, 3) := dk_167 0 5 (dk_at dksX12_slights_0 13 rfl rfl)
theorem dX12_slights_16 : decode cX12_slights 16 = .ok (.bipush (-2), 2) := dk_16 254 (dk_at dksX12_slights_0 16 rfl rfl)
theorem dX12_slights_18 : decode cX12_slights 18 = .ok (.ireturn, 1) := dk_172 (dk_at dksX12_slights_0 18 rfl rfl)
abbrev cX12_slightsOf : ByteArray := prog_25_method_62_code
def yX12_slightsOf : MethodName := ⟨RX12, "slightsOf", "(I)I"⟩
def dkwX12_slightsOf_2 : List UInt8 := [132, 3, 1, 167, 255, 211, 28, 172]
abbrev dktX12_slightsOf_2 : List UInt8 := dkwX12_slightsOf_2 ++ []
def dkwX12_slightsOf_1 : List UInt8 := [160, 0, 20, 42, 29, 6, 182, 1, 69, 42, 182, 1, 35, 162, 0, 7, 4, 167, 0, 4, 3, 96, 61]
abbrev dktX12_slightsOf_1 : List UInt8 := dkwX12_slightsOf_1 ++ dktX12_slightsOf_2
def dkwX12_slightsOf_0 : List UInt8 := [3, 61, 3, 62, 29, 42, 180, 0, 13, 16, 7, 46, 162, 0, 40, 28, 42, 29, 4, 182, 1, 69, 27]
abbrev dktX12_slightsOf_0 : List UInt8 := dkwX12_slightsOf_0 ++ dktX12_slightsOf_1
theorem dksX12_slightsOf_0 : cX12_slightsOf.data.toList.drop 0 = dktX12_slightsOf_0 := by decide +kernel
theorem dksX12_slightsOf_1 : cX12_slightsOf.data.toList.drop 23 = dktX12_slightsOf_1 := dk_seg dksX12_slightsOf_0 23 rfl rfl
theorem dksX12_slightsOf_2 : cX12_slightsOf.data.toList.drop 46 = dktX12_slightsOf_2 := dk_seg dksX12_slightsOf_1 23 rfl rfl
theorem dX12_slightsOf_0 : decode cX12_slightsOf 0 = .ok (.iconst 0, 1) := dk_3 (dk_at dksX12_slightsOf_0 0 rfl rfl)
theorem dX12_slightsOf_1 : decode cX12_slightsOf 1 = .ok (.istore_n 2, 1) := dk_61 (dk_at dksX12_slightsOf_0 1 rfl rfl)
theorem dX12_slightsOf_2 : decode cX12_slightsOf 2 = .ok (.iconst 0, 1) := dk_3 (dk_at dksX12_slightsOf_0 2 rfl rfl)
theorem dX12_slightsOf_3 : decode cX12_slightsOf 3 = .ok (.istore_n 3, 1) := dk_62 (dk_at dksX12_slightsOf_0 3 rfl rfl)
theorem dX12_slightsOf_4 : decode cX12_slightsOf 4 = .ok (.iload_n 3, 1) := dk_29 (dk_at dksX12_slightsOf_0 4 rfl rfl)
theorem dX12_slightsOf_5 : decode cX12_slightsOf 5 = .ok (.aload_n 0, 1) := dk_42 (dk_at dksX12_slightsOf_0 5 rfl rfl)
theorem dX12_slightsOf_6 : decode cX12_slightsOf 6 = .ok (.getfield 13, 3) := dk_180 0 13 (dk_at dksX12_slightsOf_0 6 rfl rfl)
theorem dX12_slightsOf_9 : decode cX12_slightsOf 9 = .ok (.bipush 7, 2) := dk_16 7 (dk_at dksX12_slightsOf_0 9 rfl rfl)
theorem dX12_slightsOf_11 : decode cX12_slightsOf 11 = .ok (.iaload, 1) := dk_46 (dk_at dksX12_slightsOf_0 11 rfl rfl)
theorem dX12_slightsOf_12 : decode cX12_slightsOf 12 = .ok (.if_icmp .ge 40, 3) := dk_162 0 40 (dk_at dksX12_slightsOf_0 12 rfl rfl)
theorem dX12_slightsOf_15 : decode cX12_slightsOf 15 = .ok (.iload_n 2, 1) := dk_28 (dk_at dksX12_slightsOf_0 15 rfl rfl)
theorem dX12_slightsOf_16 : decode cX12_slightsOf 16 = .ok (.aload_n 0, 1) := dk_42 (dk_at dksX12_slightsOf_0 16 rfl rfl)
theorem dX12_slightsOf_17 : decode cX12_slightsOf 17 = .ok (.iload_n 3, 1) := dk_29 (dk_at dksX12_slightsOf_0 17 rfl rfl)
theorem dX12_slightsOf_18 : decode cX12_slightsOf 18 = .ok (.iconst 1, 1) := dk_4 (dk_at dksX12_slightsOf_0 18 rfl rfl)
theorem dX12_slightsOf_19 : decode cX12_slightsOf 19 = .ok (.invokevirtual 325, 3) := dk_182 1 69 (dk_at dksX12_slightsOf_0 19 rfl rfl)
theorem dX12_slightsOf_22 : decode cX12_slightsOf 22 = .ok (.iload_n 1, 1) := dk_27 (dk_at dksX12_slightsOf_0 22 rfl rfl)
theorem dX12_slightsOf_23 : decode cX12_slightsOf 23 = .ok (.if_icmp .ne 20, 3) := dk_160 0 20 (dk_at dksX12_slightsOf_1 0 rfl rfl)
theorem dX12_slightsOf_26 : decode cX12_slightsOf 26 = .ok (.aload_n 0, 1) := dk_42 (dk_at dksX12_slightsOf_1 3 rfl rfl)
theorem dX12_slightsOf_27 : decode cX12_slightsOf 27 = .ok (.iload_n 3, 1) := dk_29 (dk_at dksX12_slightsOf_1 4 rfl rfl)
theorem dX12_slightsOf_28 : decode cX12_slightsOf 28 = .ok (.iconst 3, 1) := dk_6 (dk_at dksX12_slightsOf_1 5 rfl rfl)
theorem dX12_slightsOf_29 : decode cX12_slightsOf 29 = .ok (.invokevirtual 325, 3) := dk_182 1 69 (dk_at dksX12_slightsOf_1 6 rfl rfl)
theorem dX12_slightsOf_32 : decode cX12_slightsOf 32 = .ok (.aload_n 0, 1) := dk_42 (dk_at dksX12_slightsOf_1 9 rfl rfl)
theorem dX12_slightsOf_33 : decode cX12_slightsOf 33 = .ok (.invokevirtual 291, 3) := dk_182 1 35 (dk_at dksX12_slightsOf_1 10 rfl rfl)
theorem dX12_slightsOf_36 : decode cX12_slightsOf 36 = .ok (.if_icmp .ge 7, 3) := dk_162 0 7 (dk_at dksX12_slightsOf_1 13 rfl rfl)
theorem dX12_slightsOf_39 : decode cX12_slightsOf 39 = .ok (.iconst 1, 1) := dk_4 (dk_at dksX12_slightsOf_1 16 rfl rfl)
theorem dX12_slightsOf_40 : decode cX12_slightsOf 40 = .ok (.goto 4, 3) := dk_167 0 4 (dk_at dksX12_slightsOf_1 17 rfl rfl)
theorem dX12_slightsOf_43 : decode cX12_slightsOf 43 = .ok (.iconst 0, 1) := dk_3 (dk_at dksX12_slightsOf_1 20 rfl rfl)
theorem dX12_slightsOf_44 : decode cX12_slightsOf 44 = .ok (.iadd, 1) := dk_96 (dk_at dksX12_slightsOf_1 21 rfl rfl)
theorem dX12_slightsOf_45 : decode cX12_slightsOf 45 = .ok (.istore_n 2, 1) := dk_61 (dk_at dksX12_slightsOf_1 22 rfl rfl)
theorem dX12_slightsOf_46 : decode cX12_slightsOf 46 = .ok (.iinc 3 1, 3) := dk_132 3 1 (dk_at dksX12_slightsOf_2 0 rfl rfl)
theorem dX12_slightsOf_49 : decode cX12_slightsOf 49 = .ok (.goto (-45), 3) := dk_167 255 211 (dk_at dksX12_slightsOf_2 3 rfl rfl)
theorem dX12_slightsOf_52 : decode cX12_slightsOf 52 = .ok (.iload_n 2, 1) := dk_28 (dk_at dksX12_slightsOf_2 6 rfl rfl)
theorem dX12_slightsOf_53 : decode cX12_slightsOf 53 = .ok (.ireturn, 1) := dk_172 (dk_at dksX12_slightsOf_2 7 rfl rfl)
abbrev cX12_first : ByteArray := prog_25_method_64_code
def yX12_first : MethodName := ⟨RX12, "first", "()I"⟩
def dkwX12_first_2 : List UInt8 := [27, 5, 182, 1, 30, 163, 0, 6, 167, 0, 8, 29, 60, 21, 4, 61, 132, 3, 1, 167, 255, 196, 27, 172]
abbrev dktX12_first_2 : List UInt8 := dkwX12_first_2 ++ []
def dkwX12_first_1 : List UInt8 := [21, 4, 153, 0, 38, 21, 4, 28, 161, 0, 32, 21, 4, 28, 160, 0, 21, 42, 29, 5, 182, 1, 30, 42]
abbrev dktX12_first_1 : List UInt8 := dkwX12_first_1 ++ dktX12_first_2
def dkwX12_first_0 : List UInt8 := [2, 60, 3, 61, 3, 62, 29, 42, 180, 0, 13, 3, 46, 162, 0, 56, 42, 29, 182, 1, 131, 54, 4]
abbrev dktX12_first_0 : List UInt8 := dkwX12_first_0 ++ dktX12_first_1
theorem dksX12_first_0 : cX12_first.data.toList.drop 0 = dktX12_first_0 := by decide +kernel
theorem dksX12_first_1 : cX12_first.data.toList.drop 23 = dktX12_first_1 := dk_seg dksX12_first_0 23 rfl rfl
theorem dksX12_first_2 : cX12_first.data.toList.drop 47 = dktX12_first_2 := dk_seg dksX12_first_1 24 rfl rfl
theorem dX12_first_0 : decode cX12_first 0 = .ok (.iconst (-1), 1) := dk_2 (dk_at dksX12_first_0 0 rfl rfl)
theorem dX12_first_1 : decode cX12_first 1 = .ok (.istore_n 1, 1) := dk_60 (dk_at dksX12_first_0 1 rfl rfl)
theorem dX12_first_2 : decode cX12_first 2 = .ok (.iconst 0, 1) := dk_3 (dk_at dksX12_first_0 2 rfl rfl)
theorem dX12_first_3 : decode cX12_first 3 = .ok (.istore_n 2, 1) := dk_61 (dk_at dksX12_first_0 3 rfl rfl)
theorem dX12_first_4 : decode cX12_first 4 = .ok (.iconst 0, 1) := dk_3 (dk_at dksX12_first_0 4 rfl rfl)
theorem dX12_first_5 : decode cX12_first 5 = .ok (.istore_n 3, 1) := dk_62 (dk_at dksX12_first_0 5 rfl rfl)
theorem dX12_first_6 : decode cX12_first 6 = .ok (.iload_n 3, 1) := dk_29 (dk_at dksX12_first_0 6 rfl rfl)
theorem dX12_first_7 : decode cX12_first 7 = .ok (.aload_n 0, 1) := dk_42 (dk_at dksX12_first_0 7 rfl rfl)
theorem dX12_first_8 : decode cX12_first 8 = .ok (.getfield 13, 3) := dk_180 0 13 (dk_at dksX12_first_0 8 rfl rfl)
theorem dX12_first_11 : decode cX12_first 11 = .ok (.iconst 0, 1) := dk_3 (dk_at dksX12_first_0 11 rfl rfl)
theorem dX12_first_12 : decode cX12_first 12 = .ok (.iaload, 1) := dk_46 (dk_at dksX12_first_0 12 rfl rfl)
theorem dX12_first_13 : decode cX12_first 13 = .ok (.if_icmp .ge 56, 3) := dk_162 0 56 (dk_at dksX12_first_0 13 rfl rfl)
theorem dX12_first_16 : decode cX12_first 16 = .ok (.aload_n 0, 1) := dk_42 (dk_at dksX12_first_0 16 rfl rfl)
theorem dX12_first_17 : decode cX12_first 17 = .ok (.iload_n 3, 1) := dk_29 (dk_at dksX12_first_0 17 rfl rfl)
theorem dX12_first_18 : decode cX12_first 18 = .ok (.invokevirtual 387, 3) := dk_182 1 131 (dk_at dksX12_first_0 18 rfl rfl)
theorem dX12_first_21 : decode cX12_first 21 = .ok (.istore 4, 2) := dk_54 4 (dk_at dksX12_first_0 21 rfl rfl)
theorem dX12_first_23 : decode cX12_first 23 = .ok (.iload 4, 2) := dk_21 4 (dk_at dksX12_first_1 0 rfl rfl)
theorem dX12_first_25 : decode cX12_first 25 = .ok (.ifCond .eq 38, 3) := dk_153 0 38 (dk_at dksX12_first_1 2 rfl rfl)
theorem dX12_first_28 : decode cX12_first 28 = .ok (.iload 4, 2) := dk_21 4 (dk_at dksX12_first_1 5 rfl rfl)
theorem dX12_first_30 : decode cX12_first 30 = .ok (.iload_n 2, 1) := dk_28 (dk_at dksX12_first_1 7 rfl rfl)
theorem dX12_first_31 : decode cX12_first 31 = .ok (.if_icmp .lt 32, 3) := dk_161 0 32 (dk_at dksX12_first_1 8 rfl rfl)
theorem dX12_first_34 : decode cX12_first 34 = .ok (.iload 4, 2) := dk_21 4 (dk_at dksX12_first_1 11 rfl rfl)
theorem dX12_first_36 : decode cX12_first 36 = .ok (.iload_n 2, 1) := dk_28 (dk_at dksX12_first_1 13 rfl rfl)
theorem dX12_first_37 : decode cX12_first 37 = .ok (.if_icmp .ne 21, 3) := dk_160 0 21 (dk_at dksX12_first_1 14 rfl rfl)
theorem dX12_first_40 : decode cX12_first 40 = .ok (.aload_n 0, 1) := dk_42 (dk_at dksX12_first_1 17 rfl rfl)
theorem dX12_first_41 : decode cX12_first 41 = .ok (.iload_n 3, 1) := dk_29 (dk_at dksX12_first_1 18 rfl rfl)
theorem dX12_first_42 : decode cX12_first 42 = .ok (.iconst 2, 1) := dk_5 (dk_at dksX12_first_1 19 rfl rfl)
theorem dX12_first_43 : decode cX12_first 43 = .ok (.invokevirtual 286, 3) := dk_182 1 30 (dk_at dksX12_first_1 20 rfl rfl)
theorem dX12_first_46 : decode cX12_first 46 = .ok (.aload_n 0, 1) := dk_42 (dk_at dksX12_first_1 23 rfl rfl)
theorem dX12_first_47 : decode cX12_first 47 = .ok (.iload_n 1, 1) := dk_27 (dk_at dksX12_first_2 0 rfl rfl)
theorem dX12_first_48 : decode cX12_first 48 = .ok (.iconst 2, 1) := dk_5 (dk_at dksX12_first_2 1 rfl rfl)
theorem dX12_first_49 : decode cX12_first 49 = .ok (.invokevirtual 286, 3) := dk_182 1 30 (dk_at dksX12_first_2 2 rfl rfl)
theorem dX12_first_52 : decode cX12_first 52 = .ok (.if_icmp .gt 6, 3) := dk_163 0 6 (dk_at dksX12_first_2 5 rfl rfl)
theorem dX12_first_55 : decode cX12_first 55 = .ok (.goto 8, 3) := dk_167 0 8 (dk_at dksX12_first_2 8 rfl rfl)
theorem dX12_first_58 : decode cX12_first 58 = .ok (.iload_n 3, 1) := dk_29 (dk_at dksX12_first_2 11 rfl rfl)
theorem dX12_first_59 : decode cX12_first 59 = .ok (.istore_n 1, 1) := dk_60 (dk_at dksX12_first_2 12 rfl rfl)
theorem dX12_first_60 : decode cX12_first 60 = .ok (.iload 4, 2) := dk_21 4 (dk_at dksX12_first_2 13 rfl rfl)
theorem dX12_first_62 : decode cX12_first 62 = .ok (.istore_n 2, 1) := dk_61 (dk_at dksX12_first_2 15 rfl rfl)
theorem dX12_first_63 : decode cX12_first 63 = .ok (.iinc 3 1, 3) := dk_132 3 1 (dk_at dksX12_first_2 16 rfl rfl)
theorem dX12_first_66 : decode cX12_first 66 = .ok (.goto (-60), 3) := dk_167 255 196 (dk_at dksX12_first_2 19 rfl rfl)
theorem dX12_first_69 : decode cX12_first 69 = .ok (.iload_n 1, 1) := dk_27 (dk_at dksX12_first_2 22 rfl rfl)
theorem dX12_first_70 : decode cX12_first 70 = .ok (.ireturn, 1) := dk_172 (dk_at dksX12_first_2 23 rfl rfl)
abbrev cX12_owes : ByteArray := prog_25_method_65_code
def yX12_owes : MethodName := ⟨RX12, "owes", "(III)I"⟩
def dkwX12_owes_3 : List UInt8 := [153, 0, 7, 2, 167, 0, 5, 21, 5, 172]
abbrev dktX12_owes_3 : List UInt8 := dkwX12_owes_3 ++ []
def dkwX12_owes_2 : List UInt8 := [180, 0, 13, 17, 0, 154, 8, 21, 4, 104, 96, 4, 96, 46, 54, 5, 42, 28, 27, 21, 5, 182, 1, 100]
abbrev dktX12_owes_2 : List UInt8 := dkwX12_owes_2 ++ dktX12_owes_3
def dkwX12_owes_1 : List UInt8 := [27, 28, 182, 1, 48, 42, 182, 1, 35, 182, 1, 96, 54, 4, 21, 4, 2, 160, 0, 5, 2, 172, 42]
abbrev dktX12_owes_1 : List UInt8 := dkwX12_owes_1 ++ dktX12_owes_2
def dkwX12_owes_0 : List UInt8 := [42, 27, 28, 182, 1, 59, 153, 0, 10, 29, 184, 1, 62, 154, 0, 6, 16, 254, 172, 42, 27, 28, 29, 42]
abbrev dktX12_owes_0 : List UInt8 := dkwX12_owes_0 ++ dktX12_owes_1
theorem dksX12_owes_0 : cX12_owes.data.toList.drop 0 = dktX12_owes_0 := by decide +kernel
theorem dksX12_owes_1 : cX12_owes.data.toList.drop 24 = dktX12_owes_1 := dk_seg dksX12_owes_0 24 rfl rfl
theorem dksX12_owes_2 : cX12_owes.data.toList.drop 47 = dktX12_owes_2 := dk_seg dksX12_owes_1 23 rfl rfl
theorem dksX12_owes_3 : cX12_owes.data.toList.drop 71 = dktX12_owes_3 := dk_seg dksX12_owes_2 24 rfl rfl
theorem dX12_owes_0 : decode cX12_owes 0 = .ok (.aload_n 0, 1) := dk_42 (dk_at dksX12_owes_0 0 rfl rfl)
theorem dX12_owes_1 : decode cX12_owes 1 = .ok (.iload_n 1, 1) := dk_27 (dk_at dksX12_owes_0 1 rfl rfl)
theorem dX12_owes_2 : decode cX12_owes 2 = .ok (.iload_n 2, 1) := dk_28 (dk_at dksX12_owes_0 2 rfl rfl)
theorem dX12_owes_3 : decode cX12_owes 3 = .ok (.invokevirtual 315, 3) := dk_182 1 59 (dk_at dksX12_owes_0 3 rfl rfl)
theorem dX12_owes_6 : decode cX12_owes 6 = .ok (.ifCond .eq 10, 3) := dk_153 0 10 (dk_at dksX12_owes_0 6 rfl rfl)
theorem dX12_owes_9 : decode cX12_owes 9 = .ok (.iload_n 3, 1) := dk_29 (dk_at dksX12_owes_0 9 rfl rfl)
theorem dX12_owes_10 : decode cX12_owes 10 = .ok (.invokestatic 318, 3) := dk_184 1 62 (dk_at dksX12_owes_0 10 rfl rfl)
theorem dX12_owes_13 : decode cX12_owes 13 = .ok (.ifCond .ne 6, 3) := dk_154 0 6 (dk_at dksX12_owes_0 13 rfl rfl)
theorem dX12_owes_16 : decode cX12_owes 16 = .ok (.bipush (-2), 2) := dk_16 254 (dk_at dksX12_owes_0 16 rfl rfl)
theorem dX12_owes_18 : decode cX12_owes 18 = .ok (.ireturn, 1) := dk_172 (dk_at dksX12_owes_0 18 rfl rfl)
theorem dX12_owes_19 : decode cX12_owes 19 = .ok (.aload_n 0, 1) := dk_42 (dk_at dksX12_owes_0 19 rfl rfl)
theorem dX12_owes_20 : decode cX12_owes 20 = .ok (.iload_n 1, 1) := dk_27 (dk_at dksX12_owes_0 20 rfl rfl)
theorem dX12_owes_21 : decode cX12_owes 21 = .ok (.iload_n 2, 1) := dk_28 (dk_at dksX12_owes_0 21 rfl rfl)
theorem dX12_owes_22 : decode cX12_owes 22 = .ok (.iload_n 3, 1) := dk_29 (dk_at dksX12_owes_0 22 rfl rfl)
theorem dX12_owes_23 : decode cX12_owes 23 = .ok (.aload_n 0, 1) := dk_42 (dk_at dksX12_owes_0 23 rfl rfl)
theorem dX12_owes_24 : decode cX12_owes 24 = .ok (.iload_n 1, 1) := dk_27 (dk_at dksX12_owes_1 0 rfl rfl)
theorem dX12_owes_25 : decode cX12_owes 25 = .ok (.iload_n 2, 1) := dk_28 (dk_at dksX12_owes_1 1 rfl rfl)
theorem dX12_owes_26 : decode cX12_owes 26 = .ok (.invokevirtual 304, 3) := dk_182 1 48 (dk_at dksX12_owes_1 2 rfl rfl)
theorem dX12_owes_29 : decode cX12_owes 29 = .ok (.aload_n 0, 1) := dk_42 (dk_at dksX12_owes_1 5 rfl rfl)
theorem dX12_owes_30 : decode cX12_owes 30 = .ok (.invokevirtual 291, 3) := dk_182 1 35 (dk_at dksX12_owes_1 6 rfl rfl)
theorem dX12_owes_33 : decode cX12_owes 33 = .ok (.invokevirtual 352, 3) := dk_182 1 96 (dk_at dksX12_owes_1 9 rfl rfl)
theorem dX12_owes_36 : decode cX12_owes 36 = .ok (.istore 4, 2) := dk_54 4 (dk_at dksX12_owes_1 12 rfl rfl)
theorem dX12_owes_38 : decode cX12_owes 38 = .ok (.iload 4, 2) := dk_21 4 (dk_at dksX12_owes_1 14 rfl rfl)
theorem dX12_owes_40 : decode cX12_owes 40 = .ok (.iconst (-1), 1) := dk_2 (dk_at dksX12_owes_1 16 rfl rfl)
theorem dX12_owes_41 : decode cX12_owes 41 = .ok (.if_icmp .ne 5, 3) := dk_160 0 5 (dk_at dksX12_owes_1 17 rfl rfl)
theorem dX12_owes_44 : decode cX12_owes 44 = .ok (.iconst (-1), 1) := dk_2 (dk_at dksX12_owes_1 20 rfl rfl)
theorem dX12_owes_45 : decode cX12_owes 45 = .ok (.ireturn, 1) := dk_172 (dk_at dksX12_owes_1 21 rfl rfl)
theorem dX12_owes_46 : decode cX12_owes 46 = .ok (.aload_n 0, 1) := dk_42 (dk_at dksX12_owes_1 22 rfl rfl)
theorem dX12_owes_47 : decode cX12_owes 47 = .ok (.getfield 13, 3) := dk_180 0 13 (dk_at dksX12_owes_2 0 rfl rfl)
theorem dX12_owes_50 : decode cX12_owes 50 = .ok (.sipush 154, 3) := dk_17 0 154 (dk_at dksX12_owes_2 3 rfl rfl)
theorem dX12_owes_53 : decode cX12_owes 53 = .ok (.iconst 5, 1) := dk_8 (dk_at dksX12_owes_2 6 rfl rfl)
theorem dX12_owes_54 : decode cX12_owes 54 = .ok (.iload 4, 2) := dk_21 4 (dk_at dksX12_owes_2 7 rfl rfl)
theorem dX12_owes_56 : decode cX12_owes 56 = .ok (.imul, 1) := dk_104 (dk_at dksX12_owes_2 9 rfl rfl)
theorem dX12_owes_57 : decode cX12_owes 57 = .ok (.iadd, 1) := dk_96 (dk_at dksX12_owes_2 10 rfl rfl)
theorem dX12_owes_58 : decode cX12_owes 58 = .ok (.iconst 1, 1) := dk_4 (dk_at dksX12_owes_2 11 rfl rfl)
theorem dX12_owes_59 : decode cX12_owes 59 = .ok (.iadd, 1) := dk_96 (dk_at dksX12_owes_2 12 rfl rfl)
theorem dX12_owes_60 : decode cX12_owes 60 = .ok (.iaload, 1) := dk_46 (dk_at dksX12_owes_2 13 rfl rfl)
theorem dX12_owes_61 : decode cX12_owes 61 = .ok (.istore 5, 2) := dk_54 5 (dk_at dksX12_owes_2 14 rfl rfl)
theorem dX12_owes_63 : decode cX12_owes 63 = .ok (.aload_n 0, 1) := dk_42 (dk_at dksX12_owes_2 16 rfl rfl)
theorem dX12_owes_64 : decode cX12_owes 64 = .ok (.iload_n 2, 1) := dk_28 (dk_at dksX12_owes_2 17 rfl rfl)
theorem dX12_owes_65 : decode cX12_owes 65 = .ok (.iload_n 1, 1) := dk_27 (dk_at dksX12_owes_2 18 rfl rfl)
theorem dX12_owes_66 : decode cX12_owes 66 = .ok (.iload 5, 2) := dk_21 5 (dk_at dksX12_owes_2 19 rfl rfl)
theorem dX12_owes_68 : decode cX12_owes 68 = .ok (.invokevirtual 356, 3) := dk_182 1 100 (dk_at dksX12_owes_2 21 rfl rfl)
theorem dX12_owes_71 : decode cX12_owes 71 = .ok (.ifCond .eq 7, 3) := dk_153 0 7 (dk_at dksX12_owes_3 0 rfl rfl)
theorem dX12_owes_74 : decode cX12_owes 74 = .ok (.iconst (-1), 1) := dk_2 (dk_at dksX12_owes_3 3 rfl rfl)
theorem dX12_owes_75 : decode cX12_owes 75 = .ok (.goto 5, 3) := dk_167 0 5 (dk_at dksX12_owes_3 4 rfl rfl)
theorem dX12_owes_78 : decode cX12_owes 78 = .ok (.iload 5, 2) := dk_21 5 (dk_at dksX12_owes_3 7 rfl rfl)
theorem dX12_owes_80 : decode cX12_owes 80 = .ok (.ireturn, 1) := dk_172 (dk_at dksX12_owes_3 9 rfl rfl)
abbrev cX12_worth : ByteArray := prog_25_method_74_code
def yX12_worth : MethodName := ⟨RX12, "worth", "(II)I"⟩
def dkwX12_worth_0 : List UInt8 := [42, 27, 28, 182, 1, 173, 154, 0, 6, 16, 254, 172, 42, 27, 28, 182, 1, 176, 42, 180, 1, 165, 172]
abbrev dktX12_worth_0 : List UInt8 := dkwX12_worth_0 ++ []
theorem dksX12_worth_0 : cX12_worth.data.toList.drop 0 = dktX12_worth_0 := by decide +kernel
theorem dX12_worth_0 : decode cX12_worth 0 = .ok (.aload_n 0, 1) := dk_42 (dk_at dksX12_worth_0 0 rfl rfl)
theorem dX12_worth_1 : decode cX12_worth 1 = .ok (.iload_n 1, 1) := dk_27 (dk_at dksX12_worth_0 1 rfl rfl)
theorem dX12_worth_2 : decode cX12_worth 2 = .ok (.iload_n 2, 1) := dk_28 (dk_at dksX12_worth_0 2 rfl rfl)
theorem dX12_worth_3 : decode cX12_worth 3 = .ok (.invokevirtual 429, 3) := dk_182 1 173 (dk_at dksX12_worth_0 3 rfl rfl)
theorem dX12_worth_6 : decode cX12_worth 6 = .ok (.ifCond .ne 6, 3) := dk_154 0 6 (dk_at dksX12_worth_0 6 rfl rfl)
theorem dX12_worth_9 : decode cX12_worth 9 = .ok (.bipush (-2), 2) := dk_16 254 (dk_at dksX12_worth_0 9 rfl rfl)
theorem dX12_worth_11 : decode cX12_worth 11 = .ok (.ireturn, 1) := dk_172 (dk_at dksX12_worth_0 11 rfl rfl)
theorem dX12_worth_12 : decode cX12_worth 12 = .ok (.aload_n 0, 1) := dk_42 (dk_at dksX12_worth_0 12 rfl rfl)
theorem dX12_worth_13 : decode cX12_worth 13 = .ok (.iload_n 1, 1) := dk_27 (dk_at dksX12_worth_0 13 rfl rfl)
theorem dX12_worth_14 : decode cX12_worth 14 = .ok (.iload_n 2, 1) := dk_28 (dk_at dksX12_worth_0 14 rfl rfl)
theorem dX12_worth_15 : decode cX12_worth 15 = .ok (.invokevirtual 432, 3) := dk_182 1 176 (dk_at dksX12_worth_0 15 rfl rfl)
theorem dX12_worth_18 : decode cX12_worth 18 = .ok (.aload_n 0, 1) := dk_42 (dk_at dksX12_worth_0 18 rfl rfl)
theorem dX12_worth_19 : decode cX12_worth 19 = .ok (.getfield 421, 3) := dk_180 1 165 (dk_at dksX12_worth_0 19 rfl rfl)
theorem dX12_worth_22 : decode cX12_worth 22 = .ok (.ireturn, 1) := dk_172 (dk_at dksX12_worth_0 22 rfl rfl)
abbrev cX12_isRound : ByteArray := prog_25_method_73_code
def yX12_isRound : MethodName := ⟨RX12, "isRound", "(II)Z"⟩
def dkwX12_isRound_1 : List UInt8 := [4, 167, 0, 4, 3, 172]
abbrev dktX12_isRound_1 : List UInt8 := dkwX12_isRound_1 ++ []
def dkwX12_isRound_0 : List UInt8 := [42, 27, 182, 0, 105, 153, 0, 23, 28, 133, 42, 182, 1, 35, 133, 20, 1, 171, 184, 0, 101, 153, 0, 7]
abbrev dktX12_isRound_0 : List UInt8 := dkwX12_isRound_0 ++ dktX12_isRound_1
theorem dksX12_isRound_0 : cX12_isRound.data.toList.drop 0 = dktX12_isRound_0 := by decide +kernel
theorem dksX12_isRound_1 : cX12_isRound.data.toList.drop 24 = dktX12_isRound_1 := dk_seg dksX12_isRound_0 24 rfl rfl
theorem dX12_isRound_0 : decode cX12_isRound 0 = .ok (.aload_n 0, 1) := dk_42 (dk_at dksX12_isRound_0 0 rfl rfl)
theorem dX12_isRound_1 : decode cX12_isRound 1 = .ok (.iload_n 1, 1) := dk_27 (dk_at dksX12_isRound_0 1 rfl rfl)
theorem dX12_isRound_2 : decode cX12_isRound 2 = .ok (.invokevirtual 105, 3) := dk_182 0 105 (dk_at dksX12_isRound_0 2 rfl rfl)
theorem dX12_isRound_5 : decode cX12_isRound 5 = .ok (.ifCond .eq 23, 3) := dk_153 0 23 (dk_at dksX12_isRound_0 5 rfl rfl)
theorem dX12_isRound_8 : decode cX12_isRound 8 = .ok (.iload_n 2, 1) := dk_28 (dk_at dksX12_isRound_0 8 rfl rfl)
theorem dX12_isRound_9 : decode cX12_isRound 9 = .ok (.i2l, 1) := dk_133 (dk_at dksX12_isRound_0 9 rfl rfl)
theorem dX12_isRound_10 : decode cX12_isRound 10 = .ok (.aload_n 0, 1) := dk_42 (dk_at dksX12_isRound_0 10 rfl rfl)
theorem dX12_isRound_11 : decode cX12_isRound 11 = .ok (.invokevirtual 291, 3) := dk_182 1 35 (dk_at dksX12_isRound_0 11 rfl rfl)
theorem dX12_isRound_14 : decode cX12_isRound 14 = .ok (.i2l, 1) := dk_133 (dk_at dksX12_isRound_0 14 rfl rfl)
theorem dX12_isRound_15 : decode cX12_isRound 15 = .ok (.ldc2_w 427, 3) := dk_20 1 171 (dk_at dksX12_isRound_0 15 rfl rfl)
theorem dX12_isRound_18 : decode cX12_isRound 18 = .ok (.invokestatic 101, 3) := dk_184 0 101 (dk_at dksX12_isRound_0 18 rfl rfl)
theorem dX12_isRound_21 : decode cX12_isRound 21 = .ok (.ifCond .eq 7, 3) := dk_153 0 7 (dk_at dksX12_isRound_0 21 rfl rfl)
theorem dX12_isRound_24 : decode cX12_isRound 24 = .ok (.iconst 1, 1) := dk_4 (dk_at dksX12_isRound_1 0 rfl rfl)
theorem dX12_isRound_25 : decode cX12_isRound 25 = .ok (.goto 4, 3) := dk_167 0 4 (dk_at dksX12_isRound_1 1 rfl rfl)
theorem dX12_isRound_28 : decode cX12_isRound 28 = .ok (.iconst 0, 1) := dk_3 (dk_at dksX12_isRound_1 4 rfl rfl)
theorem dX12_isRound_29 : decode cX12_isRound 29 = .ok (.ireturn, 1) := dk_172 (dk_at dksX12_isRound_1 5 rfl rfl)
abbrev cX12_rounds : ByteArray := prog_25_method_72_code
def yX12_rounds : MethodName := ⟨RX12, "rounds", "(II)V"⟩
def dkwX12_rounds_7 : List UInt8 := [132, 3, 1, 167, 255, 129, 177]
abbrev dktX12_rounds_7 : List UInt8 := dkwX12_rounds_7 ++ []
def dkwX12_rounds_6 : List UInt8 := [161, 0, 6, 167, 0, 20, 42, 29, 181, 1, 159, 42, 21, 4, 181, 1, 162, 42, 21, 5, 181, 1, 165]
abbrev dktX12_rounds_6 : List UInt8 := dkwX12_rounds_6 ++ dktX12_rounds_7
def dkwX12_rounds_5 : List UInt8 := [21, 5, 42, 180, 1, 165, 161, 0, 41, 21, 5, 42, 180, 1, 165, 160, 0, 15, 21, 4, 42, 180, 1, 162]
abbrev dktX12_rounds_5 : List UInt8 := dkwX12_rounds_5 ++ dktX12_rounds_6
def dkwX12_rounds_4 : List UInt8 := [180, 0, 43, 42, 180, 0, 40, 21, 6, 46, 46, 167, 0, 4, 3, 96, 54, 5, 132, 6, 1, 167, 255, 214]
abbrev dktX12_rounds_4 : List UInt8 := dkwX12_rounds_4 ++ dktX12_rounds_5
def dkwX12_rounds_3 : List UInt8 := [54, 6, 21, 6, 42, 180, 1, 137, 162, 0, 39, 21, 5, 29, 21, 6, 184, 1, 38, 153, 0, 18, 42]
abbrev dktX12_rounds_3 : List UInt8 := dkwX12_rounds_3 ++ dktX12_rounds_4
def dkwX12_rounds_2 : List UInt8 := [162, 0, 123, 42, 29, 182, 1, 168, 54, 4, 21, 4, 2, 160, 0, 6, 167, 0, 101, 3, 54, 5, 3]
abbrev dktX12_rounds_2 : List UInt8 := dkwX12_rounds_2 ++ dktX12_rounds_3
def dkwX12_rounds_1 : List UInt8 := [181, 1, 159, 42, 3, 181, 1, 162, 42, 3, 181, 1, 165, 4, 62, 29, 4, 42, 180, 1, 137, 120]
abbrev dktX12_rounds_1 : List UInt8 := dkwX12_rounds_1 ++ dktX12_rounds_2
def dkwX12_rounds_0 : List UInt8 := [42, 27, 182, 1, 152, 42, 27, 3, 4, 42, 180, 1, 137, 120, 4, 100, 28, 182, 1, 155, 42, 3]
abbrev dktX12_rounds_0 : List UInt8 := dkwX12_rounds_0 ++ dktX12_rounds_1
theorem dksX12_rounds_0 : cX12_rounds.data.toList.drop 0 = dktX12_rounds_0 := by decide +kernel
theorem dksX12_rounds_1 : cX12_rounds.data.toList.drop 22 = dktX12_rounds_1 := dk_seg dksX12_rounds_0 22 rfl rfl
theorem dksX12_rounds_2 : cX12_rounds.data.toList.drop 44 = dktX12_rounds_2 := dk_seg dksX12_rounds_1 22 rfl rfl
theorem dksX12_rounds_3 : cX12_rounds.data.toList.drop 67 = dktX12_rounds_3 := dk_seg dksX12_rounds_2 23 rfl rfl
theorem dksX12_rounds_4 : cX12_rounds.data.toList.drop 90 = dktX12_rounds_4 := dk_seg dksX12_rounds_3 23 rfl rfl
theorem dksX12_rounds_5 : cX12_rounds.data.toList.drop 114 = dktX12_rounds_5 := dk_seg dksX12_rounds_4 24 rfl rfl
theorem dksX12_rounds_6 : cX12_rounds.data.toList.drop 138 = dktX12_rounds_6 := dk_seg dksX12_rounds_5 24 rfl rfl
theorem dksX12_rounds_7 : cX12_rounds.data.toList.drop 161 = dktX12_rounds_7 := dk_seg dksX12_rounds_6 23 rfl rfl
theorem dX12_rounds_0 : decode cX12_rounds 0 = .ok (.aload_n 0, 1) := dk_42 (dk_at dksX12_rounds_0 0 rfl rfl)
theorem dX12_rounds_1 : decode cX12_rounds 1 = .ok (.iload_n 1, 1) := dk_27 (dk_at dksX12_rounds_0 1 rfl rfl)
theorem dX12_rounds_2 : decode cX12_rounds 2 = .ok (.invokevirtual 408, 3) := dk_182 1 152 (dk_at dksX12_rounds_0 2 rfl rfl)
theorem dX12_rounds_5 : decode cX12_rounds 5 = .ok (.aload_n 0, 1) := dk_42 (dk_at dksX12_rounds_0 5 rfl rfl)
theorem dX12_rounds_6 : decode cX12_rounds 6 = .ok (.iload_n 1, 1) := dk_27 (dk_at dksX12_rounds_0 6 rfl rfl)
theorem dX12_rounds_7 : decode cX12_rounds 7 = .ok (.iconst 0, 1) := dk_3 (dk_at dksX12_rounds_0 7 rfl rfl)
theorem dX12_rounds_8 : decode cX12_rounds 8 = .ok (.iconst 1, 1) := dk_4 (dk_at dksX12_rounds_0 8 rfl rfl)
theorem dX12_rounds_9 : decode cX12_rounds 9 = .ok (.aload_n 0, 1) := dk_42 (dk_at dksX12_rounds_0 9 rfl rfl)
theorem dX12_rounds_10 : decode cX12_rounds 10 = .ok (.getfield 393, 3) := dk_180 1 137 (dk_at dksX12_rounds_0 10 rfl rfl)
theorem dX12_rounds_13 : decode cX12_rounds 13 = .ok (.ishl, 1) := dk_120 (dk_at dksX12_rounds_0 13 rfl rfl)
theorem dX12_rounds_14 : decode cX12_rounds 14 = .ok (.iconst 1, 1) := dk_4 (dk_at dksX12_rounds_0 14 rfl rfl)
theorem dX12_rounds_15 : decode cX12_rounds 15 = .ok (.isub, 1) := dk_100 (dk_at dksX12_rounds_0 15 rfl rfl)
theorem dX12_rounds_16 : decode cX12_rounds 16 = .ok (.iload_n 2, 1) := dk_28 (dk_at dksX12_rounds_0 16 rfl rfl)
theorem dX12_rounds_17 : decode cX12_rounds 17 = .ok (.invokevirtual 411, 3) := dk_182 1 155 (dk_at dksX12_rounds_0 17 rfl rfl)
theorem dX12_rounds_20 : decode cX12_rounds 20 = .ok (.aload_n 0, 1) := dk_42 (dk_at dksX12_rounds_0 20 rfl rfl)
theorem dX12_rounds_21 : decode cX12_rounds 21 = .ok (.iconst 0, 1) := dk_3 (dk_at dksX12_rounds_0 21 rfl rfl)
theorem dX12_rounds_22 : decode cX12_rounds 22 = .ok (.putfield 415, 3) := dk_181 1 159 (dk_at dksX12_rounds_1 0 rfl rfl)
theorem dX12_rounds_25 : decode cX12_rounds 25 = .ok (.aload_n 0, 1) := dk_42 (dk_at dksX12_rounds_1 3 rfl rfl)
theorem dX12_rounds_26 : decode cX12_rounds 26 = .ok (.iconst 0, 1) := dk_3 (dk_at dksX12_rounds_1 4 rfl rfl)
theorem dX12_rounds_27 : decode cX12_rounds 27 = .ok (.putfield 418, 3) := dk_181 1 162 (dk_at dksX12_rounds_1 5 rfl rfl)
theorem dX12_rounds_30 : decode cX12_rounds 30 = .ok (.aload_n 0, 1) := dk_42 (dk_at dksX12_rounds_1 8 rfl rfl)
theorem dX12_rounds_31 : decode cX12_rounds 31 = .ok (.iconst 0, 1) := dk_3 (dk_at dksX12_rounds_1 9 rfl rfl)
theorem dX12_rounds_32 : decode cX12_rounds 32 = .ok (.putfield 421, 3) := dk_181 1 165 (dk_at dksX12_rounds_1 10 rfl rfl)
theorem dX12_rounds_35 : decode cX12_rounds 35 = .ok (.iconst 1, 1) := dk_4 (dk_at dksX12_rounds_1 13 rfl rfl)
theorem dX12_rounds_36 : decode cX12_rounds 36 = .ok (.istore_n 3, 1) := dk_62 (dk_at dksX12_rounds_1 14 rfl rfl)
theorem dX12_rounds_37 : decode cX12_rounds 37 = .ok (.iload_n 3, 1) := dk_29 (dk_at dksX12_rounds_1 15 rfl rfl)
theorem dX12_rounds_38 : decode cX12_rounds 38 = .ok (.iconst 1, 1) := dk_4 (dk_at dksX12_rounds_1 16 rfl rfl)
theorem dX12_rounds_39 : decode cX12_rounds 39 = .ok (.aload_n 0, 1) := dk_42 (dk_at dksX12_rounds_1 17 rfl rfl)
theorem dX12_rounds_40 : decode cX12_rounds 40 = .ok (.getfield 393, 3) := dk_180 1 137 (dk_at dksX12_rounds_1 18 rfl rfl)
theorem dX12_rounds_43 : decode cX12_rounds 43 = .ok (.ishl, 1) := dk_120 (dk_at dksX12_rounds_1 21 rfl rfl)
theorem dX12_rounds_44 : decode cX12_rounds 44 = .ok (.if_icmp .ge 123, 3) := dk_162 0 123 (dk_at dksX12_rounds_2 0 rfl rfl)
theorem dX12_rounds_47 : decode cX12_rounds 47 = .ok (.aload_n 0, 1) := dk_42 (dk_at dksX12_rounds_2 3 rfl rfl)
theorem dX12_rounds_48 : decode cX12_rounds 48 = .ok (.iload_n 3, 1) := dk_29 (dk_at dksX12_rounds_2 4 rfl rfl)
theorem dX12_rounds_49 : decode cX12_rounds 49 = .ok (.invokevirtual 424, 3) := dk_182 1 168 (dk_at dksX12_rounds_2 5 rfl rfl)
theorem dX12_rounds_52 : decode cX12_rounds 52 = .ok (.istore 4, 2) := dk_54 4 (dk_at dksX12_rounds_2 8 rfl rfl)
theorem dX12_rounds_54 : decode cX12_rounds 54 = .ok (.iload 4, 2) := dk_21 4 (dk_at dksX12_rounds_2 10 rfl rfl)
theorem dX12_rounds_56 : decode cX12_rounds 56 = .ok (.iconst (-1), 1) := dk_2 (dk_at dksX12_rounds_2 12 rfl rfl)
theorem dX12_rounds_57 : decode cX12_rounds 57 = .ok (.if_icmp .ne 6, 3) := dk_160 0 6 (dk_at dksX12_rounds_2 13 rfl rfl)
theorem dX12_rounds_60 : decode cX12_rounds 60 = .ok (.goto 101, 3) := dk_167 0 101 (dk_at dksX12_rounds_2 16 rfl rfl)
theorem dX12_rounds_63 : decode cX12_rounds 63 = .ok (.iconst 0, 1) := dk_3 (dk_at dksX12_rounds_2 19 rfl rfl)
theorem dX12_rounds_64 : decode cX12_rounds 64 = .ok (.istore 5, 2) := dk_54 5 (dk_at dksX12_rounds_2 20 rfl rfl)
theorem dX12_rounds_66 : decode cX12_rounds 66 = .ok (.iconst 0, 1) := dk_3 (dk_at dksX12_rounds_2 22 rfl rfl)
theorem dX12_rounds_67 : decode cX12_rounds 67 = .ok (.istore 6, 2) := dk_54 6 (dk_at dksX12_rounds_3 0 rfl rfl)
theorem dX12_rounds_69 : decode cX12_rounds 69 = .ok (.iload 6, 2) := dk_21 6 (dk_at dksX12_rounds_3 2 rfl rfl)
theorem dX12_rounds_71 : decode cX12_rounds 71 = .ok (.aload_n 0, 1) := dk_42 (dk_at dksX12_rounds_3 4 rfl rfl)
theorem dX12_rounds_72 : decode cX12_rounds 72 = .ok (.getfield 393, 3) := dk_180 1 137 (dk_at dksX12_rounds_3 5 rfl rfl)
theorem dX12_rounds_75 : decode cX12_rounds 75 = .ok (.if_icmp .ge 39, 3) := dk_162 0 39 (dk_at dksX12_rounds_3 8 rfl rfl)
theorem dX12_rounds_78 : decode cX12_rounds 78 = .ok (.iload 5, 2) := dk_21 5 (dk_at dksX12_rounds_3 11 rfl rfl)
theorem dX12_rounds_80 : decode cX12_rounds 80 = .ok (.iload_n 3, 1) := dk_29 (dk_at dksX12_rounds_3 13 rfl rfl)
theorem dX12_rounds_81 : decode cX12_rounds 81 = .ok (.iload 6, 2) := dk_21 6 (dk_at dksX12_rounds_3 14 rfl rfl)
theorem dX12_rounds_83 : decode cX12_rounds 83 = .ok (.invokestatic 294, 3) := dk_184 1 38 (dk_at dksX12_rounds_3 16 rfl rfl)
theorem dX12_rounds_86 : decode cX12_rounds 86 = .ok (.ifCond .eq 18, 3) := dk_153 0 18 (dk_at dksX12_rounds_3 19 rfl rfl)
theorem dX12_rounds_89 : decode cX12_rounds 89 = .ok (.aload_n 0, 1) := dk_42 (dk_at dksX12_rounds_3 22 rfl rfl)
theorem dX12_rounds_90 : decode cX12_rounds 90 = .ok (.getfield 43, 3) := dk_180 0 43 (dk_at dksX12_rounds_4 0 rfl rfl)
theorem dX12_rounds_93 : decode cX12_rounds 93 = .ok (.aload_n 0, 1) := dk_42 (dk_at dksX12_rounds_4 3 rfl rfl)
theorem dX12_rounds_94 : decode cX12_rounds 94 = .ok (.getfield 40, 3) := dk_180 0 40 (dk_at dksX12_rounds_4 4 rfl rfl)
theorem dX12_rounds_97 : decode cX12_rounds 97 = .ok (.iload 6, 2) := dk_21 6 (dk_at dksX12_rounds_4 7 rfl rfl)
theorem dX12_rounds_99 : decode cX12_rounds 99 = .ok (.iaload, 1) := dk_46 (dk_at dksX12_rounds_4 9 rfl rfl)
theorem dX12_rounds_100 : decode cX12_rounds 100 = .ok (.iaload, 1) := dk_46 (dk_at dksX12_rounds_4 10 rfl rfl)
theorem dX12_rounds_101 : decode cX12_rounds 101 = .ok (.goto 4, 3) := dk_167 0 4 (dk_at dksX12_rounds_4 11 rfl rfl)
theorem dX12_rounds_104 : decode cX12_rounds 104 = .ok (.iconst 0, 1) := dk_3 (dk_at dksX12_rounds_4 14 rfl rfl)
theorem dX12_rounds_105 : decode cX12_rounds 105 = .ok (.iadd, 1) := dk_96 (dk_at dksX12_rounds_4 15 rfl rfl)
theorem dX12_rounds_106 : decode cX12_rounds 106 = .ok (.istore 5, 2) := dk_54 5 (dk_at dksX12_rounds_4 16 rfl rfl)
theorem dX12_rounds_108 : decode cX12_rounds 108 = .ok (.iinc 6 1, 3) := dk_132 6 1 (dk_at dksX12_rounds_4 18 rfl rfl)
theorem dX12_rounds_111 : decode cX12_rounds 111 = .ok (.goto (-42), 3) := dk_167 255 214 (dk_at dksX12_rounds_4 21 rfl rfl)
theorem dX12_rounds_114 : decode cX12_rounds 114 = .ok (.iload 5, 2) := dk_21 5 (dk_at dksX12_rounds_5 0 rfl rfl)
theorem dX12_rounds_116 : decode cX12_rounds 116 = .ok (.aload_n 0, 1) := dk_42 (dk_at dksX12_rounds_5 2 rfl rfl)
theorem dX12_rounds_117 : decode cX12_rounds 117 = .ok (.getfield 421, 3) := dk_180 1 165 (dk_at dksX12_rounds_5 3 rfl rfl)
theorem dX12_rounds_120 : decode cX12_rounds 120 = .ok (.if_icmp .lt 41, 3) := dk_161 0 41 (dk_at dksX12_rounds_5 6 rfl rfl)
theorem dX12_rounds_123 : decode cX12_rounds 123 = .ok (.iload 5, 2) := dk_21 5 (dk_at dksX12_rounds_5 9 rfl rfl)
theorem dX12_rounds_125 : decode cX12_rounds 125 = .ok (.aload_n 0, 1) := dk_42 (dk_at dksX12_rounds_5 11 rfl rfl)
theorem dX12_rounds_126 : decode cX12_rounds 126 = .ok (.getfield 421, 3) := dk_180 1 165 (dk_at dksX12_rounds_5 12 rfl rfl)
theorem dX12_rounds_129 : decode cX12_rounds 129 = .ok (.if_icmp .ne 15, 3) := dk_160 0 15 (dk_at dksX12_rounds_5 15 rfl rfl)
theorem dX12_rounds_132 : decode cX12_rounds 132 = .ok (.iload 4, 2) := dk_21 4 (dk_at dksX12_rounds_5 18 rfl rfl)
theorem dX12_rounds_134 : decode cX12_rounds 134 = .ok (.aload_n 0, 1) := dk_42 (dk_at dksX12_rounds_5 20 rfl rfl)
theorem dX12_rounds_135 : decode cX12_rounds 135 = .ok (.getfield 418, 3) := dk_180 1 162 (dk_at dksX12_rounds_5 21 rfl rfl)
theorem dX12_rounds_138 : decode cX12_rounds 138 = .ok (.if_icmp .lt 6, 3) := dk_161 0 6 (dk_at dksX12_rounds_6 0 rfl rfl)
theorem dX12_rounds_141 : decode cX12_rounds 141 = .ok (.goto 20, 3) := dk_167 0 20 (dk_at dksX12_rounds_6 3 rfl rfl)
theorem dX12_rounds_144 : decode cX12_rounds 144 = .ok (.aload_n 0, 1) := dk_42 (dk_at dksX12_rounds_6 6 rfl rfl)
theorem dX12_rounds_145 : decode cX12_rounds 145 = .ok (.iload_n 3, 1) := dk_29 (dk_at dksX12_rounds_6 7 rfl rfl)
theorem dX12_rounds_146 : decode cX12_rounds 146 = .ok (.putfield 415, 3) := dk_181 1 159 (dk_at dksX12_rounds_6 8 rfl rfl)
theorem dX12_rounds_149 : decode cX12_rounds 149 = .ok (.aload_n 0, 1) := dk_42 (dk_at dksX12_rounds_6 11 rfl rfl)
theorem dX12_rounds_150 : decode cX12_rounds 150 = .ok (.iload 4, 2) := dk_21 4 (dk_at dksX12_rounds_6 12 rfl rfl)
theorem dX12_rounds_152 : decode cX12_rounds 152 = .ok (.putfield 418, 3) := dk_181 1 162 (dk_at dksX12_rounds_6 14 rfl rfl)
theorem dX12_rounds_155 : decode cX12_rounds 155 = .ok (.aload_n 0, 1) := dk_42 (dk_at dksX12_rounds_6 17 rfl rfl)
theorem dX12_rounds_156 : decode cX12_rounds 156 = .ok (.iload 5, 2) := dk_21 5 (dk_at dksX12_rounds_6 18 rfl rfl)
theorem dX12_rounds_158 : decode cX12_rounds 158 = .ok (.putfield 421, 3) := dk_181 1 165 (dk_at dksX12_rounds_6 20 rfl rfl)
theorem dX12_rounds_161 : decode cX12_rounds 161 = .ok (.iinc 3 1, 3) := dk_132 3 1 (dk_at dksX12_rounds_7 0 rfl rfl)
theorem dX12_rounds_164 : decode cX12_rounds 164 = .ok (.goto (-127), 3) := dk_167 255 129 (dk_at dksX12_rounds_7 3 rfl rfl)
theorem dX12_rounds_167 : decode cX12_rounds 167 = .ok (.return_, 1) := dk_177 (dk_at dksX12_rounds_7 6 rfl rfl)
abbrev cX12_lists : ByteArray := prog_25_method_67_code
def yX12_lists : MethodName := ⟨RX12, "lists", "(I)V"⟩
def dkwX12_lists_2 : List UInt8 := [79, 42, 89, 180, 1, 137, 4, 96, 181, 1, 137, 132, 2, 1, 167, 255, 206, 177]
abbrev dktX12_lists_2 : List UInt8 := dkwX12_lists_2 ++ []
def dkwX12_lists_1 : List UInt8 := [162, 0, 41, 42, 180, 0, 43, 28, 46, 154, 0, 6, 167, 0, 23, 42, 180, 0, 40, 42, 180, 1, 137, 28]
abbrev dktX12_lists_1 : List UInt8 := dkwX12_lists_1 ++ dktX12_lists_2
def dkwX12_lists_0 : List UInt8 := [42, 27, 182, 1, 134, 42, 3, 181, 1, 137, 3, 61, 28, 16, 16, 162, 0, 50, 42, 180, 1, 137, 16, 10]
abbrev dktX12_lists_0 : List UInt8 := dkwX12_lists_0 ++ dktX12_lists_1
theorem dksX12_lists_0 : cX12_lists.data.toList.drop 0 = dktX12_lists_0 := by decide +kernel
theorem dksX12_lists_1 : cX12_lists.data.toList.drop 24 = dktX12_lists_1 := dk_seg dksX12_lists_0 24 rfl rfl
theorem dksX12_lists_2 : cX12_lists.data.toList.drop 48 = dktX12_lists_2 := dk_seg dksX12_lists_1 24 rfl rfl
theorem dX12_lists_0 : decode cX12_lists 0 = .ok (.aload_n 0, 1) := dk_42 (dk_at dksX12_lists_0 0 rfl rfl)
theorem dX12_lists_1 : decode cX12_lists 1 = .ok (.iload_n 1, 1) := dk_27 (dk_at dksX12_lists_0 1 rfl rfl)
theorem dX12_lists_2 : decode cX12_lists 2 = .ok (.invokevirtual 390, 3) := dk_182 1 134 (dk_at dksX12_lists_0 2 rfl rfl)
theorem dX12_lists_5 : decode cX12_lists 5 = .ok (.aload_n 0, 1) := dk_42 (dk_at dksX12_lists_0 5 rfl rfl)
theorem dX12_lists_6 : decode cX12_lists 6 = .ok (.iconst 0, 1) := dk_3 (dk_at dksX12_lists_0 6 rfl rfl)
theorem dX12_lists_7 : decode cX12_lists 7 = .ok (.putfield 393, 3) := dk_181 1 137 (dk_at dksX12_lists_0 7 rfl rfl)
theorem dX12_lists_10 : decode cX12_lists 10 = .ok (.iconst 0, 1) := dk_3 (dk_at dksX12_lists_0 10 rfl rfl)
theorem dX12_lists_11 : decode cX12_lists 11 = .ok (.istore_n 2, 1) := dk_61 (dk_at dksX12_lists_0 11 rfl rfl)
theorem dX12_lists_12 : decode cX12_lists 12 = .ok (.iload_n 2, 1) := dk_28 (dk_at dksX12_lists_0 12 rfl rfl)
theorem dX12_lists_13 : decode cX12_lists 13 = .ok (.bipush 16, 2) := dk_16 16 (dk_at dksX12_lists_0 13 rfl rfl)
theorem dX12_lists_15 : decode cX12_lists 15 = .ok (.if_icmp .ge 50, 3) := dk_162 0 50 (dk_at dksX12_lists_0 15 rfl rfl)
theorem dX12_lists_18 : decode cX12_lists 18 = .ok (.aload_n 0, 1) := dk_42 (dk_at dksX12_lists_0 18 rfl rfl)
theorem dX12_lists_19 : decode cX12_lists 19 = .ok (.getfield 393, 3) := dk_180 1 137 (dk_at dksX12_lists_0 19 rfl rfl)
theorem dX12_lists_22 : decode cX12_lists 22 = .ok (.bipush 10, 2) := dk_16 10 (dk_at dksX12_lists_0 22 rfl rfl)
theorem dX12_lists_24 : decode cX12_lists 24 = .ok (.if_icmp .ge 41, 3) := dk_162 0 41 (dk_at dksX12_lists_1 0 rfl rfl)
theorem dX12_lists_27 : decode cX12_lists 27 = .ok (.aload_n 0, 1) := dk_42 (dk_at dksX12_lists_1 3 rfl rfl)
theorem dX12_lists_28 : decode cX12_lists 28 = .ok (.getfield 43, 3) := dk_180 0 43 (dk_at dksX12_lists_1 4 rfl rfl)
theorem dX12_lists_31 : decode cX12_lists 31 = .ok (.iload_n 2, 1) := dk_28 (dk_at dksX12_lists_1 7 rfl rfl)
theorem dX12_lists_32 : decode cX12_lists 32 = .ok (.iaload, 1) := dk_46 (dk_at dksX12_lists_1 8 rfl rfl)
theorem dX12_lists_33 : decode cX12_lists 33 = .ok (.ifCond .ne 6, 3) := dk_154 0 6 (dk_at dksX12_lists_1 9 rfl rfl)
theorem dX12_lists_36 : decode cX12_lists 36 = .ok (.goto 23, 3) := dk_167 0 23 (dk_at dksX12_lists_1 12 rfl rfl)
theorem dX12_lists_39 : decode cX12_lists 39 = .ok (.aload_n 0, 1) := dk_42 (dk_at dksX12_lists_1 15 rfl rfl)
theorem dX12_lists_40 : decode cX12_lists 40 = .ok (.getfield 40, 3) := dk_180 0 40 (dk_at dksX12_lists_1 16 rfl rfl)
theorem dX12_lists_43 : decode cX12_lists 43 = .ok (.aload_n 0, 1) := dk_42 (dk_at dksX12_lists_1 19 rfl rfl)
theorem dX12_lists_44 : decode cX12_lists 44 = .ok (.getfield 393, 3) := dk_180 1 137 (dk_at dksX12_lists_1 20 rfl rfl)
theorem dX12_lists_47 : decode cX12_lists 47 = .ok (.iload_n 2, 1) := dk_28 (dk_at dksX12_lists_1 23 rfl rfl)
theorem dX12_lists_48 : decode cX12_lists 48 = .ok (.iastore, 1) := dk_79 (dk_at dksX12_lists_2 0 rfl rfl)
theorem dX12_lists_49 : decode cX12_lists 49 = .ok (.aload_n 0, 1) := dk_42 (dk_at dksX12_lists_2 1 rfl rfl)
theorem dX12_lists_50 : decode cX12_lists 50 = .ok (.dup, 1) := dk_89 (dk_at dksX12_lists_2 2 rfl rfl)
theorem dX12_lists_51 : decode cX12_lists 51 = .ok (.getfield 393, 3) := dk_180 1 137 (dk_at dksX12_lists_2 3 rfl rfl)
theorem dX12_lists_54 : decode cX12_lists 54 = .ok (.iconst 1, 1) := dk_4 (dk_at dksX12_lists_2 6 rfl rfl)
theorem dX12_lists_55 : decode cX12_lists 55 = .ok (.iadd, 1) := dk_96 (dk_at dksX12_lists_2 7 rfl rfl)
theorem dX12_lists_56 : decode cX12_lists 56 = .ok (.putfield 393, 3) := dk_181 1 137 (dk_at dksX12_lists_2 8 rfl rfl)
theorem dX12_lists_59 : decode cX12_lists 59 = .ok (.iinc 2 1, 3) := dk_132 2 1 (dk_at dksX12_lists_2 11 rfl rfl)
theorem dX12_lists_62 : decode cX12_lists 62 = .ok (.goto (-50), 3) := dk_167 255 206 (dk_at dksX12_lists_2 14 rfl rfl)
theorem dX12_lists_65 : decode cX12_lists 65 = .ok (.return_, 1) := dk_177 (dk_at dksX12_lists_2 17 rfl rfl)
abbrev cX12_weighs : ByteArray := prog_25_method_66_code
def yX12_weighs : MethodName := ⟨RX12, "weighs", "(I)V"⟩
def dkwX12_weighs_4 : List UInt8 := [42, 28, 5, 182, 1, 69, 5, 161, 0, 7, 4, 167, 0, 4, 3, 84, 132, 2, 1, 167, 255, 175, 177]
abbrev dktX12_weighs_4 : List UInt8 := dkwX12_weighs_4 ++ []
def dkwX12_weighs_3 : List UInt8 := [42, 28, 5, 182, 1, 69, 4, 96, 96, 79, 42, 180, 0, 46, 29, 42, 180, 0, 46, 29, 51, 154, 0, 13]
abbrev dktX12_weighs_3 : List UInt8 := dkwX12_weighs_3 ++ dktX12_weighs_4
def dkwX12_weighs_2 : List UInt8 := [182, 1, 69, 27, 159, 0, 6, 167, 0, 57, 42, 28, 4, 182, 1, 69, 62, 42, 180, 0, 43, 29, 92, 46]
abbrev dktX12_weighs_2 : List UInt8 := dkwX12_weighs_2 ++ dktX12_weighs_3
def dkwX12_weighs_1 : List UInt8 := [132, 2, 1, 167, 255, 233, 3, 61, 28, 42, 180, 0, 13, 16, 7, 46, 162, 0, 76, 42, 28, 3]
abbrev dktX12_weighs_1 : List UInt8 := dkwX12_weighs_1 ++ dktX12_weighs_2
def dkwX12_weighs_0 : List UInt8 := [3, 61, 28, 16, 16, 162, 0, 23, 42, 180, 0, 43, 28, 3, 79, 42, 180, 0, 46, 28, 3, 84]
abbrev dktX12_weighs_0 : List UInt8 := dkwX12_weighs_0 ++ dktX12_weighs_1
theorem dksX12_weighs_0 : cX12_weighs.data.toList.drop 0 = dktX12_weighs_0 := by decide +kernel
theorem dksX12_weighs_1 : cX12_weighs.data.toList.drop 22 = dktX12_weighs_1 := dk_seg dksX12_weighs_0 22 rfl rfl
theorem dksX12_weighs_2 : cX12_weighs.data.toList.drop 44 = dktX12_weighs_2 := dk_seg dksX12_weighs_1 22 rfl rfl
theorem dksX12_weighs_3 : cX12_weighs.data.toList.drop 68 = dktX12_weighs_3 := dk_seg dksX12_weighs_2 24 rfl rfl
theorem dksX12_weighs_4 : cX12_weighs.data.toList.drop 92 = dktX12_weighs_4 := dk_seg dksX12_weighs_3 24 rfl rfl
theorem dX12_weighs_0 : decode cX12_weighs 0 = .ok (.iconst 0, 1) := dk_3 (dk_at dksX12_weighs_0 0 rfl rfl)
theorem dX12_weighs_1 : decode cX12_weighs 1 = .ok (.istore_n 2, 1) := dk_61 (dk_at dksX12_weighs_0 1 rfl rfl)
theorem dX12_weighs_2 : decode cX12_weighs 2 = .ok (.iload_n 2, 1) := dk_28 (dk_at dksX12_weighs_0 2 rfl rfl)
theorem dX12_weighs_3 : decode cX12_weighs 3 = .ok (.bipush 16, 2) := dk_16 16 (dk_at dksX12_weighs_0 3 rfl rfl)
theorem dX12_weighs_5 : decode cX12_weighs 5 = .ok (.if_icmp .ge 23, 3) := dk_162 0 23 (dk_at dksX12_weighs_0 5 rfl rfl)
theorem dX12_weighs_8 : decode cX12_weighs 8 = .ok (.aload_n 0, 1) := dk_42 (dk_at dksX12_weighs_0 8 rfl rfl)
theorem dX12_weighs_9 : decode cX12_weighs 9 = .ok (.getfield 43, 3) := dk_180 0 43 (dk_at dksX12_weighs_0 9 rfl rfl)
theorem dX12_weighs_12 : decode cX12_weighs 12 = .ok (.iload_n 2, 1) := dk_28 (dk_at dksX12_weighs_0 12 rfl rfl)
theorem dX12_weighs_13 : decode cX12_weighs 13 = .ok (.iconst 0, 1) := dk_3 (dk_at dksX12_weighs_0 13 rfl rfl)
theorem dX12_weighs_14 : decode cX12_weighs 14 = .ok (.iastore, 1) := dk_79 (dk_at dksX12_weighs_0 14 rfl rfl)
theorem dX12_weighs_15 : decode cX12_weighs 15 = .ok (.aload_n 0, 1) := dk_42 (dk_at dksX12_weighs_0 15 rfl rfl)
theorem dX12_weighs_16 : decode cX12_weighs 16 = .ok (.getfield 46, 3) := dk_180 0 46 (dk_at dksX12_weighs_0 16 rfl rfl)
theorem dX12_weighs_19 : decode cX12_weighs 19 = .ok (.iload_n 2, 1) := dk_28 (dk_at dksX12_weighs_0 19 rfl rfl)
theorem dX12_weighs_20 : decode cX12_weighs 20 = .ok (.iconst 0, 1) := dk_3 (dk_at dksX12_weighs_0 20 rfl rfl)
theorem dX12_weighs_21 : decode cX12_weighs 21 = .ok (.bastore, 1) := dk_84 (dk_at dksX12_weighs_0 21 rfl rfl)
theorem dX12_weighs_22 : decode cX12_weighs 22 = .ok (.iinc 2 1, 3) := dk_132 2 1 (dk_at dksX12_weighs_1 0 rfl rfl)
theorem dX12_weighs_25 : decode cX12_weighs 25 = .ok (.goto (-23), 3) := dk_167 255 233 (dk_at dksX12_weighs_1 3 rfl rfl)
theorem dX12_weighs_28 : decode cX12_weighs 28 = .ok (.iconst 0, 1) := dk_3 (dk_at dksX12_weighs_1 6 rfl rfl)
theorem dX12_weighs_29 : decode cX12_weighs 29 = .ok (.istore_n 2, 1) := dk_61 (dk_at dksX12_weighs_1 7 rfl rfl)
theorem dX12_weighs_30 : decode cX12_weighs 30 = .ok (.iload_n 2, 1) := dk_28 (dk_at dksX12_weighs_1 8 rfl rfl)
theorem dX12_weighs_31 : decode cX12_weighs 31 = .ok (.aload_n 0, 1) := dk_42 (dk_at dksX12_weighs_1 9 rfl rfl)
theorem dX12_weighs_32 : decode cX12_weighs 32 = .ok (.getfield 13, 3) := dk_180 0 13 (dk_at dksX12_weighs_1 10 rfl rfl)
theorem dX12_weighs_35 : decode cX12_weighs 35 = .ok (.bipush 7, 2) := dk_16 7 (dk_at dksX12_weighs_1 13 rfl rfl)
theorem dX12_weighs_37 : decode cX12_weighs 37 = .ok (.iaload, 1) := dk_46 (dk_at dksX12_weighs_1 15 rfl rfl)
theorem dX12_weighs_38 : decode cX12_weighs 38 = .ok (.if_icmp .ge 76, 3) := dk_162 0 76 (dk_at dksX12_weighs_1 16 rfl rfl)
theorem dX12_weighs_41 : decode cX12_weighs 41 = .ok (.aload_n 0, 1) := dk_42 (dk_at dksX12_weighs_1 19 rfl rfl)
theorem dX12_weighs_42 : decode cX12_weighs 42 = .ok (.iload_n 2, 1) := dk_28 (dk_at dksX12_weighs_1 20 rfl rfl)
theorem dX12_weighs_43 : decode cX12_weighs 43 = .ok (.iconst 0, 1) := dk_3 (dk_at dksX12_weighs_1 21 rfl rfl)
theorem dX12_weighs_44 : decode cX12_weighs 44 = .ok (.invokevirtual 325, 3) := dk_182 1 69 (dk_at dksX12_weighs_2 0 rfl rfl)
theorem dX12_weighs_47 : decode cX12_weighs 47 = .ok (.iload_n 1, 1) := dk_27 (dk_at dksX12_weighs_2 3 rfl rfl)
theorem dX12_weighs_48 : decode cX12_weighs 48 = .ok (.if_icmp .eq 6, 3) := dk_159 0 6 (dk_at dksX12_weighs_2 4 rfl rfl)
theorem dX12_weighs_51 : decode cX12_weighs 51 = .ok (.goto 57, 3) := dk_167 0 57 (dk_at dksX12_weighs_2 7 rfl rfl)
theorem dX12_weighs_54 : decode cX12_weighs 54 = .ok (.aload_n 0, 1) := dk_42 (dk_at dksX12_weighs_2 10 rfl rfl)
theorem dX12_weighs_55 : decode cX12_weighs 55 = .ok (.iload_n 2, 1) := dk_28 (dk_at dksX12_weighs_2 11 rfl rfl)
theorem dX12_weighs_56 : decode cX12_weighs 56 = .ok (.iconst 1, 1) := dk_4 (dk_at dksX12_weighs_2 12 rfl rfl)
theorem dX12_weighs_57 : decode cX12_weighs 57 = .ok (.invokevirtual 325, 3) := dk_182 1 69 (dk_at dksX12_weighs_2 13 rfl rfl)
theorem dX12_weighs_60 : decode cX12_weighs 60 = .ok (.istore_n 3, 1) := dk_62 (dk_at dksX12_weighs_2 16 rfl rfl)
theorem dX12_weighs_61 : decode cX12_weighs 61 = .ok (.aload_n 0, 1) := dk_42 (dk_at dksX12_weighs_2 17 rfl rfl)
theorem dX12_weighs_62 : decode cX12_weighs 62 = .ok (.getfield 43, 3) := dk_180 0 43 (dk_at dksX12_weighs_2 18 rfl rfl)
theorem dX12_weighs_65 : decode cX12_weighs 65 = .ok (.iload_n 3, 1) := dk_29 (dk_at dksX12_weighs_2 21 rfl rfl)
theorem dX12_weighs_66 : decode cX12_weighs 66 = .ok (.dup2, 1) := dk_92 (dk_at dksX12_weighs_2 22 rfl rfl)
theorem dX12_weighs_67 : decode cX12_weighs 67 = .ok (.iaload, 1) := dk_46 (dk_at dksX12_weighs_2 23 rfl rfl)
theorem dX12_weighs_68 : decode cX12_weighs 68 = .ok (.aload_n 0, 1) := dk_42 (dk_at dksX12_weighs_3 0 rfl rfl)
theorem dX12_weighs_69 : decode cX12_weighs 69 = .ok (.iload_n 2, 1) := dk_28 (dk_at dksX12_weighs_3 1 rfl rfl)
theorem dX12_weighs_70 : decode cX12_weighs 70 = .ok (.iconst 2, 1) := dk_5 (dk_at dksX12_weighs_3 2 rfl rfl)
theorem dX12_weighs_71 : decode cX12_weighs 71 = .ok (.invokevirtual 325, 3) := dk_182 1 69 (dk_at dksX12_weighs_3 3 rfl rfl)
theorem dX12_weighs_74 : decode cX12_weighs 74 = .ok (.iconst 1, 1) := dk_4 (dk_at dksX12_weighs_3 6 rfl rfl)
theorem dX12_weighs_75 : decode cX12_weighs 75 = .ok (.iadd, 1) := dk_96 (dk_at dksX12_weighs_3 7 rfl rfl)
theorem dX12_weighs_76 : decode cX12_weighs 76 = .ok (.iadd, 1) := dk_96 (dk_at dksX12_weighs_3 8 rfl rfl)
theorem dX12_weighs_77 : decode cX12_weighs 77 = .ok (.iastore, 1) := dk_79 (dk_at dksX12_weighs_3 9 rfl rfl)
theorem dX12_weighs_78 : decode cX12_weighs 78 = .ok (.aload_n 0, 1) := dk_42 (dk_at dksX12_weighs_3 10 rfl rfl)
theorem dX12_weighs_79 : decode cX12_weighs 79 = .ok (.getfield 46, 3) := dk_180 0 46 (dk_at dksX12_weighs_3 11 rfl rfl)
theorem dX12_weighs_82 : decode cX12_weighs 82 = .ok (.iload_n 3, 1) := dk_29 (dk_at dksX12_weighs_3 14 rfl rfl)
theorem dX12_weighs_83 : decode cX12_weighs 83 = .ok (.aload_n 0, 1) := dk_42 (dk_at dksX12_weighs_3 15 rfl rfl)
theorem dX12_weighs_84 : decode cX12_weighs 84 = .ok (.getfield 46, 3) := dk_180 0 46 (dk_at dksX12_weighs_3 16 rfl rfl)
theorem dX12_weighs_87 : decode cX12_weighs 87 = .ok (.iload_n 3, 1) := dk_29 (dk_at dksX12_weighs_3 19 rfl rfl)
theorem dX12_weighs_88 : decode cX12_weighs 88 = .ok (.baload, 1) := dk_51 (dk_at dksX12_weighs_3 20 rfl rfl)
theorem dX12_weighs_89 : decode cX12_weighs 89 = .ok (.ifCond .ne 13, 3) := dk_154 0 13 (dk_at dksX12_weighs_3 21 rfl rfl)
theorem dX12_weighs_92 : decode cX12_weighs 92 = .ok (.aload_n 0, 1) := dk_42 (dk_at dksX12_weighs_4 0 rfl rfl)
theorem dX12_weighs_93 : decode cX12_weighs 93 = .ok (.iload_n 2, 1) := dk_28 (dk_at dksX12_weighs_4 1 rfl rfl)
theorem dX12_weighs_94 : decode cX12_weighs 94 = .ok (.iconst 2, 1) := dk_5 (dk_at dksX12_weighs_4 2 rfl rfl)
theorem dX12_weighs_95 : decode cX12_weighs 95 = .ok (.invokevirtual 325, 3) := dk_182 1 69 (dk_at dksX12_weighs_4 3 rfl rfl)
theorem dX12_weighs_98 : decode cX12_weighs 98 = .ok (.iconst 2, 1) := dk_5 (dk_at dksX12_weighs_4 6 rfl rfl)
theorem dX12_weighs_99 : decode cX12_weighs 99 = .ok (.if_icmp .lt 7, 3) := dk_161 0 7 (dk_at dksX12_weighs_4 7 rfl rfl)
theorem dX12_weighs_102 : decode cX12_weighs 102 = .ok (.iconst 1, 1) := dk_4 (dk_at dksX12_weighs_4 10 rfl rfl)
theorem dX12_weighs_103 : decode cX12_weighs 103 = .ok (.goto 4, 3) := dk_167 0 4 (dk_at dksX12_weighs_4 11 rfl rfl)
theorem dX12_weighs_106 : decode cX12_weighs 106 = .ok (.iconst 0, 1) := dk_3 (dk_at dksX12_weighs_4 14 rfl rfl)
theorem dX12_weighs_107 : decode cX12_weighs 107 = .ok (.bastore, 1) := dk_84 (dk_at dksX12_weighs_4 15 rfl rfl)
theorem dX12_weighs_108 : decode cX12_weighs 108 = .ok (.iinc 2 1, 3) := dk_132 2 1 (dk_at dksX12_weighs_4 16 rfl rfl)
theorem dX12_weighs_111 : decode cX12_weighs 111 = .ok (.goto (-81), 3) := dk_167 255 175 (dk_at dksX12_weighs_4 19 rfl rfl)
theorem dX12_weighs_114 : decode cX12_weighs 114 = .ok (.return_, 1) := dk_177 (dk_at dksX12_weighs_4 22 rfl rfl)
abbrev cX12_goesThrough : ByteArray := prog_25_method_70_code
def yX12_goesThrough : MethodName := ⟨RX12, "goesThrough", "(IIII)V"⟩
def dkwX12_goesThrough_10 : List UInt8 := [132, 5, 1, 167, 255, 22, 177]
abbrev dktX12_goesThrough_10 : List UInt8 := dkwX12_goesThrough_10 ++ []
def dkwX12_goesThrough_9 : List UInt8 := [162, 0, 12, 42, 180, 0, 49, 21, 7, 21, 10, 79, 132, 9, 1, 167, 255, 141, 132, 6, 1, 167, 255, 42]
abbrev dktX12_goesThrough_9 : List UInt8 := dkwX12_goesThrough_9 ++ dktX12_goesThrough_10
def dkwX12_goesThrough_8 : List UInt8 := [159, 0, 35, 42, 180, 0, 49, 21, 7, 46, 2, 159, 0, 15, 21, 10, 42, 180, 0, 49, 21, 7, 46]
abbrev dktX12_goesThrough_8 : List UInt8 := dkwX12_goesThrough_8 ++ dktX12_goesThrough_9
def dkwX12_goesThrough_7 : List UInt8 := [21, 8, 104, 21, 9, 96, 46, 42, 180, 0, 40, 21, 6, 46, 21, 4, 182, 1, 149, 54, 10, 21, 10, 2]
abbrev dktX12_goesThrough_7 : List UInt8 := dkwX12_goesThrough_7 ++ dktX12_goesThrough_8
def dkwX12_goesThrough_6 : List UInt8 := [96, 46, 2, 160, 0, 6, 167, 0, 76, 42, 42, 180, 0, 40, 21, 9, 46, 42, 180, 0, 49, 16, 10]
abbrev dktX12_goesThrough_6 : List UInt8 := dkwX12_goesThrough_6 ++ dktX12_goesThrough_7
def dkwX12_goesThrough_5 : List UInt8 := [162, 0, 112, 21, 8, 21, 9, 184, 1, 38, 153, 0, 96, 42, 180, 0, 49, 16, 10, 21, 8, 104, 21, 9]
abbrev dktX12_goesThrough_5 : List UInt8 := dkwX12_goesThrough_5 ++ dktX12_goesThrough_6
def dkwX12_goesThrough_4 : List UInt8 := [180, 0, 40, 21, 6, 46, 21, 4, 182, 1, 149, 79, 167, 0, 124, 3, 54, 9, 21, 9, 42, 180, 1, 137]
abbrev dktX12_goesThrough_4 : List UInt8 := dkwX12_goesThrough_4 ++ dktX12_goesThrough_5
def dkwX12_goesThrough_3 : List UInt8 := [21, 6, 120, 2, 130, 126, 54, 8, 21, 8, 154, 0, 28, 42, 180, 0, 49, 21, 7, 42, 27, 28, 42]
abbrev dktX12_goesThrough_3 : List UInt8 := dkwX12_goesThrough_3 ++ dktX12_goesThrough_4
def dkwX12_goesThrough_2 : List UInt8 := [21, 6, 184, 1, 38, 153, 0, 177, 21, 5, 29, 2, 130, 126, 153, 0, 6, 167, 0, 165, 21, 5, 4]
abbrev dktX12_goesThrough_2 : List UInt8 := dkwX12_goesThrough_2 ++ dktX12_goesThrough_3
def dkwX12_goesThrough_1 : List UInt8 := [162, 0, 211, 16, 10, 21, 5, 104, 21, 6, 96, 54, 7, 42, 180, 0, 49, 21, 7, 2, 79, 21, 5]
abbrev dktX12_goesThrough_1 : List UInt8 := dkwX12_goesThrough_1 ++ dktX12_goesThrough_2
def dkwX12_goesThrough_0 : List UInt8 := [4, 54, 5, 21, 5, 4, 42, 180, 1, 137, 120, 162, 0, 229, 3, 54, 6, 21, 6, 42, 180, 1, 137]
abbrev dktX12_goesThrough_0 : List UInt8 := dkwX12_goesThrough_0 ++ dktX12_goesThrough_1
theorem dksX12_goesThrough_0 : cX12_goesThrough.data.toList.drop 0 = dktX12_goesThrough_0 := by decide +kernel
theorem dksX12_goesThrough_1 : cX12_goesThrough.data.toList.drop 23 = dktX12_goesThrough_1 := dk_seg dksX12_goesThrough_0 23 rfl rfl
theorem dksX12_goesThrough_2 : cX12_goesThrough.data.toList.drop 46 = dktX12_goesThrough_2 := dk_seg dksX12_goesThrough_1 23 rfl rfl
theorem dksX12_goesThrough_3 : cX12_goesThrough.data.toList.drop 69 = dktX12_goesThrough_3 := dk_seg dksX12_goesThrough_2 23 rfl rfl
theorem dksX12_goesThrough_4 : cX12_goesThrough.data.toList.drop 92 = dktX12_goesThrough_4 := dk_seg dksX12_goesThrough_3 23 rfl rfl
theorem dksX12_goesThrough_5 : cX12_goesThrough.data.toList.drop 116 = dktX12_goesThrough_5 := dk_seg dksX12_goesThrough_4 24 rfl rfl
theorem dksX12_goesThrough_6 : cX12_goesThrough.data.toList.drop 140 = dktX12_goesThrough_6 := dk_seg dksX12_goesThrough_5 24 rfl rfl
theorem dksX12_goesThrough_7 : cX12_goesThrough.data.toList.drop 163 = dktX12_goesThrough_7 := dk_seg dksX12_goesThrough_6 23 rfl rfl
theorem dksX12_goesThrough_8 : cX12_goesThrough.data.toList.drop 187 = dktX12_goesThrough_8 := dk_seg dksX12_goesThrough_7 24 rfl rfl
theorem dksX12_goesThrough_9 : cX12_goesThrough.data.toList.drop 210 = dktX12_goesThrough_9 := dk_seg dksX12_goesThrough_8 23 rfl rfl
theorem dksX12_goesThrough_10 : cX12_goesThrough.data.toList.drop 234 = dktX12_goesThrough_10 := dk_seg dksX12_goesThrough_9 24 rfl rfl
theorem dX12_goesThrough_0 : decode cX12_goesThrough 0 = .ok (.iconst 1, 1) := dk_4 (dk_at dksX12_goesThrough_0 0 rfl rfl)
theorem dX12_goesThrough_1 : decode cX12_goesThrough 1 = .ok (.istore 5, 2) := dk_54 5 (dk_at dksX12_goesThrough_0 1 rfl rfl)
theorem dX12_goesThrough_3 : decode cX12_goesThrough 3 = .ok (.iload 5, 2) := dk_21 5 (dk_at dksX12_goesThrough_0 3 rfl rfl)
theorem dX12_goesThrough_5 : decode cX12_goesThrough 5 = .ok (.iconst 1, 1) := dk_4 (dk_at dksX12_goesThrough_0 5 rfl rfl)
theorem dX12_goesThrough_6 : decode cX12_goesThrough 6 = .ok (.aload_n 0, 1) := dk_42 (dk_at dksX12_goesThrough_0 6 rfl rfl)
theorem dX12_goesThrough_7 : decode cX12_goesThrough 7 = .ok (.getfield 393, 3) := dk_180 1 137 (dk_at dksX12_goesThrough_0 7 rfl rfl)
theorem dX12_goesThrough_10 : decode cX12_goesThrough 10 = .ok (.ishl, 1) := dk_120 (dk_at dksX12_goesThrough_0 10 rfl rfl)
theorem dX12_goesThrough_11 : decode cX12_goesThrough 11 = .ok (.if_icmp .ge 229, 3) := dk_162 0 229 (dk_at dksX12_goesThrough_0 11 rfl rfl)
theorem dX12_goesThrough_14 : decode cX12_goesThrough 14 = .ok (.iconst 0, 1) := dk_3 (dk_at dksX12_goesThrough_0 14 rfl rfl)
theorem dX12_goesThrough_15 : decode cX12_goesThrough 15 = .ok (.istore 6, 2) := dk_54 6 (dk_at dksX12_goesThrough_0 15 rfl rfl)
theorem dX12_goesThrough_17 : decode cX12_goesThrough 17 = .ok (.iload 6, 2) := dk_21 6 (dk_at dksX12_goesThrough_0 17 rfl rfl)
theorem dX12_goesThrough_19 : decode cX12_goesThrough 19 = .ok (.aload_n 0, 1) := dk_42 (dk_at dksX12_goesThrough_0 19 rfl rfl)
theorem dX12_goesThrough_20 : decode cX12_goesThrough 20 = .ok (.getfield 393, 3) := dk_180 1 137 (dk_at dksX12_goesThrough_0 20 rfl rfl)
theorem dX12_goesThrough_23 : decode cX12_goesThrough 23 = .ok (.if_icmp .ge 211, 3) := dk_162 0 211 (dk_at dksX12_goesThrough_1 0 rfl rfl)
theorem dX12_goesThrough_26 : decode cX12_goesThrough 26 = .ok (.bipush 10, 2) := dk_16 10 (dk_at dksX12_goesThrough_1 3 rfl rfl)
theorem dX12_goesThrough_28 : decode cX12_goesThrough 28 = .ok (.iload 5, 2) := dk_21 5 (dk_at dksX12_goesThrough_1 5 rfl rfl)
theorem dX12_goesThrough_30 : decode cX12_goesThrough 30 = .ok (.imul, 1) := dk_104 (dk_at dksX12_goesThrough_1 7 rfl rfl)
theorem dX12_goesThrough_31 : decode cX12_goesThrough 31 = .ok (.iload 6, 2) := dk_21 6 (dk_at dksX12_goesThrough_1 8 rfl rfl)
theorem dX12_goesThrough_33 : decode cX12_goesThrough 33 = .ok (.iadd, 1) := dk_96 (dk_at dksX12_goesThrough_1 10 rfl rfl)
theorem dX12_goesThrough_34 : decode cX12_goesThrough 34 = .ok (.istore 7, 2) := dk_54 7 (dk_at dksX12_goesThrough_1 11 rfl rfl)
theorem dX12_goesThrough_36 : decode cX12_goesThrough 36 = .ok (.aload_n 0, 1) := dk_42 (dk_at dksX12_goesThrough_1 13 rfl rfl)
theorem dX12_goesThrough_37 : decode cX12_goesThrough 37 = .ok (.getfield 49, 3) := dk_180 0 49 (dk_at dksX12_goesThrough_1 14 rfl rfl)
theorem dX12_goesThrough_40 : decode cX12_goesThrough 40 = .ok (.iload 7, 2) := dk_21 7 (dk_at dksX12_goesThrough_1 17 rfl rfl)
theorem dX12_goesThrough_42 : decode cX12_goesThrough 42 = .ok (.iconst (-1), 1) := dk_2 (dk_at dksX12_goesThrough_1 19 rfl rfl)
theorem dX12_goesThrough_43 : decode cX12_goesThrough 43 = .ok (.iastore, 1) := dk_79 (dk_at dksX12_goesThrough_1 20 rfl rfl)
theorem dX12_goesThrough_44 : decode cX12_goesThrough 44 = .ok (.iload 5, 2) := dk_21 5 (dk_at dksX12_goesThrough_1 21 rfl rfl)
theorem dX12_goesThrough_46 : decode cX12_goesThrough 46 = .ok (.iload 6, 2) := dk_21 6 (dk_at dksX12_goesThrough_2 0 rfl rfl)
theorem dX12_goesThrough_48 : decode cX12_goesThrough 48 = .ok (.invokestatic 294, 3) := dk_184 1 38 (dk_at dksX12_goesThrough_2 2 rfl rfl)
theorem dX12_goesThrough_51 : decode cX12_goesThrough 51 = .ok (.ifCond .eq 177, 3) := dk_153 0 177 (dk_at dksX12_goesThrough_2 5 rfl rfl)
theorem dX12_goesThrough_54 : decode cX12_goesThrough 54 = .ok (.iload 5, 2) := dk_21 5 (dk_at dksX12_goesThrough_2 8 rfl rfl)
theorem dX12_goesThrough_56 : decode cX12_goesThrough 56 = .ok (.iload_n 3, 1) := dk_29 (dk_at dksX12_goesThrough_2 10 rfl rfl)
theorem dX12_goesThrough_57 : decode cX12_goesThrough 57 = .ok (.iconst (-1), 1) := dk_2 (dk_at dksX12_goesThrough_2 11 rfl rfl)
theorem dX12_goesThrough_58 : decode cX12_goesThrough 58 = .ok (.ixor, 1) := dk_130 (dk_at dksX12_goesThrough_2 12 rfl rfl)
theorem dX12_goesThrough_59 : decode cX12_goesThrough 59 = .ok (.iand, 1) := dk_126 (dk_at dksX12_goesThrough_2 13 rfl rfl)
theorem dX12_goesThrough_60 : decode cX12_goesThrough 60 = .ok (.ifCond .eq 6, 3) := dk_153 0 6 (dk_at dksX12_goesThrough_2 14 rfl rfl)
theorem dX12_goesThrough_63 : decode cX12_goesThrough 63 = .ok (.goto 165, 3) := dk_167 0 165 (dk_at dksX12_goesThrough_2 17 rfl rfl)
theorem dX12_goesThrough_66 : decode cX12_goesThrough 66 = .ok (.iload 5, 2) := dk_21 5 (dk_at dksX12_goesThrough_2 20 rfl rfl)
theorem dX12_goesThrough_68 : decode cX12_goesThrough 68 = .ok (.iconst 1, 1) := dk_4 (dk_at dksX12_goesThrough_2 22 rfl rfl)
theorem dX12_goesThrough_69 : decode cX12_goesThrough 69 = .ok (.iload 6, 2) := dk_21 6 (dk_at dksX12_goesThrough_3 0 rfl rfl)
theorem dX12_goesThrough_71 : decode cX12_goesThrough 71 = .ok (.ishl, 1) := dk_120 (dk_at dksX12_goesThrough_3 2 rfl rfl)
theorem dX12_goesThrough_72 : decode cX12_goesThrough 72 = .ok (.iconst (-1), 1) := dk_2 (dk_at dksX12_goesThrough_3 3 rfl rfl)
theorem dX12_goesThrough_73 : decode cX12_goesThrough 73 = .ok (.ixor, 1) := dk_130 (dk_at dksX12_goesThrough_3 4 rfl rfl)
theorem dX12_goesThrough_74 : decode cX12_goesThrough 74 = .ok (.iand, 1) := dk_126 (dk_at dksX12_goesThrough_3 5 rfl rfl)
theorem dX12_goesThrough_75 : decode cX12_goesThrough 75 = .ok (.istore 8, 2) := dk_54 8 (dk_at dksX12_goesThrough_3 6 rfl rfl)
theorem dX12_goesThrough_77 : decode cX12_goesThrough 77 = .ok (.iload 8, 2) := dk_21 8 (dk_at dksX12_goesThrough_3 8 rfl rfl)
theorem dX12_goesThrough_79 : decode cX12_goesThrough 79 = .ok (.ifCond .ne 28, 3) := dk_154 0 28 (dk_at dksX12_goesThrough_3 10 rfl rfl)
theorem dX12_goesThrough_82 : decode cX12_goesThrough 82 = .ok (.aload_n 0, 1) := dk_42 (dk_at dksX12_goesThrough_3 13 rfl rfl)
theorem dX12_goesThrough_83 : decode cX12_goesThrough 83 = .ok (.getfield 49, 3) := dk_180 0 49 (dk_at dksX12_goesThrough_3 14 rfl rfl)
theorem dX12_goesThrough_86 : decode cX12_goesThrough 86 = .ok (.iload 7, 2) := dk_21 7 (dk_at dksX12_goesThrough_3 17 rfl rfl)
theorem dX12_goesThrough_88 : decode cX12_goesThrough 88 = .ok (.aload_n 0, 1) := dk_42 (dk_at dksX12_goesThrough_3 19 rfl rfl)
theorem dX12_goesThrough_89 : decode cX12_goesThrough 89 = .ok (.iload_n 1, 1) := dk_27 (dk_at dksX12_goesThrough_3 20 rfl rfl)
theorem dX12_goesThrough_90 : decode cX12_goesThrough 90 = .ok (.iload_n 2, 1) := dk_28 (dk_at dksX12_goesThrough_3 21 rfl rfl)
theorem dX12_goesThrough_91 : decode cX12_goesThrough 91 = .ok (.aload_n 0, 1) := dk_42 (dk_at dksX12_goesThrough_3 22 rfl rfl)
theorem dX12_goesThrough_92 : decode cX12_goesThrough 92 = .ok (.getfield 40, 3) := dk_180 0 40 (dk_at dksX12_goesThrough_4 0 rfl rfl)
theorem dX12_goesThrough_95 : decode cX12_goesThrough 95 = .ok (.iload 6, 2) := dk_21 6 (dk_at dksX12_goesThrough_4 3 rfl rfl)
theorem dX12_goesThrough_97 : decode cX12_goesThrough 97 = .ok (.iaload, 1) := dk_46 (dk_at dksX12_goesThrough_4 5 rfl rfl)
theorem dX12_goesThrough_98 : decode cX12_goesThrough 98 = .ok (.iload 4, 2) := dk_21 4 (dk_at dksX12_goesThrough_4 6 rfl rfl)
theorem dX12_goesThrough_100 : decode cX12_goesThrough 100 = .ok (.invokevirtual 405, 3) := dk_182 1 149 (dk_at dksX12_goesThrough_4 8 rfl rfl)
theorem dX12_goesThrough_103 : decode cX12_goesThrough 103 = .ok (.iastore, 1) := dk_79 (dk_at dksX12_goesThrough_4 11 rfl rfl)
theorem dX12_goesThrough_104 : decode cX12_goesThrough 104 = .ok (.goto 124, 3) := dk_167 0 124 (dk_at dksX12_goesThrough_4 12 rfl rfl)
theorem dX12_goesThrough_107 : decode cX12_goesThrough 107 = .ok (.iconst 0, 1) := dk_3 (dk_at dksX12_goesThrough_4 15 rfl rfl)
theorem dX12_goesThrough_108 : decode cX12_goesThrough 108 = .ok (.istore 9, 2) := dk_54 9 (dk_at dksX12_goesThrough_4 16 rfl rfl)
theorem dX12_goesThrough_110 : decode cX12_goesThrough 110 = .ok (.iload 9, 2) := dk_21 9 (dk_at dksX12_goesThrough_4 18 rfl rfl)
theorem dX12_goesThrough_112 : decode cX12_goesThrough 112 = .ok (.aload_n 0, 1) := dk_42 (dk_at dksX12_goesThrough_4 20 rfl rfl)
theorem dX12_goesThrough_113 : decode cX12_goesThrough 113 = .ok (.getfield 393, 3) := dk_180 1 137 (dk_at dksX12_goesThrough_4 21 rfl rfl)
theorem dX12_goesThrough_116 : decode cX12_goesThrough 116 = .ok (.if_icmp .ge 112, 3) := dk_162 0 112 (dk_at dksX12_goesThrough_5 0 rfl rfl)
theorem dX12_goesThrough_119 : decode cX12_goesThrough 119 = .ok (.iload 8, 2) := dk_21 8 (dk_at dksX12_goesThrough_5 3 rfl rfl)
theorem dX12_goesThrough_121 : decode cX12_goesThrough 121 = .ok (.iload 9, 2) := dk_21 9 (dk_at dksX12_goesThrough_5 5 rfl rfl)
theorem dX12_goesThrough_123 : decode cX12_goesThrough 123 = .ok (.invokestatic 294, 3) := dk_184 1 38 (dk_at dksX12_goesThrough_5 7 rfl rfl)
theorem dX12_goesThrough_126 : decode cX12_goesThrough 126 = .ok (.ifCond .eq 96, 3) := dk_153 0 96 (dk_at dksX12_goesThrough_5 10 rfl rfl)
theorem dX12_goesThrough_129 : decode cX12_goesThrough 129 = .ok (.aload_n 0, 1) := dk_42 (dk_at dksX12_goesThrough_5 13 rfl rfl)
theorem dX12_goesThrough_130 : decode cX12_goesThrough 130 = .ok (.getfield 49, 3) := dk_180 0 49 (dk_at dksX12_goesThrough_5 14 rfl rfl)
theorem dX12_goesThrough_133 : decode cX12_goesThrough 133 = .ok (.bipush 10, 2) := dk_16 10 (dk_at dksX12_goesThrough_5 17 rfl rfl)
theorem dX12_goesThrough_135 : decode cX12_goesThrough 135 = .ok (.iload 8, 2) := dk_21 8 (dk_at dksX12_goesThrough_5 19 rfl rfl)
theorem dX12_goesThrough_137 : decode cX12_goesThrough 137 = .ok (.imul, 1) := dk_104 (dk_at dksX12_goesThrough_5 21 rfl rfl)
theorem dX12_goesThrough_138 : decode cX12_goesThrough 138 = .ok (.iload 9, 2) := dk_21 9 (dk_at dksX12_goesThrough_5 22 rfl rfl)
theorem dX12_goesThrough_140 : decode cX12_goesThrough 140 = .ok (.iadd, 1) := dk_96 (dk_at dksX12_goesThrough_6 0 rfl rfl)
theorem dX12_goesThrough_141 : decode cX12_goesThrough 141 = .ok (.iaload, 1) := dk_46 (dk_at dksX12_goesThrough_6 1 rfl rfl)
theorem dX12_goesThrough_142 : decode cX12_goesThrough 142 = .ok (.iconst (-1), 1) := dk_2 (dk_at dksX12_goesThrough_6 2 rfl rfl)
theorem dX12_goesThrough_143 : decode cX12_goesThrough 143 = .ok (.if_icmp .ne 6, 3) := dk_160 0 6 (dk_at dksX12_goesThrough_6 3 rfl rfl)
theorem dX12_goesThrough_146 : decode cX12_goesThrough 146 = .ok (.goto 76, 3) := dk_167 0 76 (dk_at dksX12_goesThrough_6 6 rfl rfl)
theorem dX12_goesThrough_149 : decode cX12_goesThrough 149 = .ok (.aload_n 0, 1) := dk_42 (dk_at dksX12_goesThrough_6 9 rfl rfl)
theorem dX12_goesThrough_150 : decode cX12_goesThrough 150 = .ok (.aload_n 0, 1) := dk_42 (dk_at dksX12_goesThrough_6 10 rfl rfl)
theorem dX12_goesThrough_151 : decode cX12_goesThrough 151 = .ok (.getfield 40, 3) := dk_180 0 40 (dk_at dksX12_goesThrough_6 11 rfl rfl)
theorem dX12_goesThrough_154 : decode cX12_goesThrough 154 = .ok (.iload 9, 2) := dk_21 9 (dk_at dksX12_goesThrough_6 14 rfl rfl)
theorem dX12_goesThrough_156 : decode cX12_goesThrough 156 = .ok (.iaload, 1) := dk_46 (dk_at dksX12_goesThrough_6 16 rfl rfl)
theorem dX12_goesThrough_157 : decode cX12_goesThrough 157 = .ok (.aload_n 0, 1) := dk_42 (dk_at dksX12_goesThrough_6 17 rfl rfl)
theorem dX12_goesThrough_158 : decode cX12_goesThrough 158 = .ok (.getfield 49, 3) := dk_180 0 49 (dk_at dksX12_goesThrough_6 18 rfl rfl)
theorem dX12_goesThrough_161 : decode cX12_goesThrough 161 = .ok (.bipush 10, 2) := dk_16 10 (dk_at dksX12_goesThrough_6 21 rfl rfl)
theorem dX12_goesThrough_163 : decode cX12_goesThrough 163 = .ok (.iload 8, 2) := dk_21 8 (dk_at dksX12_goesThrough_7 0 rfl rfl)
theorem dX12_goesThrough_165 : decode cX12_goesThrough 165 = .ok (.imul, 1) := dk_104 (dk_at dksX12_goesThrough_7 2 rfl rfl)
theorem dX12_goesThrough_166 : decode cX12_goesThrough 166 = .ok (.iload 9, 2) := dk_21 9 (dk_at dksX12_goesThrough_7 3 rfl rfl)
theorem dX12_goesThrough_168 : decode cX12_goesThrough 168 = .ok (.iadd, 1) := dk_96 (dk_at dksX12_goesThrough_7 5 rfl rfl)
theorem dX12_goesThrough_169 : decode cX12_goesThrough 169 = .ok (.iaload, 1) := dk_46 (dk_at dksX12_goesThrough_7 6 rfl rfl)
theorem dX12_goesThrough_170 : decode cX12_goesThrough 170 = .ok (.aload_n 0, 1) := dk_42 (dk_at dksX12_goesThrough_7 7 rfl rfl)
theorem dX12_goesThrough_171 : decode cX12_goesThrough 171 = .ok (.getfield 40, 3) := dk_180 0 40 (dk_at dksX12_goesThrough_7 8 rfl rfl)
theorem dX12_goesThrough_174 : decode cX12_goesThrough 174 = .ok (.iload 6, 2) := dk_21 6 (dk_at dksX12_goesThrough_7 11 rfl rfl)
theorem dX12_goesThrough_176 : decode cX12_goesThrough 176 = .ok (.iaload, 1) := dk_46 (dk_at dksX12_goesThrough_7 13 rfl rfl)
theorem dX12_goesThrough_177 : decode cX12_goesThrough 177 = .ok (.iload 4, 2) := dk_21 4 (dk_at dksX12_goesThrough_7 14 rfl rfl)
theorem dX12_goesThrough_179 : decode cX12_goesThrough 179 = .ok (.invokevirtual 405, 3) := dk_182 1 149 (dk_at dksX12_goesThrough_7 16 rfl rfl)
theorem dX12_goesThrough_182 : decode cX12_goesThrough 182 = .ok (.istore 10, 2) := dk_54 10 (dk_at dksX12_goesThrough_7 19 rfl rfl)
theorem dX12_goesThrough_184 : decode cX12_goesThrough 184 = .ok (.iload 10, 2) := dk_21 10 (dk_at dksX12_goesThrough_7 21 rfl rfl)
theorem dX12_goesThrough_186 : decode cX12_goesThrough 186 = .ok (.iconst (-1), 1) := dk_2 (dk_at dksX12_goesThrough_7 23 rfl rfl)
theorem dX12_goesThrough_187 : decode cX12_goesThrough 187 = .ok (.if_icmp .eq 35, 3) := dk_159 0 35 (dk_at dksX12_goesThrough_8 0 rfl rfl)
theorem dX12_goesThrough_190 : decode cX12_goesThrough 190 = .ok (.aload_n 0, 1) := dk_42 (dk_at dksX12_goesThrough_8 3 rfl rfl)
theorem dX12_goesThrough_191 : decode cX12_goesThrough 191 = .ok (.getfield 49, 3) := dk_180 0 49 (dk_at dksX12_goesThrough_8 4 rfl rfl)
theorem dX12_goesThrough_194 : decode cX12_goesThrough 194 = .ok (.iload 7, 2) := dk_21 7 (dk_at dksX12_goesThrough_8 7 rfl rfl)
theorem dX12_goesThrough_196 : decode cX12_goesThrough 196 = .ok (.iaload, 1) := dk_46 (dk_at dksX12_goesThrough_8 9 rfl rfl)
theorem dX12_goesThrough_197 : decode cX12_goesThrough 197 = .ok (.iconst (-1), 1) := dk_2 (dk_at dksX12_goesThrough_8 10 rfl rfl)
theorem dX12_goesThrough_198 : decode cX12_goesThrough 198 = .ok (.if_icmp .eq 15, 3) := dk_159 0 15 (dk_at dksX12_goesThrough_8 11 rfl rfl)
theorem dX12_goesThrough_201 : decode cX12_goesThrough 201 = .ok (.iload 10, 2) := dk_21 10 (dk_at dksX12_goesThrough_8 14 rfl rfl)
theorem dX12_goesThrough_203 : decode cX12_goesThrough 203 = .ok (.aload_n 0, 1) := dk_42 (dk_at dksX12_goesThrough_8 16 rfl rfl)
theorem dX12_goesThrough_204 : decode cX12_goesThrough 204 = .ok (.getfield 49, 3) := dk_180 0 49 (dk_at dksX12_goesThrough_8 17 rfl rfl)
theorem dX12_goesThrough_207 : decode cX12_goesThrough 207 = .ok (.iload 7, 2) := dk_21 7 (dk_at dksX12_goesThrough_8 20 rfl rfl)
theorem dX12_goesThrough_209 : decode cX12_goesThrough 209 = .ok (.iaload, 1) := dk_46 (dk_at dksX12_goesThrough_8 22 rfl rfl)
theorem dX12_goesThrough_210 : decode cX12_goesThrough 210 = .ok (.if_icmp .ge 12, 3) := dk_162 0 12 (dk_at dksX12_goesThrough_9 0 rfl rfl)
theorem dX12_goesThrough_213 : decode cX12_goesThrough 213 = .ok (.aload_n 0, 1) := dk_42 (dk_at dksX12_goesThrough_9 3 rfl rfl)
theorem dX12_goesThrough_214 : decode cX12_goesThrough 214 = .ok (.getfield 49, 3) := dk_180 0 49 (dk_at dksX12_goesThrough_9 4 rfl rfl)
theorem dX12_goesThrough_217 : decode cX12_goesThrough 217 = .ok (.iload 7, 2) := dk_21 7 (dk_at dksX12_goesThrough_9 7 rfl rfl)
theorem dX12_goesThrough_219 : decode cX12_goesThrough 219 = .ok (.iload 10, 2) := dk_21 10 (dk_at dksX12_goesThrough_9 9 rfl rfl)
theorem dX12_goesThrough_221 : decode cX12_goesThrough 221 = .ok (.iastore, 1) := dk_79 (dk_at dksX12_goesThrough_9 11 rfl rfl)
theorem dX12_goesThrough_222 : decode cX12_goesThrough 222 = .ok (.iinc 9 1, 3) := dk_132 9 1 (dk_at dksX12_goesThrough_9 12 rfl rfl)
theorem dX12_goesThrough_225 : decode cX12_goesThrough 225 = .ok (.goto (-115), 3) := dk_167 255 141 (dk_at dksX12_goesThrough_9 15 rfl rfl)
theorem dX12_goesThrough_228 : decode cX12_goesThrough 228 = .ok (.iinc 6 1, 3) := dk_132 6 1 (dk_at dksX12_goesThrough_9 18 rfl rfl)
theorem dX12_goesThrough_231 : decode cX12_goesThrough 231 = .ok (.goto (-214), 3) := dk_167 255 42 (dk_at dksX12_goesThrough_9 21 rfl rfl)
theorem dX12_goesThrough_234 : decode cX12_goesThrough 234 = .ok (.iinc 5 1, 3) := dk_132 5 1 (dk_at dksX12_goesThrough_10 0 rfl rfl)
theorem dX12_goesThrough_237 : decode cX12_goesThrough 237 = .ok (.goto (-234), 3) := dk_167 255 22 (dk_at dksX12_goesThrough_10 3 rfl rfl)
theorem dX12_goesThrough_240 : decode cX12_goesThrough 240 = .ok (.return_, 1) := dk_177 (dk_at dksX12_goesThrough_10 6 rfl rfl)
abbrev cX12_seen : ByteArray := prog_25_method_69_code
def yX12_seen : MethodName := ⟨RX12, "seen", "(IIII)I"⟩
def dkwX12_seen_3 : List UInt8 := [2, 167, 0, 5, 21, 5, 172]
abbrev dktX12_seen_3 : List UInt8 := dkwX12_seen_3 ++ []
def dkwX12_seen_2 : List UInt8 := [96, 54, 5, 21, 5, 42, 29, 8, 182, 1, 30, 164, 0, 5, 2, 172, 21, 5, 17, 0, 180, 164, 0, 7]
abbrev dktX12_seen_2 : List UInt8 := dkwX12_seen_2 ++ dktX12_seen_3
def dkwX12_seen_1 : List UInt8 := [42, 29, 6, 182, 1, 30, 159, 0, 5, 2, 172, 21, 5, 42, 29, 7, 182, 1, 30, 184, 1, 146, 16, 15]
abbrev dktX12_seen_1 : List UInt8 := dkwX12_seen_1 ++ dktX12_seen_2
def dkwX12_seen_0 : List UInt8 := [28, 42, 27, 29, 182, 1, 143, 96, 54, 5, 42, 180, 0, 46, 29, 51, 153, 0, 48, 21, 4, 16, 7, 112]
abbrev dktX12_seen_0 : List UInt8 := dkwX12_seen_0 ++ dktX12_seen_1
theorem dksX12_seen_0 : cX12_seen.data.toList.drop 0 = dktX12_seen_0 := by decide +kernel
theorem dksX12_seen_1 : cX12_seen.data.toList.drop 24 = dktX12_seen_1 := dk_seg dksX12_seen_0 24 rfl rfl
theorem dksX12_seen_2 : cX12_seen.data.toList.drop 48 = dktX12_seen_2 := dk_seg dksX12_seen_1 24 rfl rfl
theorem dksX12_seen_3 : cX12_seen.data.toList.drop 72 = dktX12_seen_3 := dk_seg dksX12_seen_2 24 rfl rfl
theorem dX12_seen_0 : decode cX12_seen 0 = .ok (.iload_n 2, 1) := dk_28 (dk_at dksX12_seen_0 0 rfl rfl)
theorem dX12_seen_1 : decode cX12_seen 1 = .ok (.aload_n 0, 1) := dk_42 (dk_at dksX12_seen_0 1 rfl rfl)
theorem dX12_seen_2 : decode cX12_seen 2 = .ok (.iload_n 1, 1) := dk_27 (dk_at dksX12_seen_0 2 rfl rfl)
theorem dX12_seen_3 : decode cX12_seen 3 = .ok (.iload_n 3, 1) := dk_29 (dk_at dksX12_seen_0 3 rfl rfl)
theorem dX12_seen_4 : decode cX12_seen 4 = .ok (.invokevirtual 399, 3) := dk_182 1 143 (dk_at dksX12_seen_0 4 rfl rfl)
theorem dX12_seen_7 : decode cX12_seen 7 = .ok (.iadd, 1) := dk_96 (dk_at dksX12_seen_0 7 rfl rfl)
theorem dX12_seen_8 : decode cX12_seen 8 = .ok (.istore 5, 2) := dk_54 5 (dk_at dksX12_seen_0 8 rfl rfl)
theorem dX12_seen_10 : decode cX12_seen 10 = .ok (.aload_n 0, 1) := dk_42 (dk_at dksX12_seen_0 10 rfl rfl)
theorem dX12_seen_11 : decode cX12_seen 11 = .ok (.getfield 46, 3) := dk_180 0 46 (dk_at dksX12_seen_0 11 rfl rfl)
theorem dX12_seen_14 : decode cX12_seen 14 = .ok (.iload_n 3, 1) := dk_29 (dk_at dksX12_seen_0 14 rfl rfl)
theorem dX12_seen_15 : decode cX12_seen 15 = .ok (.baload, 1) := dk_51 (dk_at dksX12_seen_0 15 rfl rfl)
theorem dX12_seen_16 : decode cX12_seen 16 = .ok (.ifCond .eq 48, 3) := dk_153 0 48 (dk_at dksX12_seen_0 16 rfl rfl)
theorem dX12_seen_19 : decode cX12_seen 19 = .ok (.iload 4, 2) := dk_21 4 (dk_at dksX12_seen_0 19 rfl rfl)
theorem dX12_seen_21 : decode cX12_seen 21 = .ok (.bipush 7, 2) := dk_16 7 (dk_at dksX12_seen_0 21 rfl rfl)
theorem dX12_seen_23 : decode cX12_seen 23 = .ok (.irem, 1) := dk_112 (dk_at dksX12_seen_0 23 rfl rfl)
theorem dX12_seen_24 : decode cX12_seen 24 = .ok (.aload_n 0, 1) := dk_42 (dk_at dksX12_seen_1 0 rfl rfl)
theorem dX12_seen_25 : decode cX12_seen 25 = .ok (.iload_n 3, 1) := dk_29 (dk_at dksX12_seen_1 1 rfl rfl)
theorem dX12_seen_26 : decode cX12_seen 26 = .ok (.iconst 3, 1) := dk_6 (dk_at dksX12_seen_1 2 rfl rfl)
theorem dX12_seen_27 : decode cX12_seen 27 = .ok (.invokevirtual 286, 3) := dk_182 1 30 (dk_at dksX12_seen_1 3 rfl rfl)
theorem dX12_seen_30 : decode cX12_seen 30 = .ok (.if_icmp .eq 5, 3) := dk_159 0 5 (dk_at dksX12_seen_1 6 rfl rfl)
theorem dX12_seen_33 : decode cX12_seen 33 = .ok (.iconst (-1), 1) := dk_2 (dk_at dksX12_seen_1 9 rfl rfl)
theorem dX12_seen_34 : decode cX12_seen 34 = .ok (.ireturn, 1) := dk_172 (dk_at dksX12_seen_1 10 rfl rfl)
theorem dX12_seen_35 : decode cX12_seen 35 = .ok (.iload 5, 2) := dk_21 5 (dk_at dksX12_seen_1 11 rfl rfl)
theorem dX12_seen_37 : decode cX12_seen 37 = .ok (.aload_n 0, 1) := dk_42 (dk_at dksX12_seen_1 13 rfl rfl)
theorem dX12_seen_38 : decode cX12_seen 38 = .ok (.iload_n 3, 1) := dk_29 (dk_at dksX12_seen_1 14 rfl rfl)
theorem dX12_seen_39 : decode cX12_seen 39 = .ok (.iconst 4, 1) := dk_7 (dk_at dksX12_seen_1 15 rfl rfl)
theorem dX12_seen_40 : decode cX12_seen 40 = .ok (.invokevirtual 286, 3) := dk_182 1 30 (dk_at dksX12_seen_1 16 rfl rfl)
theorem dX12_seen_43 : decode cX12_seen 43 = .ok (.invokestatic 402, 3) := dk_184 1 146 (dk_at dksX12_seen_1 19 rfl rfl)
theorem dX12_seen_46 : decode cX12_seen 46 = .ok (.bipush 15, 2) := dk_16 15 (dk_at dksX12_seen_1 22 rfl rfl)
theorem dX12_seen_48 : decode cX12_seen 48 = .ok (.iadd, 1) := dk_96 (dk_at dksX12_seen_2 0 rfl rfl)
theorem dX12_seen_49 : decode cX12_seen 49 = .ok (.istore 5, 2) := dk_54 5 (dk_at dksX12_seen_2 1 rfl rfl)
theorem dX12_seen_51 : decode cX12_seen 51 = .ok (.iload 5, 2) := dk_21 5 (dk_at dksX12_seen_2 3 rfl rfl)
theorem dX12_seen_53 : decode cX12_seen 53 = .ok (.aload_n 0, 1) := dk_42 (dk_at dksX12_seen_2 5 rfl rfl)
theorem dX12_seen_54 : decode cX12_seen 54 = .ok (.iload_n 3, 1) := dk_29 (dk_at dksX12_seen_2 6 rfl rfl)
theorem dX12_seen_55 : decode cX12_seen 55 = .ok (.iconst 5, 1) := dk_8 (dk_at dksX12_seen_2 7 rfl rfl)
theorem dX12_seen_56 : decode cX12_seen 56 = .ok (.invokevirtual 286, 3) := dk_182 1 30 (dk_at dksX12_seen_2 8 rfl rfl)
theorem dX12_seen_59 : decode cX12_seen 59 = .ok (.if_icmp .le 5, 3) := dk_164 0 5 (dk_at dksX12_seen_2 11 rfl rfl)
theorem dX12_seen_62 : decode cX12_seen 62 = .ok (.iconst (-1), 1) := dk_2 (dk_at dksX12_seen_2 14 rfl rfl)
theorem dX12_seen_63 : decode cX12_seen 63 = .ok (.ireturn, 1) := dk_172 (dk_at dksX12_seen_2 15 rfl rfl)
theorem dX12_seen_64 : decode cX12_seen 64 = .ok (.iload 5, 2) := dk_21 5 (dk_at dksX12_seen_2 16 rfl rfl)
theorem dX12_seen_66 : decode cX12_seen 66 = .ok (.sipush 180, 3) := dk_17 0 180 (dk_at dksX12_seen_2 18 rfl rfl)
theorem dX12_seen_69 : decode cX12_seen 69 = .ok (.if_icmp .le 7, 3) := dk_164 0 7 (dk_at dksX12_seen_2 21 rfl rfl)
theorem dX12_seen_72 : decode cX12_seen 72 = .ok (.iconst (-1), 1) := dk_2 (dk_at dksX12_seen_3 0 rfl rfl)
theorem dX12_seen_73 : decode cX12_seen 73 = .ok (.goto 5, 3) := dk_167 0 5 (dk_at dksX12_seen_3 1 rfl rfl)
theorem dX12_seen_76 : decode cX12_seen 76 = .ok (.iload 5, 2) := dk_21 5 (dk_at dksX12_seen_3 4 rfl rfl)
theorem dX12_seen_78 : decode cX12_seen 78 = .ok (.ireturn, 1) := dk_172 (dk_at dksX12_seen_3 6 rfl rfl)
abbrev cX12_minutes : ByteArray := prog_25_method_68_code
def yX12_minutes : MethodName := ⟨RX12, "minutes", "(II)I"⟩
def dkwX12_minutes_1 : List UInt8 := [4, 182, 1, 30, 100, 184, 1, 140, 96, 172]
abbrev dktX12_minutes_1 : List UInt8 := dkwX12_minutes_1 ++ []
def dkwX12_minutes_0 : List UInt8 := [42, 27, 3, 182, 1, 30, 42, 28, 3, 182, 1, 30, 100, 184, 1, 140, 42, 27, 4, 182, 1, 30, 42, 28]
abbrev dktX12_minutes_0 : List UInt8 := dkwX12_minutes_0 ++ dktX12_minutes_1
theorem dksX12_minutes_0 : cX12_minutes.data.toList.drop 0 = dktX12_minutes_0 := by decide +kernel
theorem dksX12_minutes_1 : cX12_minutes.data.toList.drop 24 = dktX12_minutes_1 := dk_seg dksX12_minutes_0 24 rfl rfl
theorem dX12_minutes_0 : decode cX12_minutes 0 = .ok (.aload_n 0, 1) := dk_42 (dk_at dksX12_minutes_0 0 rfl rfl)
theorem dX12_minutes_1 : decode cX12_minutes 1 = .ok (.iload_n 1, 1) := dk_27 (dk_at dksX12_minutes_0 1 rfl rfl)
theorem dX12_minutes_2 : decode cX12_minutes 2 = .ok (.iconst 0, 1) := dk_3 (dk_at dksX12_minutes_0 2 rfl rfl)
theorem dX12_minutes_3 : decode cX12_minutes 3 = .ok (.invokevirtual 286, 3) := dk_182 1 30 (dk_at dksX12_minutes_0 3 rfl rfl)
theorem dX12_minutes_6 : decode cX12_minutes 6 = .ok (.aload_n 0, 1) := dk_42 (dk_at dksX12_minutes_0 6 rfl rfl)
theorem dX12_minutes_7 : decode cX12_minutes 7 = .ok (.iload_n 2, 1) := dk_28 (dk_at dksX12_minutes_0 7 rfl rfl)
theorem dX12_minutes_8 : decode cX12_minutes 8 = .ok (.iconst 0, 1) := dk_3 (dk_at dksX12_minutes_0 8 rfl rfl)
theorem dX12_minutes_9 : decode cX12_minutes 9 = .ok (.invokevirtual 286, 3) := dk_182 1 30 (dk_at dksX12_minutes_0 9 rfl rfl)
theorem dX12_minutes_12 : decode cX12_minutes 12 = .ok (.isub, 1) := dk_100 (dk_at dksX12_minutes_0 12 rfl rfl)
theorem dX12_minutes_13 : decode cX12_minutes 13 = .ok (.invokestatic 396, 3) := dk_184 1 140 (dk_at dksX12_minutes_0 13 rfl rfl)
theorem dX12_minutes_16 : decode cX12_minutes 16 = .ok (.aload_n 0, 1) := dk_42 (dk_at dksX12_minutes_0 16 rfl rfl)
theorem dX12_minutes_17 : decode cX12_minutes 17 = .ok (.iload_n 1, 1) := dk_27 (dk_at dksX12_minutes_0 17 rfl rfl)
theorem dX12_minutes_18 : decode cX12_minutes 18 = .ok (.iconst 1, 1) := dk_4 (dk_at dksX12_minutes_0 18 rfl rfl)
theorem dX12_minutes_19 : decode cX12_minutes 19 = .ok (.invokevirtual 286, 3) := dk_182 1 30 (dk_at dksX12_minutes_0 19 rfl rfl)
theorem dX12_minutes_22 : decode cX12_minutes 22 = .ok (.aload_n 0, 1) := dk_42 (dk_at dksX12_minutes_0 22 rfl rfl)
theorem dX12_minutes_23 : decode cX12_minutes 23 = .ok (.iload_n 2, 1) := dk_28 (dk_at dksX12_minutes_0 23 rfl rfl)
theorem dX12_minutes_24 : decode cX12_minutes 24 = .ok (.iconst 1, 1) := dk_4 (dk_at dksX12_minutes_1 0 rfl rfl)
theorem dX12_minutes_25 : decode cX12_minutes 25 = .ok (.invokevirtual 286, 3) := dk_182 1 30 (dk_at dksX12_minutes_1 1 rfl rfl)
theorem dX12_minutes_28 : decode cX12_minutes 28 = .ok (.isub, 1) := dk_100 (dk_at dksX12_minutes_1 4 rfl rfl)
theorem dX12_minutes_29 : decode cX12_minutes 29 = .ok (.invokestatic 396, 3) := dk_184 1 140 (dk_at dksX12_minutes_1 5 rfl rfl)
theorem dX12_minutes_32 : decode cX12_minutes 32 = .ok (.iadd, 1) := dk_96 (dk_at dksX12_minutes_1 8 rfl rfl)
theorem dX12_minutes_33 : decode cX12_minutes 33 = .ok (.ireturn, 1) := dk_172 (dk_at dksX12_minutes_1 9 rfl rfl)
abbrev cX12_overOf : ByteArray := prog_25_method_71_code
def yX12_overOf : MethodName := ⟨RX12, "overOf", "(I)I"⟩
def dkwX12_overOf_2 : List UInt8 := [132, 3, 1, 167, 255, 212, 28, 172]
abbrev dktX12_overOf_2 : List UInt8 := dkwX12_overOf_2 ++ []
def dkwX12_overOf_1 : List UInt8 := [54, 4, 21, 4, 2, 159, 0, 17, 28, 2, 159, 0, 9, 21, 4, 28, 162, 0, 6, 21, 4, 61]
abbrev dktX12_overOf_1 : List UInt8 := dkwX12_overOf_1 ++ dktX12_overOf_2
def dkwX12_overOf_0 : List UInt8 := [2, 61, 3, 62, 29, 42, 180, 1, 137, 162, 0, 42, 42, 180, 0, 49, 16, 10, 27, 104, 29, 96, 46]
abbrev dktX12_overOf_0 : List UInt8 := dkwX12_overOf_0 ++ dktX12_overOf_1
theorem dksX12_overOf_0 : cX12_overOf.data.toList.drop 0 = dktX12_overOf_0 := by decide +kernel
theorem dksX12_overOf_1 : cX12_overOf.data.toList.drop 23 = dktX12_overOf_1 := dk_seg dksX12_overOf_0 23 rfl rfl
theorem dksX12_overOf_2 : cX12_overOf.data.toList.drop 45 = dktX12_overOf_2 := dk_seg dksX12_overOf_1 22 rfl rfl
theorem dX12_overOf_0 : decode cX12_overOf 0 = .ok (.iconst (-1), 1) := dk_2 (dk_at dksX12_overOf_0 0 rfl rfl)
theorem dX12_overOf_1 : decode cX12_overOf 1 = .ok (.istore_n 2, 1) := dk_61 (dk_at dksX12_overOf_0 1 rfl rfl)
theorem dX12_overOf_2 : decode cX12_overOf 2 = .ok (.iconst 0, 1) := dk_3 (dk_at dksX12_overOf_0 2 rfl rfl)
theorem dX12_overOf_3 : decode cX12_overOf 3 = .ok (.istore_n 3, 1) := dk_62 (dk_at dksX12_overOf_0 3 rfl rfl)
theorem dX12_overOf_4 : decode cX12_overOf 4 = .ok (.iload_n 3, 1) := dk_29 (dk_at dksX12_overOf_0 4 rfl rfl)
theorem dX12_overOf_5 : decode cX12_overOf 5 = .ok (.aload_n 0, 1) := dk_42 (dk_at dksX12_overOf_0 5 rfl rfl)
theorem dX12_overOf_6 : decode cX12_overOf 6 = .ok (.getfield 393, 3) := dk_180 1 137 (dk_at dksX12_overOf_0 6 rfl rfl)
theorem dX12_overOf_9 : decode cX12_overOf 9 = .ok (.if_icmp .ge 42, 3) := dk_162 0 42 (dk_at dksX12_overOf_0 9 rfl rfl)
theorem dX12_overOf_12 : decode cX12_overOf 12 = .ok (.aload_n 0, 1) := dk_42 (dk_at dksX12_overOf_0 12 rfl rfl)
theorem dX12_overOf_13 : decode cX12_overOf 13 = .ok (.getfield 49, 3) := dk_180 0 49 (dk_at dksX12_overOf_0 13 rfl rfl)
theorem dX12_overOf_16 : decode cX12_overOf 16 = .ok (.bipush 10, 2) := dk_16 10 (dk_at dksX12_overOf_0 16 rfl rfl)
theorem dX12_overOf_18 : decode cX12_overOf 18 = .ok (.iload_n 1, 1) := dk_27 (dk_at dksX12_overOf_0 18 rfl rfl)
theorem dX12_overOf_19 : decode cX12_overOf 19 = .ok (.imul, 1) := dk_104 (dk_at dksX12_overOf_0 19 rfl rfl)
theorem dX12_overOf_20 : decode cX12_overOf 20 = .ok (.iload_n 3, 1) := dk_29 (dk_at dksX12_overOf_0 20 rfl rfl)
theorem dX12_overOf_21 : decode cX12_overOf 21 = .ok (.iadd, 1) := dk_96 (dk_at dksX12_overOf_0 21 rfl rfl)
theorem dX12_overOf_22 : decode cX12_overOf 22 = .ok (.iaload, 1) := dk_46 (dk_at dksX12_overOf_0 22 rfl rfl)
theorem dX12_overOf_23 : decode cX12_overOf 23 = .ok (.istore 4, 2) := dk_54 4 (dk_at dksX12_overOf_1 0 rfl rfl)
theorem dX12_overOf_25 : decode cX12_overOf 25 = .ok (.iload 4, 2) := dk_21 4 (dk_at dksX12_overOf_1 2 rfl rfl)
theorem dX12_overOf_27 : decode cX12_overOf 27 = .ok (.iconst (-1), 1) := dk_2 (dk_at dksX12_overOf_1 4 rfl rfl)
theorem dX12_overOf_28 : decode cX12_overOf 28 = .ok (.if_icmp .eq 17, 3) := dk_159 0 17 (dk_at dksX12_overOf_1 5 rfl rfl)
theorem dX12_overOf_31 : decode cX12_overOf 31 = .ok (.iload_n 2, 1) := dk_28 (dk_at dksX12_overOf_1 8 rfl rfl)
theorem dX12_overOf_32 : decode cX12_overOf 32 = .ok (.iconst (-1), 1) := dk_2 (dk_at dksX12_overOf_1 9 rfl rfl)
theorem dX12_overOf_33 : decode cX12_overOf 33 = .ok (.if_icmp .eq 9, 3) := dk_159 0 9 (dk_at dksX12_overOf_1 10 rfl rfl)
theorem dX12_overOf_36 : decode cX12_overOf 36 = .ok (.iload 4, 2) := dk_21 4 (dk_at dksX12_overOf_1 13 rfl rfl)
theorem dX12_overOf_38 : decode cX12_overOf 38 = .ok (.iload_n 2, 1) := dk_28 (dk_at dksX12_overOf_1 15 rfl rfl)
theorem dX12_overOf_39 : decode cX12_overOf 39 = .ok (.if_icmp .ge 6, 3) := dk_162 0 6 (dk_at dksX12_overOf_1 16 rfl rfl)
theorem dX12_overOf_42 : decode cX12_overOf 42 = .ok (.iload 4, 2) := dk_21 4 (dk_at dksX12_overOf_1 19 rfl rfl)
theorem dX12_overOf_44 : decode cX12_overOf 44 = .ok (.istore_n 2, 1) := dk_61 (dk_at dksX12_overOf_1 21 rfl rfl)
theorem dX12_overOf_45 : decode cX12_overOf 45 = .ok (.iinc 3 1, 3) := dk_132 3 1 (dk_at dksX12_overOf_2 0 rfl rfl)
theorem dX12_overOf_48 : decode cX12_overOf 48 = .ok (.goto (-44), 3) := dk_167 255 212 (dk_at dksX12_overOf_2 3 rfl rfl)
theorem dX12_overOf_51 : decode cX12_overOf 51 = .ok (.iload_n 2, 1) := dk_28 (dk_at dksX12_overOf_2 6 rfl rfl)
theorem dX12_overOf_52 : decode cX12_overOf 52 = .ok (.ireturn, 1) := dk_172 (dk_at dksX12_overOf_2 7 rfl rfl)
abbrev cX12_over : ByteArray := prog_25_method_75_code
def yX12_over : MethodName := ⟨RX12, "over", "(II)I"⟩
def dkwX12_over_0 : List UInt8 := [42, 27, 28, 182, 1, 173, 154, 0, 6, 16, 254, 172, 42, 27, 28, 182, 1, 176, 42, 180, 1, 162, 172]
abbrev dktX12_over_0 : List UInt8 := dkwX12_over_0 ++ []
theorem dksX12_over_0 : cX12_over.data.toList.drop 0 = dktX12_over_0 := by decide +kernel
theorem dX12_over_0 : decode cX12_over 0 = .ok (.aload_n 0, 1) := dk_42 (dk_at dksX12_over_0 0 rfl rfl)
theorem dX12_over_1 : decode cX12_over 1 = .ok (.iload_n 1, 1) := dk_27 (dk_at dksX12_over_0 1 rfl rfl)
theorem dX12_over_2 : decode cX12_over 2 = .ok (.iload_n 2, 1) := dk_28 (dk_at dksX12_over_0 2 rfl rfl)
theorem dX12_over_3 : decode cX12_over 3 = .ok (.invokevirtual 429, 3) := dk_182 1 173 (dk_at dksX12_over_0 3 rfl rfl)
theorem dX12_over_6 : decode cX12_over 6 = .ok (.ifCond .ne 6, 3) := dk_154 0 6 (dk_at dksX12_over_0 6 rfl rfl)
theorem dX12_over_9 : decode cX12_over 9 = .ok (.bipush (-2), 2) := dk_16 254 (dk_at dksX12_over_0 9 rfl rfl)
theorem dX12_over_11 : decode cX12_over 11 = .ok (.ireturn, 1) := dk_172 (dk_at dksX12_over_0 11 rfl rfl)
theorem dX12_over_12 : decode cX12_over 12 = .ok (.aload_n 0, 1) := dk_42 (dk_at dksX12_over_0 12 rfl rfl)
theorem dX12_over_13 : decode cX12_over 13 = .ok (.iload_n 1, 1) := dk_27 (dk_at dksX12_over_0 13 rfl rfl)
theorem dX12_over_14 : decode cX12_over 14 = .ok (.iload_n 2, 1) := dk_28 (dk_at dksX12_over_0 14 rfl rfl)
theorem dX12_over_15 : decode cX12_over 15 = .ok (.invokevirtual 432, 3) := dk_182 1 176 (dk_at dksX12_over_0 15 rfl rfl)
theorem dX12_over_18 : decode cX12_over 18 = .ok (.aload_n 0, 1) := dk_42 (dk_at dksX12_over_0 18 rfl rfl)
theorem dX12_over_19 : decode cX12_over 19 = .ok (.getfield 418, 3) := dk_180 1 162 (dk_at dksX12_over_0 19 rfl rfl)
theorem dX12_over_22 : decode cX12_over 22 = .ok (.ireturn, 1) := dk_172 (dk_at dksX12_over_0 22 rfl rfl)
abbrev cX12_round : ByteArray := prog_25_method_77_code
def yX12_round : MethodName := ⟨RX12, "round", "(III)I"⟩
def dkwX12_round_2 : List UInt8 := [182, 1, 179, 42, 180, 0, 52, 29, 46, 172]
abbrev dktX12_round_2 : List UInt8 := dkwX12_round_2 ++ []
def dkwX12_round_1 : List UInt8 := [184, 1, 42, 54, 4, 29, 133, 9, 21, 4, 4, 100, 133, 184, 0, 101, 154, 0, 5, 2, 172, 42, 27, 28]
abbrev dktX12_round_1 : List UInt8 := dkwX12_round_1 ++ dktX12_round_2
def dkwX12_round_0 : List UInt8 := [42, 27, 28, 182, 1, 173, 154, 0, 6, 16, 254, 172, 42, 27, 28, 182, 1, 176, 42, 180, 1, 159]
abbrev dktX12_round_0 : List UInt8 := dkwX12_round_0 ++ dktX12_round_1
theorem dksX12_round_0 : cX12_round.data.toList.drop 0 = dktX12_round_0 := by decide +kernel
theorem dksX12_round_1 : cX12_round.data.toList.drop 22 = dktX12_round_1 := dk_seg dksX12_round_0 22 rfl rfl
theorem dksX12_round_2 : cX12_round.data.toList.drop 46 = dktX12_round_2 := dk_seg dksX12_round_1 24 rfl rfl
theorem dX12_round_0 : decode cX12_round 0 = .ok (.aload_n 0, 1) := dk_42 (dk_at dksX12_round_0 0 rfl rfl)
theorem dX12_round_1 : decode cX12_round 1 = .ok (.iload_n 1, 1) := dk_27 (dk_at dksX12_round_0 1 rfl rfl)
theorem dX12_round_2 : decode cX12_round 2 = .ok (.iload_n 2, 1) := dk_28 (dk_at dksX12_round_0 2 rfl rfl)
theorem dX12_round_3 : decode cX12_round 3 = .ok (.invokevirtual 429, 3) := dk_182 1 173 (dk_at dksX12_round_0 3 rfl rfl)
theorem dX12_round_6 : decode cX12_round 6 = .ok (.ifCond .ne 6, 3) := dk_154 0 6 (dk_at dksX12_round_0 6 rfl rfl)
theorem dX12_round_9 : decode cX12_round 9 = .ok (.bipush (-2), 2) := dk_16 254 (dk_at dksX12_round_0 9 rfl rfl)
theorem dX12_round_11 : decode cX12_round 11 = .ok (.ireturn, 1) := dk_172 (dk_at dksX12_round_0 11 rfl rfl)
theorem dX12_round_12 : decode cX12_round 12 = .ok (.aload_n 0, 1) := dk_42 (dk_at dksX12_round_0 12 rfl rfl)
theorem dX12_round_13 : decode cX12_round 13 = .ok (.iload_n 1, 1) := dk_27 (dk_at dksX12_round_0 13 rfl rfl)
theorem dX12_round_14 : decode cX12_round 14 = .ok (.iload_n 2, 1) := dk_28 (dk_at dksX12_round_0 14 rfl rfl)
theorem dX12_round_15 : decode cX12_round 15 = .ok (.invokevirtual 432, 3) := dk_182 1 176 (dk_at dksX12_round_0 15 rfl rfl)
theorem dX12_round_18 : decode cX12_round 18 = .ok (.aload_n 0, 1) := dk_42 (dk_at dksX12_round_0 18 rfl rfl)
theorem dX12_round_19 : decode cX12_round 19 = .ok (.getfield 415, 3) := dk_180 1 159 (dk_at dksX12_round_0 19 rfl rfl)
theorem dX12_round_22 : decode cX12_round 22 = .ok (.invokestatic 298, 3) := dk_184 1 42 (dk_at dksX12_round_1 0 rfl rfl)
theorem dX12_round_25 : decode cX12_round 25 = .ok (.istore 4, 2) := dk_54 4 (dk_at dksX12_round_1 3 rfl rfl)
theorem dX12_round_27 : decode cX12_round 27 = .ok (.iload_n 3, 1) := dk_29 (dk_at dksX12_round_1 5 rfl rfl)
theorem dX12_round_28 : decode cX12_round 28 = .ok (.i2l, 1) := dk_133 (dk_at dksX12_round_1 6 rfl rfl)
theorem dX12_round_29 : decode cX12_round 29 = .ok (.lconst 0, 1) := dk_9 (dk_at dksX12_round_1 7 rfl rfl)
theorem dX12_round_30 : decode cX12_round 30 = .ok (.iload 4, 2) := dk_21 4 (dk_at dksX12_round_1 8 rfl rfl)
theorem dX12_round_32 : decode cX12_round 32 = .ok (.iconst 1, 1) := dk_4 (dk_at dksX12_round_1 10 rfl rfl)
theorem dX12_round_33 : decode cX12_round 33 = .ok (.isub, 1) := dk_100 (dk_at dksX12_round_1 11 rfl rfl)
theorem dX12_round_34 : decode cX12_round 34 = .ok (.i2l, 1) := dk_133 (dk_at dksX12_round_1 12 rfl rfl)
theorem dX12_round_35 : decode cX12_round 35 = .ok (.invokestatic 101, 3) := dk_184 0 101 (dk_at dksX12_round_1 13 rfl rfl)
theorem dX12_round_38 : decode cX12_round 38 = .ok (.ifCond .ne 5, 3) := dk_154 0 5 (dk_at dksX12_round_1 16 rfl rfl)
theorem dX12_round_41 : decode cX12_round 41 = .ok (.iconst (-1), 1) := dk_2 (dk_at dksX12_round_1 19 rfl rfl)
theorem dX12_round_42 : decode cX12_round 42 = .ok (.ireturn, 1) := dk_172 (dk_at dksX12_round_1 20 rfl rfl)
theorem dX12_round_43 : decode cX12_round 43 = .ok (.aload_n 0, 1) := dk_42 (dk_at dksX12_round_1 21 rfl rfl)
theorem dX12_round_44 : decode cX12_round 44 = .ok (.iload_n 1, 1) := dk_27 (dk_at dksX12_round_1 22 rfl rfl)
theorem dX12_round_45 : decode cX12_round 45 = .ok (.iload_n 2, 1) := dk_28 (dk_at dksX12_round_1 23 rfl rfl)
theorem dX12_round_46 : decode cX12_round 46 = .ok (.invokevirtual 435, 3) := dk_182 1 179 (dk_at dksX12_round_2 0 rfl rfl)
theorem dX12_round_49 : decode cX12_round 49 = .ok (.aload_n 0, 1) := dk_42 (dk_at dksX12_round_2 3 rfl rfl)
theorem dX12_round_50 : decode cX12_round 50 = .ok (.getfield 52, 3) := dk_180 0 52 (dk_at dksX12_round_2 4 rfl rfl)
theorem dX12_round_53 : decode cX12_round 53 = .ok (.iload_n 3, 1) := dk_29 (dk_at dksX12_round_2 7 rfl rfl)
theorem dX12_round_54 : decode cX12_round 54 = .ok (.iaload, 1) := dk_46 (dk_at dksX12_round_2 8 rfl rfl)
theorem dX12_round_55 : decode cX12_round 55 = .ok (.ireturn, 1) := dk_172 (dk_at dksX12_round_2 9 rfl rfl)
abbrev cX12_rowOf : ByteArray := prog_25_method_76_code
def yX12_rowOf : MethodName := ⟨RX12, "rowOf", "(II)V"⟩
def dkwX12_rowOf_8 : List UInt8 := [130, 126, 54, 5, 167, 255, 76, 177]
abbrev dktX12_rowOf_8 : List UInt8 := dkwX12_rowOf_8 ++ []
def dkwX12_rowOf_7 : List UInt8 := [46, 79, 132, 6, 1, 42, 180, 0, 40, 21, 7, 46, 62, 21, 8, 54, 4, 21, 5, 4, 21, 7, 120, 2]
abbrev dktX12_rowOf_7 : List UInt8 := dkwX12_rowOf_7 ++ dktX12_rowOf_8
def dkwX12_rowOf_6 : List UInt8 := [54, 7, 21, 10, 54, 8, 132, 9, 1, 167, 255, 133, 42, 180, 0, 52, 21, 6, 42, 180, 0, 40, 21, 7]
abbrev dktX12_rowOf_6 : List UInt8 := dkwX12_rowOf_6 ++ dktX12_rowOf_7
def dkwX12_rowOf_5 : List UInt8 := [21, 10, 167, 0, 9, 42, 21, 11, 182, 1, 168, 42, 180, 1, 162, 159, 0, 6, 167, 0, 11, 21, 9]
abbrev dktX12_rowOf_5 : List UInt8 := dkwX12_rowOf_5 ++ dktX12_rowOf_6
def dkwX12_rowOf_4 : List UInt8 := [153, 0, 19, 42, 42, 180, 0, 40, 21, 9, 46, 21, 10, 21, 11, 28, 182, 1, 155, 21, 11, 154, 0, 8]
abbrev dktX12_rowOf_4 : List UInt8 := dkwX12_rowOf_4 ++ dktX12_rowOf_5
def dkwX12_rowOf_3 : List UInt8 := [54, 10, 21, 5, 4, 21, 9, 120, 2, 130, 126, 54, 11, 21, 10, 2, 160, 0, 6, 167, 0, 58, 21, 11]
abbrev dktX12_rowOf_3 : List UInt8 := dkwX12_rowOf_3 ++ dktX12_rowOf_4
def dkwX12_rowOf_2 : List UInt8 := [184, 1, 38, 154, 0, 6, 167, 0, 95, 42, 29, 21, 4, 42, 180, 0, 40, 21, 9, 46, 28, 182, 1, 149]
abbrev dktX12_rowOf_2 : List UInt8 := dkwX12_rowOf_2 ++ dktX12_rowOf_3
def dkwX12_rowOf_1 : List UInt8 := [54, 8, 3, 54, 9, 21, 9, 42, 180, 1, 137, 162, 0, 120, 21, 7, 2, 160, 0, 114, 21, 5, 21, 9]
abbrev dktX12_rowOf_1 : List UInt8 := dkwX12_rowOf_1 ++ dktX12_rowOf_2
def dkwX12_rowOf_0 : List UInt8 := [27, 62, 3, 54, 4, 42, 180, 1, 159, 54, 5, 3, 54, 6, 21, 5, 153, 0, 181, 2, 54, 7, 3]
abbrev dktX12_rowOf_0 : List UInt8 := dkwX12_rowOf_0 ++ dktX12_rowOf_1
theorem dksX12_rowOf_0 : cX12_rowOf.data.toList.drop 0 = dktX12_rowOf_0 := by decide +kernel
theorem dksX12_rowOf_1 : cX12_rowOf.data.toList.drop 23 = dktX12_rowOf_1 := dk_seg dksX12_rowOf_0 23 rfl rfl
theorem dksX12_rowOf_2 : cX12_rowOf.data.toList.drop 47 = dktX12_rowOf_2 := dk_seg dksX12_rowOf_1 24 rfl rfl
theorem dksX12_rowOf_3 : cX12_rowOf.data.toList.drop 71 = dktX12_rowOf_3 := dk_seg dksX12_rowOf_2 24 rfl rfl
theorem dksX12_rowOf_4 : cX12_rowOf.data.toList.drop 95 = dktX12_rowOf_4 := dk_seg dksX12_rowOf_3 24 rfl rfl
theorem dksX12_rowOf_5 : cX12_rowOf.data.toList.drop 119 = dktX12_rowOf_5 := dk_seg dksX12_rowOf_4 24 rfl rfl
theorem dksX12_rowOf_6 : cX12_rowOf.data.toList.drop 142 = dktX12_rowOf_6 := dk_seg dksX12_rowOf_5 23 rfl rfl
theorem dksX12_rowOf_7 : cX12_rowOf.data.toList.drop 166 = dktX12_rowOf_7 := dk_seg dksX12_rowOf_6 24 rfl rfl
theorem dksX12_rowOf_8 : cX12_rowOf.data.toList.drop 190 = dktX12_rowOf_8 := dk_seg dksX12_rowOf_7 24 rfl rfl
theorem dX12_rowOf_0 : decode cX12_rowOf 0 = .ok (.iload_n 1, 1) := dk_27 (dk_at dksX12_rowOf_0 0 rfl rfl)
theorem dX12_rowOf_1 : decode cX12_rowOf 1 = .ok (.istore_n 3, 1) := dk_62 (dk_at dksX12_rowOf_0 1 rfl rfl)
theorem dX12_rowOf_2 : decode cX12_rowOf 2 = .ok (.iconst 0, 1) := dk_3 (dk_at dksX12_rowOf_0 2 rfl rfl)
theorem dX12_rowOf_3 : decode cX12_rowOf 3 = .ok (.istore 4, 2) := dk_54 4 (dk_at dksX12_rowOf_0 3 rfl rfl)
theorem dX12_rowOf_5 : decode cX12_rowOf 5 = .ok (.aload_n 0, 1) := dk_42 (dk_at dksX12_rowOf_0 5 rfl rfl)
theorem dX12_rowOf_6 : decode cX12_rowOf 6 = .ok (.getfield 415, 3) := dk_180 1 159 (dk_at dksX12_rowOf_0 6 rfl rfl)
theorem dX12_rowOf_9 : decode cX12_rowOf 9 = .ok (.istore 5, 2) := dk_54 5 (dk_at dksX12_rowOf_0 9 rfl rfl)
theorem dX12_rowOf_11 : decode cX12_rowOf 11 = .ok (.iconst 0, 1) := dk_3 (dk_at dksX12_rowOf_0 11 rfl rfl)
theorem dX12_rowOf_12 : decode cX12_rowOf 12 = .ok (.istore 6, 2) := dk_54 6 (dk_at dksX12_rowOf_0 12 rfl rfl)
theorem dX12_rowOf_14 : decode cX12_rowOf 14 = .ok (.iload 5, 2) := dk_21 5 (dk_at dksX12_rowOf_0 14 rfl rfl)
theorem dX12_rowOf_16 : decode cX12_rowOf 16 = .ok (.ifCond .eq 181, 3) := dk_153 0 181 (dk_at dksX12_rowOf_0 16 rfl rfl)
theorem dX12_rowOf_19 : decode cX12_rowOf 19 = .ok (.iconst (-1), 1) := dk_2 (dk_at dksX12_rowOf_0 19 rfl rfl)
theorem dX12_rowOf_20 : decode cX12_rowOf 20 = .ok (.istore 7, 2) := dk_54 7 (dk_at dksX12_rowOf_0 20 rfl rfl)
theorem dX12_rowOf_22 : decode cX12_rowOf 22 = .ok (.iconst 0, 1) := dk_3 (dk_at dksX12_rowOf_0 22 rfl rfl)
theorem dX12_rowOf_23 : decode cX12_rowOf 23 = .ok (.istore 8, 2) := dk_54 8 (dk_at dksX12_rowOf_1 0 rfl rfl)
theorem dX12_rowOf_25 : decode cX12_rowOf 25 = .ok (.iconst 0, 1) := dk_3 (dk_at dksX12_rowOf_1 2 rfl rfl)
theorem dX12_rowOf_26 : decode cX12_rowOf 26 = .ok (.istore 9, 2) := dk_54 9 (dk_at dksX12_rowOf_1 3 rfl rfl)
theorem dX12_rowOf_28 : decode cX12_rowOf 28 = .ok (.iload 9, 2) := dk_21 9 (dk_at dksX12_rowOf_1 5 rfl rfl)
theorem dX12_rowOf_30 : decode cX12_rowOf 30 = .ok (.aload_n 0, 1) := dk_42 (dk_at dksX12_rowOf_1 7 rfl rfl)
theorem dX12_rowOf_31 : decode cX12_rowOf 31 = .ok (.getfield 393, 3) := dk_180 1 137 (dk_at dksX12_rowOf_1 8 rfl rfl)
theorem dX12_rowOf_34 : decode cX12_rowOf 34 = .ok (.if_icmp .ge 120, 3) := dk_162 0 120 (dk_at dksX12_rowOf_1 11 rfl rfl)
theorem dX12_rowOf_37 : decode cX12_rowOf 37 = .ok (.iload 7, 2) := dk_21 7 (dk_at dksX12_rowOf_1 14 rfl rfl)
theorem dX12_rowOf_39 : decode cX12_rowOf 39 = .ok (.iconst (-1), 1) := dk_2 (dk_at dksX12_rowOf_1 16 rfl rfl)
theorem dX12_rowOf_40 : decode cX12_rowOf 40 = .ok (.if_icmp .ne 114, 3) := dk_160 0 114 (dk_at dksX12_rowOf_1 17 rfl rfl)
theorem dX12_rowOf_43 : decode cX12_rowOf 43 = .ok (.iload 5, 2) := dk_21 5 (dk_at dksX12_rowOf_1 20 rfl rfl)
theorem dX12_rowOf_45 : decode cX12_rowOf 45 = .ok (.iload 9, 2) := dk_21 9 (dk_at dksX12_rowOf_1 22 rfl rfl)
theorem dX12_rowOf_47 : decode cX12_rowOf 47 = .ok (.invokestatic 294, 3) := dk_184 1 38 (dk_at dksX12_rowOf_2 0 rfl rfl)
theorem dX12_rowOf_50 : decode cX12_rowOf 50 = .ok (.ifCond .ne 6, 3) := dk_154 0 6 (dk_at dksX12_rowOf_2 3 rfl rfl)
theorem dX12_rowOf_53 : decode cX12_rowOf 53 = .ok (.goto 95, 3) := dk_167 0 95 (dk_at dksX12_rowOf_2 6 rfl rfl)
theorem dX12_rowOf_56 : decode cX12_rowOf 56 = .ok (.aload_n 0, 1) := dk_42 (dk_at dksX12_rowOf_2 9 rfl rfl)
theorem dX12_rowOf_57 : decode cX12_rowOf 57 = .ok (.iload_n 3, 1) := dk_29 (dk_at dksX12_rowOf_2 10 rfl rfl)
theorem dX12_rowOf_58 : decode cX12_rowOf 58 = .ok (.iload 4, 2) := dk_21 4 (dk_at dksX12_rowOf_2 11 rfl rfl)
theorem dX12_rowOf_60 : decode cX12_rowOf 60 = .ok (.aload_n 0, 1) := dk_42 (dk_at dksX12_rowOf_2 13 rfl rfl)
theorem dX12_rowOf_61 : decode cX12_rowOf 61 = .ok (.getfield 40, 3) := dk_180 0 40 (dk_at dksX12_rowOf_2 14 rfl rfl)
theorem dX12_rowOf_64 : decode cX12_rowOf 64 = .ok (.iload 9, 2) := dk_21 9 (dk_at dksX12_rowOf_2 17 rfl rfl)
theorem dX12_rowOf_66 : decode cX12_rowOf 66 = .ok (.iaload, 1) := dk_46 (dk_at dksX12_rowOf_2 19 rfl rfl)
theorem dX12_rowOf_67 : decode cX12_rowOf 67 = .ok (.iload_n 2, 1) := dk_28 (dk_at dksX12_rowOf_2 20 rfl rfl)
theorem dX12_rowOf_68 : decode cX12_rowOf 68 = .ok (.invokevirtual 405, 3) := dk_182 1 149 (dk_at dksX12_rowOf_2 21 rfl rfl)
theorem dX12_rowOf_71 : decode cX12_rowOf 71 = .ok (.istore 10, 2) := dk_54 10 (dk_at dksX12_rowOf_3 0 rfl rfl)
theorem dX12_rowOf_73 : decode cX12_rowOf 73 = .ok (.iload 5, 2) := dk_21 5 (dk_at dksX12_rowOf_3 2 rfl rfl)
theorem dX12_rowOf_75 : decode cX12_rowOf 75 = .ok (.iconst 1, 1) := dk_4 (dk_at dksX12_rowOf_3 4 rfl rfl)
theorem dX12_rowOf_76 : decode cX12_rowOf 76 = .ok (.iload 9, 2) := dk_21 9 (dk_at dksX12_rowOf_3 5 rfl rfl)
theorem dX12_rowOf_78 : decode cX12_rowOf 78 = .ok (.ishl, 1) := dk_120 (dk_at dksX12_rowOf_3 7 rfl rfl)
theorem dX12_rowOf_79 : decode cX12_rowOf 79 = .ok (.iconst (-1), 1) := dk_2 (dk_at dksX12_rowOf_3 8 rfl rfl)
theorem dX12_rowOf_80 : decode cX12_rowOf 80 = .ok (.ixor, 1) := dk_130 (dk_at dksX12_rowOf_3 9 rfl rfl)
theorem dX12_rowOf_81 : decode cX12_rowOf 81 = .ok (.iand, 1) := dk_126 (dk_at dksX12_rowOf_3 10 rfl rfl)
theorem dX12_rowOf_82 : decode cX12_rowOf 82 = .ok (.istore 11, 2) := dk_54 11 (dk_at dksX12_rowOf_3 11 rfl rfl)
theorem dX12_rowOf_84 : decode cX12_rowOf 84 = .ok (.iload 10, 2) := dk_21 10 (dk_at dksX12_rowOf_3 13 rfl rfl)
theorem dX12_rowOf_86 : decode cX12_rowOf 86 = .ok (.iconst (-1), 1) := dk_2 (dk_at dksX12_rowOf_3 15 rfl rfl)
theorem dX12_rowOf_87 : decode cX12_rowOf 87 = .ok (.if_icmp .ne 6, 3) := dk_160 0 6 (dk_at dksX12_rowOf_3 16 rfl rfl)
theorem dX12_rowOf_90 : decode cX12_rowOf 90 = .ok (.goto 58, 3) := dk_167 0 58 (dk_at dksX12_rowOf_3 19 rfl rfl)
theorem dX12_rowOf_93 : decode cX12_rowOf 93 = .ok (.iload 11, 2) := dk_21 11 (dk_at dksX12_rowOf_3 22 rfl rfl)
theorem dX12_rowOf_95 : decode cX12_rowOf 95 = .ok (.ifCond .eq 19, 3) := dk_153 0 19 (dk_at dksX12_rowOf_4 0 rfl rfl)
theorem dX12_rowOf_98 : decode cX12_rowOf 98 = .ok (.aload_n 0, 1) := dk_42 (dk_at dksX12_rowOf_4 3 rfl rfl)
theorem dX12_rowOf_99 : decode cX12_rowOf 99 = .ok (.aload_n 0, 1) := dk_42 (dk_at dksX12_rowOf_4 4 rfl rfl)
theorem dX12_rowOf_100 : decode cX12_rowOf 100 = .ok (.getfield 40, 3) := dk_180 0 40 (dk_at dksX12_rowOf_4 5 rfl rfl)
theorem dX12_rowOf_103 : decode cX12_rowOf 103 = .ok (.iload 9, 2) := dk_21 9 (dk_at dksX12_rowOf_4 8 rfl rfl)
theorem dX12_rowOf_105 : decode cX12_rowOf 105 = .ok (.iaload, 1) := dk_46 (dk_at dksX12_rowOf_4 10 rfl rfl)
theorem dX12_rowOf_106 : decode cX12_rowOf 106 = .ok (.iload 10, 2) := dk_21 10 (dk_at dksX12_rowOf_4 11 rfl rfl)
theorem dX12_rowOf_108 : decode cX12_rowOf 108 = .ok (.iload 11, 2) := dk_21 11 (dk_at dksX12_rowOf_4 13 rfl rfl)
theorem dX12_rowOf_110 : decode cX12_rowOf 110 = .ok (.iload_n 2, 1) := dk_28 (dk_at dksX12_rowOf_4 15 rfl rfl)
theorem dX12_rowOf_111 : decode cX12_rowOf 111 = .ok (.invokevirtual 411, 3) := dk_182 1 155 (dk_at dksX12_rowOf_4 16 rfl rfl)
theorem dX12_rowOf_114 : decode cX12_rowOf 114 = .ok (.iload 11, 2) := dk_21 11 (dk_at dksX12_rowOf_4 19 rfl rfl)
theorem dX12_rowOf_116 : decode cX12_rowOf 116 = .ok (.ifCond .ne 8, 3) := dk_154 0 8 (dk_at dksX12_rowOf_4 21 rfl rfl)
theorem dX12_rowOf_119 : decode cX12_rowOf 119 = .ok (.iload 10, 2) := dk_21 10 (dk_at dksX12_rowOf_5 0 rfl rfl)
theorem dX12_rowOf_121 : decode cX12_rowOf 121 = .ok (.goto 9, 3) := dk_167 0 9 (dk_at dksX12_rowOf_5 2 rfl rfl)
theorem dX12_rowOf_124 : decode cX12_rowOf 124 = .ok (.aload_n 0, 1) := dk_42 (dk_at dksX12_rowOf_5 5 rfl rfl)
theorem dX12_rowOf_125 : decode cX12_rowOf 125 = .ok (.iload 11, 2) := dk_21 11 (dk_at dksX12_rowOf_5 6 rfl rfl)
theorem dX12_rowOf_127 : decode cX12_rowOf 127 = .ok (.invokevirtual 424, 3) := dk_182 1 168 (dk_at dksX12_rowOf_5 8 rfl rfl)
theorem dX12_rowOf_130 : decode cX12_rowOf 130 = .ok (.aload_n 0, 1) := dk_42 (dk_at dksX12_rowOf_5 11 rfl rfl)
theorem dX12_rowOf_131 : decode cX12_rowOf 131 = .ok (.getfield 418, 3) := dk_180 1 162 (dk_at dksX12_rowOf_5 12 rfl rfl)
theorem dX12_rowOf_134 : decode cX12_rowOf 134 = .ok (.if_icmp .eq 6, 3) := dk_159 0 6 (dk_at dksX12_rowOf_5 15 rfl rfl)
theorem dX12_rowOf_137 : decode cX12_rowOf 137 = .ok (.goto 11, 3) := dk_167 0 11 (dk_at dksX12_rowOf_5 18 rfl rfl)
theorem dX12_rowOf_140 : decode cX12_rowOf 140 = .ok (.iload 9, 2) := dk_21 9 (dk_at dksX12_rowOf_5 21 rfl rfl)
theorem dX12_rowOf_142 : decode cX12_rowOf 142 = .ok (.istore 7, 2) := dk_54 7 (dk_at dksX12_rowOf_6 0 rfl rfl)
theorem dX12_rowOf_144 : decode cX12_rowOf 144 = .ok (.iload 10, 2) := dk_21 10 (dk_at dksX12_rowOf_6 2 rfl rfl)
theorem dX12_rowOf_146 : decode cX12_rowOf 146 = .ok (.istore 8, 2) := dk_54 8 (dk_at dksX12_rowOf_6 4 rfl rfl)
theorem dX12_rowOf_148 : decode cX12_rowOf 148 = .ok (.iinc 9 1, 3) := dk_132 9 1 (dk_at dksX12_rowOf_6 6 rfl rfl)
theorem dX12_rowOf_151 : decode cX12_rowOf 151 = .ok (.goto (-123), 3) := dk_167 255 133 (dk_at dksX12_rowOf_6 9 rfl rfl)
theorem dX12_rowOf_154 : decode cX12_rowOf 154 = .ok (.aload_n 0, 1) := dk_42 (dk_at dksX12_rowOf_6 12 rfl rfl)
theorem dX12_rowOf_155 : decode cX12_rowOf 155 = .ok (.getfield 52, 3) := dk_180 0 52 (dk_at dksX12_rowOf_6 13 rfl rfl)
theorem dX12_rowOf_158 : decode cX12_rowOf 158 = .ok (.iload 6, 2) := dk_21 6 (dk_at dksX12_rowOf_6 16 rfl rfl)
theorem dX12_rowOf_160 : decode cX12_rowOf 160 = .ok (.aload_n 0, 1) := dk_42 (dk_at dksX12_rowOf_6 18 rfl rfl)
theorem dX12_rowOf_161 : decode cX12_rowOf 161 = .ok (.getfield 40, 3) := dk_180 0 40 (dk_at dksX12_rowOf_6 19 rfl rfl)
theorem dX12_rowOf_164 : decode cX12_rowOf 164 = .ok (.iload 7, 2) := dk_21 7 (dk_at dksX12_rowOf_6 22 rfl rfl)
theorem dX12_rowOf_166 : decode cX12_rowOf 166 = .ok (.iaload, 1) := dk_46 (dk_at dksX12_rowOf_7 0 rfl rfl)
theorem dX12_rowOf_167 : decode cX12_rowOf 167 = .ok (.iastore, 1) := dk_79 (dk_at dksX12_rowOf_7 1 rfl rfl)
theorem dX12_rowOf_168 : decode cX12_rowOf 168 = .ok (.iinc 6 1, 3) := dk_132 6 1 (dk_at dksX12_rowOf_7 2 rfl rfl)
theorem dX12_rowOf_171 : decode cX12_rowOf 171 = .ok (.aload_n 0, 1) := dk_42 (dk_at dksX12_rowOf_7 5 rfl rfl)
theorem dX12_rowOf_172 : decode cX12_rowOf 172 = .ok (.getfield 40, 3) := dk_180 0 40 (dk_at dksX12_rowOf_7 6 rfl rfl)
theorem dX12_rowOf_175 : decode cX12_rowOf 175 = .ok (.iload 7, 2) := dk_21 7 (dk_at dksX12_rowOf_7 9 rfl rfl)
theorem dX12_rowOf_177 : decode cX12_rowOf 177 = .ok (.iaload, 1) := dk_46 (dk_at dksX12_rowOf_7 11 rfl rfl)
theorem dX12_rowOf_178 : decode cX12_rowOf 178 = .ok (.istore_n 3, 1) := dk_62 (dk_at dksX12_rowOf_7 12 rfl rfl)
theorem dX12_rowOf_179 : decode cX12_rowOf 179 = .ok (.iload 8, 2) := dk_21 8 (dk_at dksX12_rowOf_7 13 rfl rfl)
theorem dX12_rowOf_181 : decode cX12_rowOf 181 = .ok (.istore 4, 2) := dk_54 4 (dk_at dksX12_rowOf_7 15 rfl rfl)
theorem dX12_rowOf_183 : decode cX12_rowOf 183 = .ok (.iload 5, 2) := dk_21 5 (dk_at dksX12_rowOf_7 17 rfl rfl)
theorem dX12_rowOf_185 : decode cX12_rowOf 185 = .ok (.iconst 1, 1) := dk_4 (dk_at dksX12_rowOf_7 19 rfl rfl)
theorem dX12_rowOf_186 : decode cX12_rowOf 186 = .ok (.iload 7, 2) := dk_21 7 (dk_at dksX12_rowOf_7 20 rfl rfl)
theorem dX12_rowOf_188 : decode cX12_rowOf 188 = .ok (.ishl, 1) := dk_120 (dk_at dksX12_rowOf_7 22 rfl rfl)
theorem dX12_rowOf_189 : decode cX12_rowOf 189 = .ok (.iconst (-1), 1) := dk_2 (dk_at dksX12_rowOf_7 23 rfl rfl)
theorem dX12_rowOf_190 : decode cX12_rowOf 190 = .ok (.ixor, 1) := dk_130 (dk_at dksX12_rowOf_8 0 rfl rfl)
theorem dX12_rowOf_191 : decode cX12_rowOf 191 = .ok (.iand, 1) := dk_126 (dk_at dksX12_rowOf_8 1 rfl rfl)
theorem dX12_rowOf_192 : decode cX12_rowOf 192 = .ok (.istore 5, 2) := dk_54 5 (dk_at dksX12_rowOf_8 2 rfl rfl)
theorem dX12_rowOf_194 : decode cX12_rowOf 194 = .ok (.goto (-180), 3) := dk_167 255 76 (dk_at dksX12_rowOf_8 4 rfl rfl)
theorem dX12_rowOf_197 : decode cX12_rowOf 197 = .ok (.return_, 1) := dk_177 (dk_at dksX12_rowOf_8 7 rfl rfl)
abbrev cX12_may : ByteArray := prog_25_method_78_code
def yX12_may : MethodName := ⟨RX12, "may", "(III)I"⟩
def dkwX12_may_7 : List UInt8 := [172]
abbrev dktX12_may_7 : List UInt8 := dkwX12_may_7 ++ []
def dkwX12_may_6 : List UInt8 := [182, 1, 149, 54, 6, 21, 6, 2, 160, 0, 5, 3, 172, 21, 10, 54, 5, 132, 7, 1, 167, 255, 147, 4]
abbrev dktX12_may_6 : List UInt8 := dkwX12_may_6 ++ dktX12_may_7
def dkwX12_may_5 : List UInt8 := [154, 0, 5, 3, 172, 21, 4, 4, 21, 10, 120, 128, 54, 4, 42, 21, 5, 21, 6, 21, 10, 29]
abbrev dktX12_may_5 : List UInt8 := dkwX12_may_5 ++ dktX12_may_6
def dkwX12_may_4 : List UInt8 := [22, 8, 136, 54, 10, 21, 4, 21, 10, 184, 1, 38, 154, 0, 13, 42, 180, 0, 43, 21, 10, 46]
abbrev dktX12_may_4 : List UInt8 := dkwX12_may_4 ++ dktX12_may_5
def dkwX12_may_3 : List UInt8 := [47, 55, 8, 22, 8, 9, 42, 180, 0, 13, 3, 46, 4, 100, 133, 184, 0, 101, 154, 0, 5, 3, 172]
abbrev dktX12_may_3 : List UInt8 := dkwX12_may_3 ++ dktX12_may_4
def dkwX12_may_2 : List UInt8 := [54, 7, 21, 7, 42, 180, 0, 86, 27, 46, 162, 0, 104, 42, 180, 0, 92, 16, 60, 27, 104, 21, 7, 96]
abbrev dktX12_may_2 : List UInt8 := dkwX12_may_2 ++ dktX12_may_3
def dkwX12_may_1 : List UInt8 := [46, 2, 160, 0, 6, 16, 250, 172, 42, 28, 182, 1, 134, 3, 54, 4, 28, 54, 5, 3, 54, 6, 3]
abbrev dktX12_may_1 : List UInt8 := dkwX12_may_1 ++ dktX12_may_2
def dkwX12_may_0 : List UInt8 := [27, 184, 1, 115, 153, 0, 12, 42, 28, 29, 182, 1, 173, 154, 0, 6, 16, 254, 172, 42, 180, 0, 86, 27]
abbrev dktX12_may_0 : List UInt8 := dkwX12_may_0 ++ dktX12_may_1
theorem dksX12_may_0 : cX12_may.data.toList.drop 0 = dktX12_may_0 := by decide +kernel
theorem dksX12_may_1 : cX12_may.data.toList.drop 24 = dktX12_may_1 := dk_seg dksX12_may_0 24 rfl rfl
theorem dksX12_may_2 : cX12_may.data.toList.drop 47 = dktX12_may_2 := dk_seg dksX12_may_1 23 rfl rfl
theorem dksX12_may_3 : cX12_may.data.toList.drop 71 = dktX12_may_3 := dk_seg dksX12_may_2 24 rfl rfl
theorem dksX12_may_4 : cX12_may.data.toList.drop 94 = dktX12_may_4 := dk_seg dksX12_may_3 23 rfl rfl
theorem dksX12_may_5 : cX12_may.data.toList.drop 116 = dktX12_may_5 := dk_seg dksX12_may_4 22 rfl rfl
theorem dksX12_may_6 : cX12_may.data.toList.drop 138 = dktX12_may_6 := dk_seg dksX12_may_5 22 rfl rfl
theorem dksX12_may_7 : cX12_may.data.toList.drop 162 = dktX12_may_7 := dk_seg dksX12_may_6 24 rfl rfl
theorem dX12_may_0 : decode cX12_may 0 = .ok (.iload_n 1, 1) := dk_27 (dk_at dksX12_may_0 0 rfl rfl)
theorem dX12_may_1 : decode cX12_may 1 = .ok (.invokestatic 371, 3) := dk_184 1 115 (dk_at dksX12_may_0 1 rfl rfl)
theorem dX12_may_4 : decode cX12_may 4 = .ok (.ifCond .eq 12, 3) := dk_153 0 12 (dk_at dksX12_may_0 4 rfl rfl)
theorem dX12_may_7 : decode cX12_may 7 = .ok (.aload_n 0, 1) := dk_42 (dk_at dksX12_may_0 7 rfl rfl)
theorem dX12_may_8 : decode cX12_may 8 = .ok (.iload_n 2, 1) := dk_28 (dk_at dksX12_may_0 8 rfl rfl)
theorem dX12_may_9 : decode cX12_may 9 = .ok (.iload_n 3, 1) := dk_29 (dk_at dksX12_may_0 9 rfl rfl)
theorem dX12_may_10 : decode cX12_may 10 = .ok (.invokevirtual 429, 3) := dk_182 1 173 (dk_at dksX12_may_0 10 rfl rfl)
theorem dX12_may_13 : decode cX12_may 13 = .ok (.ifCond .ne 6, 3) := dk_154 0 6 (dk_at dksX12_may_0 13 rfl rfl)
theorem dX12_may_16 : decode cX12_may 16 = .ok (.bipush (-2), 2) := dk_16 254 (dk_at dksX12_may_0 16 rfl rfl)
theorem dX12_may_18 : decode cX12_may 18 = .ok (.ireturn, 1) := dk_172 (dk_at dksX12_may_0 18 rfl rfl)
theorem dX12_may_19 : decode cX12_may 19 = .ok (.aload_n 0, 1) := dk_42 (dk_at dksX12_may_0 19 rfl rfl)
theorem dX12_may_20 : decode cX12_may 20 = .ok (.getfield 86, 3) := dk_180 0 86 (dk_at dksX12_may_0 20 rfl rfl)
theorem dX12_may_23 : decode cX12_may 23 = .ok (.iload_n 1, 1) := dk_27 (dk_at dksX12_may_0 23 rfl rfl)
theorem dX12_may_24 : decode cX12_may 24 = .ok (.iaload, 1) := dk_46 (dk_at dksX12_may_1 0 rfl rfl)
theorem dX12_may_25 : decode cX12_may 25 = .ok (.iconst (-1), 1) := dk_2 (dk_at dksX12_may_1 1 rfl rfl)
theorem dX12_may_26 : decode cX12_may 26 = .ok (.if_icmp .ne 6, 3) := dk_160 0 6 (dk_at dksX12_may_1 2 rfl rfl)
theorem dX12_may_29 : decode cX12_may 29 = .ok (.bipush (-6), 2) := dk_16 250 (dk_at dksX12_may_1 5 rfl rfl)
theorem dX12_may_31 : decode cX12_may 31 = .ok (.ireturn, 1) := dk_172 (dk_at dksX12_may_1 7 rfl rfl)
theorem dX12_may_32 : decode cX12_may 32 = .ok (.aload_n 0, 1) := dk_42 (dk_at dksX12_may_1 8 rfl rfl)
theorem dX12_may_33 : decode cX12_may 33 = .ok (.iload_n 2, 1) := dk_28 (dk_at dksX12_may_1 9 rfl rfl)
theorem dX12_may_34 : decode cX12_may 34 = .ok (.invokevirtual 390, 3) := dk_182 1 134 (dk_at dksX12_may_1 10 rfl rfl)
theorem dX12_may_37 : decode cX12_may 37 = .ok (.iconst 0, 1) := dk_3 (dk_at dksX12_may_1 13 rfl rfl)
theorem dX12_may_38 : decode cX12_may 38 = .ok (.istore 4, 2) := dk_54 4 (dk_at dksX12_may_1 14 rfl rfl)
theorem dX12_may_40 : decode cX12_may 40 = .ok (.iload_n 2, 1) := dk_28 (dk_at dksX12_may_1 16 rfl rfl)
theorem dX12_may_41 : decode cX12_may 41 = .ok (.istore 5, 2) := dk_54 5 (dk_at dksX12_may_1 17 rfl rfl)
theorem dX12_may_43 : decode cX12_may 43 = .ok (.iconst 0, 1) := dk_3 (dk_at dksX12_may_1 19 rfl rfl)
theorem dX12_may_44 : decode cX12_may 44 = .ok (.istore 6, 2) := dk_54 6 (dk_at dksX12_may_1 20 rfl rfl)
theorem dX12_may_46 : decode cX12_may 46 = .ok (.iconst 0, 1) := dk_3 (dk_at dksX12_may_1 22 rfl rfl)
theorem dX12_may_47 : decode cX12_may 47 = .ok (.istore 7, 2) := dk_54 7 (dk_at dksX12_may_2 0 rfl rfl)
theorem dX12_may_49 : decode cX12_may 49 = .ok (.iload 7, 2) := dk_21 7 (dk_at dksX12_may_2 2 rfl rfl)
theorem dX12_may_51 : decode cX12_may 51 = .ok (.aload_n 0, 1) := dk_42 (dk_at dksX12_may_2 4 rfl rfl)
theorem dX12_may_52 : decode cX12_may 52 = .ok (.getfield 86, 3) := dk_180 0 86 (dk_at dksX12_may_2 5 rfl rfl)
theorem dX12_may_55 : decode cX12_may 55 = .ok (.iload_n 1, 1) := dk_27 (dk_at dksX12_may_2 8 rfl rfl)
theorem dX12_may_56 : decode cX12_may 56 = .ok (.iaload, 1) := dk_46 (dk_at dksX12_may_2 9 rfl rfl)
theorem dX12_may_57 : decode cX12_may 57 = .ok (.if_icmp .ge 104, 3) := dk_162 0 104 (dk_at dksX12_may_2 10 rfl rfl)
theorem dX12_may_60 : decode cX12_may 60 = .ok (.aload_n 0, 1) := dk_42 (dk_at dksX12_may_2 13 rfl rfl)
theorem dX12_may_61 : decode cX12_may 61 = .ok (.getfield 92, 3) := dk_180 0 92 (dk_at dksX12_may_2 14 rfl rfl)
theorem dX12_may_64 : decode cX12_may 64 = .ok (.bipush 60, 2) := dk_16 60 (dk_at dksX12_may_2 17 rfl rfl)
theorem dX12_may_66 : decode cX12_may 66 = .ok (.iload_n 1, 1) := dk_27 (dk_at dksX12_may_2 19 rfl rfl)
theorem dX12_may_67 : decode cX12_may 67 = .ok (.imul, 1) := dk_104 (dk_at dksX12_may_2 20 rfl rfl)
theorem dX12_may_68 : decode cX12_may 68 = .ok (.iload 7, 2) := dk_21 7 (dk_at dksX12_may_2 21 rfl rfl)
theorem dX12_may_70 : decode cX12_may 70 = .ok (.iadd, 1) := dk_96 (dk_at dksX12_may_2 23 rfl rfl)
theorem dX12_may_71 : decode cX12_may 71 = .ok (.laload, 1) := dk_47 (dk_at dksX12_may_3 0 rfl rfl)
theorem dX12_may_72 : decode cX12_may 72 = .ok (.lstore 8, 2) := dk_55 8 (dk_at dksX12_may_3 1 rfl rfl)
theorem dX12_may_74 : decode cX12_may 74 = .ok (.lload 8, 2) := dk_22 8 (dk_at dksX12_may_3 3 rfl rfl)
theorem dX12_may_76 : decode cX12_may 76 = .ok (.lconst 0, 1) := dk_9 (dk_at dksX12_may_3 5 rfl rfl)
theorem dX12_may_77 : decode cX12_may 77 = .ok (.aload_n 0, 1) := dk_42 (dk_at dksX12_may_3 6 rfl rfl)
theorem dX12_may_78 : decode cX12_may 78 = .ok (.getfield 13, 3) := dk_180 0 13 (dk_at dksX12_may_3 7 rfl rfl)
theorem dX12_may_81 : decode cX12_may 81 = .ok (.iconst 0, 1) := dk_3 (dk_at dksX12_may_3 10 rfl rfl)
theorem dX12_may_82 : decode cX12_may 82 = .ok (.iaload, 1) := dk_46 (dk_at dksX12_may_3 11 rfl rfl)
theorem dX12_may_83 : decode cX12_may 83 = .ok (.iconst 1, 1) := dk_4 (dk_at dksX12_may_3 12 rfl rfl)
theorem dX12_may_84 : decode cX12_may 84 = .ok (.isub, 1) := dk_100 (dk_at dksX12_may_3 13 rfl rfl)
theorem dX12_may_85 : decode cX12_may 85 = .ok (.i2l, 1) := dk_133 (dk_at dksX12_may_3 14 rfl rfl)
theorem dX12_may_86 : decode cX12_may 86 = .ok (.invokestatic 101, 3) := dk_184 0 101 (dk_at dksX12_may_3 15 rfl rfl)
theorem dX12_may_89 : decode cX12_may 89 = .ok (.ifCond .ne 5, 3) := dk_154 0 5 (dk_at dksX12_may_3 18 rfl rfl)
theorem dX12_may_92 : decode cX12_may 92 = .ok (.iconst 0, 1) := dk_3 (dk_at dksX12_may_3 21 rfl rfl)
theorem dX12_may_93 : decode cX12_may 93 = .ok (.ireturn, 1) := dk_172 (dk_at dksX12_may_3 22 rfl rfl)
theorem dX12_may_94 : decode cX12_may 94 = .ok (.lload 8, 2) := dk_22 8 (dk_at dksX12_may_4 0 rfl rfl)
theorem dX12_may_96 : decode cX12_may 96 = .ok (.l2i, 1) := dk_136 (dk_at dksX12_may_4 2 rfl rfl)
theorem dX12_may_97 : decode cX12_may 97 = .ok (.istore 10, 2) := dk_54 10 (dk_at dksX12_may_4 3 rfl rfl)
theorem dX12_may_99 : decode cX12_may 99 = .ok (.iload 4, 2) := dk_21 4 (dk_at dksX12_may_4 5 rfl rfl)
theorem dX12_may_101 : decode cX12_may 101 = .ok (.iload 10, 2) := dk_21 10 (dk_at dksX12_may_4 7 rfl rfl)
theorem dX12_may_103 : decode cX12_may 103 = .ok (.invokestatic 294, 3) := dk_184 1 38 (dk_at dksX12_may_4 9 rfl rfl)
theorem dX12_may_106 : decode cX12_may 106 = .ok (.ifCond .ne 13, 3) := dk_154 0 13 (dk_at dksX12_may_4 12 rfl rfl)
theorem dX12_may_109 : decode cX12_may 109 = .ok (.aload_n 0, 1) := dk_42 (dk_at dksX12_may_4 15 rfl rfl)
theorem dX12_may_110 : decode cX12_may 110 = .ok (.getfield 43, 3) := dk_180 0 43 (dk_at dksX12_may_4 16 rfl rfl)
theorem dX12_may_113 : decode cX12_may 113 = .ok (.iload 10, 2) := dk_21 10 (dk_at dksX12_may_4 19 rfl rfl)
theorem dX12_may_115 : decode cX12_may 115 = .ok (.iaload, 1) := dk_46 (dk_at dksX12_may_4 21 rfl rfl)
theorem dX12_may_116 : decode cX12_may 116 = .ok (.ifCond .ne 5, 3) := dk_154 0 5 (dk_at dksX12_may_5 0 rfl rfl)
theorem dX12_may_119 : decode cX12_may 119 = .ok (.iconst 0, 1) := dk_3 (dk_at dksX12_may_5 3 rfl rfl)
theorem dX12_may_120 : decode cX12_may 120 = .ok (.ireturn, 1) := dk_172 (dk_at dksX12_may_5 4 rfl rfl)
theorem dX12_may_121 : decode cX12_may 121 = .ok (.iload 4, 2) := dk_21 4 (dk_at dksX12_may_5 5 rfl rfl)
theorem dX12_may_123 : decode cX12_may 123 = .ok (.iconst 1, 1) := dk_4 (dk_at dksX12_may_5 7 rfl rfl)
theorem dX12_may_124 : decode cX12_may 124 = .ok (.iload 10, 2) := dk_21 10 (dk_at dksX12_may_5 8 rfl rfl)
theorem dX12_may_126 : decode cX12_may 126 = .ok (.ishl, 1) := dk_120 (dk_at dksX12_may_5 10 rfl rfl)
theorem dX12_may_127 : decode cX12_may 127 = .ok (.ior, 1) := dk_128 (dk_at dksX12_may_5 11 rfl rfl)
theorem dX12_may_128 : decode cX12_may 128 = .ok (.istore 4, 2) := dk_54 4 (dk_at dksX12_may_5 12 rfl rfl)
theorem dX12_may_130 : decode cX12_may 130 = .ok (.aload_n 0, 1) := dk_42 (dk_at dksX12_may_5 14 rfl rfl)
theorem dX12_may_131 : decode cX12_may 131 = .ok (.iload 5, 2) := dk_21 5 (dk_at dksX12_may_5 15 rfl rfl)
theorem dX12_may_133 : decode cX12_may 133 = .ok (.iload 6, 2) := dk_21 6 (dk_at dksX12_may_5 17 rfl rfl)
theorem dX12_may_135 : decode cX12_may 135 = .ok (.iload 10, 2) := dk_21 10 (dk_at dksX12_may_5 19 rfl rfl)
theorem dX12_may_137 : decode cX12_may 137 = .ok (.iload_n 3, 1) := dk_29 (dk_at dksX12_may_5 21 rfl rfl)
theorem dX12_may_138 : decode cX12_may 138 = .ok (.invokevirtual 405, 3) := dk_182 1 149 (dk_at dksX12_may_6 0 rfl rfl)
theorem dX12_may_141 : decode cX12_may 141 = .ok (.istore 6, 2) := dk_54 6 (dk_at dksX12_may_6 3 rfl rfl)
theorem dX12_may_143 : decode cX12_may 143 = .ok (.iload 6, 2) := dk_21 6 (dk_at dksX12_may_6 5 rfl rfl)
theorem dX12_may_145 : decode cX12_may 145 = .ok (.iconst (-1), 1) := dk_2 (dk_at dksX12_may_6 7 rfl rfl)
theorem dX12_may_146 : decode cX12_may 146 = .ok (.if_icmp .ne 5, 3) := dk_160 0 5 (dk_at dksX12_may_6 8 rfl rfl)
theorem dX12_may_149 : decode cX12_may 149 = .ok (.iconst 0, 1) := dk_3 (dk_at dksX12_may_6 11 rfl rfl)
theorem dX12_may_150 : decode cX12_may 150 = .ok (.ireturn, 1) := dk_172 (dk_at dksX12_may_6 12 rfl rfl)
theorem dX12_may_151 : decode cX12_may 151 = .ok (.iload 10, 2) := dk_21 10 (dk_at dksX12_may_6 13 rfl rfl)
theorem dX12_may_153 : decode cX12_may 153 = .ok (.istore 5, 2) := dk_54 5 (dk_at dksX12_may_6 15 rfl rfl)
theorem dX12_may_155 : decode cX12_may 155 = .ok (.iinc 7 1, 3) := dk_132 7 1 (dk_at dksX12_may_6 17 rfl rfl)
theorem dX12_may_158 : decode cX12_may 158 = .ok (.goto (-109), 3) := dk_167 255 147 (dk_at dksX12_may_6 20 rfl rfl)
theorem dX12_may_161 : decode cX12_may 161 = .ok (.iconst 1, 1) := dk_4 (dk_at dksX12_may_6 23 rfl rfl)
theorem dX12_may_162 : decode cX12_may 162 = .ok (.ireturn, 1) := dk_172 (dk_at dksX12_may_7 0 rfl rfl)
abbrev cX12_fewest : ByteArray := prog_25_method_81_code
def yX12_fewest : MethodName := ⟨RX12, "fewest", "(I)I"⟩
def dkwX12_fewest_11 : List UInt8 := [180, 0, 58, 28, 46, 172]
abbrev dktX12_fewest_11 : List UInt8 := dkwX12_fewest_11 ++ []
def dkwX12_fewest_10 : List UInt8 := [4, 96, 79, 132, 5, 1, 167, 255, 177, 132, 4, 255, 167, 255, 149, 132, 3, 1, 167, 255, 60, 42]
abbrev dktX12_fewest_10 : List UInt8 := dkwX12_fewest_10 ++ dktX12_fewest_11
def dkwX12_fewest_9 : List UInt8 := [180, 0, 58, 21, 4, 46, 4, 96, 164, 0, 19, 42, 180, 0, 58, 21, 6, 42, 180, 0, 58, 21, 4, 46]
abbrev dktX12_fewest_9 : List UInt8 := dkwX12_fewest_9 ++ dktX12_fewest_10
def dkwX12_fewest_8 : List UInt8 := [21, 4, 159, 0, 49, 42, 180, 0, 58, 21, 6, 46, 2, 159, 0, 22, 42, 180, 0, 58, 21, 6, 46, 42]
abbrev dktX12_fewest_8 : List UInt8 := dkwX12_fewest_8 ++ dktX12_fewest_9
def dkwX12_fewest_7 : List UInt8 := [4, 42, 180, 1, 137, 120, 162, 0, 74, 21, 4, 42, 180, 0, 61, 21, 5, 46, 128, 54, 6, 21, 6]
abbrev dktX12_fewest_7 : List UInt8 := dkwX12_fewest_7 ++ dktX12_fewest_8
def dkwX12_fewest_6 : List UInt8 := [21, 4, 155, 0, 108, 42, 180, 0, 58, 21, 4, 46, 2, 160, 0, 6, 167, 0, 88, 4, 54, 5, 21, 5]
abbrev dktX12_fewest_6 : List UInt8 := dkwX12_fewest_6 ++ dktX12_fewest_7
def dkwX12_fewest_5 : List UInt8 := [160, 0, 7, 3, 167, 0, 10, 42, 21, 4, 29, 182, 1, 188, 79, 132, 4, 1, 167, 255, 214, 28, 54, 4]
abbrev dktX12_fewest_5 : List UInt8 := dkwX12_fewest_5 ++ dktX12_fewest_6
def dkwX12_fewest_4 : List UInt8 := [21, 4, 4, 42, 180, 1, 137, 120, 162, 0, 37, 42, 180, 0, 61, 21, 4, 42, 21, 4, 182, 1, 168, 2]
abbrev dktX12_fewest_4 : List UInt8 := dkwX12_fewest_4 ++ dktX12_fewest_5
def dkwX12_fewest_3 : List UInt8 := [184, 0, 139, 163, 0, 185, 42, 27, 3, 4, 42, 180, 1, 137, 120, 4, 100, 29, 182, 1, 155, 4, 54, 4]
abbrev dktX12_fewest_3 : List UInt8 := dkwX12_fewest_3 ++ dktX12_fewest_4
def dkwX12_fewest_2 : List UInt8 := [132, 3, 1, 167, 255, 233, 42, 182, 1, 35, 62, 29, 17, 1, 143, 42, 182, 1, 35, 16, 6, 96]
abbrev dktX12_fewest_2 : List UInt8 := dkwX12_fewest_2 ++ dktX12_fewest_3
def dkwX12_fewest_1 : List UInt8 := [61, 3, 62, 29, 28, 163, 0, 24, 42, 180, 0, 58, 29, 29, 154, 0, 7, 3, 167, 0, 4, 2, 79]
abbrev dktX12_fewest_1 : List UInt8 := dkwX12_fewest_1 ++ dktX12_fewest_2
def dkwX12_fewest_0 : List UInt8 := [42, 27, 182, 0, 105, 154, 0, 6, 16, 254, 172, 42, 27, 182, 1, 185, 4, 42, 180, 1, 182, 120, 4, 100]
abbrev dktX12_fewest_0 : List UInt8 := dkwX12_fewest_0 ++ dktX12_fewest_1
theorem dksX12_fewest_0 : cX12_fewest.data.toList.drop 0 = dktX12_fewest_0 := by decide +kernel
theorem dksX12_fewest_1 : cX12_fewest.data.toList.drop 24 = dktX12_fewest_1 := dk_seg dksX12_fewest_0 24 rfl rfl
theorem dksX12_fewest_2 : cX12_fewest.data.toList.drop 47 = dktX12_fewest_2 := dk_seg dksX12_fewest_1 23 rfl rfl
theorem dksX12_fewest_3 : cX12_fewest.data.toList.drop 69 = dktX12_fewest_3 := dk_seg dksX12_fewest_2 22 rfl rfl
theorem dksX12_fewest_4 : cX12_fewest.data.toList.drop 93 = dktX12_fewest_4 := dk_seg dksX12_fewest_3 24 rfl rfl
theorem dksX12_fewest_5 : cX12_fewest.data.toList.drop 117 = dktX12_fewest_5 := dk_seg dksX12_fewest_4 24 rfl rfl
theorem dksX12_fewest_6 : cX12_fewest.data.toList.drop 141 = dktX12_fewest_6 := dk_seg dksX12_fewest_5 24 rfl rfl
theorem dksX12_fewest_7 : cX12_fewest.data.toList.drop 165 = dktX12_fewest_7 := dk_seg dksX12_fewest_6 24 rfl rfl
theorem dksX12_fewest_8 : cX12_fewest.data.toList.drop 188 = dktX12_fewest_8 := dk_seg dksX12_fewest_7 23 rfl rfl
theorem dksX12_fewest_9 : cX12_fewest.data.toList.drop 212 = dktX12_fewest_9 := dk_seg dksX12_fewest_8 24 rfl rfl
theorem dksX12_fewest_10 : cX12_fewest.data.toList.drop 236 = dktX12_fewest_10 := dk_seg dksX12_fewest_9 24 rfl rfl
theorem dksX12_fewest_11 : cX12_fewest.data.toList.drop 258 = dktX12_fewest_11 := dk_seg dksX12_fewest_10 22 rfl rfl
theorem dX12_fewest_0 : decode cX12_fewest 0 = .ok (.aload_n 0, 1) := dk_42 (dk_at dksX12_fewest_0 0 rfl rfl)
theorem dX12_fewest_1 : decode cX12_fewest 1 = .ok (.iload_n 1, 1) := dk_27 (dk_at dksX12_fewest_0 1 rfl rfl)
theorem dX12_fewest_2 : decode cX12_fewest 2 = .ok (.invokevirtual 105, 3) := dk_182 0 105 (dk_at dksX12_fewest_0 2 rfl rfl)
theorem dX12_fewest_5 : decode cX12_fewest 5 = .ok (.ifCond .ne 6, 3) := dk_154 0 6 (dk_at dksX12_fewest_0 5 rfl rfl)
theorem dX12_fewest_8 : decode cX12_fewest 8 = .ok (.bipush (-2), 2) := dk_16 254 (dk_at dksX12_fewest_0 8 rfl rfl)
theorem dX12_fewest_10 : decode cX12_fewest 10 = .ok (.ireturn, 1) := dk_172 (dk_at dksX12_fewest_0 10 rfl rfl)
theorem dX12_fewest_11 : decode cX12_fewest 11 = .ok (.aload_n 0, 1) := dk_42 (dk_at dksX12_fewest_0 11 rfl rfl)
theorem dX12_fewest_12 : decode cX12_fewest 12 = .ok (.iload_n 1, 1) := dk_27 (dk_at dksX12_fewest_0 12 rfl rfl)
theorem dX12_fewest_13 : decode cX12_fewest 13 = .ok (.invokevirtual 441, 3) := dk_182 1 185 (dk_at dksX12_fewest_0 13 rfl rfl)
theorem dX12_fewest_16 : decode cX12_fewest 16 = .ok (.iconst 1, 1) := dk_4 (dk_at dksX12_fewest_0 16 rfl rfl)
theorem dX12_fewest_17 : decode cX12_fewest 17 = .ok (.aload_n 0, 1) := dk_42 (dk_at dksX12_fewest_0 17 rfl rfl)
theorem dX12_fewest_18 : decode cX12_fewest 18 = .ok (.getfield 438, 3) := dk_180 1 182 (dk_at dksX12_fewest_0 18 rfl rfl)
theorem dX12_fewest_21 : decode cX12_fewest 21 = .ok (.ishl, 1) := dk_120 (dk_at dksX12_fewest_0 21 rfl rfl)
theorem dX12_fewest_22 : decode cX12_fewest 22 = .ok (.iconst 1, 1) := dk_4 (dk_at dksX12_fewest_0 22 rfl rfl)
theorem dX12_fewest_23 : decode cX12_fewest 23 = .ok (.isub, 1) := dk_100 (dk_at dksX12_fewest_0 23 rfl rfl)
theorem dX12_fewest_24 : decode cX12_fewest 24 = .ok (.istore_n 2, 1) := dk_61 (dk_at dksX12_fewest_1 0 rfl rfl)
theorem dX12_fewest_25 : decode cX12_fewest 25 = .ok (.iconst 0, 1) := dk_3 (dk_at dksX12_fewest_1 1 rfl rfl)
theorem dX12_fewest_26 : decode cX12_fewest 26 = .ok (.istore_n 3, 1) := dk_62 (dk_at dksX12_fewest_1 2 rfl rfl)
theorem dX12_fewest_27 : decode cX12_fewest 27 = .ok (.iload_n 3, 1) := dk_29 (dk_at dksX12_fewest_1 3 rfl rfl)
theorem dX12_fewest_28 : decode cX12_fewest 28 = .ok (.iload_n 2, 1) := dk_28 (dk_at dksX12_fewest_1 4 rfl rfl)
theorem dX12_fewest_29 : decode cX12_fewest 29 = .ok (.if_icmp .gt 24, 3) := dk_163 0 24 (dk_at dksX12_fewest_1 5 rfl rfl)
theorem dX12_fewest_32 : decode cX12_fewest 32 = .ok (.aload_n 0, 1) := dk_42 (dk_at dksX12_fewest_1 8 rfl rfl)
theorem dX12_fewest_33 : decode cX12_fewest 33 = .ok (.getfield 58, 3) := dk_180 0 58 (dk_at dksX12_fewest_1 9 rfl rfl)
theorem dX12_fewest_36 : decode cX12_fewest 36 = .ok (.iload_n 3, 1) := dk_29 (dk_at dksX12_fewest_1 12 rfl rfl)
theorem dX12_fewest_37 : decode cX12_fewest 37 = .ok (.iload_n 3, 1) := dk_29 (dk_at dksX12_fewest_1 13 rfl rfl)
theorem dX12_fewest_38 : decode cX12_fewest 38 = .ok (.ifCond .ne 7, 3) := dk_154 0 7 (dk_at dksX12_fewest_1 14 rfl rfl)
theorem dX12_fewest_41 : decode cX12_fewest 41 = .ok (.iconst 0, 1) := dk_3 (dk_at dksX12_fewest_1 17 rfl rfl)
theorem dX12_fewest_42 : decode cX12_fewest 42 = .ok (.goto 4, 3) := dk_167 0 4 (dk_at dksX12_fewest_1 18 rfl rfl)
theorem dX12_fewest_45 : decode cX12_fewest 45 = .ok (.iconst (-1), 1) := dk_2 (dk_at dksX12_fewest_1 21 rfl rfl)
theorem dX12_fewest_46 : decode cX12_fewest 46 = .ok (.iastore, 1) := dk_79 (dk_at dksX12_fewest_1 22 rfl rfl)
theorem dX12_fewest_47 : decode cX12_fewest 47 = .ok (.iinc 3 1, 3) := dk_132 3 1 (dk_at dksX12_fewest_2 0 rfl rfl)
theorem dX12_fewest_50 : decode cX12_fewest 50 = .ok (.goto (-23), 3) := dk_167 255 233 (dk_at dksX12_fewest_2 3 rfl rfl)
theorem dX12_fewest_53 : decode cX12_fewest 53 = .ok (.aload_n 0, 1) := dk_42 (dk_at dksX12_fewest_2 6 rfl rfl)
theorem dX12_fewest_54 : decode cX12_fewest 54 = .ok (.invokevirtual 291, 3) := dk_182 1 35 (dk_at dksX12_fewest_2 7 rfl rfl)
theorem dX12_fewest_57 : decode cX12_fewest 57 = .ok (.istore_n 3, 1) := dk_62 (dk_at dksX12_fewest_2 10 rfl rfl)
theorem dX12_fewest_58 : decode cX12_fewest 58 = .ok (.iload_n 3, 1) := dk_29 (dk_at dksX12_fewest_2 11 rfl rfl)
theorem dX12_fewest_59 : decode cX12_fewest 59 = .ok (.sipush 399, 3) := dk_17 1 143 (dk_at dksX12_fewest_2 12 rfl rfl)
theorem dX12_fewest_62 : decode cX12_fewest 62 = .ok (.aload_n 0, 1) := dk_42 (dk_at dksX12_fewest_2 15 rfl rfl)
theorem dX12_fewest_63 : decode cX12_fewest 63 = .ok (.invokevirtual 291, 3) := dk_182 1 35 (dk_at dksX12_fewest_2 16 rfl rfl)
theorem dX12_fewest_66 : decode cX12_fewest 66 = .ok (.bipush 6, 2) := dk_16 6 (dk_at dksX12_fewest_2 19 rfl rfl)
theorem dX12_fewest_68 : decode cX12_fewest 68 = .ok (.iadd, 1) := dk_96 (dk_at dksX12_fewest_2 21 rfl rfl)
theorem dX12_fewest_69 : decode cX12_fewest 69 = .ok (.invokestatic 139, 3) := dk_184 0 139 (dk_at dksX12_fewest_3 0 rfl rfl)
theorem dX12_fewest_72 : decode cX12_fewest 72 = .ok (.if_icmp .gt 185, 3) := dk_163 0 185 (dk_at dksX12_fewest_3 3 rfl rfl)
theorem dX12_fewest_75 : decode cX12_fewest 75 = .ok (.aload_n 0, 1) := dk_42 (dk_at dksX12_fewest_3 6 rfl rfl)
theorem dX12_fewest_76 : decode cX12_fewest 76 = .ok (.iload_n 1, 1) := dk_27 (dk_at dksX12_fewest_3 7 rfl rfl)
theorem dX12_fewest_77 : decode cX12_fewest 77 = .ok (.iconst 0, 1) := dk_3 (dk_at dksX12_fewest_3 8 rfl rfl)
theorem dX12_fewest_78 : decode cX12_fewest 78 = .ok (.iconst 1, 1) := dk_4 (dk_at dksX12_fewest_3 9 rfl rfl)
theorem dX12_fewest_79 : decode cX12_fewest 79 = .ok (.aload_n 0, 1) := dk_42 (dk_at dksX12_fewest_3 10 rfl rfl)
theorem dX12_fewest_80 : decode cX12_fewest 80 = .ok (.getfield 393, 3) := dk_180 1 137 (dk_at dksX12_fewest_3 11 rfl rfl)
theorem dX12_fewest_83 : decode cX12_fewest 83 = .ok (.ishl, 1) := dk_120 (dk_at dksX12_fewest_3 14 rfl rfl)
theorem dX12_fewest_84 : decode cX12_fewest 84 = .ok (.iconst 1, 1) := dk_4 (dk_at dksX12_fewest_3 15 rfl rfl)
theorem dX12_fewest_85 : decode cX12_fewest 85 = .ok (.isub, 1) := dk_100 (dk_at dksX12_fewest_3 16 rfl rfl)
theorem dX12_fewest_86 : decode cX12_fewest 86 = .ok (.iload_n 3, 1) := dk_29 (dk_at dksX12_fewest_3 17 rfl rfl)
theorem dX12_fewest_87 : decode cX12_fewest 87 = .ok (.invokevirtual 411, 3) := dk_182 1 155 (dk_at dksX12_fewest_3 18 rfl rfl)
theorem dX12_fewest_90 : decode cX12_fewest 90 = .ok (.iconst 1, 1) := dk_4 (dk_at dksX12_fewest_3 21 rfl rfl)
theorem dX12_fewest_91 : decode cX12_fewest 91 = .ok (.istore 4, 2) := dk_54 4 (dk_at dksX12_fewest_3 22 rfl rfl)
theorem dX12_fewest_93 : decode cX12_fewest 93 = .ok (.iload 4, 2) := dk_21 4 (dk_at dksX12_fewest_4 0 rfl rfl)
theorem dX12_fewest_95 : decode cX12_fewest 95 = .ok (.iconst 1, 1) := dk_4 (dk_at dksX12_fewest_4 2 rfl rfl)
theorem dX12_fewest_96 : decode cX12_fewest 96 = .ok (.aload_n 0, 1) := dk_42 (dk_at dksX12_fewest_4 3 rfl rfl)
theorem dX12_fewest_97 : decode cX12_fewest 97 = .ok (.getfield 393, 3) := dk_180 1 137 (dk_at dksX12_fewest_4 4 rfl rfl)
theorem dX12_fewest_100 : decode cX12_fewest 100 = .ok (.ishl, 1) := dk_120 (dk_at dksX12_fewest_4 7 rfl rfl)
theorem dX12_fewest_101 : decode cX12_fewest 101 = .ok (.if_icmp .ge 37, 3) := dk_162 0 37 (dk_at dksX12_fewest_4 8 rfl rfl)
theorem dX12_fewest_104 : decode cX12_fewest 104 = .ok (.aload_n 0, 1) := dk_42 (dk_at dksX12_fewest_4 11 rfl rfl)
theorem dX12_fewest_105 : decode cX12_fewest 105 = .ok (.getfield 61, 3) := dk_180 0 61 (dk_at dksX12_fewest_4 12 rfl rfl)
theorem dX12_fewest_108 : decode cX12_fewest 108 = .ok (.iload 4, 2) := dk_21 4 (dk_at dksX12_fewest_4 15 rfl rfl)
theorem dX12_fewest_110 : decode cX12_fewest 110 = .ok (.aload_n 0, 1) := dk_42 (dk_at dksX12_fewest_4 17 rfl rfl)
theorem dX12_fewest_111 : decode cX12_fewest 111 = .ok (.iload 4, 2) := dk_21 4 (dk_at dksX12_fewest_4 18 rfl rfl)
theorem dX12_fewest_113 : decode cX12_fewest 113 = .ok (.invokevirtual 424, 3) := dk_182 1 168 (dk_at dksX12_fewest_4 20 rfl rfl)
theorem dX12_fewest_116 : decode cX12_fewest 116 = .ok (.iconst (-1), 1) := dk_2 (dk_at dksX12_fewest_4 23 rfl rfl)
theorem dX12_fewest_117 : decode cX12_fewest 117 = .ok (.if_icmp .ne 7, 3) := dk_160 0 7 (dk_at dksX12_fewest_5 0 rfl rfl)
theorem dX12_fewest_120 : decode cX12_fewest 120 = .ok (.iconst 0, 1) := dk_3 (dk_at dksX12_fewest_5 3 rfl rfl)
theorem dX12_fewest_121 : decode cX12_fewest 121 = .ok (.goto 10, 3) := dk_167 0 10 (dk_at dksX12_fewest_5 4 rfl rfl)
theorem dX12_fewest_124 : decode cX12_fewest 124 = .ok (.aload_n 0, 1) := dk_42 (dk_at dksX12_fewest_5 7 rfl rfl)
theorem dX12_fewest_125 : decode cX12_fewest 125 = .ok (.iload 4, 2) := dk_21 4 (dk_at dksX12_fewest_5 8 rfl rfl)
theorem dX12_fewest_127 : decode cX12_fewest 127 = .ok (.iload_n 3, 1) := dk_29 (dk_at dksX12_fewest_5 10 rfl rfl)
theorem dX12_fewest_128 : decode cX12_fewest 128 = .ok (.invokevirtual 444, 3) := dk_182 1 188 (dk_at dksX12_fewest_5 11 rfl rfl)
theorem dX12_fewest_131 : decode cX12_fewest 131 = .ok (.iastore, 1) := dk_79 (dk_at dksX12_fewest_5 14 rfl rfl)
theorem dX12_fewest_132 : decode cX12_fewest 132 = .ok (.iinc 4 1, 3) := dk_132 4 1 (dk_at dksX12_fewest_5 15 rfl rfl)
theorem dX12_fewest_135 : decode cX12_fewest 135 = .ok (.goto (-42), 3) := dk_167 255 214 (dk_at dksX12_fewest_5 18 rfl rfl)
theorem dX12_fewest_138 : decode cX12_fewest 138 = .ok (.iload_n 2, 1) := dk_28 (dk_at dksX12_fewest_5 21 rfl rfl)
theorem dX12_fewest_139 : decode cX12_fewest 139 = .ok (.istore 4, 2) := dk_54 4 (dk_at dksX12_fewest_5 22 rfl rfl)
theorem dX12_fewest_141 : decode cX12_fewest 141 = .ok (.iload 4, 2) := dk_21 4 (dk_at dksX12_fewest_6 0 rfl rfl)
theorem dX12_fewest_143 : decode cX12_fewest 143 = .ok (.ifCond .lt 108, 3) := dk_155 0 108 (dk_at dksX12_fewest_6 2 rfl rfl)
theorem dX12_fewest_146 : decode cX12_fewest 146 = .ok (.aload_n 0, 1) := dk_42 (dk_at dksX12_fewest_6 5 rfl rfl)
theorem dX12_fewest_147 : decode cX12_fewest 147 = .ok (.getfield 58, 3) := dk_180 0 58 (dk_at dksX12_fewest_6 6 rfl rfl)
theorem dX12_fewest_150 : decode cX12_fewest 150 = .ok (.iload 4, 2) := dk_21 4 (dk_at dksX12_fewest_6 9 rfl rfl)
theorem dX12_fewest_152 : decode cX12_fewest 152 = .ok (.iaload, 1) := dk_46 (dk_at dksX12_fewest_6 11 rfl rfl)
theorem dX12_fewest_153 : decode cX12_fewest 153 = .ok (.iconst (-1), 1) := dk_2 (dk_at dksX12_fewest_6 12 rfl rfl)
theorem dX12_fewest_154 : decode cX12_fewest 154 = .ok (.if_icmp .ne 6, 3) := dk_160 0 6 (dk_at dksX12_fewest_6 13 rfl rfl)
theorem dX12_fewest_157 : decode cX12_fewest 157 = .ok (.goto 88, 3) := dk_167 0 88 (dk_at dksX12_fewest_6 16 rfl rfl)
theorem dX12_fewest_160 : decode cX12_fewest 160 = .ok (.iconst 1, 1) := dk_4 (dk_at dksX12_fewest_6 19 rfl rfl)
theorem dX12_fewest_161 : decode cX12_fewest 161 = .ok (.istore 5, 2) := dk_54 5 (dk_at dksX12_fewest_6 20 rfl rfl)
theorem dX12_fewest_163 : decode cX12_fewest 163 = .ok (.iload 5, 2) := dk_21 5 (dk_at dksX12_fewest_6 22 rfl rfl)
theorem dX12_fewest_165 : decode cX12_fewest 165 = .ok (.iconst 1, 1) := dk_4 (dk_at dksX12_fewest_7 0 rfl rfl)
theorem dX12_fewest_166 : decode cX12_fewest 166 = .ok (.aload_n 0, 1) := dk_42 (dk_at dksX12_fewest_7 1 rfl rfl)
theorem dX12_fewest_167 : decode cX12_fewest 167 = .ok (.getfield 393, 3) := dk_180 1 137 (dk_at dksX12_fewest_7 2 rfl rfl)
theorem dX12_fewest_170 : decode cX12_fewest 170 = .ok (.ishl, 1) := dk_120 (dk_at dksX12_fewest_7 5 rfl rfl)
theorem dX12_fewest_171 : decode cX12_fewest 171 = .ok (.if_icmp .ge 74, 3) := dk_162 0 74 (dk_at dksX12_fewest_7 6 rfl rfl)
theorem dX12_fewest_174 : decode cX12_fewest 174 = .ok (.iload 4, 2) := dk_21 4 (dk_at dksX12_fewest_7 9 rfl rfl)
theorem dX12_fewest_176 : decode cX12_fewest 176 = .ok (.aload_n 0, 1) := dk_42 (dk_at dksX12_fewest_7 11 rfl rfl)
theorem dX12_fewest_177 : decode cX12_fewest 177 = .ok (.getfield 61, 3) := dk_180 0 61 (dk_at dksX12_fewest_7 12 rfl rfl)
theorem dX12_fewest_180 : decode cX12_fewest 180 = .ok (.iload 5, 2) := dk_21 5 (dk_at dksX12_fewest_7 15 rfl rfl)
theorem dX12_fewest_182 : decode cX12_fewest 182 = .ok (.iaload, 1) := dk_46 (dk_at dksX12_fewest_7 17 rfl rfl)
theorem dX12_fewest_183 : decode cX12_fewest 183 = .ok (.ior, 1) := dk_128 (dk_at dksX12_fewest_7 18 rfl rfl)
theorem dX12_fewest_184 : decode cX12_fewest 184 = .ok (.istore 6, 2) := dk_54 6 (dk_at dksX12_fewest_7 19 rfl rfl)
theorem dX12_fewest_186 : decode cX12_fewest 186 = .ok (.iload 6, 2) := dk_21 6 (dk_at dksX12_fewest_7 21 rfl rfl)
theorem dX12_fewest_188 : decode cX12_fewest 188 = .ok (.iload 4, 2) := dk_21 4 (dk_at dksX12_fewest_8 0 rfl rfl)
theorem dX12_fewest_190 : decode cX12_fewest 190 = .ok (.if_icmp .eq 49, 3) := dk_159 0 49 (dk_at dksX12_fewest_8 2 rfl rfl)
theorem dX12_fewest_193 : decode cX12_fewest 193 = .ok (.aload_n 0, 1) := dk_42 (dk_at dksX12_fewest_8 5 rfl rfl)
theorem dX12_fewest_194 : decode cX12_fewest 194 = .ok (.getfield 58, 3) := dk_180 0 58 (dk_at dksX12_fewest_8 6 rfl rfl)
theorem dX12_fewest_197 : decode cX12_fewest 197 = .ok (.iload 6, 2) := dk_21 6 (dk_at dksX12_fewest_8 9 rfl rfl)
theorem dX12_fewest_199 : decode cX12_fewest 199 = .ok (.iaload, 1) := dk_46 (dk_at dksX12_fewest_8 11 rfl rfl)
theorem dX12_fewest_200 : decode cX12_fewest 200 = .ok (.iconst (-1), 1) := dk_2 (dk_at dksX12_fewest_8 12 rfl rfl)
theorem dX12_fewest_201 : decode cX12_fewest 201 = .ok (.if_icmp .eq 22, 3) := dk_159 0 22 (dk_at dksX12_fewest_8 13 rfl rfl)
theorem dX12_fewest_204 : decode cX12_fewest 204 = .ok (.aload_n 0, 1) := dk_42 (dk_at dksX12_fewest_8 16 rfl rfl)
theorem dX12_fewest_205 : decode cX12_fewest 205 = .ok (.getfield 58, 3) := dk_180 0 58 (dk_at dksX12_fewest_8 17 rfl rfl)
theorem dX12_fewest_208 : decode cX12_fewest 208 = .ok (.iload 6, 2) := dk_21 6 (dk_at dksX12_fewest_8 20 rfl rfl)
theorem dX12_fewest_210 : decode cX12_fewest 210 = .ok (.iaload, 1) := dk_46 (dk_at dksX12_fewest_8 22 rfl rfl)
theorem dX12_fewest_211 : decode cX12_fewest 211 = .ok (.aload_n 0, 1) := dk_42 (dk_at dksX12_fewest_8 23 rfl rfl)
theorem dX12_fewest_212 : decode cX12_fewest 212 = .ok (.getfield 58, 3) := dk_180 0 58 (dk_at dksX12_fewest_9 0 rfl rfl)
theorem dX12_fewest_215 : decode cX12_fewest 215 = .ok (.iload 4, 2) := dk_21 4 (dk_at dksX12_fewest_9 3 rfl rfl)
theorem dX12_fewest_217 : decode cX12_fewest 217 = .ok (.iaload, 1) := dk_46 (dk_at dksX12_fewest_9 5 rfl rfl)
theorem dX12_fewest_218 : decode cX12_fewest 218 = .ok (.iconst 1, 1) := dk_4 (dk_at dksX12_fewest_9 6 rfl rfl)
theorem dX12_fewest_219 : decode cX12_fewest 219 = .ok (.iadd, 1) := dk_96 (dk_at dksX12_fewest_9 7 rfl rfl)
theorem dX12_fewest_220 : decode cX12_fewest 220 = .ok (.if_icmp .le 19, 3) := dk_164 0 19 (dk_at dksX12_fewest_9 8 rfl rfl)
theorem dX12_fewest_223 : decode cX12_fewest 223 = .ok (.aload_n 0, 1) := dk_42 (dk_at dksX12_fewest_9 11 rfl rfl)
theorem dX12_fewest_224 : decode cX12_fewest 224 = .ok (.getfield 58, 3) := dk_180 0 58 (dk_at dksX12_fewest_9 12 rfl rfl)
theorem dX12_fewest_227 : decode cX12_fewest 227 = .ok (.iload 6, 2) := dk_21 6 (dk_at dksX12_fewest_9 15 rfl rfl)
theorem dX12_fewest_229 : decode cX12_fewest 229 = .ok (.aload_n 0, 1) := dk_42 (dk_at dksX12_fewest_9 17 rfl rfl)
theorem dX12_fewest_230 : decode cX12_fewest 230 = .ok (.getfield 58, 3) := dk_180 0 58 (dk_at dksX12_fewest_9 18 rfl rfl)
theorem dX12_fewest_233 : decode cX12_fewest 233 = .ok (.iload 4, 2) := dk_21 4 (dk_at dksX12_fewest_9 21 rfl rfl)
theorem dX12_fewest_235 : decode cX12_fewest 235 = .ok (.iaload, 1) := dk_46 (dk_at dksX12_fewest_9 23 rfl rfl)
theorem dX12_fewest_236 : decode cX12_fewest 236 = .ok (.iconst 1, 1) := dk_4 (dk_at dksX12_fewest_10 0 rfl rfl)
theorem dX12_fewest_237 : decode cX12_fewest 237 = .ok (.iadd, 1) := dk_96 (dk_at dksX12_fewest_10 1 rfl rfl)
theorem dX12_fewest_238 : decode cX12_fewest 238 = .ok (.iastore, 1) := dk_79 (dk_at dksX12_fewest_10 2 rfl rfl)
theorem dX12_fewest_239 : decode cX12_fewest 239 = .ok (.iinc 5 1, 3) := dk_132 5 1 (dk_at dksX12_fewest_10 3 rfl rfl)
theorem dX12_fewest_242 : decode cX12_fewest 242 = .ok (.goto (-79), 3) := dk_167 255 177 (dk_at dksX12_fewest_10 6 rfl rfl)
theorem dX12_fewest_245 : decode cX12_fewest 245 = .ok (.iinc 4 (-1), 3) := dk_132 4 255 (dk_at dksX12_fewest_10 9 rfl rfl)
theorem dX12_fewest_248 : decode cX12_fewest 248 = .ok (.goto (-107), 3) := dk_167 255 149 (dk_at dksX12_fewest_10 12 rfl rfl)
theorem dX12_fewest_251 : decode cX12_fewest 251 = .ok (.iinc 3 1, 3) := dk_132 3 1 (dk_at dksX12_fewest_10 15 rfl rfl)
theorem dX12_fewest_254 : decode cX12_fewest 254 = .ok (.goto (-196), 3) := dk_167 255 60 (dk_at dksX12_fewest_10 18 rfl rfl)
theorem dX12_fewest_257 : decode cX12_fewest 257 = .ok (.aload_n 0, 1) := dk_42 (dk_at dksX12_fewest_10 21 rfl rfl)
theorem dX12_fewest_258 : decode cX12_fewest 258 = .ok (.getfield 58, 3) := dk_180 0 58 (dk_at dksX12_fewest_11 0 rfl rfl)
theorem dX12_fewest_261 : decode cX12_fewest 261 = .ok (.iload_n 2, 1) := dk_28 (dk_at dksX12_fewest_11 3 rfl rfl)
theorem dX12_fewest_262 : decode cX12_fewest 262 = .ok (.iaload, 1) := dk_46 (dk_at dksX12_fewest_11 4 rfl rfl)
theorem dX12_fewest_263 : decode cX12_fewest 263 = .ok (.ireturn, 1) := dk_172 (dk_at dksX12_fewest_11 5 rfl rfl)
abbrev cX12_listsTen : ByteArray := prog_25_method_79_code
def yX12_listsTen : MethodName := ⟨RX12, "listsTen", "(I)V"⟩
def dkwX12_listsTen_5 : List UInt8 := [29, 79, 42, 89, 180, 1, 137, 4, 96, 181, 1, 137, 132, 3, 1, 167, 255, 216, 177]
abbrev dktX12_listsTen_5 : List UInt8 := dkwX12_listsTen_5 ++ []
def dkwX12_listsTen_4 : List UInt8 := [16, 16, 162, 0, 40, 28, 29, 184, 1, 38, 154, 0, 6, 167, 0, 23, 42, 180, 0, 40, 42, 180, 1, 137]
abbrev dktX12_listsTen_4 : List UInt8 := dkwX12_listsTen_4 ++ dktX12_listsTen_5
def dkwX12_listsTen_3 : List UInt8 := [4, 42, 29, 4, 182, 1, 69, 120, 128, 61, 132, 3, 1, 167, 255, 189, 42, 3, 181, 1, 137, 3, 62, 29]
abbrev dktX12_listsTen_3 : List UInt8 := dkwX12_listsTen_3 ++ dktX12_listsTen_4
def dkwX12_listsTen_2 : List UInt8 := [167, 0, 34, 42, 180, 0, 55, 42, 180, 1, 182, 29, 79, 42, 89, 180, 1, 182, 4, 96, 181, 1, 182, 28]
abbrev dktX12_listsTen_2 : List UInt8 := dkwX12_listsTen_2 ++ dktX12_listsTen_3
def dkwX12_listsTen_1 : List UInt8 := [162, 0, 62, 42, 180, 1, 182, 16, 10, 162, 0, 53, 42, 29, 3, 182, 1, 69, 27, 159, 0, 6]
abbrev dktX12_listsTen_1 : List UInt8 := dkwX12_listsTen_1 ++ dktX12_listsTen_2
def dkwX12_listsTen_0 : List UInt8 := [42, 27, 182, 1, 134, 42, 3, 181, 1, 182, 3, 61, 3, 62, 29, 42, 180, 0, 13, 16, 7, 46]
abbrev dktX12_listsTen_0 : List UInt8 := dkwX12_listsTen_0 ++ dktX12_listsTen_1
theorem dksX12_listsTen_0 : cX12_listsTen.data.toList.drop 0 = dktX12_listsTen_0 := by decide +kernel
theorem dksX12_listsTen_1 : cX12_listsTen.data.toList.drop 22 = dktX12_listsTen_1 := dk_seg dksX12_listsTen_0 22 rfl rfl
theorem dksX12_listsTen_2 : cX12_listsTen.data.toList.drop 44 = dktX12_listsTen_2 := dk_seg dksX12_listsTen_1 22 rfl rfl
theorem dksX12_listsTen_3 : cX12_listsTen.data.toList.drop 68 = dktX12_listsTen_3 := dk_seg dksX12_listsTen_2 24 rfl rfl
theorem dksX12_listsTen_4 : cX12_listsTen.data.toList.drop 92 = dktX12_listsTen_4 := dk_seg dksX12_listsTen_3 24 rfl rfl
theorem dksX12_listsTen_5 : cX12_listsTen.data.toList.drop 116 = dktX12_listsTen_5 := dk_seg dksX12_listsTen_4 24 rfl rfl
theorem dX12_listsTen_0 : decode cX12_listsTen 0 = .ok (.aload_n 0, 1) := dk_42 (dk_at dksX12_listsTen_0 0 rfl rfl)
theorem dX12_listsTen_1 : decode cX12_listsTen 1 = .ok (.iload_n 1, 1) := dk_27 (dk_at dksX12_listsTen_0 1 rfl rfl)
theorem dX12_listsTen_2 : decode cX12_listsTen 2 = .ok (.invokevirtual 390, 3) := dk_182 1 134 (dk_at dksX12_listsTen_0 2 rfl rfl)
theorem dX12_listsTen_5 : decode cX12_listsTen 5 = .ok (.aload_n 0, 1) := dk_42 (dk_at dksX12_listsTen_0 5 rfl rfl)
theorem dX12_listsTen_6 : decode cX12_listsTen 6 = .ok (.iconst 0, 1) := dk_3 (dk_at dksX12_listsTen_0 6 rfl rfl)
theorem dX12_listsTen_7 : decode cX12_listsTen 7 = .ok (.putfield 438, 3) := dk_181 1 182 (dk_at dksX12_listsTen_0 7 rfl rfl)
theorem dX12_listsTen_10 : decode cX12_listsTen 10 = .ok (.iconst 0, 1) := dk_3 (dk_at dksX12_listsTen_0 10 rfl rfl)
theorem dX12_listsTen_11 : decode cX12_listsTen 11 = .ok (.istore_n 2, 1) := dk_61 (dk_at dksX12_listsTen_0 11 rfl rfl)
theorem dX12_listsTen_12 : decode cX12_listsTen 12 = .ok (.iconst 0, 1) := dk_3 (dk_at dksX12_listsTen_0 12 rfl rfl)
theorem dX12_listsTen_13 : decode cX12_listsTen 13 = .ok (.istore_n 3, 1) := dk_62 (dk_at dksX12_listsTen_0 13 rfl rfl)
theorem dX12_listsTen_14 : decode cX12_listsTen 14 = .ok (.iload_n 3, 1) := dk_29 (dk_at dksX12_listsTen_0 14 rfl rfl)
theorem dX12_listsTen_15 : decode cX12_listsTen 15 = .ok (.aload_n 0, 1) := dk_42 (dk_at dksX12_listsTen_0 15 rfl rfl)
theorem dX12_listsTen_16 : decode cX12_listsTen 16 = .ok (.getfield 13, 3) := dk_180 0 13 (dk_at dksX12_listsTen_0 16 rfl rfl)
theorem dX12_listsTen_19 : decode cX12_listsTen 19 = .ok (.bipush 7, 2) := dk_16 7 (dk_at dksX12_listsTen_0 19 rfl rfl)
theorem dX12_listsTen_21 : decode cX12_listsTen 21 = .ok (.iaload, 1) := dk_46 (dk_at dksX12_listsTen_0 21 rfl rfl)
theorem dX12_listsTen_22 : decode cX12_listsTen 22 = .ok (.if_icmp .ge 62, 3) := dk_162 0 62 (dk_at dksX12_listsTen_1 0 rfl rfl)
theorem dX12_listsTen_25 : decode cX12_listsTen 25 = .ok (.aload_n 0, 1) := dk_42 (dk_at dksX12_listsTen_1 3 rfl rfl)
theorem dX12_listsTen_26 : decode cX12_listsTen 26 = .ok (.getfield 438, 3) := dk_180 1 182 (dk_at dksX12_listsTen_1 4 rfl rfl)
theorem dX12_listsTen_29 : decode cX12_listsTen 29 = .ok (.bipush 10, 2) := dk_16 10 (dk_at dksX12_listsTen_1 7 rfl rfl)
theorem dX12_listsTen_31 : decode cX12_listsTen 31 = .ok (.if_icmp .ge 53, 3) := dk_162 0 53 (dk_at dksX12_listsTen_1 9 rfl rfl)
theorem dX12_listsTen_34 : decode cX12_listsTen 34 = .ok (.aload_n 0, 1) := dk_42 (dk_at dksX12_listsTen_1 12 rfl rfl)
theorem dX12_listsTen_35 : decode cX12_listsTen 35 = .ok (.iload_n 3, 1) := dk_29 (dk_at dksX12_listsTen_1 13 rfl rfl)
theorem dX12_listsTen_36 : decode cX12_listsTen 36 = .ok (.iconst 0, 1) := dk_3 (dk_at dksX12_listsTen_1 14 rfl rfl)
theorem dX12_listsTen_37 : decode cX12_listsTen 37 = .ok (.invokevirtual 325, 3) := dk_182 1 69 (dk_at dksX12_listsTen_1 15 rfl rfl)
theorem dX12_listsTen_40 : decode cX12_listsTen 40 = .ok (.iload_n 1, 1) := dk_27 (dk_at dksX12_listsTen_1 18 rfl rfl)
theorem dX12_listsTen_41 : decode cX12_listsTen 41 = .ok (.if_icmp .eq 6, 3) := dk_159 0 6 (dk_at dksX12_listsTen_1 19 rfl rfl)
theorem dX12_listsTen_44 : decode cX12_listsTen 44 = .ok (.goto 34, 3) := dk_167 0 34 (dk_at dksX12_listsTen_2 0 rfl rfl)
theorem dX12_listsTen_47 : decode cX12_listsTen 47 = .ok (.aload_n 0, 1) := dk_42 (dk_at dksX12_listsTen_2 3 rfl rfl)
theorem dX12_listsTen_48 : decode cX12_listsTen 48 = .ok (.getfield 55, 3) := dk_180 0 55 (dk_at dksX12_listsTen_2 4 rfl rfl)
theorem dX12_listsTen_51 : decode cX12_listsTen 51 = .ok (.aload_n 0, 1) := dk_42 (dk_at dksX12_listsTen_2 7 rfl rfl)
theorem dX12_listsTen_52 : decode cX12_listsTen 52 = .ok (.getfield 438, 3) := dk_180 1 182 (dk_at dksX12_listsTen_2 8 rfl rfl)
theorem dX12_listsTen_55 : decode cX12_listsTen 55 = .ok (.iload_n 3, 1) := dk_29 (dk_at dksX12_listsTen_2 11 rfl rfl)
theorem dX12_listsTen_56 : decode cX12_listsTen 56 = .ok (.iastore, 1) := dk_79 (dk_at dksX12_listsTen_2 12 rfl rfl)
theorem dX12_listsTen_57 : decode cX12_listsTen 57 = .ok (.aload_n 0, 1) := dk_42 (dk_at dksX12_listsTen_2 13 rfl rfl)
theorem dX12_listsTen_58 : decode cX12_listsTen 58 = .ok (.dup, 1) := dk_89 (dk_at dksX12_listsTen_2 14 rfl rfl)
theorem dX12_listsTen_59 : decode cX12_listsTen 59 = .ok (.getfield 438, 3) := dk_180 1 182 (dk_at dksX12_listsTen_2 15 rfl rfl)
theorem dX12_listsTen_62 : decode cX12_listsTen 62 = .ok (.iconst 1, 1) := dk_4 (dk_at dksX12_listsTen_2 18 rfl rfl)
theorem dX12_listsTen_63 : decode cX12_listsTen 63 = .ok (.iadd, 1) := dk_96 (dk_at dksX12_listsTen_2 19 rfl rfl)
theorem dX12_listsTen_64 : decode cX12_listsTen 64 = .ok (.putfield 438, 3) := dk_181 1 182 (dk_at dksX12_listsTen_2 20 rfl rfl)
theorem dX12_listsTen_67 : decode cX12_listsTen 67 = .ok (.iload_n 2, 1) := dk_28 (dk_at dksX12_listsTen_2 23 rfl rfl)
theorem dX12_listsTen_68 : decode cX12_listsTen 68 = .ok (.iconst 1, 1) := dk_4 (dk_at dksX12_listsTen_3 0 rfl rfl)
theorem dX12_listsTen_69 : decode cX12_listsTen 69 = .ok (.aload_n 0, 1) := dk_42 (dk_at dksX12_listsTen_3 1 rfl rfl)
theorem dX12_listsTen_70 : decode cX12_listsTen 70 = .ok (.iload_n 3, 1) := dk_29 (dk_at dksX12_listsTen_3 2 rfl rfl)
theorem dX12_listsTen_71 : decode cX12_listsTen 71 = .ok (.iconst 1, 1) := dk_4 (dk_at dksX12_listsTen_3 3 rfl rfl)
theorem dX12_listsTen_72 : decode cX12_listsTen 72 = .ok (.invokevirtual 325, 3) := dk_182 1 69 (dk_at dksX12_listsTen_3 4 rfl rfl)
theorem dX12_listsTen_75 : decode cX12_listsTen 75 = .ok (.ishl, 1) := dk_120 (dk_at dksX12_listsTen_3 7 rfl rfl)
theorem dX12_listsTen_76 : decode cX12_listsTen 76 = .ok (.ior, 1) := dk_128 (dk_at dksX12_listsTen_3 8 rfl rfl)
theorem dX12_listsTen_77 : decode cX12_listsTen 77 = .ok (.istore_n 2, 1) := dk_61 (dk_at dksX12_listsTen_3 9 rfl rfl)
theorem dX12_listsTen_78 : decode cX12_listsTen 78 = .ok (.iinc 3 1, 3) := dk_132 3 1 (dk_at dksX12_listsTen_3 10 rfl rfl)
theorem dX12_listsTen_81 : decode cX12_listsTen 81 = .ok (.goto (-67), 3) := dk_167 255 189 (dk_at dksX12_listsTen_3 13 rfl rfl)
theorem dX12_listsTen_84 : decode cX12_listsTen 84 = .ok (.aload_n 0, 1) := dk_42 (dk_at dksX12_listsTen_3 16 rfl rfl)
theorem dX12_listsTen_85 : decode cX12_listsTen 85 = .ok (.iconst 0, 1) := dk_3 (dk_at dksX12_listsTen_3 17 rfl rfl)
theorem dX12_listsTen_86 : decode cX12_listsTen 86 = .ok (.putfield 393, 3) := dk_181 1 137 (dk_at dksX12_listsTen_3 18 rfl rfl)
theorem dX12_listsTen_89 : decode cX12_listsTen 89 = .ok (.iconst 0, 1) := dk_3 (dk_at dksX12_listsTen_3 21 rfl rfl)
theorem dX12_listsTen_90 : decode cX12_listsTen 90 = .ok (.istore_n 3, 1) := dk_62 (dk_at dksX12_listsTen_3 22 rfl rfl)
theorem dX12_listsTen_91 : decode cX12_listsTen 91 = .ok (.iload_n 3, 1) := dk_29 (dk_at dksX12_listsTen_3 23 rfl rfl)
theorem dX12_listsTen_92 : decode cX12_listsTen 92 = .ok (.bipush 16, 2) := dk_16 16 (dk_at dksX12_listsTen_4 0 rfl rfl)
theorem dX12_listsTen_94 : decode cX12_listsTen 94 = .ok (.if_icmp .ge 40, 3) := dk_162 0 40 (dk_at dksX12_listsTen_4 2 rfl rfl)
theorem dX12_listsTen_97 : decode cX12_listsTen 97 = .ok (.iload_n 2, 1) := dk_28 (dk_at dksX12_listsTen_4 5 rfl rfl)
theorem dX12_listsTen_98 : decode cX12_listsTen 98 = .ok (.iload_n 3, 1) := dk_29 (dk_at dksX12_listsTen_4 6 rfl rfl)
theorem dX12_listsTen_99 : decode cX12_listsTen 99 = .ok (.invokestatic 294, 3) := dk_184 1 38 (dk_at dksX12_listsTen_4 7 rfl rfl)
theorem dX12_listsTen_102 : decode cX12_listsTen 102 = .ok (.ifCond .ne 6, 3) := dk_154 0 6 (dk_at dksX12_listsTen_4 10 rfl rfl)
theorem dX12_listsTen_105 : decode cX12_listsTen 105 = .ok (.goto 23, 3) := dk_167 0 23 (dk_at dksX12_listsTen_4 13 rfl rfl)
theorem dX12_listsTen_108 : decode cX12_listsTen 108 = .ok (.aload_n 0, 1) := dk_42 (dk_at dksX12_listsTen_4 16 rfl rfl)
theorem dX12_listsTen_109 : decode cX12_listsTen 109 = .ok (.getfield 40, 3) := dk_180 0 40 (dk_at dksX12_listsTen_4 17 rfl rfl)
theorem dX12_listsTen_112 : decode cX12_listsTen 112 = .ok (.aload_n 0, 1) := dk_42 (dk_at dksX12_listsTen_4 20 rfl rfl)
theorem dX12_listsTen_113 : decode cX12_listsTen 113 = .ok (.getfield 393, 3) := dk_180 1 137 (dk_at dksX12_listsTen_4 21 rfl rfl)
theorem dX12_listsTen_116 : decode cX12_listsTen 116 = .ok (.iload_n 3, 1) := dk_29 (dk_at dksX12_listsTen_5 0 rfl rfl)
theorem dX12_listsTen_117 : decode cX12_listsTen 117 = .ok (.iastore, 1) := dk_79 (dk_at dksX12_listsTen_5 1 rfl rfl)
theorem dX12_listsTen_118 : decode cX12_listsTen 118 = .ok (.aload_n 0, 1) := dk_42 (dk_at dksX12_listsTen_5 2 rfl rfl)
theorem dX12_listsTen_119 : decode cX12_listsTen 119 = .ok (.dup, 1) := dk_89 (dk_at dksX12_listsTen_5 3 rfl rfl)
theorem dX12_listsTen_120 : decode cX12_listsTen 120 = .ok (.getfield 393, 3) := dk_180 1 137 (dk_at dksX12_listsTen_5 4 rfl rfl)
theorem dX12_listsTen_123 : decode cX12_listsTen 123 = .ok (.iconst 1, 1) := dk_4 (dk_at dksX12_listsTen_5 7 rfl rfl)
theorem dX12_listsTen_124 : decode cX12_listsTen 124 = .ok (.iadd, 1) := dk_96 (dk_at dksX12_listsTen_5 8 rfl rfl)
theorem dX12_listsTen_125 : decode cX12_listsTen 125 = .ok (.putfield 393, 3) := dk_181 1 137 (dk_at dksX12_listsTen_5 9 rfl rfl)
theorem dX12_listsTen_128 : decode cX12_listsTen 128 = .ok (.iinc 3 1, 3) := dk_132 3 1 (dk_at dksX12_listsTen_5 12 rfl rfl)
theorem dX12_listsTen_131 : decode cX12_listsTen 131 = .ok (.goto (-40), 3) := dk_167 255 216 (dk_at dksX12_listsTen_5 15 rfl rfl)
theorem dX12_listsTen_134 : decode cX12_listsTen 134 = .ok (.return_, 1) := dk_177 (dk_at dksX12_listsTen_5 18 rfl rfl)
abbrev cX12_covers : ByteArray := prog_25_method_80_code
def yX12_covers : MethodName := ⟨RX12, "covers", "(II)I"⟩
def dkwX12_covers_3 : List UInt8 := [161, 0, 10, 29, 4, 21, 4, 120, 128, 62, 132, 5, 1, 167, 255, 190, 132, 4, 1, 167, 255, 172, 29, 172]
abbrev dktX12_covers_3 : List UInt8 := dkwX12_covers_3 ++ []
def dkwX12_covers_2 : List UInt8 := [21, 4, 46, 4, 182, 1, 69, 160, 0, 26, 42, 42, 180, 0, 55, 21, 4, 46, 6, 182, 1, 69, 28]
abbrev dktX12_covers_2 : List UInt8 := dkwX12_covers_2 ++ dktX12_covers_3
def dkwX12_covers_1 : List UInt8 := [162, 0, 63, 27, 21, 5, 184, 1, 38, 153, 0, 48, 42, 180, 0, 40, 21, 5, 46, 42, 42, 180, 0, 55]
abbrev dktX12_covers_1 : List UInt8 := dkwX12_covers_1 ++ dktX12_covers_2
def dkwX12_covers_0 : List UInt8 := [3, 62, 3, 54, 4, 21, 4, 42, 180, 1, 182, 162, 0, 81, 3, 54, 5, 21, 5, 42, 180, 1, 137]
abbrev dktX12_covers_0 : List UInt8 := dkwX12_covers_0 ++ dktX12_covers_1
theorem dksX12_covers_0 : cX12_covers.data.toList.drop 0 = dktX12_covers_0 := by decide +kernel
theorem dksX12_covers_1 : cX12_covers.data.toList.drop 23 = dktX12_covers_1 := dk_seg dksX12_covers_0 23 rfl rfl
theorem dksX12_covers_2 : cX12_covers.data.toList.drop 47 = dktX12_covers_2 := dk_seg dksX12_covers_1 24 rfl rfl
theorem dksX12_covers_3 : cX12_covers.data.toList.drop 70 = dktX12_covers_3 := dk_seg dksX12_covers_2 23 rfl rfl
theorem dX12_covers_0 : decode cX12_covers 0 = .ok (.iconst 0, 1) := dk_3 (dk_at dksX12_covers_0 0 rfl rfl)
theorem dX12_covers_1 : decode cX12_covers 1 = .ok (.istore_n 3, 1) := dk_62 (dk_at dksX12_covers_0 1 rfl rfl)
theorem dX12_covers_2 : decode cX12_covers 2 = .ok (.iconst 0, 1) := dk_3 (dk_at dksX12_covers_0 2 rfl rfl)
theorem dX12_covers_3 : decode cX12_covers 3 = .ok (.istore 4, 2) := dk_54 4 (dk_at dksX12_covers_0 3 rfl rfl)
theorem dX12_covers_5 : decode cX12_covers 5 = .ok (.iload 4, 2) := dk_21 4 (dk_at dksX12_covers_0 5 rfl rfl)
theorem dX12_covers_7 : decode cX12_covers 7 = .ok (.aload_n 0, 1) := dk_42 (dk_at dksX12_covers_0 7 rfl rfl)
theorem dX12_covers_8 : decode cX12_covers 8 = .ok (.getfield 438, 3) := dk_180 1 182 (dk_at dksX12_covers_0 8 rfl rfl)
theorem dX12_covers_11 : decode cX12_covers 11 = .ok (.if_icmp .ge 81, 3) := dk_162 0 81 (dk_at dksX12_covers_0 11 rfl rfl)
theorem dX12_covers_14 : decode cX12_covers 14 = .ok (.iconst 0, 1) := dk_3 (dk_at dksX12_covers_0 14 rfl rfl)
theorem dX12_covers_15 : decode cX12_covers 15 = .ok (.istore 5, 2) := dk_54 5 (dk_at dksX12_covers_0 15 rfl rfl)
theorem dX12_covers_17 : decode cX12_covers 17 = .ok (.iload 5, 2) := dk_21 5 (dk_at dksX12_covers_0 17 rfl rfl)
theorem dX12_covers_19 : decode cX12_covers 19 = .ok (.aload_n 0, 1) := dk_42 (dk_at dksX12_covers_0 19 rfl rfl)
theorem dX12_covers_20 : decode cX12_covers 20 = .ok (.getfield 393, 3) := dk_180 1 137 (dk_at dksX12_covers_0 20 rfl rfl)
theorem dX12_covers_23 : decode cX12_covers 23 = .ok (.if_icmp .ge 63, 3) := dk_162 0 63 (dk_at dksX12_covers_1 0 rfl rfl)
theorem dX12_covers_26 : decode cX12_covers 26 = .ok (.iload_n 1, 1) := dk_27 (dk_at dksX12_covers_1 3 rfl rfl)
theorem dX12_covers_27 : decode cX12_covers 27 = .ok (.iload 5, 2) := dk_21 5 (dk_at dksX12_covers_1 4 rfl rfl)
theorem dX12_covers_29 : decode cX12_covers 29 = .ok (.invokestatic 294, 3) := dk_184 1 38 (dk_at dksX12_covers_1 6 rfl rfl)
theorem dX12_covers_32 : decode cX12_covers 32 = .ok (.ifCond .eq 48, 3) := dk_153 0 48 (dk_at dksX12_covers_1 9 rfl rfl)
theorem dX12_covers_35 : decode cX12_covers 35 = .ok (.aload_n 0, 1) := dk_42 (dk_at dksX12_covers_1 12 rfl rfl)
theorem dX12_covers_36 : decode cX12_covers 36 = .ok (.getfield 40, 3) := dk_180 0 40 (dk_at dksX12_covers_1 13 rfl rfl)
theorem dX12_covers_39 : decode cX12_covers 39 = .ok (.iload 5, 2) := dk_21 5 (dk_at dksX12_covers_1 16 rfl rfl)
theorem dX12_covers_41 : decode cX12_covers 41 = .ok (.iaload, 1) := dk_46 (dk_at dksX12_covers_1 18 rfl rfl)
theorem dX12_covers_42 : decode cX12_covers 42 = .ok (.aload_n 0, 1) := dk_42 (dk_at dksX12_covers_1 19 rfl rfl)
theorem dX12_covers_43 : decode cX12_covers 43 = .ok (.aload_n 0, 1) := dk_42 (dk_at dksX12_covers_1 20 rfl rfl)
theorem dX12_covers_44 : decode cX12_covers 44 = .ok (.getfield 55, 3) := dk_180 0 55 (dk_at dksX12_covers_1 21 rfl rfl)
theorem dX12_covers_47 : decode cX12_covers 47 = .ok (.iload 4, 2) := dk_21 4 (dk_at dksX12_covers_2 0 rfl rfl)
theorem dX12_covers_49 : decode cX12_covers 49 = .ok (.iaload, 1) := dk_46 (dk_at dksX12_covers_2 2 rfl rfl)
theorem dX12_covers_50 : decode cX12_covers 50 = .ok (.iconst 1, 1) := dk_4 (dk_at dksX12_covers_2 3 rfl rfl)
theorem dX12_covers_51 : decode cX12_covers 51 = .ok (.invokevirtual 325, 3) := dk_182 1 69 (dk_at dksX12_covers_2 4 rfl rfl)
theorem dX12_covers_54 : decode cX12_covers 54 = .ok (.if_icmp .ne 26, 3) := dk_160 0 26 (dk_at dksX12_covers_2 7 rfl rfl)
theorem dX12_covers_57 : decode cX12_covers 57 = .ok (.aload_n 0, 1) := dk_42 (dk_at dksX12_covers_2 10 rfl rfl)
theorem dX12_covers_58 : decode cX12_covers 58 = .ok (.aload_n 0, 1) := dk_42 (dk_at dksX12_covers_2 11 rfl rfl)
theorem dX12_covers_59 : decode cX12_covers 59 = .ok (.getfield 55, 3) := dk_180 0 55 (dk_at dksX12_covers_2 12 rfl rfl)
theorem dX12_covers_62 : decode cX12_covers 62 = .ok (.iload 4, 2) := dk_21 4 (dk_at dksX12_covers_2 15 rfl rfl)
theorem dX12_covers_64 : decode cX12_covers 64 = .ok (.iaload, 1) := dk_46 (dk_at dksX12_covers_2 17 rfl rfl)
theorem dX12_covers_65 : decode cX12_covers 65 = .ok (.iconst 3, 1) := dk_6 (dk_at dksX12_covers_2 18 rfl rfl)
theorem dX12_covers_66 : decode cX12_covers 66 = .ok (.invokevirtual 325, 3) := dk_182 1 69 (dk_at dksX12_covers_2 19 rfl rfl)
theorem dX12_covers_69 : decode cX12_covers 69 = .ok (.iload_n 2, 1) := dk_28 (dk_at dksX12_covers_2 22 rfl rfl)
theorem dX12_covers_70 : decode cX12_covers 70 = .ok (.if_icmp .lt 10, 3) := dk_161 0 10 (dk_at dksX12_covers_3 0 rfl rfl)
theorem dX12_covers_73 : decode cX12_covers 73 = .ok (.iload_n 3, 1) := dk_29 (dk_at dksX12_covers_3 3 rfl rfl)
theorem dX12_covers_74 : decode cX12_covers 74 = .ok (.iconst 1, 1) := dk_4 (dk_at dksX12_covers_3 4 rfl rfl)
theorem dX12_covers_75 : decode cX12_covers 75 = .ok (.iload 4, 2) := dk_21 4 (dk_at dksX12_covers_3 5 rfl rfl)
theorem dX12_covers_77 : decode cX12_covers 77 = .ok (.ishl, 1) := dk_120 (dk_at dksX12_covers_3 7 rfl rfl)
theorem dX12_covers_78 : decode cX12_covers 78 = .ok (.ior, 1) := dk_128 (dk_at dksX12_covers_3 8 rfl rfl)
theorem dX12_covers_79 : decode cX12_covers 79 = .ok (.istore_n 3, 1) := dk_62 (dk_at dksX12_covers_3 9 rfl rfl)
theorem dX12_covers_80 : decode cX12_covers 80 = .ok (.iinc 5 1, 3) := dk_132 5 1 (dk_at dksX12_covers_3 10 rfl rfl)
theorem dX12_covers_83 : decode cX12_covers 83 = .ok (.goto (-66), 3) := dk_167 255 190 (dk_at dksX12_covers_3 13 rfl rfl)
theorem dX12_covers_86 : decode cX12_covers 86 = .ok (.iinc 4 1, 3) := dk_132 4 1 (dk_at dksX12_covers_3 16 rfl rfl)
theorem dX12_covers_89 : decode cX12_covers 89 = .ok (.goto (-84), 3) := dk_167 255 172 (dk_at dksX12_covers_3 19 rfl rfl)
theorem dX12_covers_92 : decode cX12_covers 92 = .ok (.iload_n 3, 1) := dk_29 (dk_at dksX12_covers_3 22 rfl rfl)
theorem dX12_covers_93 : decode cX12_covers 93 = .ok (.ireturn, 1) := dk_172 (dk_at dksX12_covers_3 23 rfl rfl)
abbrev cX12_lost : ByteArray := prog_25_method_82_code
def yX12_lost : MethodName := ⟨RX12, "lost", "(I)I"⟩
def dkwX12_lost_5 : List UInt8 := [167, 0, 6, 4, 29, 120, 128, 61, 132, 3, 1, 167, 255, 148, 28, 172]
abbrev dktX12_lost_5 : List UInt8 := dkwX12_lost_5 ++ []
def dkwX12_lost_4 : List UInt8 := [2, 159, 0, 7, 4, 167, 0, 4, 3, 54, 4, 132, 5, 1, 167, 255, 186, 28, 21, 4, 153, 0, 7, 3]
abbrev dktX12_lost_4 : List UInt8 := dkwX12_lost_4 ++ dktX12_lost_5
def dkwX12_lost_3 : List UInt8 := [21, 4, 154, 0, 26, 42, 27, 3, 42, 42, 180, 0, 55, 29, 46, 4, 182, 1, 69, 21, 5, 182, 1, 149]
abbrev dktX12_lost_3 : List UInt8 := dkwX12_lost_3 ++ dktX12_lost_4
def dkwX12_lost_2 : List UInt8 := [16, 6, 96, 184, 0, 139, 42, 42, 180, 0, 55, 29, 46, 6, 182, 1, 69, 184, 0, 139, 163, 0, 44]
abbrev dktX12_lost_2 : List UInt8 := dkwX12_lost_2 ++ dktX12_lost_3
def dkwX12_lost_1 : List UInt8 := [180, 1, 182, 162, 0, 106, 3, 54, 4, 42, 182, 1, 35, 54, 5, 21, 5, 17, 1, 143, 42, 182, 1, 35]
abbrev dktX12_lost_1 : List UInt8 := dkwX12_lost_1 ++ dktX12_lost_2
def dkwX12_lost_0 : List UInt8 := [42, 27, 182, 0, 105, 154, 0, 6, 16, 254, 172, 42, 27, 182, 1, 185, 3, 61, 3, 62, 29, 42]
abbrev dktX12_lost_0 : List UInt8 := dkwX12_lost_0 ++ dktX12_lost_1
theorem dksX12_lost_0 : cX12_lost.data.toList.drop 0 = dktX12_lost_0 := by decide +kernel
theorem dksX12_lost_1 : cX12_lost.data.toList.drop 22 = dktX12_lost_1 := dk_seg dksX12_lost_0 22 rfl rfl
theorem dksX12_lost_2 : cX12_lost.data.toList.drop 46 = dktX12_lost_2 := dk_seg dksX12_lost_1 24 rfl rfl
theorem dksX12_lost_3 : cX12_lost.data.toList.drop 69 = dktX12_lost_3 := dk_seg dksX12_lost_2 23 rfl rfl
theorem dksX12_lost_4 : cX12_lost.data.toList.drop 93 = dktX12_lost_4 := dk_seg dksX12_lost_3 24 rfl rfl
theorem dksX12_lost_5 : cX12_lost.data.toList.drop 117 = dktX12_lost_5 := dk_seg dksX12_lost_4 24 rfl rfl
theorem dX12_lost_0 : decode cX12_lost 0 = .ok (.aload_n 0, 1) := dk_42 (dk_at dksX12_lost_0 0 rfl rfl)
theorem dX12_lost_1 : decode cX12_lost 1 = .ok (.iload_n 1, 1) := dk_27 (dk_at dksX12_lost_0 1 rfl rfl)
theorem dX12_lost_2 : decode cX12_lost 2 = .ok (.invokevirtual 105, 3) := dk_182 0 105 (dk_at dksX12_lost_0 2 rfl rfl)
theorem dX12_lost_5 : decode cX12_lost 5 = .ok (.ifCond .ne 6, 3) := dk_154 0 6 (dk_at dksX12_lost_0 5 rfl rfl)
theorem dX12_lost_8 : decode cX12_lost 8 = .ok (.bipush (-2), 2) := dk_16 254 (dk_at dksX12_lost_0 8 rfl rfl)
theorem dX12_lost_10 : decode cX12_lost 10 = .ok (.ireturn, 1) := dk_172 (dk_at dksX12_lost_0 10 rfl rfl)
theorem dX12_lost_11 : decode cX12_lost 11 = .ok (.aload_n 0, 1) := dk_42 (dk_at dksX12_lost_0 11 rfl rfl)
theorem dX12_lost_12 : decode cX12_lost 12 = .ok (.iload_n 1, 1) := dk_27 (dk_at dksX12_lost_0 12 rfl rfl)
theorem dX12_lost_13 : decode cX12_lost 13 = .ok (.invokevirtual 441, 3) := dk_182 1 185 (dk_at dksX12_lost_0 13 rfl rfl)
theorem dX12_lost_16 : decode cX12_lost 16 = .ok (.iconst 0, 1) := dk_3 (dk_at dksX12_lost_0 16 rfl rfl)
theorem dX12_lost_17 : decode cX12_lost 17 = .ok (.istore_n 2, 1) := dk_61 (dk_at dksX12_lost_0 17 rfl rfl)
theorem dX12_lost_18 : decode cX12_lost 18 = .ok (.iconst 0, 1) := dk_3 (dk_at dksX12_lost_0 18 rfl rfl)
theorem dX12_lost_19 : decode cX12_lost 19 = .ok (.istore_n 3, 1) := dk_62 (dk_at dksX12_lost_0 19 rfl rfl)
theorem dX12_lost_20 : decode cX12_lost 20 = .ok (.iload_n 3, 1) := dk_29 (dk_at dksX12_lost_0 20 rfl rfl)
theorem dX12_lost_21 : decode cX12_lost 21 = .ok (.aload_n 0, 1) := dk_42 (dk_at dksX12_lost_0 21 rfl rfl)
theorem dX12_lost_22 : decode cX12_lost 22 = .ok (.getfield 438, 3) := dk_180 1 182 (dk_at dksX12_lost_1 0 rfl rfl)
theorem dX12_lost_25 : decode cX12_lost 25 = .ok (.if_icmp .ge 106, 3) := dk_162 0 106 (dk_at dksX12_lost_1 3 rfl rfl)
theorem dX12_lost_28 : decode cX12_lost 28 = .ok (.iconst 0, 1) := dk_3 (dk_at dksX12_lost_1 6 rfl rfl)
theorem dX12_lost_29 : decode cX12_lost 29 = .ok (.istore 4, 2) := dk_54 4 (dk_at dksX12_lost_1 7 rfl rfl)
theorem dX12_lost_31 : decode cX12_lost 31 = .ok (.aload_n 0, 1) := dk_42 (dk_at dksX12_lost_1 9 rfl rfl)
theorem dX12_lost_32 : decode cX12_lost 32 = .ok (.invokevirtual 291, 3) := dk_182 1 35 (dk_at dksX12_lost_1 10 rfl rfl)
theorem dX12_lost_35 : decode cX12_lost 35 = .ok (.istore 5, 2) := dk_54 5 (dk_at dksX12_lost_1 13 rfl rfl)
theorem dX12_lost_37 : decode cX12_lost 37 = .ok (.iload 5, 2) := dk_21 5 (dk_at dksX12_lost_1 15 rfl rfl)
theorem dX12_lost_39 : decode cX12_lost 39 = .ok (.sipush 399, 3) := dk_17 1 143 (dk_at dksX12_lost_1 17 rfl rfl)
theorem dX12_lost_42 : decode cX12_lost 42 = .ok (.aload_n 0, 1) := dk_42 (dk_at dksX12_lost_1 20 rfl rfl)
theorem dX12_lost_43 : decode cX12_lost 43 = .ok (.invokevirtual 291, 3) := dk_182 1 35 (dk_at dksX12_lost_1 21 rfl rfl)
theorem dX12_lost_46 : decode cX12_lost 46 = .ok (.bipush 6, 2) := dk_16 6 (dk_at dksX12_lost_2 0 rfl rfl)
theorem dX12_lost_48 : decode cX12_lost 48 = .ok (.iadd, 1) := dk_96 (dk_at dksX12_lost_2 2 rfl rfl)
theorem dX12_lost_49 : decode cX12_lost 49 = .ok (.invokestatic 139, 3) := dk_184 0 139 (dk_at dksX12_lost_2 3 rfl rfl)
theorem dX12_lost_52 : decode cX12_lost 52 = .ok (.aload_n 0, 1) := dk_42 (dk_at dksX12_lost_2 6 rfl rfl)
theorem dX12_lost_53 : decode cX12_lost 53 = .ok (.aload_n 0, 1) := dk_42 (dk_at dksX12_lost_2 7 rfl rfl)
theorem dX12_lost_54 : decode cX12_lost 54 = .ok (.getfield 55, 3) := dk_180 0 55 (dk_at dksX12_lost_2 8 rfl rfl)
theorem dX12_lost_57 : decode cX12_lost 57 = .ok (.iload_n 3, 1) := dk_29 (dk_at dksX12_lost_2 11 rfl rfl)
theorem dX12_lost_58 : decode cX12_lost 58 = .ok (.iaload, 1) := dk_46 (dk_at dksX12_lost_2 12 rfl rfl)
theorem dX12_lost_59 : decode cX12_lost 59 = .ok (.iconst 3, 1) := dk_6 (dk_at dksX12_lost_2 13 rfl rfl)
theorem dX12_lost_60 : decode cX12_lost 60 = .ok (.invokevirtual 325, 3) := dk_182 1 69 (dk_at dksX12_lost_2 14 rfl rfl)
theorem dX12_lost_63 : decode cX12_lost 63 = .ok (.invokestatic 139, 3) := dk_184 0 139 (dk_at dksX12_lost_2 17 rfl rfl)
theorem dX12_lost_66 : decode cX12_lost 66 = .ok (.if_icmp .gt 44, 3) := dk_163 0 44 (dk_at dksX12_lost_2 20 rfl rfl)
theorem dX12_lost_69 : decode cX12_lost 69 = .ok (.iload 4, 2) := dk_21 4 (dk_at dksX12_lost_3 0 rfl rfl)
theorem dX12_lost_71 : decode cX12_lost 71 = .ok (.ifCond .ne 26, 3) := dk_154 0 26 (dk_at dksX12_lost_3 2 rfl rfl)
theorem dX12_lost_74 : decode cX12_lost 74 = .ok (.aload_n 0, 1) := dk_42 (dk_at dksX12_lost_3 5 rfl rfl)
theorem dX12_lost_75 : decode cX12_lost 75 = .ok (.iload_n 1, 1) := dk_27 (dk_at dksX12_lost_3 6 rfl rfl)
theorem dX12_lost_76 : decode cX12_lost 76 = .ok (.iconst 0, 1) := dk_3 (dk_at dksX12_lost_3 7 rfl rfl)
theorem dX12_lost_77 : decode cX12_lost 77 = .ok (.aload_n 0, 1) := dk_42 (dk_at dksX12_lost_3 8 rfl rfl)
theorem dX12_lost_78 : decode cX12_lost 78 = .ok (.aload_n 0, 1) := dk_42 (dk_at dksX12_lost_3 9 rfl rfl)
theorem dX12_lost_79 : decode cX12_lost 79 = .ok (.getfield 55, 3) := dk_180 0 55 (dk_at dksX12_lost_3 10 rfl rfl)
theorem dX12_lost_82 : decode cX12_lost 82 = .ok (.iload_n 3, 1) := dk_29 (dk_at dksX12_lost_3 13 rfl rfl)
theorem dX12_lost_83 : decode cX12_lost 83 = .ok (.iaload, 1) := dk_46 (dk_at dksX12_lost_3 14 rfl rfl)
theorem dX12_lost_84 : decode cX12_lost 84 = .ok (.iconst 1, 1) := dk_4 (dk_at dksX12_lost_3 15 rfl rfl)
theorem dX12_lost_85 : decode cX12_lost 85 = .ok (.invokevirtual 325, 3) := dk_182 1 69 (dk_at dksX12_lost_3 16 rfl rfl)
theorem dX12_lost_88 : decode cX12_lost 88 = .ok (.iload 5, 2) := dk_21 5 (dk_at dksX12_lost_3 19 rfl rfl)
theorem dX12_lost_90 : decode cX12_lost 90 = .ok (.invokevirtual 405, 3) := dk_182 1 149 (dk_at dksX12_lost_3 21 rfl rfl)
theorem dX12_lost_93 : decode cX12_lost 93 = .ok (.iconst (-1), 1) := dk_2 (dk_at dksX12_lost_4 0 rfl rfl)
theorem dX12_lost_94 : decode cX12_lost 94 = .ok (.if_icmp .eq 7, 3) := dk_159 0 7 (dk_at dksX12_lost_4 1 rfl rfl)
theorem dX12_lost_97 : decode cX12_lost 97 = .ok (.iconst 1, 1) := dk_4 (dk_at dksX12_lost_4 4 rfl rfl)
theorem dX12_lost_98 : decode cX12_lost 98 = .ok (.goto 4, 3) := dk_167 0 4 (dk_at dksX12_lost_4 5 rfl rfl)
theorem dX12_lost_101 : decode cX12_lost 101 = .ok (.iconst 0, 1) := dk_3 (dk_at dksX12_lost_4 8 rfl rfl)
theorem dX12_lost_102 : decode cX12_lost 102 = .ok (.istore 4, 2) := dk_54 4 (dk_at dksX12_lost_4 9 rfl rfl)
theorem dX12_lost_104 : decode cX12_lost 104 = .ok (.iinc 5 1, 3) := dk_132 5 1 (dk_at dksX12_lost_4 11 rfl rfl)
theorem dX12_lost_107 : decode cX12_lost 107 = .ok (.goto (-70), 3) := dk_167 255 186 (dk_at dksX12_lost_4 14 rfl rfl)
theorem dX12_lost_110 : decode cX12_lost 110 = .ok (.iload_n 2, 1) := dk_28 (dk_at dksX12_lost_4 17 rfl rfl)
theorem dX12_lost_111 : decode cX12_lost 111 = .ok (.iload 4, 2) := dk_21 4 (dk_at dksX12_lost_4 18 rfl rfl)
theorem dX12_lost_113 : decode cX12_lost 113 = .ok (.ifCond .eq 7, 3) := dk_153 0 7 (dk_at dksX12_lost_4 20 rfl rfl)
theorem dX12_lost_116 : decode cX12_lost 116 = .ok (.iconst 0, 1) := dk_3 (dk_at dksX12_lost_4 23 rfl rfl)
theorem dX12_lost_117 : decode cX12_lost 117 = .ok (.goto 6, 3) := dk_167 0 6 (dk_at dksX12_lost_5 0 rfl rfl)
theorem dX12_lost_120 : decode cX12_lost 120 = .ok (.iconst 1, 1) := dk_4 (dk_at dksX12_lost_5 3 rfl rfl)
theorem dX12_lost_121 : decode cX12_lost 121 = .ok (.iload_n 3, 1) := dk_29 (dk_at dksX12_lost_5 4 rfl rfl)
theorem dX12_lost_122 : decode cX12_lost 122 = .ok (.ishl, 1) := dk_120 (dk_at dksX12_lost_5 5 rfl rfl)
theorem dX12_lost_123 : decode cX12_lost 123 = .ok (.ior, 1) := dk_128 (dk_at dksX12_lost_5 6 rfl rfl)
theorem dX12_lost_124 : decode cX12_lost 124 = .ok (.istore_n 2, 1) := dk_61 (dk_at dksX12_lost_5 7 rfl rfl)
theorem dX12_lost_125 : decode cX12_lost 125 = .ok (.iinc 3 1, 3) := dk_132 3 1 (dk_at dksX12_lost_5 8 rfl rfl)
theorem dX12_lost_128 : decode cX12_lost 128 = .ok (.goto (-108), 3) := dk_167 255 148 (dk_at dksX12_lost_5 11 rfl rfl)
theorem dX12_lost_131 : decode cX12_lost 131 = .ok (.iload_n 2, 1) := dk_28 (dk_at dksX12_lost_5 14 rfl rfl)
theorem dX12_lost_132 : decode cX12_lost 132 = .ok (.ireturn, 1) := dk_172 (dk_at dksX12_lost_5 15 rfl rfl)
abbrev cX12_soon : ByteArray := prog_25_method_85_code
def yX12_soon : MethodName := ⟨RX12, "soon", "(II)I"⟩
def dkwX12_soon_1 : List UInt8 := [27, 28, 182, 1, 197, 153, 0, 10, 42, 180, 1, 194, 167, 0, 4, 2, 172]
abbrev dktX12_soon_1 : List UInt8 := dkwX12_soon_1 ++ []
def dkwX12_soon_0 : List UInt8 := [42, 27, 28, 182, 1, 59, 154, 0, 6, 16, 254, 172, 42, 27, 28, 182, 1, 48, 153, 0, 5, 3, 172, 42]
abbrev dktX12_soon_0 : List UInt8 := dkwX12_soon_0 ++ dktX12_soon_1
theorem dksX12_soon_0 : cX12_soon.data.toList.drop 0 = dktX12_soon_0 := by decide +kernel
theorem dksX12_soon_1 : cX12_soon.data.toList.drop 24 = dktX12_soon_1 := dk_seg dksX12_soon_0 24 rfl rfl
theorem dX12_soon_0 : decode cX12_soon 0 = .ok (.aload_n 0, 1) := dk_42 (dk_at dksX12_soon_0 0 rfl rfl)
theorem dX12_soon_1 : decode cX12_soon 1 = .ok (.iload_n 1, 1) := dk_27 (dk_at dksX12_soon_0 1 rfl rfl)
theorem dX12_soon_2 : decode cX12_soon 2 = .ok (.iload_n 2, 1) := dk_28 (dk_at dksX12_soon_0 2 rfl rfl)
theorem dX12_soon_3 : decode cX12_soon 3 = .ok (.invokevirtual 315, 3) := dk_182 1 59 (dk_at dksX12_soon_0 3 rfl rfl)
theorem dX12_soon_6 : decode cX12_soon 6 = .ok (.ifCond .ne 6, 3) := dk_154 0 6 (dk_at dksX12_soon_0 6 rfl rfl)
theorem dX12_soon_9 : decode cX12_soon 9 = .ok (.bipush (-2), 2) := dk_16 254 (dk_at dksX12_soon_0 9 rfl rfl)
theorem dX12_soon_11 : decode cX12_soon 11 = .ok (.ireturn, 1) := dk_172 (dk_at dksX12_soon_0 11 rfl rfl)
theorem dX12_soon_12 : decode cX12_soon 12 = .ok (.aload_n 0, 1) := dk_42 (dk_at dksX12_soon_0 12 rfl rfl)
theorem dX12_soon_13 : decode cX12_soon 13 = .ok (.iload_n 1, 1) := dk_27 (dk_at dksX12_soon_0 13 rfl rfl)
theorem dX12_soon_14 : decode cX12_soon 14 = .ok (.iload_n 2, 1) := dk_28 (dk_at dksX12_soon_0 14 rfl rfl)
theorem dX12_soon_15 : decode cX12_soon 15 = .ok (.invokevirtual 304, 3) := dk_182 1 48 (dk_at dksX12_soon_0 15 rfl rfl)
theorem dX12_soon_18 : decode cX12_soon 18 = .ok (.ifCond .eq 5, 3) := dk_153 0 5 (dk_at dksX12_soon_0 18 rfl rfl)
theorem dX12_soon_21 : decode cX12_soon 21 = .ok (.iconst 0, 1) := dk_3 (dk_at dksX12_soon_0 21 rfl rfl)
theorem dX12_soon_22 : decode cX12_soon 22 = .ok (.ireturn, 1) := dk_172 (dk_at dksX12_soon_0 22 rfl rfl)
theorem dX12_soon_23 : decode cX12_soon 23 = .ok (.aload_n 0, 1) := dk_42 (dk_at dksX12_soon_0 23 rfl rfl)
theorem dX12_soon_24 : decode cX12_soon 24 = .ok (.iload_n 1, 1) := dk_27 (dk_at dksX12_soon_1 0 rfl rfl)
theorem dX12_soon_25 : decode cX12_soon 25 = .ok (.iload_n 2, 1) := dk_28 (dk_at dksX12_soon_1 1 rfl rfl)
theorem dX12_soon_26 : decode cX12_soon 26 = .ok (.invokevirtual 453, 3) := dk_182 1 197 (dk_at dksX12_soon_1 2 rfl rfl)
theorem dX12_soon_29 : decode cX12_soon 29 = .ok (.ifCond .eq 10, 3) := dk_153 0 10 (dk_at dksX12_soon_1 5 rfl rfl)
theorem dX12_soon_32 : decode cX12_soon 32 = .ok (.aload_n 0, 1) := dk_42 (dk_at dksX12_soon_1 8 rfl rfl)
theorem dX12_soon_33 : decode cX12_soon 33 = .ok (.getfield 450, 3) := dk_180 1 194 (dk_at dksX12_soon_1 9 rfl rfl)
theorem dX12_soon_36 : decode cX12_soon 36 = .ok (.goto 4, 3) := dk_167 0 4 (dk_at dksX12_soon_1 12 rfl rfl)
theorem dX12_soon_39 : decode cX12_soon 39 = .ok (.iconst (-1), 1) := dk_2 (dk_at dksX12_soon_1 15 rfl rfl)
theorem dX12_soon_40 : decode cX12_soon 40 = .ok (.ireturn, 1) := dk_172 (dk_at dksX12_soon_1 16 rfl rfl)
abbrev cX12_finds : ByteArray := prog_25_method_83_code
def yX12_finds : MethodName := ⟨RX12, "finds", "(II)Z"⟩
def dkwX12_finds_9 : List UInt8 := [132, 4, 1, 132, 6, 1, 167, 255, 123, 132, 3, 1, 167, 255, 100, 3, 172]
abbrev dktX12_finds_9 : List UInt8 := dkwX12_finds_9 ++ []
def dkwX12_finds_8 : List UInt8 := [180, 0, 68, 21, 4, 21, 6, 79, 21, 6, 28, 160, 0, 11, 42, 21, 4, 182, 1, 191, 4, 172]
abbrev dktX12_finds_8 : List UInt8 := dkwX12_finds_8 ++ dktX12_finds_9
def dkwX12_finds_7 : List UInt8 := [180, 0, 65, 21, 4, 21, 5, 4, 21, 6, 120, 128, 79, 42, 180, 0, 71, 21, 4, 29, 79, 42]
abbrev dktX12_finds_7 : List UInt8 := dkwX12_finds_7 ++ dktX12_finds_8
def dkwX12_finds_6 : List UInt8 := [128, 51, 153, 0, 6, 167, 0, 64, 42, 180, 0, 74, 21, 5, 4, 21, 6, 120, 128, 4, 84, 42]
abbrev dktX12_finds_6 : List UInt8 := dkwX12_finds_6 ++ dktX12_finds_7
def dkwX12_finds_5 : List UInt8 := [153, 0, 93, 42, 21, 5, 21, 6, 182, 1, 54, 153, 0, 82, 42, 180, 0, 74, 21, 5, 4, 21, 6, 120]
abbrev dktX12_finds_5 : List UInt8 := dkwX12_finds_5 ++ dktX12_finds_6
def dkwX12_finds_4 : List UInt8 := [27, 159, 0, 116, 21, 5, 21, 6, 184, 1, 38, 154, 0, 106, 42, 21, 6, 42, 182, 1, 35, 182, 1, 45]
abbrev dktX12_finds_4 : List UInt8 := dkwX12_finds_4 ++ dktX12_finds_5
def dkwX12_finds_3 : List UInt8 := [42, 180, 0, 65, 29, 46, 54, 5, 3, 54, 6, 21, 6, 42, 180, 0, 13, 3, 46, 162, 0, 128, 21, 6]
abbrev dktX12_finds_3 : List UInt8 := dkwX12_finds_3 ++ dktX12_finds_4
def dkwX12_finds_2 : List UInt8 := [180, 0, 71, 3, 2, 79, 42, 180, 0, 74, 42, 180, 0, 65, 3, 46, 4, 84, 29, 21, 4, 162, 0, 156]
abbrev dktX12_finds_2 : List UInt8 := dkwX12_finds_2 ++ dktX12_finds_3
def dkwX12_finds_1 : List UInt8 := [3, 62, 4, 54, 4, 42, 180, 0, 65, 3, 42, 180, 0, 13, 17, 7, 72, 27, 96, 46, 79, 42]
abbrev dktX12_finds_1 : List UInt8 := dkwX12_finds_1 ++ dktX12_finds_2
def dkwX12_finds_0 : List UInt8 := [3, 62, 29, 42, 180, 0, 74, 190, 162, 0, 16, 42, 180, 0, 74, 29, 3, 84, 132, 3, 1, 167, 255, 237]
abbrev dktX12_finds_0 : List UInt8 := dkwX12_finds_0 ++ dktX12_finds_1
theorem dksX12_finds_0 : cX12_finds.data.toList.drop 0 = dktX12_finds_0 := by decide +kernel
theorem dksX12_finds_1 : cX12_finds.data.toList.drop 24 = dktX12_finds_1 := dk_seg dksX12_finds_0 24 rfl rfl
theorem dksX12_finds_2 : cX12_finds.data.toList.drop 46 = dktX12_finds_2 := dk_seg dksX12_finds_1 22 rfl rfl
theorem dksX12_finds_3 : cX12_finds.data.toList.drop 70 = dktX12_finds_3 := dk_seg dksX12_finds_2 24 rfl rfl
theorem dksX12_finds_4 : cX12_finds.data.toList.drop 94 = dktX12_finds_4 := dk_seg dksX12_finds_3 24 rfl rfl
theorem dksX12_finds_5 : cX12_finds.data.toList.drop 118 = dktX12_finds_5 := dk_seg dksX12_finds_4 24 rfl rfl
theorem dksX12_finds_6 : cX12_finds.data.toList.drop 142 = dktX12_finds_6 := dk_seg dksX12_finds_5 24 rfl rfl
theorem dksX12_finds_7 : cX12_finds.data.toList.drop 164 = dktX12_finds_7 := dk_seg dksX12_finds_6 22 rfl rfl
theorem dksX12_finds_8 : cX12_finds.data.toList.drop 186 = dktX12_finds_8 := dk_seg dksX12_finds_7 22 rfl rfl
theorem dksX12_finds_9 : cX12_finds.data.toList.drop 208 = dktX12_finds_9 := dk_seg dksX12_finds_8 22 rfl rfl
theorem dX12_finds_0 : decode cX12_finds 0 = .ok (.iconst 0, 1) := dk_3 (dk_at dksX12_finds_0 0 rfl rfl)
theorem dX12_finds_1 : decode cX12_finds 1 = .ok (.istore_n 3, 1) := dk_62 (dk_at dksX12_finds_0 1 rfl rfl)
theorem dX12_finds_2 : decode cX12_finds 2 = .ok (.iload_n 3, 1) := dk_29 (dk_at dksX12_finds_0 2 rfl rfl)
theorem dX12_finds_3 : decode cX12_finds 3 = .ok (.aload_n 0, 1) := dk_42 (dk_at dksX12_finds_0 3 rfl rfl)
theorem dX12_finds_4 : decode cX12_finds 4 = .ok (.getfield 74, 3) := dk_180 0 74 (dk_at dksX12_finds_0 4 rfl rfl)
theorem dX12_finds_7 : decode cX12_finds 7 = .ok (.arraylength, 1) := dk_190 (dk_at dksX12_finds_0 7 rfl rfl)
theorem dX12_finds_8 : decode cX12_finds 8 = .ok (.if_icmp .ge 16, 3) := dk_162 0 16 (dk_at dksX12_finds_0 8 rfl rfl)
theorem dX12_finds_11 : decode cX12_finds 11 = .ok (.aload_n 0, 1) := dk_42 (dk_at dksX12_finds_0 11 rfl rfl)
theorem dX12_finds_12 : decode cX12_finds 12 = .ok (.getfield 74, 3) := dk_180 0 74 (dk_at dksX12_finds_0 12 rfl rfl)
theorem dX12_finds_15 : decode cX12_finds 15 = .ok (.iload_n 3, 1) := dk_29 (dk_at dksX12_finds_0 15 rfl rfl)
theorem dX12_finds_16 : decode cX12_finds 16 = .ok (.iconst 0, 1) := dk_3 (dk_at dksX12_finds_0 16 rfl rfl)
theorem dX12_finds_17 : decode cX12_finds 17 = .ok (.bastore, 1) := dk_84 (dk_at dksX12_finds_0 17 rfl rfl)
theorem dX12_finds_18 : decode cX12_finds 18 = .ok (.iinc 3 1, 3) := dk_132 3 1 (dk_at dksX12_finds_0 18 rfl rfl)
theorem dX12_finds_21 : decode cX12_finds 21 = .ok (.goto (-19), 3) := dk_167 255 237 (dk_at dksX12_finds_0 21 rfl rfl)
theorem dX12_finds_24 : decode cX12_finds 24 = .ok (.iconst 0, 1) := dk_3 (dk_at dksX12_finds_1 0 rfl rfl)
theorem dX12_finds_25 : decode cX12_finds 25 = .ok (.istore_n 3, 1) := dk_62 (dk_at dksX12_finds_1 1 rfl rfl)
theorem dX12_finds_26 : decode cX12_finds 26 = .ok (.iconst 1, 1) := dk_4 (dk_at dksX12_finds_1 2 rfl rfl)
theorem dX12_finds_27 : decode cX12_finds 27 = .ok (.istore 4, 2) := dk_54 4 (dk_at dksX12_finds_1 3 rfl rfl)
theorem dX12_finds_29 : decode cX12_finds 29 = .ok (.aload_n 0, 1) := dk_42 (dk_at dksX12_finds_1 5 rfl rfl)
theorem dX12_finds_30 : decode cX12_finds 30 = .ok (.getfield 65, 3) := dk_180 0 65 (dk_at dksX12_finds_1 6 rfl rfl)
theorem dX12_finds_33 : decode cX12_finds 33 = .ok (.iconst 0, 1) := dk_3 (dk_at dksX12_finds_1 9 rfl rfl)
theorem dX12_finds_34 : decode cX12_finds 34 = .ok (.aload_n 0, 1) := dk_42 (dk_at dksX12_finds_1 10 rfl rfl)
theorem dX12_finds_35 : decode cX12_finds 35 = .ok (.getfield 13, 3) := dk_180 0 13 (dk_at dksX12_finds_1 11 rfl rfl)
theorem dX12_finds_38 : decode cX12_finds 38 = .ok (.sipush 1864, 3) := dk_17 7 72 (dk_at dksX12_finds_1 14 rfl rfl)
theorem dX12_finds_41 : decode cX12_finds 41 = .ok (.iload_n 1, 1) := dk_27 (dk_at dksX12_finds_1 17 rfl rfl)
theorem dX12_finds_42 : decode cX12_finds 42 = .ok (.iadd, 1) := dk_96 (dk_at dksX12_finds_1 18 rfl rfl)
theorem dX12_finds_43 : decode cX12_finds 43 = .ok (.iaload, 1) := dk_46 (dk_at dksX12_finds_1 19 rfl rfl)
theorem dX12_finds_44 : decode cX12_finds 44 = .ok (.iastore, 1) := dk_79 (dk_at dksX12_finds_1 20 rfl rfl)
theorem dX12_finds_45 : decode cX12_finds 45 = .ok (.aload_n 0, 1) := dk_42 (dk_at dksX12_finds_1 21 rfl rfl)
theorem dX12_finds_46 : decode cX12_finds 46 = .ok (.getfield 71, 3) := dk_180 0 71 (dk_at dksX12_finds_2 0 rfl rfl)
theorem dX12_finds_49 : decode cX12_finds 49 = .ok (.iconst 0, 1) := dk_3 (dk_at dksX12_finds_2 3 rfl rfl)
theorem dX12_finds_50 : decode cX12_finds 50 = .ok (.iconst (-1), 1) := dk_2 (dk_at dksX12_finds_2 4 rfl rfl)
theorem dX12_finds_51 : decode cX12_finds 51 = .ok (.iastore, 1) := dk_79 (dk_at dksX12_finds_2 5 rfl rfl)
theorem dX12_finds_52 : decode cX12_finds 52 = .ok (.aload_n 0, 1) := dk_42 (dk_at dksX12_finds_2 6 rfl rfl)
theorem dX12_finds_53 : decode cX12_finds 53 = .ok (.getfield 74, 3) := dk_180 0 74 (dk_at dksX12_finds_2 7 rfl rfl)
theorem dX12_finds_56 : decode cX12_finds 56 = .ok (.aload_n 0, 1) := dk_42 (dk_at dksX12_finds_2 10 rfl rfl)
theorem dX12_finds_57 : decode cX12_finds 57 = .ok (.getfield 65, 3) := dk_180 0 65 (dk_at dksX12_finds_2 11 rfl rfl)
theorem dX12_finds_60 : decode cX12_finds 60 = .ok (.iconst 0, 1) := dk_3 (dk_at dksX12_finds_2 14 rfl rfl)
theorem dX12_finds_61 : decode cX12_finds 61 = .ok (.iaload, 1) := dk_46 (dk_at dksX12_finds_2 15 rfl rfl)
theorem dX12_finds_62 : decode cX12_finds 62 = .ok (.iconst 1, 1) := dk_4 (dk_at dksX12_finds_2 16 rfl rfl)
theorem dX12_finds_63 : decode cX12_finds 63 = .ok (.bastore, 1) := dk_84 (dk_at dksX12_finds_2 17 rfl rfl)
theorem dX12_finds_64 : decode cX12_finds 64 = .ok (.iload_n 3, 1) := dk_29 (dk_at dksX12_finds_2 18 rfl rfl)
theorem dX12_finds_65 : decode cX12_finds 65 = .ok (.iload 4, 2) := dk_21 4 (dk_at dksX12_finds_2 19 rfl rfl)
theorem dX12_finds_67 : decode cX12_finds 67 = .ok (.if_icmp .ge 156, 3) := dk_162 0 156 (dk_at dksX12_finds_2 21 rfl rfl)
theorem dX12_finds_70 : decode cX12_finds 70 = .ok (.aload_n 0, 1) := dk_42 (dk_at dksX12_finds_3 0 rfl rfl)
theorem dX12_finds_71 : decode cX12_finds 71 = .ok (.getfield 65, 3) := dk_180 0 65 (dk_at dksX12_finds_3 1 rfl rfl)
theorem dX12_finds_74 : decode cX12_finds 74 = .ok (.iload_n 3, 1) := dk_29 (dk_at dksX12_finds_3 4 rfl rfl)
theorem dX12_finds_75 : decode cX12_finds 75 = .ok (.iaload, 1) := dk_46 (dk_at dksX12_finds_3 5 rfl rfl)
theorem dX12_finds_76 : decode cX12_finds 76 = .ok (.istore 5, 2) := dk_54 5 (dk_at dksX12_finds_3 6 rfl rfl)
theorem dX12_finds_78 : decode cX12_finds 78 = .ok (.iconst 0, 1) := dk_3 (dk_at dksX12_finds_3 8 rfl rfl)
theorem dX12_finds_79 : decode cX12_finds 79 = .ok (.istore 6, 2) := dk_54 6 (dk_at dksX12_finds_3 9 rfl rfl)
theorem dX12_finds_81 : decode cX12_finds 81 = .ok (.iload 6, 2) := dk_21 6 (dk_at dksX12_finds_3 11 rfl rfl)
theorem dX12_finds_83 : decode cX12_finds 83 = .ok (.aload_n 0, 1) := dk_42 (dk_at dksX12_finds_3 13 rfl rfl)
theorem dX12_finds_84 : decode cX12_finds 84 = .ok (.getfield 13, 3) := dk_180 0 13 (dk_at dksX12_finds_3 14 rfl rfl)
theorem dX12_finds_87 : decode cX12_finds 87 = .ok (.iconst 0, 1) := dk_3 (dk_at dksX12_finds_3 17 rfl rfl)
theorem dX12_finds_88 : decode cX12_finds 88 = .ok (.iaload, 1) := dk_46 (dk_at dksX12_finds_3 18 rfl rfl)
theorem dX12_finds_89 : decode cX12_finds 89 = .ok (.if_icmp .ge 128, 3) := dk_162 0 128 (dk_at dksX12_finds_3 19 rfl rfl)
theorem dX12_finds_92 : decode cX12_finds 92 = .ok (.iload 6, 2) := dk_21 6 (dk_at dksX12_finds_3 22 rfl rfl)
theorem dX12_finds_94 : decode cX12_finds 94 = .ok (.iload_n 1, 1) := dk_27 (dk_at dksX12_finds_4 0 rfl rfl)
theorem dX12_finds_95 : decode cX12_finds 95 = .ok (.if_icmp .eq 116, 3) := dk_159 0 116 (dk_at dksX12_finds_4 1 rfl rfl)
theorem dX12_finds_98 : decode cX12_finds 98 = .ok (.iload 5, 2) := dk_21 5 (dk_at dksX12_finds_4 4 rfl rfl)
theorem dX12_finds_100 : decode cX12_finds 100 = .ok (.iload 6, 2) := dk_21 6 (dk_at dksX12_finds_4 6 rfl rfl)
theorem dX12_finds_102 : decode cX12_finds 102 = .ok (.invokestatic 294, 3) := dk_184 1 38 (dk_at dksX12_finds_4 8 rfl rfl)
theorem dX12_finds_105 : decode cX12_finds 105 = .ok (.ifCond .ne 106, 3) := dk_154 0 106 (dk_at dksX12_finds_4 11 rfl rfl)
theorem dX12_finds_108 : decode cX12_finds 108 = .ok (.aload_n 0, 1) := dk_42 (dk_at dksX12_finds_4 14 rfl rfl)
theorem dX12_finds_109 : decode cX12_finds 109 = .ok (.iload 6, 2) := dk_21 6 (dk_at dksX12_finds_4 15 rfl rfl)
theorem dX12_finds_111 : decode cX12_finds 111 = .ok (.aload_n 0, 1) := dk_42 (dk_at dksX12_finds_4 17 rfl rfl)
theorem dX12_finds_112 : decode cX12_finds 112 = .ok (.invokevirtual 291, 3) := dk_182 1 35 (dk_at dksX12_finds_4 18 rfl rfl)
theorem dX12_finds_115 : decode cX12_finds 115 = .ok (.invokevirtual 301, 3) := dk_182 1 45 (dk_at dksX12_finds_4 21 rfl rfl)
theorem dX12_finds_118 : decode cX12_finds 118 = .ok (.ifCond .eq 93, 3) := dk_153 0 93 (dk_at dksX12_finds_5 0 rfl rfl)
theorem dX12_finds_121 : decode cX12_finds 121 = .ok (.aload_n 0, 1) := dk_42 (dk_at dksX12_finds_5 3 rfl rfl)
theorem dX12_finds_122 : decode cX12_finds 122 = .ok (.iload 5, 2) := dk_21 5 (dk_at dksX12_finds_5 4 rfl rfl)
theorem dX12_finds_124 : decode cX12_finds 124 = .ok (.iload 6, 2) := dk_21 6 (dk_at dksX12_finds_5 6 rfl rfl)
theorem dX12_finds_126 : decode cX12_finds 126 = .ok (.invokevirtual 310, 3) := dk_182 1 54 (dk_at dksX12_finds_5 8 rfl rfl)
theorem dX12_finds_129 : decode cX12_finds 129 = .ok (.ifCond .eq 82, 3) := dk_153 0 82 (dk_at dksX12_finds_5 11 rfl rfl)
theorem dX12_finds_132 : decode cX12_finds 132 = .ok (.aload_n 0, 1) := dk_42 (dk_at dksX12_finds_5 14 rfl rfl)
theorem dX12_finds_133 : decode cX12_finds 133 = .ok (.getfield 74, 3) := dk_180 0 74 (dk_at dksX12_finds_5 15 rfl rfl)
theorem dX12_finds_136 : decode cX12_finds 136 = .ok (.iload 5, 2) := dk_21 5 (dk_at dksX12_finds_5 18 rfl rfl)
theorem dX12_finds_138 : decode cX12_finds 138 = .ok (.iconst 1, 1) := dk_4 (dk_at dksX12_finds_5 20 rfl rfl)
theorem dX12_finds_139 : decode cX12_finds 139 = .ok (.iload 6, 2) := dk_21 6 (dk_at dksX12_finds_5 21 rfl rfl)
theorem dX12_finds_141 : decode cX12_finds 141 = .ok (.ishl, 1) := dk_120 (dk_at dksX12_finds_5 23 rfl rfl)
theorem dX12_finds_142 : decode cX12_finds 142 = .ok (.ior, 1) := dk_128 (dk_at dksX12_finds_6 0 rfl rfl)
theorem dX12_finds_143 : decode cX12_finds 143 = .ok (.baload, 1) := dk_51 (dk_at dksX12_finds_6 1 rfl rfl)
theorem dX12_finds_144 : decode cX12_finds 144 = .ok (.ifCond .eq 6, 3) := dk_153 0 6 (dk_at dksX12_finds_6 2 rfl rfl)
theorem dX12_finds_147 : decode cX12_finds 147 = .ok (.goto 64, 3) := dk_167 0 64 (dk_at dksX12_finds_6 5 rfl rfl)
theorem dX12_finds_150 : decode cX12_finds 150 = .ok (.aload_n 0, 1) := dk_42 (dk_at dksX12_finds_6 8 rfl rfl)
theorem dX12_finds_151 : decode cX12_finds 151 = .ok (.getfield 74, 3) := dk_180 0 74 (dk_at dksX12_finds_6 9 rfl rfl)
theorem dX12_finds_154 : decode cX12_finds 154 = .ok (.iload 5, 2) := dk_21 5 (dk_at dksX12_finds_6 12 rfl rfl)
theorem dX12_finds_156 : decode cX12_finds 156 = .ok (.iconst 1, 1) := dk_4 (dk_at dksX12_finds_6 14 rfl rfl)
theorem dX12_finds_157 : decode cX12_finds 157 = .ok (.iload 6, 2) := dk_21 6 (dk_at dksX12_finds_6 15 rfl rfl)
theorem dX12_finds_159 : decode cX12_finds 159 = .ok (.ishl, 1) := dk_120 (dk_at dksX12_finds_6 17 rfl rfl)
theorem dX12_finds_160 : decode cX12_finds 160 = .ok (.ior, 1) := dk_128 (dk_at dksX12_finds_6 18 rfl rfl)
theorem dX12_finds_161 : decode cX12_finds 161 = .ok (.iconst 1, 1) := dk_4 (dk_at dksX12_finds_6 19 rfl rfl)
theorem dX12_finds_162 : decode cX12_finds 162 = .ok (.bastore, 1) := dk_84 (dk_at dksX12_finds_6 20 rfl rfl)
theorem dX12_finds_163 : decode cX12_finds 163 = .ok (.aload_n 0, 1) := dk_42 (dk_at dksX12_finds_6 21 rfl rfl)
theorem dX12_finds_164 : decode cX12_finds 164 = .ok (.getfield 65, 3) := dk_180 0 65 (dk_at dksX12_finds_7 0 rfl rfl)
theorem dX12_finds_167 : decode cX12_finds 167 = .ok (.iload 4, 2) := dk_21 4 (dk_at dksX12_finds_7 3 rfl rfl)
theorem dX12_finds_169 : decode cX12_finds 169 = .ok (.iload 5, 2) := dk_21 5 (dk_at dksX12_finds_7 5 rfl rfl)
theorem dX12_finds_171 : decode cX12_finds 171 = .ok (.iconst 1, 1) := dk_4 (dk_at dksX12_finds_7 7 rfl rfl)
theorem dX12_finds_172 : decode cX12_finds 172 = .ok (.iload 6, 2) := dk_21 6 (dk_at dksX12_finds_7 8 rfl rfl)
theorem dX12_finds_174 : decode cX12_finds 174 = .ok (.ishl, 1) := dk_120 (dk_at dksX12_finds_7 10 rfl rfl)
theorem dX12_finds_175 : decode cX12_finds 175 = .ok (.ior, 1) := dk_128 (dk_at dksX12_finds_7 11 rfl rfl)
theorem dX12_finds_176 : decode cX12_finds 176 = .ok (.iastore, 1) := dk_79 (dk_at dksX12_finds_7 12 rfl rfl)
theorem dX12_finds_177 : decode cX12_finds 177 = .ok (.aload_n 0, 1) := dk_42 (dk_at dksX12_finds_7 13 rfl rfl)
theorem dX12_finds_178 : decode cX12_finds 178 = .ok (.getfield 71, 3) := dk_180 0 71 (dk_at dksX12_finds_7 14 rfl rfl)
theorem dX12_finds_181 : decode cX12_finds 181 = .ok (.iload 4, 2) := dk_21 4 (dk_at dksX12_finds_7 17 rfl rfl)
theorem dX12_finds_183 : decode cX12_finds 183 = .ok (.iload_n 3, 1) := dk_29 (dk_at dksX12_finds_7 19 rfl rfl)
theorem dX12_finds_184 : decode cX12_finds 184 = .ok (.iastore, 1) := dk_79 (dk_at dksX12_finds_7 20 rfl rfl)
theorem dX12_finds_185 : decode cX12_finds 185 = .ok (.aload_n 0, 1) := dk_42 (dk_at dksX12_finds_7 21 rfl rfl)
theorem dX12_finds_186 : decode cX12_finds 186 = .ok (.getfield 68, 3) := dk_180 0 68 (dk_at dksX12_finds_8 0 rfl rfl)
theorem dX12_finds_189 : decode cX12_finds 189 = .ok (.iload 4, 2) := dk_21 4 (dk_at dksX12_finds_8 3 rfl rfl)
theorem dX12_finds_191 : decode cX12_finds 191 = .ok (.iload 6, 2) := dk_21 6 (dk_at dksX12_finds_8 5 rfl rfl)
theorem dX12_finds_193 : decode cX12_finds 193 = .ok (.iastore, 1) := dk_79 (dk_at dksX12_finds_8 7 rfl rfl)
theorem dX12_finds_194 : decode cX12_finds 194 = .ok (.iload 6, 2) := dk_21 6 (dk_at dksX12_finds_8 8 rfl rfl)
theorem dX12_finds_196 : decode cX12_finds 196 = .ok (.iload_n 2, 1) := dk_28 (dk_at dksX12_finds_8 10 rfl rfl)
theorem dX12_finds_197 : decode cX12_finds 197 = .ok (.if_icmp .ne 11, 3) := dk_160 0 11 (dk_at dksX12_finds_8 11 rfl rfl)
theorem dX12_finds_200 : decode cX12_finds 200 = .ok (.aload_n 0, 1) := dk_42 (dk_at dksX12_finds_8 14 rfl rfl)
theorem dX12_finds_201 : decode cX12_finds 201 = .ok (.iload 4, 2) := dk_21 4 (dk_at dksX12_finds_8 15 rfl rfl)
theorem dX12_finds_203 : decode cX12_finds 203 = .ok (.invokevirtual 447, 3) := dk_182 1 191 (dk_at dksX12_finds_8 17 rfl rfl)
theorem dX12_finds_206 : decode cX12_finds 206 = .ok (.iconst 1, 1) := dk_4 (dk_at dksX12_finds_8 20 rfl rfl)
theorem dX12_finds_207 : decode cX12_finds 207 = .ok (.ireturn, 1) := dk_172 (dk_at dksX12_finds_8 21 rfl rfl)
theorem dX12_finds_208 : decode cX12_finds 208 = .ok (.iinc 4 1, 3) := dk_132 4 1 (dk_at dksX12_finds_9 0 rfl rfl)
theorem dX12_finds_211 : decode cX12_finds 211 = .ok (.iinc 6 1, 3) := dk_132 6 1 (dk_at dksX12_finds_9 3 rfl rfl)
theorem dX12_finds_214 : decode cX12_finds 214 = .ok (.goto (-133), 3) := dk_167 255 123 (dk_at dksX12_finds_9 6 rfl rfl)
theorem dX12_finds_217 : decode cX12_finds 217 = .ok (.iinc 3 1, 3) := dk_132 3 1 (dk_at dksX12_finds_9 9 rfl rfl)
theorem dX12_finds_220 : decode cX12_finds 220 = .ok (.goto (-156), 3) := dk_167 255 100 (dk_at dksX12_finds_9 12 rfl rfl)
theorem dX12_finds_223 : decode cX12_finds 223 = .ok (.iconst 0, 1) := dk_3 (dk_at dksX12_finds_9 15 rfl rfl)
theorem dX12_finds_224 : decode cX12_finds 224 = .ok (.ireturn, 1) := dk_172 (dk_at dksX12_finds_9 16 rfl rfl)
abbrev cX12_walks : ByteArray := prog_25_method_84_code
def yX12_walks : MethodName := ⟨RX12, "walks", "(I)V"⟩
def dkwX12_walks_3 : List UInt8 := [180, 0, 71, 29, 46, 62, 167, 255, 224, 177]
abbrev dktX12_walks_3 : List UInt8 := dkwX12_walks_3 ++ []
def dkwX12_walks_2 : List UInt8 := [29, 46, 2, 159, 0, 28, 132, 2, 255, 42, 180, 0, 77, 28, 42, 180, 0, 68, 29, 46, 79, 42]
abbrev dktX12_walks_2 : List UInt8 := dkwX12_walks_2 ++ dktX12_walks_3
def dkwX12_walks_1 : List UInt8 := [181, 1, 194, 42, 180, 0, 71, 28, 46, 61, 167, 255, 229, 42, 180, 1, 194, 61, 27, 62, 42, 180, 0, 71]
abbrev dktX12_walks_1 : List UInt8 := dkwX12_walks_1 ++ dktX12_walks_2
def dkwX12_walks_0 : List UInt8 := [42, 3, 181, 1, 194, 27, 61, 42, 180, 0, 71, 28, 46, 2, 159, 0, 23, 42, 89, 180, 1, 194, 4, 96]
abbrev dktX12_walks_0 : List UInt8 := dkwX12_walks_0 ++ dktX12_walks_1
theorem dksX12_walks_0 : cX12_walks.data.toList.drop 0 = dktX12_walks_0 := by decide +kernel
theorem dksX12_walks_1 : cX12_walks.data.toList.drop 24 = dktX12_walks_1 := dk_seg dksX12_walks_0 24 rfl rfl
theorem dksX12_walks_2 : cX12_walks.data.toList.drop 48 = dktX12_walks_2 := dk_seg dksX12_walks_1 24 rfl rfl
theorem dksX12_walks_3 : cX12_walks.data.toList.drop 70 = dktX12_walks_3 := dk_seg dksX12_walks_2 22 rfl rfl
theorem dX12_walks_0 : decode cX12_walks 0 = .ok (.aload_n 0, 1) := dk_42 (dk_at dksX12_walks_0 0 rfl rfl)
theorem dX12_walks_1 : decode cX12_walks 1 = .ok (.iconst 0, 1) := dk_3 (dk_at dksX12_walks_0 1 rfl rfl)
theorem dX12_walks_2 : decode cX12_walks 2 = .ok (.putfield 450, 3) := dk_181 1 194 (dk_at dksX12_walks_0 2 rfl rfl)
theorem dX12_walks_5 : decode cX12_walks 5 = .ok (.iload_n 1, 1) := dk_27 (dk_at dksX12_walks_0 5 rfl rfl)
theorem dX12_walks_6 : decode cX12_walks 6 = .ok (.istore_n 2, 1) := dk_61 (dk_at dksX12_walks_0 6 rfl rfl)
theorem dX12_walks_7 : decode cX12_walks 7 = .ok (.aload_n 0, 1) := dk_42 (dk_at dksX12_walks_0 7 rfl rfl)
theorem dX12_walks_8 : decode cX12_walks 8 = .ok (.getfield 71, 3) := dk_180 0 71 (dk_at dksX12_walks_0 8 rfl rfl)
theorem dX12_walks_11 : decode cX12_walks 11 = .ok (.iload_n 2, 1) := dk_28 (dk_at dksX12_walks_0 11 rfl rfl)
theorem dX12_walks_12 : decode cX12_walks 12 = .ok (.iaload, 1) := dk_46 (dk_at dksX12_walks_0 12 rfl rfl)
theorem dX12_walks_13 : decode cX12_walks 13 = .ok (.iconst (-1), 1) := dk_2 (dk_at dksX12_walks_0 13 rfl rfl)
theorem dX12_walks_14 : decode cX12_walks 14 = .ok (.if_icmp .eq 23, 3) := dk_159 0 23 (dk_at dksX12_walks_0 14 rfl rfl)
theorem dX12_walks_17 : decode cX12_walks 17 = .ok (.aload_n 0, 1) := dk_42 (dk_at dksX12_walks_0 17 rfl rfl)
theorem dX12_walks_18 : decode cX12_walks 18 = .ok (.dup, 1) := dk_89 (dk_at dksX12_walks_0 18 rfl rfl)
theorem dX12_walks_19 : decode cX12_walks 19 = .ok (.getfield 450, 3) := dk_180 1 194 (dk_at dksX12_walks_0 19 rfl rfl)
theorem dX12_walks_22 : decode cX12_walks 22 = .ok (.iconst 1, 1) := dk_4 (dk_at dksX12_walks_0 22 rfl rfl)
theorem dX12_walks_23 : decode cX12_walks 23 = .ok (.iadd, 1) := dk_96 (dk_at dksX12_walks_0 23 rfl rfl)
theorem dX12_walks_24 : decode cX12_walks 24 = .ok (.putfield 450, 3) := dk_181 1 194 (dk_at dksX12_walks_1 0 rfl rfl)
theorem dX12_walks_27 : decode cX12_walks 27 = .ok (.aload_n 0, 1) := dk_42 (dk_at dksX12_walks_1 3 rfl rfl)
theorem dX12_walks_28 : decode cX12_walks 28 = .ok (.getfield 71, 3) := dk_180 0 71 (dk_at dksX12_walks_1 4 rfl rfl)
theorem dX12_walks_31 : decode cX12_walks 31 = .ok (.iload_n 2, 1) := dk_28 (dk_at dksX12_walks_1 7 rfl rfl)
theorem dX12_walks_32 : decode cX12_walks 32 = .ok (.iaload, 1) := dk_46 (dk_at dksX12_walks_1 8 rfl rfl)
theorem dX12_walks_33 : decode cX12_walks 33 = .ok (.istore_n 2, 1) := dk_61 (dk_at dksX12_walks_1 9 rfl rfl)
theorem dX12_walks_34 : decode cX12_walks 34 = .ok (.goto (-27), 3) := dk_167 255 229 (dk_at dksX12_walks_1 10 rfl rfl)
theorem dX12_walks_37 : decode cX12_walks 37 = .ok (.aload_n 0, 1) := dk_42 (dk_at dksX12_walks_1 13 rfl rfl)
theorem dX12_walks_38 : decode cX12_walks 38 = .ok (.getfield 450, 3) := dk_180 1 194 (dk_at dksX12_walks_1 14 rfl rfl)
theorem dX12_walks_41 : decode cX12_walks 41 = .ok (.istore_n 2, 1) := dk_61 (dk_at dksX12_walks_1 17 rfl rfl)
theorem dX12_walks_42 : decode cX12_walks 42 = .ok (.iload_n 1, 1) := dk_27 (dk_at dksX12_walks_1 18 rfl rfl)
theorem dX12_walks_43 : decode cX12_walks 43 = .ok (.istore_n 3, 1) := dk_62 (dk_at dksX12_walks_1 19 rfl rfl)
theorem dX12_walks_44 : decode cX12_walks 44 = .ok (.aload_n 0, 1) := dk_42 (dk_at dksX12_walks_1 20 rfl rfl)
theorem dX12_walks_45 : decode cX12_walks 45 = .ok (.getfield 71, 3) := dk_180 0 71 (dk_at dksX12_walks_1 21 rfl rfl)
theorem dX12_walks_48 : decode cX12_walks 48 = .ok (.iload_n 3, 1) := dk_29 (dk_at dksX12_walks_2 0 rfl rfl)
theorem dX12_walks_49 : decode cX12_walks 49 = .ok (.iaload, 1) := dk_46 (dk_at dksX12_walks_2 1 rfl rfl)
theorem dX12_walks_50 : decode cX12_walks 50 = .ok (.iconst (-1), 1) := dk_2 (dk_at dksX12_walks_2 2 rfl rfl)
theorem dX12_walks_51 : decode cX12_walks 51 = .ok (.if_icmp .eq 28, 3) := dk_159 0 28 (dk_at dksX12_walks_2 3 rfl rfl)
theorem dX12_walks_54 : decode cX12_walks 54 = .ok (.iinc 2 (-1), 3) := dk_132 2 255 (dk_at dksX12_walks_2 6 rfl rfl)
theorem dX12_walks_57 : decode cX12_walks 57 = .ok (.aload_n 0, 1) := dk_42 (dk_at dksX12_walks_2 9 rfl rfl)
theorem dX12_walks_58 : decode cX12_walks 58 = .ok (.getfield 77, 3) := dk_180 0 77 (dk_at dksX12_walks_2 10 rfl rfl)
theorem dX12_walks_61 : decode cX12_walks 61 = .ok (.iload_n 2, 1) := dk_28 (dk_at dksX12_walks_2 13 rfl rfl)
theorem dX12_walks_62 : decode cX12_walks 62 = .ok (.aload_n 0, 1) := dk_42 (dk_at dksX12_walks_2 14 rfl rfl)
theorem dX12_walks_63 : decode cX12_walks 63 = .ok (.getfield 68, 3) := dk_180 0 68 (dk_at dksX12_walks_2 15 rfl rfl)
theorem dX12_walks_66 : decode cX12_walks 66 = .ok (.iload_n 3, 1) := dk_29 (dk_at dksX12_walks_2 18 rfl rfl)
theorem dX12_walks_67 : decode cX12_walks 67 = .ok (.iaload, 1) := dk_46 (dk_at dksX12_walks_2 19 rfl rfl)
theorem dX12_walks_68 : decode cX12_walks 68 = .ok (.iastore, 1) := dk_79 (dk_at dksX12_walks_2 20 rfl rfl)
theorem dX12_walks_69 : decode cX12_walks 69 = .ok (.aload_n 0, 1) := dk_42 (dk_at dksX12_walks_2 21 rfl rfl)
theorem dX12_walks_70 : decode cX12_walks 70 = .ok (.getfield 71, 3) := dk_180 0 71 (dk_at dksX12_walks_3 0 rfl rfl)
theorem dX12_walks_73 : decode cX12_walks 73 = .ok (.iload_n 3, 1) := dk_29 (dk_at dksX12_walks_3 3 rfl rfl)
theorem dX12_walks_74 : decode cX12_walks 74 = .ok (.iaload, 1) := dk_46 (dk_at dksX12_walks_3 4 rfl rfl)
theorem dX12_walks_75 : decode cX12_walks 75 = .ok (.istore_n 3, 1) := dk_62 (dk_at dksX12_walks_3 5 rfl rfl)
theorem dX12_walks_76 : decode cX12_walks 76 = .ok (.goto (-32), 3) := dk_167 255 224 (dk_at dksX12_walks_3 6 rfl rfl)
theorem dX12_walks_79 : decode cX12_walks 79 = .ok (.return_, 1) := dk_177 (dk_at dksX12_walks_3 9 rfl rfl)
abbrev cX12_path : ByteArray := prog_25_method_86_code
def yX12_path : MethodName := ⟨RX12, "path", "(III)I"⟩
def dkwX12_path_2 : List UInt8 := [180, 0, 77, 29, 46, 167, 0, 4, 2, 172]
abbrev dktX12_path_2 : List UInt8 := dkwX12_path_2 ++ []
def dkwX12_path_1 : List UInt8 := [182, 1, 197, 153, 0, 28, 29, 133, 9, 42, 180, 1, 194, 4, 100, 133, 184, 0, 101, 153, 0, 12, 42]
abbrev dktX12_path_1 : List UInt8 := dkwX12_path_1 ++ dktX12_path_2
def dkwX12_path_0 : List UInt8 := [42, 27, 28, 182, 1, 59, 154, 0, 6, 16, 254, 172, 42, 27, 28, 182, 1, 48, 154, 0, 37, 42, 27, 28]
abbrev dktX12_path_0 : List UInt8 := dkwX12_path_0 ++ dktX12_path_1
theorem dksX12_path_0 : cX12_path.data.toList.drop 0 = dktX12_path_0 := by decide +kernel
theorem dksX12_path_1 : cX12_path.data.toList.drop 24 = dktX12_path_1 := dk_seg dksX12_path_0 24 rfl rfl
theorem dksX12_path_2 : cX12_path.data.toList.drop 47 = dktX12_path_2 := dk_seg dksX12_path_1 23 rfl rfl
theorem dX12_path_0 : decode cX12_path 0 = .ok (.aload_n 0, 1) := dk_42 (dk_at dksX12_path_0 0 rfl rfl)
theorem dX12_path_1 : decode cX12_path 1 = .ok (.iload_n 1, 1) := dk_27 (dk_at dksX12_path_0 1 rfl rfl)
theorem dX12_path_2 : decode cX12_path 2 = .ok (.iload_n 2, 1) := dk_28 (dk_at dksX12_path_0 2 rfl rfl)
theorem dX12_path_3 : decode cX12_path 3 = .ok (.invokevirtual 315, 3) := dk_182 1 59 (dk_at dksX12_path_0 3 rfl rfl)
theorem dX12_path_6 : decode cX12_path 6 = .ok (.ifCond .ne 6, 3) := dk_154 0 6 (dk_at dksX12_path_0 6 rfl rfl)
theorem dX12_path_9 : decode cX12_path 9 = .ok (.bipush (-2), 2) := dk_16 254 (dk_at dksX12_path_0 9 rfl rfl)
theorem dX12_path_11 : decode cX12_path 11 = .ok (.ireturn, 1) := dk_172 (dk_at dksX12_path_0 11 rfl rfl)
theorem dX12_path_12 : decode cX12_path 12 = .ok (.aload_n 0, 1) := dk_42 (dk_at dksX12_path_0 12 rfl rfl)
theorem dX12_path_13 : decode cX12_path 13 = .ok (.iload_n 1, 1) := dk_27 (dk_at dksX12_path_0 13 rfl rfl)
theorem dX12_path_14 : decode cX12_path 14 = .ok (.iload_n 2, 1) := dk_28 (dk_at dksX12_path_0 14 rfl rfl)
theorem dX12_path_15 : decode cX12_path 15 = .ok (.invokevirtual 304, 3) := dk_182 1 48 (dk_at dksX12_path_0 15 rfl rfl)
theorem dX12_path_18 : decode cX12_path 18 = .ok (.ifCond .ne 37, 3) := dk_154 0 37 (dk_at dksX12_path_0 18 rfl rfl)
theorem dX12_path_21 : decode cX12_path 21 = .ok (.aload_n 0, 1) := dk_42 (dk_at dksX12_path_0 21 rfl rfl)
theorem dX12_path_22 : decode cX12_path 22 = .ok (.iload_n 1, 1) := dk_27 (dk_at dksX12_path_0 22 rfl rfl)
theorem dX12_path_23 : decode cX12_path 23 = .ok (.iload_n 2, 1) := dk_28 (dk_at dksX12_path_0 23 rfl rfl)
theorem dX12_path_24 : decode cX12_path 24 = .ok (.invokevirtual 453, 3) := dk_182 1 197 (dk_at dksX12_path_1 0 rfl rfl)
theorem dX12_path_27 : decode cX12_path 27 = .ok (.ifCond .eq 28, 3) := dk_153 0 28 (dk_at dksX12_path_1 3 rfl rfl)
theorem dX12_path_30 : decode cX12_path 30 = .ok (.iload_n 3, 1) := dk_29 (dk_at dksX12_path_1 6 rfl rfl)
theorem dX12_path_31 : decode cX12_path 31 = .ok (.i2l, 1) := dk_133 (dk_at dksX12_path_1 7 rfl rfl)
theorem dX12_path_32 : decode cX12_path 32 = .ok (.lconst 0, 1) := dk_9 (dk_at dksX12_path_1 8 rfl rfl)
theorem dX12_path_33 : decode cX12_path 33 = .ok (.aload_n 0, 1) := dk_42 (dk_at dksX12_path_1 9 rfl rfl)
theorem dX12_path_34 : decode cX12_path 34 = .ok (.getfield 450, 3) := dk_180 1 194 (dk_at dksX12_path_1 10 rfl rfl)
theorem dX12_path_37 : decode cX12_path 37 = .ok (.iconst 1, 1) := dk_4 (dk_at dksX12_path_1 13 rfl rfl)
theorem dX12_path_38 : decode cX12_path 38 = .ok (.isub, 1) := dk_100 (dk_at dksX12_path_1 14 rfl rfl)
theorem dX12_path_39 : decode cX12_path 39 = .ok (.i2l, 1) := dk_133 (dk_at dksX12_path_1 15 rfl rfl)
theorem dX12_path_40 : decode cX12_path 40 = .ok (.invokestatic 101, 3) := dk_184 0 101 (dk_at dksX12_path_1 16 rfl rfl)
theorem dX12_path_43 : decode cX12_path 43 = .ok (.ifCond .eq 12, 3) := dk_153 0 12 (dk_at dksX12_path_1 19 rfl rfl)
theorem dX12_path_46 : decode cX12_path 46 = .ok (.aload_n 0, 1) := dk_42 (dk_at dksX12_path_1 22 rfl rfl)
theorem dX12_path_47 : decode cX12_path 47 = .ok (.getfield 77, 3) := dk_180 0 77 (dk_at dksX12_path_2 0 rfl rfl)
theorem dX12_path_50 : decode cX12_path 50 = .ok (.iload_n 3, 1) := dk_29 (dk_at dksX12_path_2 3 rfl rfl)
theorem dX12_path_51 : decode cX12_path 51 = .ok (.iaload, 1) := dk_46 (dk_at dksX12_path_2 4 rfl rfl)
theorem dX12_path_52 : decode cX12_path 52 = .ok (.goto 4, 3) := dk_167 0 4 (dk_at dksX12_path_2 5 rfl rfl)
theorem dX12_path_55 : decode cX12_path 55 = .ok (.iconst (-1), 1) := dk_2 (dk_at dksX12_path_2 8 rfl rfl)
theorem dX12_path_56 : decode cX12_path 56 = .ok (.ireturn, 1) := dk_172 (dk_at dksX12_path_2 9 rfl rfl)
abbrev cX12_reach : ByteArray := prog_25_method_88_code
def yX12_reach : MethodName := ⟨RX12, "reach", "(I)I"⟩
def dkwX12_reach_0 : List UInt8 := [42, 27, 182, 0, 105, 153, 0, 13, 42, 27, 2, 2, 182, 1, 200, 167, 0, 5, 16, 254, 172]
abbrev dktX12_reach_0 : List UInt8 := dkwX12_reach_0 ++ []
theorem dksX12_reach_0 : cX12_reach.data.toList.drop 0 = dktX12_reach_0 := by decide +kernel
theorem dX12_reach_0 : decode cX12_reach 0 = .ok (.aload_n 0, 1) := dk_42 (dk_at dksX12_reach_0 0 rfl rfl)
theorem dX12_reach_1 : decode cX12_reach 1 = .ok (.iload_n 1, 1) := dk_27 (dk_at dksX12_reach_0 1 rfl rfl)
theorem dX12_reach_2 : decode cX12_reach 2 = .ok (.invokevirtual 105, 3) := dk_182 0 105 (dk_at dksX12_reach_0 2 rfl rfl)
theorem dX12_reach_5 : decode cX12_reach 5 = .ok (.ifCond .eq 13, 3) := dk_153 0 13 (dk_at dksX12_reach_0 5 rfl rfl)
theorem dX12_reach_8 : decode cX12_reach 8 = .ok (.aload_n 0, 1) := dk_42 (dk_at dksX12_reach_0 8 rfl rfl)
theorem dX12_reach_9 : decode cX12_reach 9 = .ok (.iload_n 1, 1) := dk_27 (dk_at dksX12_reach_0 9 rfl rfl)
theorem dX12_reach_10 : decode cX12_reach 10 = .ok (.iconst (-1), 1) := dk_2 (dk_at dksX12_reach_0 10 rfl rfl)
theorem dX12_reach_11 : decode cX12_reach 11 = .ok (.iconst (-1), 1) := dk_2 (dk_at dksX12_reach_0 11 rfl rfl)
theorem dX12_reach_12 : decode cX12_reach 12 = .ok (.invokevirtual 456, 3) := dk_182 1 200 (dk_at dksX12_reach_0 12 rfl rfl)
theorem dX12_reach_15 : decode cX12_reach 15 = .ok (.goto 5, 3) := dk_167 0 5 (dk_at dksX12_reach_0 15 rfl rfl)
theorem dX12_reach_18 : decode cX12_reach 18 = .ok (.bipush (-2), 2) := dk_16 254 (dk_at dksX12_reach_0 18 rfl rfl)
theorem dX12_reach_20 : decode cX12_reach 20 = .ok (.ireturn, 1) := dk_172 (dk_at dksX12_reach_0 20 rfl rfl)
abbrev cX12_hangs : ByteArray := prog_25_method_87_code
def yX12_hangs : MethodName := ⟨RX12, "hangs", "(III)I"⟩
def dkwX12_hangs_4 : List UInt8 := [128, 54, 4, 132, 6, 1, 167, 255, 177, 167, 255, 160, 21, 4, 172]
abbrev dktX12_hangs_4 : List UInt8 := dkwX12_hangs_4 ++ []
def dkwX12_hangs_3 : List UInt8 := [130, 126, 54, 7, 21, 6, 29, 160, 0, 13, 21, 7, 4, 28, 120, 2, 130, 126, 54, 7, 21, 4, 21, 7]
abbrev dktX12_hangs_3 : List UInt8 := dkwX12_hangs_3 ++ dktX12_hangs_4
def dkwX12_hangs_2 : List UInt8 := [180, 0, 13, 17, 7, 72, 21, 6, 96, 46, 54, 7, 21, 6, 28, 160, 0, 13, 21, 7, 4, 29, 120, 2]
abbrev dktX12_hangs_2 : List UInt8 := dkwX12_hangs_2 ++ dktX12_hangs_3
def dkwX12_hangs_1 : List UInt8 := [42, 180, 0, 13, 3, 46, 162, 0, 74, 21, 5, 21, 6, 184, 1, 38, 154, 0, 6, 167, 0, 55, 42]
abbrev dktX12_hangs_1 : List UInt8 := dkwX12_hangs_1 ++ dktX12_hangs_2
def dkwX12_hangs_0 : List UInt8 := [4, 27, 120, 54, 4, 3, 54, 5, 21, 5, 21, 4, 159, 0, 95, 21, 4, 54, 5, 3, 54, 6, 21, 6]
abbrev dktX12_hangs_0 : List UInt8 := dkwX12_hangs_0 ++ dktX12_hangs_1
theorem dksX12_hangs_0 : cX12_hangs.data.toList.drop 0 = dktX12_hangs_0 := by decide +kernel
theorem dksX12_hangs_1 : cX12_hangs.data.toList.drop 24 = dktX12_hangs_1 := dk_seg dksX12_hangs_0 24 rfl rfl
theorem dksX12_hangs_2 : cX12_hangs.data.toList.drop 47 = dktX12_hangs_2 := dk_seg dksX12_hangs_1 23 rfl rfl
theorem dksX12_hangs_3 : cX12_hangs.data.toList.drop 71 = dktX12_hangs_3 := dk_seg dksX12_hangs_2 24 rfl rfl
theorem dksX12_hangs_4 : cX12_hangs.data.toList.drop 95 = dktX12_hangs_4 := dk_seg dksX12_hangs_3 24 rfl rfl
theorem dX12_hangs_0 : decode cX12_hangs 0 = .ok (.iconst 1, 1) := dk_4 (dk_at dksX12_hangs_0 0 rfl rfl)
theorem dX12_hangs_1 : decode cX12_hangs 1 = .ok (.iload_n 1, 1) := dk_27 (dk_at dksX12_hangs_0 1 rfl rfl)
theorem dX12_hangs_2 : decode cX12_hangs 2 = .ok (.ishl, 1) := dk_120 (dk_at dksX12_hangs_0 2 rfl rfl)
theorem dX12_hangs_3 : decode cX12_hangs 3 = .ok (.istore 4, 2) := dk_54 4 (dk_at dksX12_hangs_0 3 rfl rfl)
theorem dX12_hangs_5 : decode cX12_hangs 5 = .ok (.iconst 0, 1) := dk_3 (dk_at dksX12_hangs_0 5 rfl rfl)
theorem dX12_hangs_6 : decode cX12_hangs 6 = .ok (.istore 5, 2) := dk_54 5 (dk_at dksX12_hangs_0 6 rfl rfl)
theorem dX12_hangs_8 : decode cX12_hangs 8 = .ok (.iload 5, 2) := dk_21 5 (dk_at dksX12_hangs_0 8 rfl rfl)
theorem dX12_hangs_10 : decode cX12_hangs 10 = .ok (.iload 4, 2) := dk_21 4 (dk_at dksX12_hangs_0 10 rfl rfl)
theorem dX12_hangs_12 : decode cX12_hangs 12 = .ok (.if_icmp .eq 95, 3) := dk_159 0 95 (dk_at dksX12_hangs_0 12 rfl rfl)
theorem dX12_hangs_15 : decode cX12_hangs 15 = .ok (.iload 4, 2) := dk_21 4 (dk_at dksX12_hangs_0 15 rfl rfl)
theorem dX12_hangs_17 : decode cX12_hangs 17 = .ok (.istore 5, 2) := dk_54 5 (dk_at dksX12_hangs_0 17 rfl rfl)
theorem dX12_hangs_19 : decode cX12_hangs 19 = .ok (.iconst 0, 1) := dk_3 (dk_at dksX12_hangs_0 19 rfl rfl)
theorem dX12_hangs_20 : decode cX12_hangs 20 = .ok (.istore 6, 2) := dk_54 6 (dk_at dksX12_hangs_0 20 rfl rfl)
theorem dX12_hangs_22 : decode cX12_hangs 22 = .ok (.iload 6, 2) := dk_21 6 (dk_at dksX12_hangs_0 22 rfl rfl)
theorem dX12_hangs_24 : decode cX12_hangs 24 = .ok (.aload_n 0, 1) := dk_42 (dk_at dksX12_hangs_1 0 rfl rfl)
theorem dX12_hangs_25 : decode cX12_hangs 25 = .ok (.getfield 13, 3) := dk_180 0 13 (dk_at dksX12_hangs_1 1 rfl rfl)
theorem dX12_hangs_28 : decode cX12_hangs 28 = .ok (.iconst 0, 1) := dk_3 (dk_at dksX12_hangs_1 4 rfl rfl)
theorem dX12_hangs_29 : decode cX12_hangs 29 = .ok (.iaload, 1) := dk_46 (dk_at dksX12_hangs_1 5 rfl rfl)
theorem dX12_hangs_30 : decode cX12_hangs 30 = .ok (.if_icmp .ge 74, 3) := dk_162 0 74 (dk_at dksX12_hangs_1 6 rfl rfl)
theorem dX12_hangs_33 : decode cX12_hangs 33 = .ok (.iload 5, 2) := dk_21 5 (dk_at dksX12_hangs_1 9 rfl rfl)
theorem dX12_hangs_35 : decode cX12_hangs 35 = .ok (.iload 6, 2) := dk_21 6 (dk_at dksX12_hangs_1 11 rfl rfl)
theorem dX12_hangs_37 : decode cX12_hangs 37 = .ok (.invokestatic 294, 3) := dk_184 1 38 (dk_at dksX12_hangs_1 13 rfl rfl)
theorem dX12_hangs_40 : decode cX12_hangs 40 = .ok (.ifCond .ne 6, 3) := dk_154 0 6 (dk_at dksX12_hangs_1 16 rfl rfl)
theorem dX12_hangs_43 : decode cX12_hangs 43 = .ok (.goto 55, 3) := dk_167 0 55 (dk_at dksX12_hangs_1 19 rfl rfl)
theorem dX12_hangs_46 : decode cX12_hangs 46 = .ok (.aload_n 0, 1) := dk_42 (dk_at dksX12_hangs_1 22 rfl rfl)
theorem dX12_hangs_47 : decode cX12_hangs 47 = .ok (.getfield 13, 3) := dk_180 0 13 (dk_at dksX12_hangs_2 0 rfl rfl)
theorem dX12_hangs_50 : decode cX12_hangs 50 = .ok (.sipush 1864, 3) := dk_17 7 72 (dk_at dksX12_hangs_2 3 rfl rfl)
theorem dX12_hangs_53 : decode cX12_hangs 53 = .ok (.iload 6, 2) := dk_21 6 (dk_at dksX12_hangs_2 6 rfl rfl)
theorem dX12_hangs_55 : decode cX12_hangs 55 = .ok (.iadd, 1) := dk_96 (dk_at dksX12_hangs_2 8 rfl rfl)
theorem dX12_hangs_56 : decode cX12_hangs 56 = .ok (.iaload, 1) := dk_46 (dk_at dksX12_hangs_2 9 rfl rfl)
theorem dX12_hangs_57 : decode cX12_hangs 57 = .ok (.istore 7, 2) := dk_54 7 (dk_at dksX12_hangs_2 10 rfl rfl)
theorem dX12_hangs_59 : decode cX12_hangs 59 = .ok (.iload 6, 2) := dk_21 6 (dk_at dksX12_hangs_2 12 rfl rfl)
theorem dX12_hangs_61 : decode cX12_hangs 61 = .ok (.iload_n 2, 1) := dk_28 (dk_at dksX12_hangs_2 14 rfl rfl)
theorem dX12_hangs_62 : decode cX12_hangs 62 = .ok (.if_icmp .ne 13, 3) := dk_160 0 13 (dk_at dksX12_hangs_2 15 rfl rfl)
theorem dX12_hangs_65 : decode cX12_hangs 65 = .ok (.iload 7, 2) := dk_21 7 (dk_at dksX12_hangs_2 18 rfl rfl)
theorem dX12_hangs_67 : decode cX12_hangs 67 = .ok (.iconst 1, 1) := dk_4 (dk_at dksX12_hangs_2 20 rfl rfl)
theorem dX12_hangs_68 : decode cX12_hangs 68 = .ok (.iload_n 3, 1) := dk_29 (dk_at dksX12_hangs_2 21 rfl rfl)
theorem dX12_hangs_69 : decode cX12_hangs 69 = .ok (.ishl, 1) := dk_120 (dk_at dksX12_hangs_2 22 rfl rfl)
theorem dX12_hangs_70 : decode cX12_hangs 70 = .ok (.iconst (-1), 1) := dk_2 (dk_at dksX12_hangs_2 23 rfl rfl)
theorem dX12_hangs_71 : decode cX12_hangs 71 = .ok (.ixor, 1) := dk_130 (dk_at dksX12_hangs_3 0 rfl rfl)
theorem dX12_hangs_72 : decode cX12_hangs 72 = .ok (.iand, 1) := dk_126 (dk_at dksX12_hangs_3 1 rfl rfl)
theorem dX12_hangs_73 : decode cX12_hangs 73 = .ok (.istore 7, 2) := dk_54 7 (dk_at dksX12_hangs_3 2 rfl rfl)
theorem dX12_hangs_75 : decode cX12_hangs 75 = .ok (.iload 6, 2) := dk_21 6 (dk_at dksX12_hangs_3 4 rfl rfl)
theorem dX12_hangs_77 : decode cX12_hangs 77 = .ok (.iload_n 3, 1) := dk_29 (dk_at dksX12_hangs_3 6 rfl rfl)
theorem dX12_hangs_78 : decode cX12_hangs 78 = .ok (.if_icmp .ne 13, 3) := dk_160 0 13 (dk_at dksX12_hangs_3 7 rfl rfl)
theorem dX12_hangs_81 : decode cX12_hangs 81 = .ok (.iload 7, 2) := dk_21 7 (dk_at dksX12_hangs_3 10 rfl rfl)
theorem dX12_hangs_83 : decode cX12_hangs 83 = .ok (.iconst 1, 1) := dk_4 (dk_at dksX12_hangs_3 12 rfl rfl)
theorem dX12_hangs_84 : decode cX12_hangs 84 = .ok (.iload_n 2, 1) := dk_28 (dk_at dksX12_hangs_3 13 rfl rfl)
theorem dX12_hangs_85 : decode cX12_hangs 85 = .ok (.ishl, 1) := dk_120 (dk_at dksX12_hangs_3 14 rfl rfl)
theorem dX12_hangs_86 : decode cX12_hangs 86 = .ok (.iconst (-1), 1) := dk_2 (dk_at dksX12_hangs_3 15 rfl rfl)
theorem dX12_hangs_87 : decode cX12_hangs 87 = .ok (.ixor, 1) := dk_130 (dk_at dksX12_hangs_3 16 rfl rfl)
theorem dX12_hangs_88 : decode cX12_hangs 88 = .ok (.iand, 1) := dk_126 (dk_at dksX12_hangs_3 17 rfl rfl)
theorem dX12_hangs_89 : decode cX12_hangs 89 = .ok (.istore 7, 2) := dk_54 7 (dk_at dksX12_hangs_3 18 rfl rfl)
theorem dX12_hangs_91 : decode cX12_hangs 91 = .ok (.iload 4, 2) := dk_21 4 (dk_at dksX12_hangs_3 20 rfl rfl)
theorem dX12_hangs_93 : decode cX12_hangs 93 = .ok (.iload 7, 2) := dk_21 7 (dk_at dksX12_hangs_3 22 rfl rfl)
theorem dX12_hangs_95 : decode cX12_hangs 95 = .ok (.ior, 1) := dk_128 (dk_at dksX12_hangs_4 0 rfl rfl)
theorem dX12_hangs_96 : decode cX12_hangs 96 = .ok (.istore 4, 2) := dk_54 4 (dk_at dksX12_hangs_4 1 rfl rfl)
theorem dX12_hangs_98 : decode cX12_hangs 98 = .ok (.iinc 6 1, 3) := dk_132 6 1 (dk_at dksX12_hangs_4 3 rfl rfl)
theorem dX12_hangs_101 : decode cX12_hangs 101 = .ok (.goto (-79), 3) := dk_167 255 177 (dk_at dksX12_hangs_4 6 rfl rfl)
theorem dX12_hangs_104 : decode cX12_hangs 104 = .ok (.goto (-96), 3) := dk_167 255 160 (dk_at dksX12_hangs_4 9 rfl rfl)
theorem dX12_hangs_107 : decode cX12_hangs 107 = .ok (.iload 4, 2) := dk_21 4 (dk_at dksX12_hangs_4 12 rfl rfl)
theorem dX12_hangs_109 : decode cX12_hangs 109 = .ok (.ireturn, 1) := dk_172 (dk_at dksX12_hangs_4 14 rfl rfl)
abbrev cX12_drop : ByteArray := prog_25_method_89_code
def yX12_drop : MethodName := ⟨RX12, "drop", "(I)I"⟩
def dkwX12_drop_4 : List UInt8 := [182, 1, 30, 42, 28, 5, 182, 1, 30, 162, 0, 6, 21, 4, 61, 132, 4, 1, 167, 255, 180, 28, 172]
abbrev dktX12_drop_4 : List UInt8 := dkwX12_drop_4 ++ []
def dkwX12_drop_3 : List UInt8 := [182, 1, 200, 184, 1, 42, 29, 159, 0, 6, 167, 0, 27, 28, 2, 159, 0, 19, 42, 21, 4, 5]
abbrev dktX12_drop_3 : List UInt8 := dkwX12_drop_3 ++ dktX12_drop_4
def dkwX12_drop_2 : List UInt8 := [21, 4, 182, 1, 48, 153, 0, 55, 42, 180, 0, 43, 21, 4, 46, 157, 0, 45, 42, 27, 27, 21, 4]
abbrev dktX12_drop_2 : List UInt8 := dkwX12_drop_2 ++ dktX12_drop_3
def dkwX12_drop_1 : List UInt8 := [182, 1, 200, 184, 1, 42, 62, 3, 54, 4, 21, 4, 42, 180, 0, 13, 3, 46, 162, 0, 71, 42, 27]
abbrev dktX12_drop_1 : List UInt8 := dkwX12_drop_1 ++ dktX12_drop_2
def dkwX12_drop_0 : List UInt8 := [42, 27, 182, 0, 105, 154, 0, 6, 16, 254, 172, 42, 27, 182, 1, 134, 2, 61, 42, 27, 2, 2]
abbrev dktX12_drop_0 : List UInt8 := dkwX12_drop_0 ++ dktX12_drop_1
theorem dksX12_drop_0 : cX12_drop.data.toList.drop 0 = dktX12_drop_0 := by decide +kernel
theorem dksX12_drop_1 : cX12_drop.data.toList.drop 22 = dktX12_drop_1 := dk_seg dksX12_drop_0 22 rfl rfl
theorem dksX12_drop_2 : cX12_drop.data.toList.drop 45 = dktX12_drop_2 := dk_seg dksX12_drop_1 23 rfl rfl
theorem dksX12_drop_3 : cX12_drop.data.toList.drop 68 = dktX12_drop_3 := dk_seg dksX12_drop_2 23 rfl rfl
theorem dksX12_drop_4 : cX12_drop.data.toList.drop 90 = dktX12_drop_4 := dk_seg dksX12_drop_3 22 rfl rfl
theorem dX12_drop_0 : decode cX12_drop 0 = .ok (.aload_n 0, 1) := dk_42 (dk_at dksX12_drop_0 0 rfl rfl)
theorem dX12_drop_1 : decode cX12_drop 1 = .ok (.iload_n 1, 1) := dk_27 (dk_at dksX12_drop_0 1 rfl rfl)
theorem dX12_drop_2 : decode cX12_drop 2 = .ok (.invokevirtual 105, 3) := dk_182 0 105 (dk_at dksX12_drop_0 2 rfl rfl)
theorem dX12_drop_5 : decode cX12_drop 5 = .ok (.ifCond .ne 6, 3) := dk_154 0 6 (dk_at dksX12_drop_0 5 rfl rfl)
theorem dX12_drop_8 : decode cX12_drop 8 = .ok (.bipush (-2), 2) := dk_16 254 (dk_at dksX12_drop_0 8 rfl rfl)
theorem dX12_drop_10 : decode cX12_drop 10 = .ok (.ireturn, 1) := dk_172 (dk_at dksX12_drop_0 10 rfl rfl)
theorem dX12_drop_11 : decode cX12_drop 11 = .ok (.aload_n 0, 1) := dk_42 (dk_at dksX12_drop_0 11 rfl rfl)
theorem dX12_drop_12 : decode cX12_drop 12 = .ok (.iload_n 1, 1) := dk_27 (dk_at dksX12_drop_0 12 rfl rfl)
theorem dX12_drop_13 : decode cX12_drop 13 = .ok (.invokevirtual 390, 3) := dk_182 1 134 (dk_at dksX12_drop_0 13 rfl rfl)
theorem dX12_drop_16 : decode cX12_drop 16 = .ok (.iconst (-1), 1) := dk_2 (dk_at dksX12_drop_0 16 rfl rfl)
theorem dX12_drop_17 : decode cX12_drop 17 = .ok (.istore_n 2, 1) := dk_61 (dk_at dksX12_drop_0 17 rfl rfl)
theorem dX12_drop_18 : decode cX12_drop 18 = .ok (.aload_n 0, 1) := dk_42 (dk_at dksX12_drop_0 18 rfl rfl)
theorem dX12_drop_19 : decode cX12_drop 19 = .ok (.iload_n 1, 1) := dk_27 (dk_at dksX12_drop_0 19 rfl rfl)
theorem dX12_drop_20 : decode cX12_drop 20 = .ok (.iconst (-1), 1) := dk_2 (dk_at dksX12_drop_0 20 rfl rfl)
theorem dX12_drop_21 : decode cX12_drop 21 = .ok (.iconst (-1), 1) := dk_2 (dk_at dksX12_drop_0 21 rfl rfl)
theorem dX12_drop_22 : decode cX12_drop 22 = .ok (.invokevirtual 456, 3) := dk_182 1 200 (dk_at dksX12_drop_1 0 rfl rfl)
theorem dX12_drop_25 : decode cX12_drop 25 = .ok (.invokestatic 298, 3) := dk_184 1 42 (dk_at dksX12_drop_1 3 rfl rfl)
theorem dX12_drop_28 : decode cX12_drop 28 = .ok (.istore_n 3, 1) := dk_62 (dk_at dksX12_drop_1 6 rfl rfl)
theorem dX12_drop_29 : decode cX12_drop 29 = .ok (.iconst 0, 1) := dk_3 (dk_at dksX12_drop_1 7 rfl rfl)
theorem dX12_drop_30 : decode cX12_drop 30 = .ok (.istore 4, 2) := dk_54 4 (dk_at dksX12_drop_1 8 rfl rfl)
theorem dX12_drop_32 : decode cX12_drop 32 = .ok (.iload 4, 2) := dk_21 4 (dk_at dksX12_drop_1 10 rfl rfl)
theorem dX12_drop_34 : decode cX12_drop 34 = .ok (.aload_n 0, 1) := dk_42 (dk_at dksX12_drop_1 12 rfl rfl)
theorem dX12_drop_35 : decode cX12_drop 35 = .ok (.getfield 13, 3) := dk_180 0 13 (dk_at dksX12_drop_1 13 rfl rfl)
theorem dX12_drop_38 : decode cX12_drop 38 = .ok (.iconst 0, 1) := dk_3 (dk_at dksX12_drop_1 16 rfl rfl)
theorem dX12_drop_39 : decode cX12_drop 39 = .ok (.iaload, 1) := dk_46 (dk_at dksX12_drop_1 17 rfl rfl)
theorem dX12_drop_40 : decode cX12_drop 40 = .ok (.if_icmp .ge 71, 3) := dk_162 0 71 (dk_at dksX12_drop_1 18 rfl rfl)
theorem dX12_drop_43 : decode cX12_drop 43 = .ok (.aload_n 0, 1) := dk_42 (dk_at dksX12_drop_1 21 rfl rfl)
theorem dX12_drop_44 : decode cX12_drop 44 = .ok (.iload_n 1, 1) := dk_27 (dk_at dksX12_drop_1 22 rfl rfl)
theorem dX12_drop_45 : decode cX12_drop 45 = .ok (.iload 4, 2) := dk_21 4 (dk_at dksX12_drop_2 0 rfl rfl)
theorem dX12_drop_47 : decode cX12_drop 47 = .ok (.invokevirtual 304, 3) := dk_182 1 48 (dk_at dksX12_drop_2 2 rfl rfl)
theorem dX12_drop_50 : decode cX12_drop 50 = .ok (.ifCond .eq 55, 3) := dk_153 0 55 (dk_at dksX12_drop_2 5 rfl rfl)
theorem dX12_drop_53 : decode cX12_drop 53 = .ok (.aload_n 0, 1) := dk_42 (dk_at dksX12_drop_2 8 rfl rfl)
theorem dX12_drop_54 : decode cX12_drop 54 = .ok (.getfield 43, 3) := dk_180 0 43 (dk_at dksX12_drop_2 9 rfl rfl)
theorem dX12_drop_57 : decode cX12_drop 57 = .ok (.iload 4, 2) := dk_21 4 (dk_at dksX12_drop_2 12 rfl rfl)
theorem dX12_drop_59 : decode cX12_drop 59 = .ok (.iaload, 1) := dk_46 (dk_at dksX12_drop_2 14 rfl rfl)
theorem dX12_drop_60 : decode cX12_drop 60 = .ok (.ifCond .gt 45, 3) := dk_157 0 45 (dk_at dksX12_drop_2 15 rfl rfl)
theorem dX12_drop_63 : decode cX12_drop 63 = .ok (.aload_n 0, 1) := dk_42 (dk_at dksX12_drop_2 18 rfl rfl)
theorem dX12_drop_64 : decode cX12_drop 64 = .ok (.iload_n 1, 1) := dk_27 (dk_at dksX12_drop_2 19 rfl rfl)
theorem dX12_drop_65 : decode cX12_drop 65 = .ok (.iload_n 1, 1) := dk_27 (dk_at dksX12_drop_2 20 rfl rfl)
theorem dX12_drop_66 : decode cX12_drop 66 = .ok (.iload 4, 2) := dk_21 4 (dk_at dksX12_drop_2 21 rfl rfl)
theorem dX12_drop_68 : decode cX12_drop 68 = .ok (.invokevirtual 456, 3) := dk_182 1 200 (dk_at dksX12_drop_3 0 rfl rfl)
theorem dX12_drop_71 : decode cX12_drop 71 = .ok (.invokestatic 298, 3) := dk_184 1 42 (dk_at dksX12_drop_3 3 rfl rfl)
theorem dX12_drop_74 : decode cX12_drop 74 = .ok (.iload_n 3, 1) := dk_29 (dk_at dksX12_drop_3 6 rfl rfl)
theorem dX12_drop_75 : decode cX12_drop 75 = .ok (.if_icmp .eq 6, 3) := dk_159 0 6 (dk_at dksX12_drop_3 7 rfl rfl)
theorem dX12_drop_78 : decode cX12_drop 78 = .ok (.goto 27, 3) := dk_167 0 27 (dk_at dksX12_drop_3 10 rfl rfl)
theorem dX12_drop_81 : decode cX12_drop 81 = .ok (.iload_n 2, 1) := dk_28 (dk_at dksX12_drop_3 13 rfl rfl)
theorem dX12_drop_82 : decode cX12_drop 82 = .ok (.iconst (-1), 1) := dk_2 (dk_at dksX12_drop_3 14 rfl rfl)
theorem dX12_drop_83 : decode cX12_drop 83 = .ok (.if_icmp .eq 19, 3) := dk_159 0 19 (dk_at dksX12_drop_3 15 rfl rfl)
theorem dX12_drop_86 : decode cX12_drop 86 = .ok (.aload_n 0, 1) := dk_42 (dk_at dksX12_drop_3 18 rfl rfl)
theorem dX12_drop_87 : decode cX12_drop 87 = .ok (.iload 4, 2) := dk_21 4 (dk_at dksX12_drop_3 19 rfl rfl)
theorem dX12_drop_89 : decode cX12_drop 89 = .ok (.iconst 2, 1) := dk_5 (dk_at dksX12_drop_3 21 rfl rfl)
theorem dX12_drop_90 : decode cX12_drop 90 = .ok (.invokevirtual 286, 3) := dk_182 1 30 (dk_at dksX12_drop_4 0 rfl rfl)
theorem dX12_drop_93 : decode cX12_drop 93 = .ok (.aload_n 0, 1) := dk_42 (dk_at dksX12_drop_4 3 rfl rfl)
theorem dX12_drop_94 : decode cX12_drop 94 = .ok (.iload_n 2, 1) := dk_28 (dk_at dksX12_drop_4 4 rfl rfl)
theorem dX12_drop_95 : decode cX12_drop 95 = .ok (.iconst 2, 1) := dk_5 (dk_at dksX12_drop_4 5 rfl rfl)
theorem dX12_drop_96 : decode cX12_drop 96 = .ok (.invokevirtual 286, 3) := dk_182 1 30 (dk_at dksX12_drop_4 6 rfl rfl)
theorem dX12_drop_99 : decode cX12_drop 99 = .ok (.if_icmp .ge 6, 3) := dk_162 0 6 (dk_at dksX12_drop_4 9 rfl rfl)
theorem dX12_drop_102 : decode cX12_drop 102 = .ok (.iload 4, 2) := dk_21 4 (dk_at dksX12_drop_4 12 rfl rfl)
theorem dX12_drop_104 : decode cX12_drop 104 = .ok (.istore_n 2, 1) := dk_61 (dk_at dksX12_drop_4 14 rfl rfl)
theorem dX12_drop_105 : decode cX12_drop 105 = .ok (.iinc 4 1, 3) := dk_132 4 1 (dk_at dksX12_drop_4 15 rfl rfl)
theorem dX12_drop_108 : decode cX12_drop 108 = .ok (.goto (-76), 3) := dk_167 255 180 (dk_at dksX12_drop_4 18 rfl rfl)
theorem dX12_drop_111 : decode cX12_drop 111 = .ok (.iload_n 2, 1) := dk_28 (dk_at dksX12_drop_4 21 rfl rfl)
theorem dX12_drop_112 : decode cX12_drop 112 = .ok (.ireturn, 1) := dk_172 (dk_at dksX12_drop_4 22 rfl rfl)
abbrev cX12_tie : ByteArray := prog_25_method_90_code
def yX12_tie : MethodName := ⟨RX12, "tie", "(II)I"⟩
def dkwX12_tie_1 : List UInt8 := [27, 27, 28, 182, 1, 200, 28, 184, 1, 38, 153, 0, 7, 3, 167, 0, 4, 4, 172]
abbrev dktX12_tie_1 : List UInt8 := dkwX12_tie_1 ++ []
def dkwX12_tie_0 : List UInt8 := [42, 27, 28, 182, 1, 59, 154, 0, 6, 16, 254, 172, 42, 27, 28, 182, 1, 48, 154, 0, 5, 2, 172, 42]
abbrev dktX12_tie_0 : List UInt8 := dkwX12_tie_0 ++ dktX12_tie_1
theorem dksX12_tie_0 : cX12_tie.data.toList.drop 0 = dktX12_tie_0 := by decide +kernel
theorem dksX12_tie_1 : cX12_tie.data.toList.drop 24 = dktX12_tie_1 := dk_seg dksX12_tie_0 24 rfl rfl
theorem dX12_tie_0 : decode cX12_tie 0 = .ok (.aload_n 0, 1) := dk_42 (dk_at dksX12_tie_0 0 rfl rfl)
theorem dX12_tie_1 : decode cX12_tie 1 = .ok (.iload_n 1, 1) := dk_27 (dk_at dksX12_tie_0 1 rfl rfl)
theorem dX12_tie_2 : decode cX12_tie 2 = .ok (.iload_n 2, 1) := dk_28 (dk_at dksX12_tie_0 2 rfl rfl)
theorem dX12_tie_3 : decode cX12_tie 3 = .ok (.invokevirtual 315, 3) := dk_182 1 59 (dk_at dksX12_tie_0 3 rfl rfl)
theorem dX12_tie_6 : decode cX12_tie 6 = .ok (.ifCond .ne 6, 3) := dk_154 0 6 (dk_at dksX12_tie_0 6 rfl rfl)
theorem dX12_tie_9 : decode cX12_tie 9 = .ok (.bipush (-2), 2) := dk_16 254 (dk_at dksX12_tie_0 9 rfl rfl)
theorem dX12_tie_11 : decode cX12_tie 11 = .ok (.ireturn, 1) := dk_172 (dk_at dksX12_tie_0 11 rfl rfl)
theorem dX12_tie_12 : decode cX12_tie 12 = .ok (.aload_n 0, 1) := dk_42 (dk_at dksX12_tie_0 12 rfl rfl)
theorem dX12_tie_13 : decode cX12_tie 13 = .ok (.iload_n 1, 1) := dk_27 (dk_at dksX12_tie_0 13 rfl rfl)
theorem dX12_tie_14 : decode cX12_tie 14 = .ok (.iload_n 2, 1) := dk_28 (dk_at dksX12_tie_0 14 rfl rfl)
theorem dX12_tie_15 : decode cX12_tie 15 = .ok (.invokevirtual 304, 3) := dk_182 1 48 (dk_at dksX12_tie_0 15 rfl rfl)
theorem dX12_tie_18 : decode cX12_tie 18 = .ok (.ifCond .ne 5, 3) := dk_154 0 5 (dk_at dksX12_tie_0 18 rfl rfl)
theorem dX12_tie_21 : decode cX12_tie 21 = .ok (.iconst (-1), 1) := dk_2 (dk_at dksX12_tie_0 21 rfl rfl)
theorem dX12_tie_22 : decode cX12_tie 22 = .ok (.ireturn, 1) := dk_172 (dk_at dksX12_tie_0 22 rfl rfl)
theorem dX12_tie_23 : decode cX12_tie 23 = .ok (.aload_n 0, 1) := dk_42 (dk_at dksX12_tie_0 23 rfl rfl)
theorem dX12_tie_24 : decode cX12_tie 24 = .ok (.iload_n 1, 1) := dk_27 (dk_at dksX12_tie_1 0 rfl rfl)
theorem dX12_tie_25 : decode cX12_tie 25 = .ok (.iload_n 1, 1) := dk_27 (dk_at dksX12_tie_1 1 rfl rfl)
theorem dX12_tie_26 : decode cX12_tie 26 = .ok (.iload_n 2, 1) := dk_28 (dk_at dksX12_tie_1 2 rfl rfl)
theorem dX12_tie_27 : decode cX12_tie 27 = .ok (.invokevirtual 456, 3) := dk_182 1 200 (dk_at dksX12_tie_1 3 rfl rfl)
theorem dX12_tie_30 : decode cX12_tie 30 = .ok (.iload_n 2, 1) := dk_28 (dk_at dksX12_tie_1 6 rfl rfl)
theorem dX12_tie_31 : decode cX12_tie 31 = .ok (.invokestatic 294, 3) := dk_184 1 38 (dk_at dksX12_tie_1 7 rfl rfl)
theorem dX12_tie_34 : decode cX12_tie 34 = .ok (.ifCond .eq 7, 3) := dk_153 0 7 (dk_at dksX12_tie_1 10 rfl rfl)
theorem dX12_tie_37 : decode cX12_tie 37 = .ok (.iconst 0, 1) := dk_3 (dk_at dksX12_tie_1 13 rfl rfl)
theorem dX12_tie_38 : decode cX12_tie 38 = .ok (.goto 4, 3) := dk_167 0 4 (dk_at dksX12_tie_1 14 rfl rfl)
theorem dX12_tie_41 : decode cX12_tie 41 = .ok (.iconst 1, 1) := dk_4 (dk_at dksX12_tie_1 17 rfl rfl)
theorem dX12_tie_42 : decode cX12_tie 42 = .ok (.ireturn, 1) := dk_172 (dk_at dksX12_tie_1 18 rfl rfl)
abbrev cX12_ring : ByteArray := prog_25_method_94_code
def yX12_ring : MethodName := ⟨RX12, "ring", "(I)I"⟩
def dkwX12_ring_0 : List UInt8 := [42, 27, 182, 0, 105, 154, 0, 6, 16, 254, 172, 42, 182, 1, 206, 42, 27, 182, 1, 209, 172]
abbrev dktX12_ring_0 : List UInt8 := dkwX12_ring_0 ++ []
theorem dksX12_ring_0 : cX12_ring.data.toList.drop 0 = dktX12_ring_0 := by decide +kernel
theorem dX12_ring_0 : decode cX12_ring 0 = .ok (.aload_n 0, 1) := dk_42 (dk_at dksX12_ring_0 0 rfl rfl)
theorem dX12_ring_1 : decode cX12_ring 1 = .ok (.iload_n 1, 1) := dk_27 (dk_at dksX12_ring_0 1 rfl rfl)
theorem dX12_ring_2 : decode cX12_ring 2 = .ok (.invokevirtual 105, 3) := dk_182 0 105 (dk_at dksX12_ring_0 2 rfl rfl)
theorem dX12_ring_5 : decode cX12_ring 5 = .ok (.ifCond .ne 6, 3) := dk_154 0 6 (dk_at dksX12_ring_0 5 rfl rfl)
theorem dX12_ring_8 : decode cX12_ring 8 = .ok (.bipush (-2), 2) := dk_16 254 (dk_at dksX12_ring_0 8 rfl rfl)
theorem dX12_ring_10 : decode cX12_ring 10 = .ok (.ireturn, 1) := dk_172 (dk_at dksX12_ring_0 10 rfl rfl)
theorem dX12_ring_11 : decode cX12_ring 11 = .ok (.aload_n 0, 1) := dk_42 (dk_at dksX12_ring_0 11 rfl rfl)
theorem dX12_ring_12 : decode cX12_ring 12 = .ok (.invokevirtual 462, 3) := dk_182 1 206 (dk_at dksX12_ring_0 12 rfl rfl)
theorem dX12_ring_15 : decode cX12_ring 15 = .ok (.aload_n 0, 1) := dk_42 (dk_at dksX12_ring_0 15 rfl rfl)
theorem dX12_ring_16 : decode cX12_ring 16 = .ok (.iload_n 1, 1) := dk_27 (dk_at dksX12_ring_0 16 rfl rfl)
theorem dX12_ring_17 : decode cX12_ring 17 = .ok (.invokevirtual 465, 3) := dk_182 1 209 (dk_at dksX12_ring_0 17 rfl rfl)
theorem dX12_ring_20 : decode cX12_ring 20 = .ok (.ireturn, 1) := dk_172 (dk_at dksX12_ring_0 20 rfl rfl)
abbrev cX12_callsAll : ByteArray := prog_25_method_91_code
def yX12_callsAll : MethodName := ⟨RX12, "callsAll", "()V"⟩
def dkwX12_callsAll_4 : List UInt8 := [79, 132, 1, 1, 167, 255, 179, 177]
abbrev dktX12_callsAll_4 : List UInt8 := dkwX12_callsAll_4 ++ []
def dkwX12_callsAll_3 : List UInt8 := [7, 27, 104, 96, 46, 92, 46, 4, 42, 180, 0, 13, 17, 26, 24, 7, 27, 104, 96, 4, 96, 46, 120, 128]
abbrev dktX12_callsAll_3 : List UInt8 := dkwX12_callsAll_3 ++ dktX12_callsAll_4
def dkwX12_callsAll_2 : List UInt8 := [133, 20, 0, 99, 20, 1, 57, 184, 0, 101, 153, 0, 39, 42, 180, 0, 80, 42, 180, 0, 13, 17, 26, 24]
abbrev dktX12_callsAll_2 : List UInt8 := dkwX12_callsAll_2 ++ dktX12_callsAll_3
def dkwX12_callsAll_1 : List UInt8 := [42, 180, 0, 13, 16, 8, 46, 162, 0, 72, 42, 180, 0, 13, 17, 26, 24, 7, 27, 104, 96, 5, 96, 46]
abbrev dktX12_callsAll_1 : List UInt8 := dkwX12_callsAll_1 ++ dktX12_callsAll_2
def dkwX12_callsAll_0 : List UInt8 := [3, 60, 27, 16, 16, 162, 0, 16, 42, 180, 0, 80, 27, 3, 79, 132, 1, 1, 167, 255, 240, 3, 60, 27]
abbrev dktX12_callsAll_0 : List UInt8 := dkwX12_callsAll_0 ++ dktX12_callsAll_1
theorem dksX12_callsAll_0 : cX12_callsAll.data.toList.drop 0 = dktX12_callsAll_0 := by decide +kernel
theorem dksX12_callsAll_1 : cX12_callsAll.data.toList.drop 24 = dktX12_callsAll_1 := dk_seg dksX12_callsAll_0 24 rfl rfl
theorem dksX12_callsAll_2 : cX12_callsAll.data.toList.drop 48 = dktX12_callsAll_2 := dk_seg dksX12_callsAll_1 24 rfl rfl
theorem dksX12_callsAll_3 : cX12_callsAll.data.toList.drop 72 = dktX12_callsAll_3 := dk_seg dksX12_callsAll_2 24 rfl rfl
theorem dksX12_callsAll_4 : cX12_callsAll.data.toList.drop 96 = dktX12_callsAll_4 := dk_seg dksX12_callsAll_3 24 rfl rfl
theorem dX12_callsAll_0 : decode cX12_callsAll 0 = .ok (.iconst 0, 1) := dk_3 (dk_at dksX12_callsAll_0 0 rfl rfl)
theorem dX12_callsAll_1 : decode cX12_callsAll 1 = .ok (.istore_n 1, 1) := dk_60 (dk_at dksX12_callsAll_0 1 rfl rfl)
theorem dX12_callsAll_2 : decode cX12_callsAll 2 = .ok (.iload_n 1, 1) := dk_27 (dk_at dksX12_callsAll_0 2 rfl rfl)
theorem dX12_callsAll_3 : decode cX12_callsAll 3 = .ok (.bipush 16, 2) := dk_16 16 (dk_at dksX12_callsAll_0 3 rfl rfl)
theorem dX12_callsAll_5 : decode cX12_callsAll 5 = .ok (.if_icmp .ge 16, 3) := dk_162 0 16 (dk_at dksX12_callsAll_0 5 rfl rfl)
theorem dX12_callsAll_8 : decode cX12_callsAll 8 = .ok (.aload_n 0, 1) := dk_42 (dk_at dksX12_callsAll_0 8 rfl rfl)
theorem dX12_callsAll_9 : decode cX12_callsAll 9 = .ok (.getfield 80, 3) := dk_180 0 80 (dk_at dksX12_callsAll_0 9 rfl rfl)
theorem dX12_callsAll_12 : decode cX12_callsAll 12 = .ok (.iload_n 1, 1) := dk_27 (dk_at dksX12_callsAll_0 12 rfl rfl)
theorem dX12_callsAll_13 : decode cX12_callsAll 13 = .ok (.iconst 0, 1) := dk_3 (dk_at dksX12_callsAll_0 13 rfl rfl)
theorem dX12_callsAll_14 : decode cX12_callsAll 14 = .ok (.iastore, 1) := dk_79 (dk_at dksX12_callsAll_0 14 rfl rfl)
theorem dX12_callsAll_15 : decode cX12_callsAll 15 = .ok (.iinc 1 1, 3) := dk_132 1 1 (dk_at dksX12_callsAll_0 15 rfl rfl)
theorem dX12_callsAll_18 : decode cX12_callsAll 18 = .ok (.goto (-16), 3) := dk_167 255 240 (dk_at dksX12_callsAll_0 18 rfl rfl)
theorem dX12_callsAll_21 : decode cX12_callsAll 21 = .ok (.iconst 0, 1) := dk_3 (dk_at dksX12_callsAll_0 21 rfl rfl)
theorem dX12_callsAll_22 : decode cX12_callsAll 22 = .ok (.istore_n 1, 1) := dk_60 (dk_at dksX12_callsAll_0 22 rfl rfl)
theorem dX12_callsAll_23 : decode cX12_callsAll 23 = .ok (.iload_n 1, 1) := dk_27 (dk_at dksX12_callsAll_0 23 rfl rfl)
theorem dX12_callsAll_24 : decode cX12_callsAll 24 = .ok (.aload_n 0, 1) := dk_42 (dk_at dksX12_callsAll_1 0 rfl rfl)
theorem dX12_callsAll_25 : decode cX12_callsAll 25 = .ok (.getfield 13, 3) := dk_180 0 13 (dk_at dksX12_callsAll_1 1 rfl rfl)
theorem dX12_callsAll_28 : decode cX12_callsAll 28 = .ok (.bipush 8, 2) := dk_16 8 (dk_at dksX12_callsAll_1 4 rfl rfl)
theorem dX12_callsAll_30 : decode cX12_callsAll 30 = .ok (.iaload, 1) := dk_46 (dk_at dksX12_callsAll_1 6 rfl rfl)
theorem dX12_callsAll_31 : decode cX12_callsAll 31 = .ok (.if_icmp .ge 72, 3) := dk_162 0 72 (dk_at dksX12_callsAll_1 7 rfl rfl)
theorem dX12_callsAll_34 : decode cX12_callsAll 34 = .ok (.aload_n 0, 1) := dk_42 (dk_at dksX12_callsAll_1 10 rfl rfl)
theorem dX12_callsAll_35 : decode cX12_callsAll 35 = .ok (.getfield 13, 3) := dk_180 0 13 (dk_at dksX12_callsAll_1 11 rfl rfl)
theorem dX12_callsAll_38 : decode cX12_callsAll 38 = .ok (.sipush 6680, 3) := dk_17 26 24 (dk_at dksX12_callsAll_1 14 rfl rfl)
theorem dX12_callsAll_41 : decode cX12_callsAll 41 = .ok (.iconst 4, 1) := dk_7 (dk_at dksX12_callsAll_1 17 rfl rfl)
theorem dX12_callsAll_42 : decode cX12_callsAll 42 = .ok (.iload_n 1, 1) := dk_27 (dk_at dksX12_callsAll_1 18 rfl rfl)
theorem dX12_callsAll_43 : decode cX12_callsAll 43 = .ok (.imul, 1) := dk_104 (dk_at dksX12_callsAll_1 19 rfl rfl)
theorem dX12_callsAll_44 : decode cX12_callsAll 44 = .ok (.iadd, 1) := dk_96 (dk_at dksX12_callsAll_1 20 rfl rfl)
theorem dX12_callsAll_45 : decode cX12_callsAll 45 = .ok (.iconst 2, 1) := dk_5 (dk_at dksX12_callsAll_1 21 rfl rfl)
theorem dX12_callsAll_46 : decode cX12_callsAll 46 = .ok (.iadd, 1) := dk_96 (dk_at dksX12_callsAll_1 22 rfl rfl)
theorem dX12_callsAll_47 : decode cX12_callsAll 47 = .ok (.iaload, 1) := dk_46 (dk_at dksX12_callsAll_1 23 rfl rfl)
theorem dX12_callsAll_48 : decode cX12_callsAll 48 = .ok (.i2l, 1) := dk_133 (dk_at dksX12_callsAll_2 0 rfl rfl)
theorem dX12_callsAll_49 : decode cX12_callsAll 49 = .ok (.ldc2_w 99, 3) := dk_20 0 99 (dk_at dksX12_callsAll_2 1 rfl rfl)
theorem dX12_callsAll_52 : decode cX12_callsAll 52 = .ok (.ldc2_w 313, 3) := dk_20 1 57 (dk_at dksX12_callsAll_2 4 rfl rfl)
theorem dX12_callsAll_55 : decode cX12_callsAll 55 = .ok (.invokestatic 101, 3) := dk_184 0 101 (dk_at dksX12_callsAll_2 7 rfl rfl)
theorem dX12_callsAll_58 : decode cX12_callsAll 58 = .ok (.ifCond .eq 39, 3) := dk_153 0 39 (dk_at dksX12_callsAll_2 10 rfl rfl)
theorem dX12_callsAll_61 : decode cX12_callsAll 61 = .ok (.aload_n 0, 1) := dk_42 (dk_at dksX12_callsAll_2 13 rfl rfl)
theorem dX12_callsAll_62 : decode cX12_callsAll 62 = .ok (.getfield 80, 3) := dk_180 0 80 (dk_at dksX12_callsAll_2 14 rfl rfl)
theorem dX12_callsAll_65 : decode cX12_callsAll 65 = .ok (.aload_n 0, 1) := dk_42 (dk_at dksX12_callsAll_2 17 rfl rfl)
theorem dX12_callsAll_66 : decode cX12_callsAll 66 = .ok (.getfield 13, 3) := dk_180 0 13 (dk_at dksX12_callsAll_2 18 rfl rfl)
theorem dX12_callsAll_69 : decode cX12_callsAll 69 = .ok (.sipush 6680, 3) := dk_17 26 24 (dk_at dksX12_callsAll_2 21 rfl rfl)
theorem dX12_callsAll_72 : decode cX12_callsAll 72 = .ok (.iconst 4, 1) := dk_7 (dk_at dksX12_callsAll_3 0 rfl rfl)
theorem dX12_callsAll_73 : decode cX12_callsAll 73 = .ok (.iload_n 1, 1) := dk_27 (dk_at dksX12_callsAll_3 1 rfl rfl)
theorem dX12_callsAll_74 : decode cX12_callsAll 74 = .ok (.imul, 1) := dk_104 (dk_at dksX12_callsAll_3 2 rfl rfl)
theorem dX12_callsAll_75 : decode cX12_callsAll 75 = .ok (.iadd, 1) := dk_96 (dk_at dksX12_callsAll_3 3 rfl rfl)
theorem dX12_callsAll_76 : decode cX12_callsAll 76 = .ok (.iaload, 1) := dk_46 (dk_at dksX12_callsAll_3 4 rfl rfl)
theorem dX12_callsAll_77 : decode cX12_callsAll 77 = .ok (.dup2, 1) := dk_92 (dk_at dksX12_callsAll_3 5 rfl rfl)
theorem dX12_callsAll_78 : decode cX12_callsAll 78 = .ok (.iaload, 1) := dk_46 (dk_at dksX12_callsAll_3 6 rfl rfl)
theorem dX12_callsAll_79 : decode cX12_callsAll 79 = .ok (.iconst 1, 1) := dk_4 (dk_at dksX12_callsAll_3 7 rfl rfl)
theorem dX12_callsAll_80 : decode cX12_callsAll 80 = .ok (.aload_n 0, 1) := dk_42 (dk_at dksX12_callsAll_3 8 rfl rfl)
theorem dX12_callsAll_81 : decode cX12_callsAll 81 = .ok (.getfield 13, 3) := dk_180 0 13 (dk_at dksX12_callsAll_3 9 rfl rfl)
theorem dX12_callsAll_84 : decode cX12_callsAll 84 = .ok (.sipush 6680, 3) := dk_17 26 24 (dk_at dksX12_callsAll_3 12 rfl rfl)
theorem dX12_callsAll_87 : decode cX12_callsAll 87 = .ok (.iconst 4, 1) := dk_7 (dk_at dksX12_callsAll_3 15 rfl rfl)
theorem dX12_callsAll_88 : decode cX12_callsAll 88 = .ok (.iload_n 1, 1) := dk_27 (dk_at dksX12_callsAll_3 16 rfl rfl)
theorem dX12_callsAll_89 : decode cX12_callsAll 89 = .ok (.imul, 1) := dk_104 (dk_at dksX12_callsAll_3 17 rfl rfl)
theorem dX12_callsAll_90 : decode cX12_callsAll 90 = .ok (.iadd, 1) := dk_96 (dk_at dksX12_callsAll_3 18 rfl rfl)
theorem dX12_callsAll_91 : decode cX12_callsAll 91 = .ok (.iconst 1, 1) := dk_4 (dk_at dksX12_callsAll_3 19 rfl rfl)
theorem dX12_callsAll_92 : decode cX12_callsAll 92 = .ok (.iadd, 1) := dk_96 (dk_at dksX12_callsAll_3 20 rfl rfl)
theorem dX12_callsAll_93 : decode cX12_callsAll 93 = .ok (.iaload, 1) := dk_46 (dk_at dksX12_callsAll_3 21 rfl rfl)
theorem dX12_callsAll_94 : decode cX12_callsAll 94 = .ok (.ishl, 1) := dk_120 (dk_at dksX12_callsAll_3 22 rfl rfl)
theorem dX12_callsAll_95 : decode cX12_callsAll 95 = .ok (.ior, 1) := dk_128 (dk_at dksX12_callsAll_3 23 rfl rfl)
theorem dX12_callsAll_96 : decode cX12_callsAll 96 = .ok (.iastore, 1) := dk_79 (dk_at dksX12_callsAll_4 0 rfl rfl)
theorem dX12_callsAll_97 : decode cX12_callsAll 97 = .ok (.iinc 1 1, 3) := dk_132 1 1 (dk_at dksX12_callsAll_4 1 rfl rfl)
theorem dX12_callsAll_100 : decode cX12_callsAll 100 = .ok (.goto (-77), 3) := dk_167 255 179 (dk_at dksX12_callsAll_4 4 rfl rfl)
theorem dX12_callsAll_103 : decode cX12_callsAll 103 = .ok (.return_, 1) := dk_177 (dk_at dksX12_callsAll_4 7 rfl rfl)
abbrev cX12_ringOf : ByteArray := prog_25_method_93_code
def yX12_ringOf : MethodName := ⟨RX12, "ringOf", "(I)I"⟩
def dkwX12_ringOf_2 : List UInt8 := [167, 255, 228, 28, 172]
abbrev dktX12_ringOf_2 : List UInt8 := dkwX12_ringOf_2 ++ []
def dkwX12_ringOf_1 : List UInt8 := [28, 29, 184, 1, 38, 153, 0, 14, 42, 29, 182, 1, 203, 28, 159, 0, 5, 3, 172, 132, 3, 1]
abbrev dktX12_ringOf_1 : List UInt8 := dkwX12_ringOf_1 ++ dktX12_ringOf_2
def dkwX12_ringOf_0 : List UInt8 := [42, 27, 182, 1, 203, 61, 28, 184, 1, 42, 5, 162, 0, 5, 3, 172, 3, 62, 29, 16, 16, 162, 0, 28]
abbrev dktX12_ringOf_0 : List UInt8 := dkwX12_ringOf_0 ++ dktX12_ringOf_1
theorem dksX12_ringOf_0 : cX12_ringOf.data.toList.drop 0 = dktX12_ringOf_0 := by decide +kernel
theorem dksX12_ringOf_1 : cX12_ringOf.data.toList.drop 24 = dktX12_ringOf_1 := dk_seg dksX12_ringOf_0 24 rfl rfl
theorem dksX12_ringOf_2 : cX12_ringOf.data.toList.drop 46 = dktX12_ringOf_2 := dk_seg dksX12_ringOf_1 22 rfl rfl
theorem dX12_ringOf_0 : decode cX12_ringOf 0 = .ok (.aload_n 0, 1) := dk_42 (dk_at dksX12_ringOf_0 0 rfl rfl)
theorem dX12_ringOf_1 : decode cX12_ringOf 1 = .ok (.iload_n 1, 1) := dk_27 (dk_at dksX12_ringOf_0 1 rfl rfl)
theorem dX12_ringOf_2 : decode cX12_ringOf 2 = .ok (.invokevirtual 459, 3) := dk_182 1 203 (dk_at dksX12_ringOf_0 2 rfl rfl)
theorem dX12_ringOf_5 : decode cX12_ringOf 5 = .ok (.istore_n 2, 1) := dk_61 (dk_at dksX12_ringOf_0 5 rfl rfl)
theorem dX12_ringOf_6 : decode cX12_ringOf 6 = .ok (.iload_n 2, 1) := dk_28 (dk_at dksX12_ringOf_0 6 rfl rfl)
theorem dX12_ringOf_7 : decode cX12_ringOf 7 = .ok (.invokestatic 298, 3) := dk_184 1 42 (dk_at dksX12_ringOf_0 7 rfl rfl)
theorem dX12_ringOf_10 : decode cX12_ringOf 10 = .ok (.iconst 2, 1) := dk_5 (dk_at dksX12_ringOf_0 10 rfl rfl)
theorem dX12_ringOf_11 : decode cX12_ringOf 11 = .ok (.if_icmp .ge 5, 3) := dk_162 0 5 (dk_at dksX12_ringOf_0 11 rfl rfl)
theorem dX12_ringOf_14 : decode cX12_ringOf 14 = .ok (.iconst 0, 1) := dk_3 (dk_at dksX12_ringOf_0 14 rfl rfl)
theorem dX12_ringOf_15 : decode cX12_ringOf 15 = .ok (.ireturn, 1) := dk_172 (dk_at dksX12_ringOf_0 15 rfl rfl)
theorem dX12_ringOf_16 : decode cX12_ringOf 16 = .ok (.iconst 0, 1) := dk_3 (dk_at dksX12_ringOf_0 16 rfl rfl)
theorem dX12_ringOf_17 : decode cX12_ringOf 17 = .ok (.istore_n 3, 1) := dk_62 (dk_at dksX12_ringOf_0 17 rfl rfl)
theorem dX12_ringOf_18 : decode cX12_ringOf 18 = .ok (.iload_n 3, 1) := dk_29 (dk_at dksX12_ringOf_0 18 rfl rfl)
theorem dX12_ringOf_19 : decode cX12_ringOf 19 = .ok (.bipush 16, 2) := dk_16 16 (dk_at dksX12_ringOf_0 19 rfl rfl)
theorem dX12_ringOf_21 : decode cX12_ringOf 21 = .ok (.if_icmp .ge 28, 3) := dk_162 0 28 (dk_at dksX12_ringOf_0 21 rfl rfl)
theorem dX12_ringOf_24 : decode cX12_ringOf 24 = .ok (.iload_n 2, 1) := dk_28 (dk_at dksX12_ringOf_1 0 rfl rfl)
theorem dX12_ringOf_25 : decode cX12_ringOf 25 = .ok (.iload_n 3, 1) := dk_29 (dk_at dksX12_ringOf_1 1 rfl rfl)
theorem dX12_ringOf_26 : decode cX12_ringOf 26 = .ok (.invokestatic 294, 3) := dk_184 1 38 (dk_at dksX12_ringOf_1 2 rfl rfl)
theorem dX12_ringOf_29 : decode cX12_ringOf 29 = .ok (.ifCond .eq 14, 3) := dk_153 0 14 (dk_at dksX12_ringOf_1 5 rfl rfl)
theorem dX12_ringOf_32 : decode cX12_ringOf 32 = .ok (.aload_n 0, 1) := dk_42 (dk_at dksX12_ringOf_1 8 rfl rfl)
theorem dX12_ringOf_33 : decode cX12_ringOf 33 = .ok (.iload_n 3, 1) := dk_29 (dk_at dksX12_ringOf_1 9 rfl rfl)
theorem dX12_ringOf_34 : decode cX12_ringOf 34 = .ok (.invokevirtual 459, 3) := dk_182 1 203 (dk_at dksX12_ringOf_1 10 rfl rfl)
theorem dX12_ringOf_37 : decode cX12_ringOf 37 = .ok (.iload_n 2, 1) := dk_28 (dk_at dksX12_ringOf_1 13 rfl rfl)
theorem dX12_ringOf_38 : decode cX12_ringOf 38 = .ok (.if_icmp .eq 5, 3) := dk_159 0 5 (dk_at dksX12_ringOf_1 14 rfl rfl)
theorem dX12_ringOf_41 : decode cX12_ringOf 41 = .ok (.iconst 0, 1) := dk_3 (dk_at dksX12_ringOf_1 17 rfl rfl)
theorem dX12_ringOf_42 : decode cX12_ringOf 42 = .ok (.ireturn, 1) := dk_172 (dk_at dksX12_ringOf_1 18 rfl rfl)
theorem dX12_ringOf_43 : decode cX12_ringOf 43 = .ok (.iinc 3 1, 3) := dk_132 3 1 (dk_at dksX12_ringOf_1 19 rfl rfl)
theorem dX12_ringOf_46 : decode cX12_ringOf 46 = .ok (.goto (-28), 3) := dk_167 255 228 (dk_at dksX12_ringOf_2 0 rfl rfl)
theorem dX12_ringOf_49 : decode cX12_ringOf 49 = .ok (.iload_n 2, 1) := dk_28 (dk_at dksX12_ringOf_2 3 rfl rfl)
theorem dX12_ringOf_50 : decode cX12_ringOf 50 = .ok (.ireturn, 1) := dk_172 (dk_at dksX12_ringOf_2 4 rfl rfl)
abbrev cX12_comesTo : ByteArray := prog_25_method_92_code
def yX12_comesTo : MethodName := ⟨RX12, "comesTo", "(I)I"⟩
def dkwX12_comesTo_2 : List UInt8 := [167, 255, 214, 28, 172]
abbrev dktX12_comesTo_2 : List UInt8 := dkwX12_comesTo_2 ++ []
def dkwX12_comesTo_1 : List UInt8 := [21, 4, 184, 1, 38, 153, 0, 13, 28, 42, 180, 0, 80, 21, 4, 46, 128, 61, 132, 4, 1, 167, 255, 227]
abbrev dktX12_comesTo_1 : List UInt8 := dkwX12_comesTo_1 ++ dktX12_comesTo_2
def dkwX12_comesTo_0 : List UInt8 := [4, 27, 120, 61, 3, 62, 29, 28, 159, 0, 43, 28, 62, 3, 54, 4, 21, 4, 16, 16, 162, 0, 28, 29]
abbrev dktX12_comesTo_0 : List UInt8 := dkwX12_comesTo_0 ++ dktX12_comesTo_1
theorem dksX12_comesTo_0 : cX12_comesTo.data.toList.drop 0 = dktX12_comesTo_0 := by decide +kernel
theorem dksX12_comesTo_1 : cX12_comesTo.data.toList.drop 24 = dktX12_comesTo_1 := dk_seg dksX12_comesTo_0 24 rfl rfl
theorem dksX12_comesTo_2 : cX12_comesTo.data.toList.drop 48 = dktX12_comesTo_2 := dk_seg dksX12_comesTo_1 24 rfl rfl
theorem dX12_comesTo_0 : decode cX12_comesTo 0 = .ok (.iconst 1, 1) := dk_4 (dk_at dksX12_comesTo_0 0 rfl rfl)
theorem dX12_comesTo_1 : decode cX12_comesTo 1 = .ok (.iload_n 1, 1) := dk_27 (dk_at dksX12_comesTo_0 1 rfl rfl)
theorem dX12_comesTo_2 : decode cX12_comesTo 2 = .ok (.ishl, 1) := dk_120 (dk_at dksX12_comesTo_0 2 rfl rfl)
theorem dX12_comesTo_3 : decode cX12_comesTo 3 = .ok (.istore_n 2, 1) := dk_61 (dk_at dksX12_comesTo_0 3 rfl rfl)
theorem dX12_comesTo_4 : decode cX12_comesTo 4 = .ok (.iconst 0, 1) := dk_3 (dk_at dksX12_comesTo_0 4 rfl rfl)
theorem dX12_comesTo_5 : decode cX12_comesTo 5 = .ok (.istore_n 3, 1) := dk_62 (dk_at dksX12_comesTo_0 5 rfl rfl)
theorem dX12_comesTo_6 : decode cX12_comesTo 6 = .ok (.iload_n 3, 1) := dk_29 (dk_at dksX12_comesTo_0 6 rfl rfl)
theorem dX12_comesTo_7 : decode cX12_comesTo 7 = .ok (.iload_n 2, 1) := dk_28 (dk_at dksX12_comesTo_0 7 rfl rfl)
theorem dX12_comesTo_8 : decode cX12_comesTo 8 = .ok (.if_icmp .eq 43, 3) := dk_159 0 43 (dk_at dksX12_comesTo_0 8 rfl rfl)
theorem dX12_comesTo_11 : decode cX12_comesTo 11 = .ok (.iload_n 2, 1) := dk_28 (dk_at dksX12_comesTo_0 11 rfl rfl)
theorem dX12_comesTo_12 : decode cX12_comesTo 12 = .ok (.istore_n 3, 1) := dk_62 (dk_at dksX12_comesTo_0 12 rfl rfl)
theorem dX12_comesTo_13 : decode cX12_comesTo 13 = .ok (.iconst 0, 1) := dk_3 (dk_at dksX12_comesTo_0 13 rfl rfl)
theorem dX12_comesTo_14 : decode cX12_comesTo 14 = .ok (.istore 4, 2) := dk_54 4 (dk_at dksX12_comesTo_0 14 rfl rfl)
theorem dX12_comesTo_16 : decode cX12_comesTo 16 = .ok (.iload 4, 2) := dk_21 4 (dk_at dksX12_comesTo_0 16 rfl rfl)
theorem dX12_comesTo_18 : decode cX12_comesTo 18 = .ok (.bipush 16, 2) := dk_16 16 (dk_at dksX12_comesTo_0 18 rfl rfl)
theorem dX12_comesTo_20 : decode cX12_comesTo 20 = .ok (.if_icmp .ge 28, 3) := dk_162 0 28 (dk_at dksX12_comesTo_0 20 rfl rfl)
theorem dX12_comesTo_23 : decode cX12_comesTo 23 = .ok (.iload_n 3, 1) := dk_29 (dk_at dksX12_comesTo_0 23 rfl rfl)
theorem dX12_comesTo_24 : decode cX12_comesTo 24 = .ok (.iload 4, 2) := dk_21 4 (dk_at dksX12_comesTo_1 0 rfl rfl)
theorem dX12_comesTo_26 : decode cX12_comesTo 26 = .ok (.invokestatic 294, 3) := dk_184 1 38 (dk_at dksX12_comesTo_1 2 rfl rfl)
theorem dX12_comesTo_29 : decode cX12_comesTo 29 = .ok (.ifCond .eq 13, 3) := dk_153 0 13 (dk_at dksX12_comesTo_1 5 rfl rfl)
theorem dX12_comesTo_32 : decode cX12_comesTo 32 = .ok (.iload_n 2, 1) := dk_28 (dk_at dksX12_comesTo_1 8 rfl rfl)
theorem dX12_comesTo_33 : decode cX12_comesTo 33 = .ok (.aload_n 0, 1) := dk_42 (dk_at dksX12_comesTo_1 9 rfl rfl)
theorem dX12_comesTo_34 : decode cX12_comesTo 34 = .ok (.getfield 80, 3) := dk_180 0 80 (dk_at dksX12_comesTo_1 10 rfl rfl)
theorem dX12_comesTo_37 : decode cX12_comesTo 37 = .ok (.iload 4, 2) := dk_21 4 (dk_at dksX12_comesTo_1 13 rfl rfl)
theorem dX12_comesTo_39 : decode cX12_comesTo 39 = .ok (.iaload, 1) := dk_46 (dk_at dksX12_comesTo_1 15 rfl rfl)
theorem dX12_comesTo_40 : decode cX12_comesTo 40 = .ok (.ior, 1) := dk_128 (dk_at dksX12_comesTo_1 16 rfl rfl)
theorem dX12_comesTo_41 : decode cX12_comesTo 41 = .ok (.istore_n 2, 1) := dk_61 (dk_at dksX12_comesTo_1 17 rfl rfl)
theorem dX12_comesTo_42 : decode cX12_comesTo 42 = .ok (.iinc 4 1, 3) := dk_132 4 1 (dk_at dksX12_comesTo_1 18 rfl rfl)
theorem dX12_comesTo_45 : decode cX12_comesTo 45 = .ok (.goto (-29), 3) := dk_167 255 227 (dk_at dksX12_comesTo_1 21 rfl rfl)
theorem dX12_comesTo_48 : decode cX12_comesTo 48 = .ok (.goto (-42), 3) := dk_167 255 214 (dk_at dksX12_comesTo_2 0 rfl rfl)
theorem dX12_comesTo_51 : decode cX12_comesTo 51 = .ok (.iload_n 2, 1) := dk_28 (dk_at dksX12_comesTo_2 3 rfl rfl)
theorem dX12_comesTo_52 : decode cX12_comesTo 52 = .ok (.ireturn, 1) := dk_172 (dk_at dksX12_comesTo_2 4 rfl rfl)
abbrev cX12_rings : ByteArray := prog_25_method_95_code
def yX12_rings : MethodName := ⟨RX12, "rings", "()I"⟩
def dkwX12_rings_2 : List UInt8 := [132, 2, 1, 167, 255, 215, 27, 172]
abbrev dktX12_rings_2 : List UInt8 := dkwX12_rings_2 ++ []
def dkwX12_rings_1 : List UInt8 := [27, 29, 153, 0, 17, 29, 4, 28, 120, 4, 100, 126, 154, 0, 7, 4, 167, 0, 4, 3, 96, 60]
abbrev dktX12_rings_1 : List UInt8 := dkwX12_rings_1 ++ dktX12_rings_2
def dkwX12_rings_0 : List UInt8 := [42, 182, 1, 206, 3, 60, 3, 61, 28, 42, 180, 0, 13, 3, 46, 162, 0, 37, 42, 28, 182, 1, 209, 62]
abbrev dktX12_rings_0 : List UInt8 := dkwX12_rings_0 ++ dktX12_rings_1
theorem dksX12_rings_0 : cX12_rings.data.toList.drop 0 = dktX12_rings_0 := by decide +kernel
theorem dksX12_rings_1 : cX12_rings.data.toList.drop 24 = dktX12_rings_1 := dk_seg dksX12_rings_0 24 rfl rfl
theorem dksX12_rings_2 : cX12_rings.data.toList.drop 46 = dktX12_rings_2 := dk_seg dksX12_rings_1 22 rfl rfl
theorem dX12_rings_0 : decode cX12_rings 0 = .ok (.aload_n 0, 1) := dk_42 (dk_at dksX12_rings_0 0 rfl rfl)
theorem dX12_rings_1 : decode cX12_rings 1 = .ok (.invokevirtual 462, 3) := dk_182 1 206 (dk_at dksX12_rings_0 1 rfl rfl)
theorem dX12_rings_4 : decode cX12_rings 4 = .ok (.iconst 0, 1) := dk_3 (dk_at dksX12_rings_0 4 rfl rfl)
theorem dX12_rings_5 : decode cX12_rings 5 = .ok (.istore_n 1, 1) := dk_60 (dk_at dksX12_rings_0 5 rfl rfl)
theorem dX12_rings_6 : decode cX12_rings 6 = .ok (.iconst 0, 1) := dk_3 (dk_at dksX12_rings_0 6 rfl rfl)
theorem dX12_rings_7 : decode cX12_rings 7 = .ok (.istore_n 2, 1) := dk_61 (dk_at dksX12_rings_0 7 rfl rfl)
theorem dX12_rings_8 : decode cX12_rings 8 = .ok (.iload_n 2, 1) := dk_28 (dk_at dksX12_rings_0 8 rfl rfl)
theorem dX12_rings_9 : decode cX12_rings 9 = .ok (.aload_n 0, 1) := dk_42 (dk_at dksX12_rings_0 9 rfl rfl)
theorem dX12_rings_10 : decode cX12_rings 10 = .ok (.getfield 13, 3) := dk_180 0 13 (dk_at dksX12_rings_0 10 rfl rfl)
theorem dX12_rings_13 : decode cX12_rings 13 = .ok (.iconst 0, 1) := dk_3 (dk_at dksX12_rings_0 13 rfl rfl)
theorem dX12_rings_14 : decode cX12_rings 14 = .ok (.iaload, 1) := dk_46 (dk_at dksX12_rings_0 14 rfl rfl)
theorem dX12_rings_15 : decode cX12_rings 15 = .ok (.if_icmp .ge 37, 3) := dk_162 0 37 (dk_at dksX12_rings_0 15 rfl rfl)
theorem dX12_rings_18 : decode cX12_rings 18 = .ok (.aload_n 0, 1) := dk_42 (dk_at dksX12_rings_0 18 rfl rfl)
theorem dX12_rings_19 : decode cX12_rings 19 = .ok (.iload_n 2, 1) := dk_28 (dk_at dksX12_rings_0 19 rfl rfl)
theorem dX12_rings_20 : decode cX12_rings 20 = .ok (.invokevirtual 465, 3) := dk_182 1 209 (dk_at dksX12_rings_0 20 rfl rfl)
theorem dX12_rings_23 : decode cX12_rings 23 = .ok (.istore_n 3, 1) := dk_62 (dk_at dksX12_rings_0 23 rfl rfl)
theorem dX12_rings_24 : decode cX12_rings 24 = .ok (.iload_n 1, 1) := dk_27 (dk_at dksX12_rings_1 0 rfl rfl)
theorem dX12_rings_25 : decode cX12_rings 25 = .ok (.iload_n 3, 1) := dk_29 (dk_at dksX12_rings_1 1 rfl rfl)
theorem dX12_rings_26 : decode cX12_rings 26 = .ok (.ifCond .eq 17, 3) := dk_153 0 17 (dk_at dksX12_rings_1 2 rfl rfl)
theorem dX12_rings_29 : decode cX12_rings 29 = .ok (.iload_n 3, 1) := dk_29 (dk_at dksX12_rings_1 5 rfl rfl)
theorem dX12_rings_30 : decode cX12_rings 30 = .ok (.iconst 1, 1) := dk_4 (dk_at dksX12_rings_1 6 rfl rfl)
theorem dX12_rings_31 : decode cX12_rings 31 = .ok (.iload_n 2, 1) := dk_28 (dk_at dksX12_rings_1 7 rfl rfl)
theorem dX12_rings_32 : decode cX12_rings 32 = .ok (.ishl, 1) := dk_120 (dk_at dksX12_rings_1 8 rfl rfl)
theorem dX12_rings_33 : decode cX12_rings 33 = .ok (.iconst 1, 1) := dk_4 (dk_at dksX12_rings_1 9 rfl rfl)
theorem dX12_rings_34 : decode cX12_rings 34 = .ok (.isub, 1) := dk_100 (dk_at dksX12_rings_1 10 rfl rfl)
theorem dX12_rings_35 : decode cX12_rings 35 = .ok (.iand, 1) := dk_126 (dk_at dksX12_rings_1 11 rfl rfl)
theorem dX12_rings_36 : decode cX12_rings 36 = .ok (.ifCond .ne 7, 3) := dk_154 0 7 (dk_at dksX12_rings_1 12 rfl rfl)
theorem dX12_rings_39 : decode cX12_rings 39 = .ok (.iconst 1, 1) := dk_4 (dk_at dksX12_rings_1 15 rfl rfl)
theorem dX12_rings_40 : decode cX12_rings 40 = .ok (.goto 4, 3) := dk_167 0 4 (dk_at dksX12_rings_1 16 rfl rfl)
theorem dX12_rings_43 : decode cX12_rings 43 = .ok (.iconst 0, 1) := dk_3 (dk_at dksX12_rings_1 19 rfl rfl)
theorem dX12_rings_44 : decode cX12_rings 44 = .ok (.iadd, 1) := dk_96 (dk_at dksX12_rings_1 20 rfl rfl)
theorem dX12_rings_45 : decode cX12_rings 45 = .ok (.istore_n 1, 1) := dk_60 (dk_at dksX12_rings_1 21 rfl rfl)
theorem dX12_rings_46 : decode cX12_rings 46 = .ok (.iinc 2 1, 3) := dk_132 2 1 (dk_at dksX12_rings_2 0 rfl rfl)
theorem dX12_rings_49 : decode cX12_rings 49 = .ok (.goto (-41), 3) := dk_167 255 215 (dk_at dksX12_rings_2 3 rfl rfl)
theorem dX12_rings_52 : decode cX12_rings 52 = .ok (.iload_n 1, 1) := dk_27 (dk_at dksX12_rings_2 6 rfl rfl)
theorem dX12_rings_53 : decode cX12_rings 53 = .ok (.ireturn, 1) := dk_172 (dk_at dksX12_rings_2 7 rfl rfl)
abbrev cX12_house : ByteArray := prog_25_method_96_code
def yX12_house : MethodName := ⟨RX12, "house", "(II)I"⟩
def dkwX12_house_5 : List UInt8 := [172]
abbrev dktX12_house_5 : List UInt8 := dkwX12_house_5 ++ []
def dkwX12_house_4 : List UInt8 := [28, 96, 16, 7, 100, 46, 27, 160, 0, 7, 4, 167, 0, 4, 3, 96, 62, 132, 4, 1, 167, 255, 183, 29]
abbrev dktX12_house_4 : List UInt8 := dkwX12_house_4 ++ dktX12_house_5
def dkwX12_house_3 : List UInt8 := [20, 0, 99, 20, 1, 57, 184, 0, 101, 153, 0, 29, 42, 180, 0, 13, 17, 26, 24, 7, 21, 4, 104, 96]
abbrev dktX12_house_3 : List UInt8 := dkwX12_house_3 ++ dktX12_house_4
def dkwX12_house_2 : List UInt8 := [16, 8, 46, 162, 0, 67, 29, 42, 180, 0, 13, 17, 26, 24, 7, 21, 4, 104, 96, 5, 96, 46, 133]
abbrev dktX12_house_2 : List UInt8 := dkwX12_house_2 ++ dktX12_house_3
def dkwX12_house_1 : List UInt8 := [28, 16, 7, 162, 0, 10, 42, 27, 28, 182, 1, 30, 172, 3, 62, 3, 54, 4, 21, 4, 42, 180, 0, 13]
abbrev dktX12_house_1 : List UInt8 := dkwX12_house_1 ++ dktX12_house_2
def dkwX12_house_0 : List UInt8 := [42, 27, 182, 0, 105, 153, 0, 15, 28, 133, 9, 20, 1, 212, 184, 0, 101, 154, 0, 7, 19, 1, 214, 172]
abbrev dktX12_house_0 : List UInt8 := dkwX12_house_0 ++ dktX12_house_1
theorem dksX12_house_0 : cX12_house.data.toList.drop 0 = dktX12_house_0 := by decide +kernel
theorem dksX12_house_1 : cX12_house.data.toList.drop 24 = dktX12_house_1 := dk_seg dksX12_house_0 24 rfl rfl
theorem dksX12_house_2 : cX12_house.data.toList.drop 48 = dktX12_house_2 := dk_seg dksX12_house_1 24 rfl rfl
theorem dksX12_house_3 : cX12_house.data.toList.drop 71 = dktX12_house_3 := dk_seg dksX12_house_2 23 rfl rfl
theorem dksX12_house_4 : cX12_house.data.toList.drop 95 = dktX12_house_4 := dk_seg dksX12_house_3 24 rfl rfl
theorem dksX12_house_5 : cX12_house.data.toList.drop 119 = dktX12_house_5 := dk_seg dksX12_house_4 24 rfl rfl
theorem dX12_house_0 : decode cX12_house 0 = .ok (.aload_n 0, 1) := dk_42 (dk_at dksX12_house_0 0 rfl rfl)
theorem dX12_house_1 : decode cX12_house 1 = .ok (.iload_n 1, 1) := dk_27 (dk_at dksX12_house_0 1 rfl rfl)
theorem dX12_house_2 : decode cX12_house 2 = .ok (.invokevirtual 105, 3) := dk_182 0 105 (dk_at dksX12_house_0 2 rfl rfl)
theorem dX12_house_5 : decode cX12_house 5 = .ok (.ifCond .eq 15, 3) := dk_153 0 15 (dk_at dksX12_house_0 5 rfl rfl)
theorem dX12_house_8 : decode cX12_house 8 = .ok (.iload_n 2, 1) := dk_28 (dk_at dksX12_house_0 8 rfl rfl)
theorem dX12_house_9 : decode cX12_house 9 = .ok (.i2l, 1) := dk_133 (dk_at dksX12_house_0 9 rfl rfl)
theorem dX12_house_10 : decode cX12_house 10 = .ok (.lconst 0, 1) := dk_9 (dk_at dksX12_house_0 10 rfl rfl)
theorem dX12_house_11 : decode cX12_house 11 = .ok (.ldc2_w 468, 3) := dk_20 1 212 (dk_at dksX12_house_0 11 rfl rfl)
theorem dX12_house_14 : decode cX12_house 14 = .ok (.invokestatic 101, 3) := dk_184 0 101 (dk_at dksX12_house_0 14 rfl rfl)
theorem dX12_house_17 : decode cX12_house 17 = .ok (.ifCond .ne 7, 3) := dk_154 0 7 (dk_at dksX12_house_0 17 rfl rfl)
theorem dX12_house_20 : decode cX12_house 20 = .ok (.ldc_w 470, 3) := dk_19 1 214 (dk_at dksX12_house_0 20 rfl rfl)
theorem dX12_house_23 : decode cX12_house 23 = .ok (.ireturn, 1) := dk_172 (dk_at dksX12_house_0 23 rfl rfl)
theorem dX12_house_24 : decode cX12_house 24 = .ok (.iload_n 2, 1) := dk_28 (dk_at dksX12_house_1 0 rfl rfl)
theorem dX12_house_25 : decode cX12_house 25 = .ok (.bipush 7, 2) := dk_16 7 (dk_at dksX12_house_1 1 rfl rfl)
theorem dX12_house_27 : decode cX12_house 27 = .ok (.if_icmp .ge 10, 3) := dk_162 0 10 (dk_at dksX12_house_1 3 rfl rfl)
theorem dX12_house_30 : decode cX12_house 30 = .ok (.aload_n 0, 1) := dk_42 (dk_at dksX12_house_1 6 rfl rfl)
theorem dX12_house_31 : decode cX12_house 31 = .ok (.iload_n 1, 1) := dk_27 (dk_at dksX12_house_1 7 rfl rfl)
theorem dX12_house_32 : decode cX12_house 32 = .ok (.iload_n 2, 1) := dk_28 (dk_at dksX12_house_1 8 rfl rfl)
theorem dX12_house_33 : decode cX12_house 33 = .ok (.invokevirtual 286, 3) := dk_182 1 30 (dk_at dksX12_house_1 9 rfl rfl)
theorem dX12_house_36 : decode cX12_house 36 = .ok (.ireturn, 1) := dk_172 (dk_at dksX12_house_1 12 rfl rfl)
theorem dX12_house_37 : decode cX12_house 37 = .ok (.iconst 0, 1) := dk_3 (dk_at dksX12_house_1 13 rfl rfl)
theorem dX12_house_38 : decode cX12_house 38 = .ok (.istore_n 3, 1) := dk_62 (dk_at dksX12_house_1 14 rfl rfl)
theorem dX12_house_39 : decode cX12_house 39 = .ok (.iconst 0, 1) := dk_3 (dk_at dksX12_house_1 15 rfl rfl)
theorem dX12_house_40 : decode cX12_house 40 = .ok (.istore 4, 2) := dk_54 4 (dk_at dksX12_house_1 16 rfl rfl)
theorem dX12_house_42 : decode cX12_house 42 = .ok (.iload 4, 2) := dk_21 4 (dk_at dksX12_house_1 18 rfl rfl)
theorem dX12_house_44 : decode cX12_house 44 = .ok (.aload_n 0, 1) := dk_42 (dk_at dksX12_house_1 20 rfl rfl)
theorem dX12_house_45 : decode cX12_house 45 = .ok (.getfield 13, 3) := dk_180 0 13 (dk_at dksX12_house_1 21 rfl rfl)
theorem dX12_house_48 : decode cX12_house 48 = .ok (.bipush 8, 2) := dk_16 8 (dk_at dksX12_house_2 0 rfl rfl)
theorem dX12_house_50 : decode cX12_house 50 = .ok (.iaload, 1) := dk_46 (dk_at dksX12_house_2 2 rfl rfl)
theorem dX12_house_51 : decode cX12_house 51 = .ok (.if_icmp .ge 67, 3) := dk_162 0 67 (dk_at dksX12_house_2 3 rfl rfl)
theorem dX12_house_54 : decode cX12_house 54 = .ok (.iload_n 3, 1) := dk_29 (dk_at dksX12_house_2 6 rfl rfl)
theorem dX12_house_55 : decode cX12_house 55 = .ok (.aload_n 0, 1) := dk_42 (dk_at dksX12_house_2 7 rfl rfl)
theorem dX12_house_56 : decode cX12_house 56 = .ok (.getfield 13, 3) := dk_180 0 13 (dk_at dksX12_house_2 8 rfl rfl)
theorem dX12_house_59 : decode cX12_house 59 = .ok (.sipush 6680, 3) := dk_17 26 24 (dk_at dksX12_house_2 11 rfl rfl)
theorem dX12_house_62 : decode cX12_house 62 = .ok (.iconst 4, 1) := dk_7 (dk_at dksX12_house_2 14 rfl rfl)
theorem dX12_house_63 : decode cX12_house 63 = .ok (.iload 4, 2) := dk_21 4 (dk_at dksX12_house_2 15 rfl rfl)
theorem dX12_house_65 : decode cX12_house 65 = .ok (.imul, 1) := dk_104 (dk_at dksX12_house_2 17 rfl rfl)
theorem dX12_house_66 : decode cX12_house 66 = .ok (.iadd, 1) := dk_96 (dk_at dksX12_house_2 18 rfl rfl)
theorem dX12_house_67 : decode cX12_house 67 = .ok (.iconst 2, 1) := dk_5 (dk_at dksX12_house_2 19 rfl rfl)
theorem dX12_house_68 : decode cX12_house 68 = .ok (.iadd, 1) := dk_96 (dk_at dksX12_house_2 20 rfl rfl)
theorem dX12_house_69 : decode cX12_house 69 = .ok (.iaload, 1) := dk_46 (dk_at dksX12_house_2 21 rfl rfl)
theorem dX12_house_70 : decode cX12_house 70 = .ok (.i2l, 1) := dk_133 (dk_at dksX12_house_2 22 rfl rfl)
theorem dX12_house_71 : decode cX12_house 71 = .ok (.ldc2_w 99, 3) := dk_20 0 99 (dk_at dksX12_house_3 0 rfl rfl)
theorem dX12_house_74 : decode cX12_house 74 = .ok (.ldc2_w 313, 3) := dk_20 1 57 (dk_at dksX12_house_3 3 rfl rfl)
theorem dX12_house_77 : decode cX12_house 77 = .ok (.invokestatic 101, 3) := dk_184 0 101 (dk_at dksX12_house_3 6 rfl rfl)
theorem dX12_house_80 : decode cX12_house 80 = .ok (.ifCond .eq 29, 3) := dk_153 0 29 (dk_at dksX12_house_3 9 rfl rfl)
theorem dX12_house_83 : decode cX12_house 83 = .ok (.aload_n 0, 1) := dk_42 (dk_at dksX12_house_3 12 rfl rfl)
theorem dX12_house_84 : decode cX12_house 84 = .ok (.getfield 13, 3) := dk_180 0 13 (dk_at dksX12_house_3 13 rfl rfl)
theorem dX12_house_87 : decode cX12_house 87 = .ok (.sipush 6680, 3) := dk_17 26 24 (dk_at dksX12_house_3 16 rfl rfl)
theorem dX12_house_90 : decode cX12_house 90 = .ok (.iconst 4, 1) := dk_7 (dk_at dksX12_house_3 19 rfl rfl)
theorem dX12_house_91 : decode cX12_house 91 = .ok (.iload 4, 2) := dk_21 4 (dk_at dksX12_house_3 20 rfl rfl)
theorem dX12_house_93 : decode cX12_house 93 = .ok (.imul, 1) := dk_104 (dk_at dksX12_house_3 22 rfl rfl)
theorem dX12_house_94 : decode cX12_house 94 = .ok (.iadd, 1) := dk_96 (dk_at dksX12_house_3 23 rfl rfl)
theorem dX12_house_95 : decode cX12_house 95 = .ok (.iload_n 2, 1) := dk_28 (dk_at dksX12_house_4 0 rfl rfl)
theorem dX12_house_96 : decode cX12_house 96 = .ok (.iadd, 1) := dk_96 (dk_at dksX12_house_4 1 rfl rfl)
theorem dX12_house_97 : decode cX12_house 97 = .ok (.bipush 7, 2) := dk_16 7 (dk_at dksX12_house_4 2 rfl rfl)
theorem dX12_house_99 : decode cX12_house 99 = .ok (.isub, 1) := dk_100 (dk_at dksX12_house_4 4 rfl rfl)
theorem dX12_house_100 : decode cX12_house 100 = .ok (.iaload, 1) := dk_46 (dk_at dksX12_house_4 5 rfl rfl)
theorem dX12_house_101 : decode cX12_house 101 = .ok (.iload_n 1, 1) := dk_27 (dk_at dksX12_house_4 6 rfl rfl)
theorem dX12_house_102 : decode cX12_house 102 = .ok (.if_icmp .ne 7, 3) := dk_160 0 7 (dk_at dksX12_house_4 7 rfl rfl)
theorem dX12_house_105 : decode cX12_house 105 = .ok (.iconst 1, 1) := dk_4 (dk_at dksX12_house_4 10 rfl rfl)
theorem dX12_house_106 : decode cX12_house 106 = .ok (.goto 4, 3) := dk_167 0 4 (dk_at dksX12_house_4 11 rfl rfl)
theorem dX12_house_109 : decode cX12_house 109 = .ok (.iconst 0, 1) := dk_3 (dk_at dksX12_house_4 14 rfl rfl)
theorem dX12_house_110 : decode cX12_house 110 = .ok (.iadd, 1) := dk_96 (dk_at dksX12_house_4 15 rfl rfl)
theorem dX12_house_111 : decode cX12_house 111 = .ok (.istore_n 3, 1) := dk_62 (dk_at dksX12_house_4 16 rfl rfl)
theorem dX12_house_112 : decode cX12_house 112 = .ok (.iinc 4 1, 3) := dk_132 4 1 (dk_at dksX12_house_4 17 rfl rfl)
theorem dX12_house_115 : decode cX12_house 115 = .ok (.goto (-73), 3) := dk_167 255 183 (dk_at dksX12_house_4 20 rfl rfl)
theorem dX12_house_118 : decode cX12_house 118 = .ok (.iload_n 3, 1) := dk_29 (dk_at dksX12_house_4 23 rfl rfl)
theorem dX12_house_119 : decode cX12_house 119 = .ok (.ireturn, 1) := dk_172 (dk_at dksX12_house_5 0 rfl rfl)
abbrev cX12_beside : ByteArray := prog_25_method_97_code
def yX12_beside : MethodName := ⟨RX12, "beside", "(I)I"⟩
def dkwX12_beside_11 : List UInt8 := [28, 172]
abbrev dktX12_beside_11 : List UInt8 := dkwX12_beside_11 ++ []
def dkwX12_beside_10 : List UInt8 := [17, 35, 120, 162, 0, 21, 42, 180, 0, 13, 29, 42, 180, 0, 83, 29, 46, 79, 132, 3, 1, 167, 255, 234]
abbrev dktX12_beside_10 : List UInt8 := dkwX12_beside_10 ++ dktX12_beside_11
def dkwX12_beside_9 : List UInt8 := [182, 1, 108, 54, 4, 132, 2, 1, 167, 255, 198, 42, 180, 0, 13, 16, 7, 46, 61, 3, 62, 29]
abbrev dktX12_beside_9 : List UInt8 := dkwX12_beside_9 ++ dktX12_beside_10
def dkwX12_beside_8 : List UInt8 := [42, 180, 0, 13, 29, 4, 96, 46, 42, 180, 0, 13, 29, 5, 96, 46, 42, 180, 0, 13, 29, 6, 96, 46]
abbrev dktX12_beside_8 : List UInt8 := dkwX12_beside_8 ++ dktX12_beside_9
def dkwX12_beside_7 : List UInt8 := [180, 0, 13, 16, 8, 46, 162, 0, 53, 17, 26, 24, 7, 28, 104, 96, 62, 42, 42, 180, 0, 13, 29, 46]
abbrev dktX12_beside_7 : List UInt8 := dkwX12_beside_7 ++ dktX12_beside_8
def dkwX12_beside_6 : List UInt8 := [182, 1, 30, 79, 132, 2, 1, 167, 255, 230, 42, 180, 0, 13, 16, 7, 3, 79, 3, 61, 28, 42]
abbrev dktX12_beside_6 : List UInt8 := dkwX12_beside_6 ++ dktX12_beside_7
def dkwX12_beside_5 : List UInt8 := [167, 255, 230, 3, 61, 28, 16, 16, 162, 0, 26, 42, 180, 0, 13, 17, 7, 72, 28, 96, 42, 28, 16, 8]
abbrev dktX12_beside_5 : List UInt8 := dkwX12_beside_5 ++ dktX12_beside_6
def dkwX12_beside_4 : List UInt8 := [163, 0, 27, 42, 180, 0, 13, 28, 42, 180, 0, 17, 17, 35, 120, 27, 104, 28, 96, 46, 79, 132, 2, 1]
abbrev dktX12_beside_4 : List UInt8 := dkwX12_beside_4 ++ dktX12_beside_5
def dkwX12_beside_3 : List UInt8 := [180, 0, 17, 17, 35, 120, 27, 104, 28, 96, 46, 79, 132, 2, 1, 167, 255, 228, 4, 61, 28, 6]
abbrev dktX12_beside_3 : List UInt8 := dkwX12_beside_3 ++ dktX12_beside_4
def dkwX12_beside_2 : List UInt8 := [132, 2, 1, 167, 255, 234, 17, 0, 154, 61, 28, 17, 7, 72, 162, 0, 27, 42, 180, 0, 13, 28, 42]
abbrev dktX12_beside_2 : List UInt8 := dkwX12_beside_2 ++ dktX12_beside_3
def dkwX12_beside_1 : List UInt8 := [16, 250, 172, 3, 61, 28, 17, 35, 120, 162, 0, 21, 42, 180, 0, 83, 28, 42, 180, 0, 13, 28, 46, 79]
abbrev dktX12_beside_1 : List UInt8 := dkwX12_beside_1 ++ dktX12_beside_2
def dkwX12_beside_0 : List UInt8 := [27, 133, 9, 20, 0, 99, 184, 0, 101, 154, 0, 6, 16, 254, 172, 42, 180, 0, 20, 27, 51, 154, 0, 6]
abbrev dktX12_beside_0 : List UInt8 := dkwX12_beside_0 ++ dktX12_beside_1
theorem dksX12_beside_0 : cX12_beside.data.toList.drop 0 = dktX12_beside_0 := by decide +kernel
theorem dksX12_beside_1 : cX12_beside.data.toList.drop 24 = dktX12_beside_1 := dk_seg dksX12_beside_0 24 rfl rfl
theorem dksX12_beside_2 : cX12_beside.data.toList.drop 48 = dktX12_beside_2 := dk_seg dksX12_beside_1 24 rfl rfl
theorem dksX12_beside_3 : cX12_beside.data.toList.drop 71 = dktX12_beside_3 := dk_seg dksX12_beside_2 23 rfl rfl
theorem dksX12_beside_4 : cX12_beside.data.toList.drop 93 = dktX12_beside_4 := dk_seg dksX12_beside_3 22 rfl rfl
theorem dksX12_beside_5 : cX12_beside.data.toList.drop 117 = dktX12_beside_5 := dk_seg dksX12_beside_4 24 rfl rfl
theorem dksX12_beside_6 : cX12_beside.data.toList.drop 141 = dktX12_beside_6 := dk_seg dksX12_beside_5 24 rfl rfl
theorem dksX12_beside_7 : cX12_beside.data.toList.drop 163 = dktX12_beside_7 := dk_seg dksX12_beside_6 22 rfl rfl
theorem dksX12_beside_8 : cX12_beside.data.toList.drop 187 = dktX12_beside_8 := dk_seg dksX12_beside_7 24 rfl rfl
theorem dksX12_beside_9 : cX12_beside.data.toList.drop 211 = dktX12_beside_9 := dk_seg dksX12_beside_8 24 rfl rfl
theorem dksX12_beside_10 : cX12_beside.data.toList.drop 233 = dktX12_beside_10 := dk_seg dksX12_beside_9 22 rfl rfl
theorem dksX12_beside_11 : cX12_beside.data.toList.drop 257 = dktX12_beside_11 := dk_seg dksX12_beside_10 24 rfl rfl
theorem dX12_beside_0 : decode cX12_beside 0 = .ok (.iload_n 1, 1) := dk_27 (dk_at dksX12_beside_0 0 rfl rfl)
theorem dX12_beside_1 : decode cX12_beside 1 = .ok (.i2l, 1) := dk_133 (dk_at dksX12_beside_0 1 rfl rfl)
theorem dX12_beside_2 : decode cX12_beside 2 = .ok (.lconst 0, 1) := dk_9 (dk_at dksX12_beside_0 2 rfl rfl)
theorem dX12_beside_3 : decode cX12_beside 3 = .ok (.ldc2_w 99, 3) := dk_20 0 99 (dk_at dksX12_beside_0 3 rfl rfl)
theorem dX12_beside_6 : decode cX12_beside 6 = .ok (.invokestatic 101, 3) := dk_184 0 101 (dk_at dksX12_beside_0 6 rfl rfl)
theorem dX12_beside_9 : decode cX12_beside 9 = .ok (.ifCond .ne 6, 3) := dk_154 0 6 (dk_at dksX12_beside_0 9 rfl rfl)
theorem dX12_beside_12 : decode cX12_beside 12 = .ok (.bipush (-2), 2) := dk_16 254 (dk_at dksX12_beside_0 12 rfl rfl)
theorem dX12_beside_14 : decode cX12_beside 14 = .ok (.ireturn, 1) := dk_172 (dk_at dksX12_beside_0 14 rfl rfl)
theorem dX12_beside_15 : decode cX12_beside 15 = .ok (.aload_n 0, 1) := dk_42 (dk_at dksX12_beside_0 15 rfl rfl)
theorem dX12_beside_16 : decode cX12_beside 16 = .ok (.getfield 20, 3) := dk_180 0 20 (dk_at dksX12_beside_0 16 rfl rfl)
theorem dX12_beside_19 : decode cX12_beside 19 = .ok (.iload_n 1, 1) := dk_27 (dk_at dksX12_beside_0 19 rfl rfl)
theorem dX12_beside_20 : decode cX12_beside 20 = .ok (.baload, 1) := dk_51 (dk_at dksX12_beside_0 20 rfl rfl)
theorem dX12_beside_21 : decode cX12_beside 21 = .ok (.ifCond .ne 6, 3) := dk_154 0 6 (dk_at dksX12_beside_0 21 rfl rfl)
theorem dX12_beside_24 : decode cX12_beside 24 = .ok (.bipush (-6), 2) := dk_16 250 (dk_at dksX12_beside_1 0 rfl rfl)
theorem dX12_beside_26 : decode cX12_beside 26 = .ok (.ireturn, 1) := dk_172 (dk_at dksX12_beside_1 2 rfl rfl)
theorem dX12_beside_27 : decode cX12_beside 27 = .ok (.iconst 0, 1) := dk_3 (dk_at dksX12_beside_1 3 rfl rfl)
theorem dX12_beside_28 : decode cX12_beside 28 = .ok (.istore_n 2, 1) := dk_61 (dk_at dksX12_beside_1 4 rfl rfl)
theorem dX12_beside_29 : decode cX12_beside 29 = .ok (.iload_n 2, 1) := dk_28 (dk_at dksX12_beside_1 5 rfl rfl)
theorem dX12_beside_30 : decode cX12_beside 30 = .ok (.sipush 9080, 3) := dk_17 35 120 (dk_at dksX12_beside_1 6 rfl rfl)
theorem dX12_beside_33 : decode cX12_beside 33 = .ok (.if_icmp .ge 21, 3) := dk_162 0 21 (dk_at dksX12_beside_1 9 rfl rfl)
theorem dX12_beside_36 : decode cX12_beside 36 = .ok (.aload_n 0, 1) := dk_42 (dk_at dksX12_beside_1 12 rfl rfl)
theorem dX12_beside_37 : decode cX12_beside 37 = .ok (.getfield 83, 3) := dk_180 0 83 (dk_at dksX12_beside_1 13 rfl rfl)
theorem dX12_beside_40 : decode cX12_beside 40 = .ok (.iload_n 2, 1) := dk_28 (dk_at dksX12_beside_1 16 rfl rfl)
theorem dX12_beside_41 : decode cX12_beside 41 = .ok (.aload_n 0, 1) := dk_42 (dk_at dksX12_beside_1 17 rfl rfl)
theorem dX12_beside_42 : decode cX12_beside 42 = .ok (.getfield 13, 3) := dk_180 0 13 (dk_at dksX12_beside_1 18 rfl rfl)
theorem dX12_beside_45 : decode cX12_beside 45 = .ok (.iload_n 2, 1) := dk_28 (dk_at dksX12_beside_1 21 rfl rfl)
theorem dX12_beside_46 : decode cX12_beside 46 = .ok (.iaload, 1) := dk_46 (dk_at dksX12_beside_1 22 rfl rfl)
theorem dX12_beside_47 : decode cX12_beside 47 = .ok (.iastore, 1) := dk_79 (dk_at dksX12_beside_1 23 rfl rfl)
theorem dX12_beside_48 : decode cX12_beside 48 = .ok (.iinc 2 1, 3) := dk_132 2 1 (dk_at dksX12_beside_2 0 rfl rfl)
theorem dX12_beside_51 : decode cX12_beside 51 = .ok (.goto (-22), 3) := dk_167 255 234 (dk_at dksX12_beside_2 3 rfl rfl)
theorem dX12_beside_54 : decode cX12_beside 54 = .ok (.sipush 154, 3) := dk_17 0 154 (dk_at dksX12_beside_2 6 rfl rfl)
theorem dX12_beside_57 : decode cX12_beside 57 = .ok (.istore_n 2, 1) := dk_61 (dk_at dksX12_beside_2 9 rfl rfl)
theorem dX12_beside_58 : decode cX12_beside 58 = .ok (.iload_n 2, 1) := dk_28 (dk_at dksX12_beside_2 10 rfl rfl)
theorem dX12_beside_59 : decode cX12_beside 59 = .ok (.sipush 1864, 3) := dk_17 7 72 (dk_at dksX12_beside_2 11 rfl rfl)
theorem dX12_beside_62 : decode cX12_beside 62 = .ok (.if_icmp .ge 27, 3) := dk_162 0 27 (dk_at dksX12_beside_2 14 rfl rfl)
theorem dX12_beside_65 : decode cX12_beside 65 = .ok (.aload_n 0, 1) := dk_42 (dk_at dksX12_beside_2 17 rfl rfl)
theorem dX12_beside_66 : decode cX12_beside 66 = .ok (.getfield 13, 3) := dk_180 0 13 (dk_at dksX12_beside_2 18 rfl rfl)
theorem dX12_beside_69 : decode cX12_beside 69 = .ok (.iload_n 2, 1) := dk_28 (dk_at dksX12_beside_2 21 rfl rfl)
theorem dX12_beside_70 : decode cX12_beside 70 = .ok (.aload_n 0, 1) := dk_42 (dk_at dksX12_beside_2 22 rfl rfl)
theorem dX12_beside_71 : decode cX12_beside 71 = .ok (.getfield 17, 3) := dk_180 0 17 (dk_at dksX12_beside_3 0 rfl rfl)
theorem dX12_beside_74 : decode cX12_beside 74 = .ok (.sipush 9080, 3) := dk_17 35 120 (dk_at dksX12_beside_3 3 rfl rfl)
theorem dX12_beside_77 : decode cX12_beside 77 = .ok (.iload_n 1, 1) := dk_27 (dk_at dksX12_beside_3 6 rfl rfl)
theorem dX12_beside_78 : decode cX12_beside 78 = .ok (.imul, 1) := dk_104 (dk_at dksX12_beside_3 7 rfl rfl)
theorem dX12_beside_79 : decode cX12_beside 79 = .ok (.iload_n 2, 1) := dk_28 (dk_at dksX12_beside_3 8 rfl rfl)
theorem dX12_beside_80 : decode cX12_beside 80 = .ok (.iadd, 1) := dk_96 (dk_at dksX12_beside_3 9 rfl rfl)
theorem dX12_beside_81 : decode cX12_beside 81 = .ok (.iaload, 1) := dk_46 (dk_at dksX12_beside_3 10 rfl rfl)
theorem dX12_beside_82 : decode cX12_beside 82 = .ok (.iastore, 1) := dk_79 (dk_at dksX12_beside_3 11 rfl rfl)
theorem dX12_beside_83 : decode cX12_beside 83 = .ok (.iinc 2 1, 3) := dk_132 2 1 (dk_at dksX12_beside_3 12 rfl rfl)
theorem dX12_beside_86 : decode cX12_beside 86 = .ok (.goto (-28), 3) := dk_167 255 228 (dk_at dksX12_beside_3 15 rfl rfl)
theorem dX12_beside_89 : decode cX12_beside 89 = .ok (.iconst 1, 1) := dk_4 (dk_at dksX12_beside_3 18 rfl rfl)
theorem dX12_beside_90 : decode cX12_beside 90 = .ok (.istore_n 2, 1) := dk_61 (dk_at dksX12_beside_3 19 rfl rfl)
theorem dX12_beside_91 : decode cX12_beside 91 = .ok (.iload_n 2, 1) := dk_28 (dk_at dksX12_beside_3 20 rfl rfl)
theorem dX12_beside_92 : decode cX12_beside 92 = .ok (.iconst 3, 1) := dk_6 (dk_at dksX12_beside_3 21 rfl rfl)
theorem dX12_beside_93 : decode cX12_beside 93 = .ok (.if_icmp .gt 27, 3) := dk_163 0 27 (dk_at dksX12_beside_4 0 rfl rfl)
theorem dX12_beside_96 : decode cX12_beside 96 = .ok (.aload_n 0, 1) := dk_42 (dk_at dksX12_beside_4 3 rfl rfl)
theorem dX12_beside_97 : decode cX12_beside 97 = .ok (.getfield 13, 3) := dk_180 0 13 (dk_at dksX12_beside_4 4 rfl rfl)
theorem dX12_beside_100 : decode cX12_beside 100 = .ok (.iload_n 2, 1) := dk_28 (dk_at dksX12_beside_4 7 rfl rfl)
theorem dX12_beside_101 : decode cX12_beside 101 = .ok (.aload_n 0, 1) := dk_42 (dk_at dksX12_beside_4 8 rfl rfl)
theorem dX12_beside_102 : decode cX12_beside 102 = .ok (.getfield 17, 3) := dk_180 0 17 (dk_at dksX12_beside_4 9 rfl rfl)
theorem dX12_beside_105 : decode cX12_beside 105 = .ok (.sipush 9080, 3) := dk_17 35 120 (dk_at dksX12_beside_4 12 rfl rfl)
theorem dX12_beside_108 : decode cX12_beside 108 = .ok (.iload_n 1, 1) := dk_27 (dk_at dksX12_beside_4 15 rfl rfl)
theorem dX12_beside_109 : decode cX12_beside 109 = .ok (.imul, 1) := dk_104 (dk_at dksX12_beside_4 16 rfl rfl)
theorem dX12_beside_110 : decode cX12_beside 110 = .ok (.iload_n 2, 1) := dk_28 (dk_at dksX12_beside_4 17 rfl rfl)
theorem dX12_beside_111 : decode cX12_beside 111 = .ok (.iadd, 1) := dk_96 (dk_at dksX12_beside_4 18 rfl rfl)
theorem dX12_beside_112 : decode cX12_beside 112 = .ok (.iaload, 1) := dk_46 (dk_at dksX12_beside_4 19 rfl rfl)
theorem dX12_beside_113 : decode cX12_beside 113 = .ok (.iastore, 1) := dk_79 (dk_at dksX12_beside_4 20 rfl rfl)
theorem dX12_beside_114 : decode cX12_beside 114 = .ok (.iinc 2 1, 3) := dk_132 2 1 (dk_at dksX12_beside_4 21 rfl rfl)
theorem dX12_beside_117 : decode cX12_beside 117 = .ok (.goto (-26), 3) := dk_167 255 230 (dk_at dksX12_beside_5 0 rfl rfl)
theorem dX12_beside_120 : decode cX12_beside 120 = .ok (.iconst 0, 1) := dk_3 (dk_at dksX12_beside_5 3 rfl rfl)
theorem dX12_beside_121 : decode cX12_beside 121 = .ok (.istore_n 2, 1) := dk_61 (dk_at dksX12_beside_5 4 rfl rfl)
theorem dX12_beside_122 : decode cX12_beside 122 = .ok (.iload_n 2, 1) := dk_28 (dk_at dksX12_beside_5 5 rfl rfl)
theorem dX12_beside_123 : decode cX12_beside 123 = .ok (.bipush 16, 2) := dk_16 16 (dk_at dksX12_beside_5 6 rfl rfl)
theorem dX12_beside_125 : decode cX12_beside 125 = .ok (.if_icmp .ge 26, 3) := dk_162 0 26 (dk_at dksX12_beside_5 8 rfl rfl)
theorem dX12_beside_128 : decode cX12_beside 128 = .ok (.aload_n 0, 1) := dk_42 (dk_at dksX12_beside_5 11 rfl rfl)
theorem dX12_beside_129 : decode cX12_beside 129 = .ok (.getfield 13, 3) := dk_180 0 13 (dk_at dksX12_beside_5 12 rfl rfl)
theorem dX12_beside_132 : decode cX12_beside 132 = .ok (.sipush 1864, 3) := dk_17 7 72 (dk_at dksX12_beside_5 15 rfl rfl)
theorem dX12_beside_135 : decode cX12_beside 135 = .ok (.iload_n 2, 1) := dk_28 (dk_at dksX12_beside_5 18 rfl rfl)
theorem dX12_beside_136 : decode cX12_beside 136 = .ok (.iadd, 1) := dk_96 (dk_at dksX12_beside_5 19 rfl rfl)
theorem dX12_beside_137 : decode cX12_beside 137 = .ok (.aload_n 0, 1) := dk_42 (dk_at dksX12_beside_5 20 rfl rfl)
theorem dX12_beside_138 : decode cX12_beside 138 = .ok (.iload_n 2, 1) := dk_28 (dk_at dksX12_beside_5 21 rfl rfl)
theorem dX12_beside_139 : decode cX12_beside 139 = .ok (.bipush 8, 2) := dk_16 8 (dk_at dksX12_beside_5 22 rfl rfl)
theorem dX12_beside_141 : decode cX12_beside 141 = .ok (.invokevirtual 286, 3) := dk_182 1 30 (dk_at dksX12_beside_6 0 rfl rfl)
theorem dX12_beside_144 : decode cX12_beside 144 = .ok (.iastore, 1) := dk_79 (dk_at dksX12_beside_6 3 rfl rfl)
theorem dX12_beside_145 : decode cX12_beside 145 = .ok (.iinc 2 1, 3) := dk_132 2 1 (dk_at dksX12_beside_6 4 rfl rfl)
theorem dX12_beside_148 : decode cX12_beside 148 = .ok (.goto (-26), 3) := dk_167 255 230 (dk_at dksX12_beside_6 7 rfl rfl)
theorem dX12_beside_151 : decode cX12_beside 151 = .ok (.aload_n 0, 1) := dk_42 (dk_at dksX12_beside_6 10 rfl rfl)
theorem dX12_beside_152 : decode cX12_beside 152 = .ok (.getfield 13, 3) := dk_180 0 13 (dk_at dksX12_beside_6 11 rfl rfl)
theorem dX12_beside_155 : decode cX12_beside 155 = .ok (.bipush 7, 2) := dk_16 7 (dk_at dksX12_beside_6 14 rfl rfl)
theorem dX12_beside_157 : decode cX12_beside 157 = .ok (.iconst 0, 1) := dk_3 (dk_at dksX12_beside_6 16 rfl rfl)
theorem dX12_beside_158 : decode cX12_beside 158 = .ok (.iastore, 1) := dk_79 (dk_at dksX12_beside_6 17 rfl rfl)
theorem dX12_beside_159 : decode cX12_beside 159 = .ok (.iconst 0, 1) := dk_3 (dk_at dksX12_beside_6 18 rfl rfl)
theorem dX12_beside_160 : decode cX12_beside 160 = .ok (.istore_n 2, 1) := dk_61 (dk_at dksX12_beside_6 19 rfl rfl)
theorem dX12_beside_161 : decode cX12_beside 161 = .ok (.iload_n 2, 1) := dk_28 (dk_at dksX12_beside_6 20 rfl rfl)
theorem dX12_beside_162 : decode cX12_beside 162 = .ok (.aload_n 0, 1) := dk_42 (dk_at dksX12_beside_6 21 rfl rfl)
theorem dX12_beside_163 : decode cX12_beside 163 = .ok (.getfield 13, 3) := dk_180 0 13 (dk_at dksX12_beside_7 0 rfl rfl)
theorem dX12_beside_166 : decode cX12_beside 166 = .ok (.bipush 8, 2) := dk_16 8 (dk_at dksX12_beside_7 3 rfl rfl)
theorem dX12_beside_168 : decode cX12_beside 168 = .ok (.iaload, 1) := dk_46 (dk_at dksX12_beside_7 5 rfl rfl)
theorem dX12_beside_169 : decode cX12_beside 169 = .ok (.if_icmp .ge 53, 3) := dk_162 0 53 (dk_at dksX12_beside_7 6 rfl rfl)
theorem dX12_beside_172 : decode cX12_beside 172 = .ok (.sipush 6680, 3) := dk_17 26 24 (dk_at dksX12_beside_7 9 rfl rfl)
theorem dX12_beside_175 : decode cX12_beside 175 = .ok (.iconst 4, 1) := dk_7 (dk_at dksX12_beside_7 12 rfl rfl)
theorem dX12_beside_176 : decode cX12_beside 176 = .ok (.iload_n 2, 1) := dk_28 (dk_at dksX12_beside_7 13 rfl rfl)
theorem dX12_beside_177 : decode cX12_beside 177 = .ok (.imul, 1) := dk_104 (dk_at dksX12_beside_7 14 rfl rfl)
theorem dX12_beside_178 : decode cX12_beside 178 = .ok (.iadd, 1) := dk_96 (dk_at dksX12_beside_7 15 rfl rfl)
theorem dX12_beside_179 : decode cX12_beside 179 = .ok (.istore_n 3, 1) := dk_62 (dk_at dksX12_beside_7 16 rfl rfl)
theorem dX12_beside_180 : decode cX12_beside 180 = .ok (.aload_n 0, 1) := dk_42 (dk_at dksX12_beside_7 17 rfl rfl)
theorem dX12_beside_181 : decode cX12_beside 181 = .ok (.aload_n 0, 1) := dk_42 (dk_at dksX12_beside_7 18 rfl rfl)
theorem dX12_beside_182 : decode cX12_beside 182 = .ok (.getfield 13, 3) := dk_180 0 13 (dk_at dksX12_beside_7 19 rfl rfl)
theorem dX12_beside_185 : decode cX12_beside 185 = .ok (.iload_n 3, 1) := dk_29 (dk_at dksX12_beside_7 22 rfl rfl)
theorem dX12_beside_186 : decode cX12_beside 186 = .ok (.iaload, 1) := dk_46 (dk_at dksX12_beside_7 23 rfl rfl)
theorem dX12_beside_187 : decode cX12_beside 187 = .ok (.aload_n 0, 1) := dk_42 (dk_at dksX12_beside_8 0 rfl rfl)
theorem dX12_beside_188 : decode cX12_beside 188 = .ok (.getfield 13, 3) := dk_180 0 13 (dk_at dksX12_beside_8 1 rfl rfl)
theorem dX12_beside_191 : decode cX12_beside 191 = .ok (.iload_n 3, 1) := dk_29 (dk_at dksX12_beside_8 4 rfl rfl)
theorem dX12_beside_192 : decode cX12_beside 192 = .ok (.iconst 1, 1) := dk_4 (dk_at dksX12_beside_8 5 rfl rfl)
theorem dX12_beside_193 : decode cX12_beside 193 = .ok (.iadd, 1) := dk_96 (dk_at dksX12_beside_8 6 rfl rfl)
theorem dX12_beside_194 : decode cX12_beside 194 = .ok (.iaload, 1) := dk_46 (dk_at dksX12_beside_8 7 rfl rfl)
theorem dX12_beside_195 : decode cX12_beside 195 = .ok (.aload_n 0, 1) := dk_42 (dk_at dksX12_beside_8 8 rfl rfl)
theorem dX12_beside_196 : decode cX12_beside 196 = .ok (.getfield 13, 3) := dk_180 0 13 (dk_at dksX12_beside_8 9 rfl rfl)
theorem dX12_beside_199 : decode cX12_beside 199 = .ok (.iload_n 3, 1) := dk_29 (dk_at dksX12_beside_8 12 rfl rfl)
theorem dX12_beside_200 : decode cX12_beside 200 = .ok (.iconst 2, 1) := dk_5 (dk_at dksX12_beside_8 13 rfl rfl)
theorem dX12_beside_201 : decode cX12_beside 201 = .ok (.iadd, 1) := dk_96 (dk_at dksX12_beside_8 14 rfl rfl)
theorem dX12_beside_202 : decode cX12_beside 202 = .ok (.iaload, 1) := dk_46 (dk_at dksX12_beside_8 15 rfl rfl)
theorem dX12_beside_203 : decode cX12_beside 203 = .ok (.aload_n 0, 1) := dk_42 (dk_at dksX12_beside_8 16 rfl rfl)
theorem dX12_beside_204 : decode cX12_beside 204 = .ok (.getfield 13, 3) := dk_180 0 13 (dk_at dksX12_beside_8 17 rfl rfl)
theorem dX12_beside_207 : decode cX12_beside 207 = .ok (.iload_n 3, 1) := dk_29 (dk_at dksX12_beside_8 20 rfl rfl)
theorem dX12_beside_208 : decode cX12_beside 208 = .ok (.iconst 3, 1) := dk_6 (dk_at dksX12_beside_8 21 rfl rfl)
theorem dX12_beside_209 : decode cX12_beside 209 = .ok (.iadd, 1) := dk_96 (dk_at dksX12_beside_8 22 rfl rfl)
theorem dX12_beside_210 : decode cX12_beside 210 = .ok (.iaload, 1) := dk_46 (dk_at dksX12_beside_8 23 rfl rfl)
theorem dX12_beside_211 : decode cX12_beside 211 = .ok (.invokevirtual 364, 3) := dk_182 1 108 (dk_at dksX12_beside_9 0 rfl rfl)
theorem dX12_beside_214 : decode cX12_beside 214 = .ok (.istore 4, 2) := dk_54 4 (dk_at dksX12_beside_9 3 rfl rfl)
theorem dX12_beside_216 : decode cX12_beside 216 = .ok (.iinc 2 1, 3) := dk_132 2 1 (dk_at dksX12_beside_9 5 rfl rfl)
theorem dX12_beside_219 : decode cX12_beside 219 = .ok (.goto (-58), 3) := dk_167 255 198 (dk_at dksX12_beside_9 8 rfl rfl)
theorem dX12_beside_222 : decode cX12_beside 222 = .ok (.aload_n 0, 1) := dk_42 (dk_at dksX12_beside_9 11 rfl rfl)
theorem dX12_beside_223 : decode cX12_beside 223 = .ok (.getfield 13, 3) := dk_180 0 13 (dk_at dksX12_beside_9 12 rfl rfl)
theorem dX12_beside_226 : decode cX12_beside 226 = .ok (.bipush 7, 2) := dk_16 7 (dk_at dksX12_beside_9 15 rfl rfl)
theorem dX12_beside_228 : decode cX12_beside 228 = .ok (.iaload, 1) := dk_46 (dk_at dksX12_beside_9 17 rfl rfl)
theorem dX12_beside_229 : decode cX12_beside 229 = .ok (.istore_n 2, 1) := dk_61 (dk_at dksX12_beside_9 18 rfl rfl)
theorem dX12_beside_230 : decode cX12_beside 230 = .ok (.iconst 0, 1) := dk_3 (dk_at dksX12_beside_9 19 rfl rfl)
theorem dX12_beside_231 : decode cX12_beside 231 = .ok (.istore_n 3, 1) := dk_62 (dk_at dksX12_beside_9 20 rfl rfl)
theorem dX12_beside_232 : decode cX12_beside 232 = .ok (.iload_n 3, 1) := dk_29 (dk_at dksX12_beside_9 21 rfl rfl)
theorem dX12_beside_233 : decode cX12_beside 233 = .ok (.sipush 9080, 3) := dk_17 35 120 (dk_at dksX12_beside_10 0 rfl rfl)
theorem dX12_beside_236 : decode cX12_beside 236 = .ok (.if_icmp .ge 21, 3) := dk_162 0 21 (dk_at dksX12_beside_10 3 rfl rfl)
theorem dX12_beside_239 : decode cX12_beside 239 = .ok (.aload_n 0, 1) := dk_42 (dk_at dksX12_beside_10 6 rfl rfl)
theorem dX12_beside_240 : decode cX12_beside 240 = .ok (.getfield 13, 3) := dk_180 0 13 (dk_at dksX12_beside_10 7 rfl rfl)
theorem dX12_beside_243 : decode cX12_beside 243 = .ok (.iload_n 3, 1) := dk_29 (dk_at dksX12_beside_10 10 rfl rfl)
theorem dX12_beside_244 : decode cX12_beside 244 = .ok (.aload_n 0, 1) := dk_42 (dk_at dksX12_beside_10 11 rfl rfl)
theorem dX12_beside_245 : decode cX12_beside 245 = .ok (.getfield 83, 3) := dk_180 0 83 (dk_at dksX12_beside_10 12 rfl rfl)
theorem dX12_beside_248 : decode cX12_beside 248 = .ok (.iload_n 3, 1) := dk_29 (dk_at dksX12_beside_10 15 rfl rfl)
theorem dX12_beside_249 : decode cX12_beside 249 = .ok (.iaload, 1) := dk_46 (dk_at dksX12_beside_10 16 rfl rfl)
theorem dX12_beside_250 : decode cX12_beside 250 = .ok (.iastore, 1) := dk_79 (dk_at dksX12_beside_10 17 rfl rfl)
theorem dX12_beside_251 : decode cX12_beside 251 = .ok (.iinc 3 1, 3) := dk_132 3 1 (dk_at dksX12_beside_10 18 rfl rfl)
theorem dX12_beside_254 : decode cX12_beside 254 = .ok (.goto (-22), 3) := dk_167 255 234 (dk_at dksX12_beside_10 21 rfl rfl)
theorem dX12_beside_257 : decode cX12_beside 257 = .ok (.iload_n 2, 1) := dk_28 (dk_at dksX12_beside_11 0 rfl rfl)
theorem dX12_beside_258 : decode cX12_beside 258 = .ok (.ireturn, 1) := dk_172 (dk_at dksX12_beside_11 1 rfl rfl)
abbrev cX12_count : ByteArray := prog_25_method_98_code
def yX12_count : MethodName := ⟨RX12, "count", "(I)I"⟩
def dkwX12_count_7 : List UInt8 := [2, 160, 0, 7, 3, 167, 0, 4, 4, 96, 61, 132, 3, 1, 167, 255, 230, 28, 172, 2, 172]
abbrev dktX12_count_7 : List UInt8 := dkwX12_count_7 ++ []
def dkwX12_count_6 : List UInt8 := [8, 46, 172, 42, 180, 0, 13, 7, 46, 172, 3, 62, 29, 7, 162, 0, 27, 28, 42, 180, 0, 86, 29, 46]
abbrev dktX12_count_6 : List UInt8 := dkwX12_count_6 ++ dktX12_count_7
def dkwX12_count_5 : List UInt8 := [180, 0, 13, 16, 8, 46, 172, 42, 180, 0, 13, 16, 9, 46, 172, 42, 180, 0, 109, 172, 42, 180, 0, 13]
abbrev dktX12_count_5 : List UInt8 := dkwX12_count_5 ++ dktX12_count_6
def dkwX12_count_4 : List UInt8 := [42, 182, 1, 35, 162, 0, 7, 4, 167, 0, 4, 3, 96, 61, 132, 3, 1, 167, 255, 221, 28, 172, 42]
abbrev dktX12_count_4 : List UInt8 := dkwX12_count_4 ++ dktX12_count_5
def dkwX12_count_3 : List UInt8 := [16, 7, 46, 172, 3, 62, 29, 42, 180, 0, 13, 16, 7, 46, 162, 0, 30, 28, 42, 29, 6, 182, 1, 69]
abbrev dktX12_count_3 : List UInt8 := dkwX12_count_3 ++ dktX12_count_4
def dkwX12_count_2 : List UInt8 := [42, 180, 0, 13, 3, 46, 172, 42, 180, 0, 13, 4, 46, 172, 42, 182, 1, 35, 172, 42, 180, 0, 13]
abbrev dktX12_count_2 : List UInt8 := dkwX12_count_2 ++ dktX12_count_3
def dkwX12_count_1 : List UInt8 := [170, 0, 0, 0, 194, 0, 0, 0, 0, 0, 0, 0, 10, 0, 0, 0, 57, 0, 0, 0, 64, 0, 0, 0, 71, 0, 0, 0, 76, 0, 0, 0, 84, 0, 0, 0, 126, 0, 0, 0, 134, 0, 0, 0, 142, 0, 0, 0, 147, 0, 0, 0, 154, 0, 0, 0, 161]
abbrev dktX12_count_1 : List UInt8 := dkwX12_count_1 ++ dktX12_count_2
def dkwX12_count_0 : List UInt8 := [3, 61, 27]
abbrev dktX12_count_0 : List UInt8 := dkwX12_count_0 ++ dktX12_count_1
theorem dksX12_count_0 : cX12_count.data.toList.drop 0 = dktX12_count_0 := by decide +kernel
theorem dksX12_count_1 : cX12_count.data.toList.drop 3 = dktX12_count_1 := dk_seg dksX12_count_0 3 rfl rfl
theorem dksX12_count_2 : cX12_count.data.toList.drop 60 = dktX12_count_2 := dk_seg dksX12_count_1 57 rfl rfl
theorem dksX12_count_3 : cX12_count.data.toList.drop 83 = dktX12_count_3 := dk_seg dksX12_count_2 23 rfl rfl
theorem dksX12_count_4 : cX12_count.data.toList.drop 107 = dktX12_count_4 := dk_seg dksX12_count_3 24 rfl rfl
theorem dksX12_count_5 : cX12_count.data.toList.drop 130 = dktX12_count_5 := dk_seg dksX12_count_4 23 rfl rfl
theorem dksX12_count_6 : cX12_count.data.toList.drop 154 = dktX12_count_6 := dk_seg dksX12_count_5 24 rfl rfl
theorem dksX12_count_7 : cX12_count.data.toList.drop 178 = dktX12_count_7 := dk_seg dksX12_count_6 24 rfl rfl
theorem dX12_count_0 : decode cX12_count 0 = .ok (.iconst 0, 1) := dk_3 (dk_at dksX12_count_0 0 rfl rfl)
theorem dX12_count_1 : decode cX12_count 1 = .ok (.istore_n 2, 1) := dk_61 (dk_at dksX12_count_0 1 rfl rfl)
theorem dX12_count_2 : decode cX12_count 2 = .ok (.iload_n 1, 1) := dk_27 (dk_at dksX12_count_0 2 rfl rfl)
theorem dX12_count_3 : decode cX12_count 3 = .ok (.tableswitch 194 0 10 #[57, 64, 71, 76, 84, 126, 134, 142, 147, 154, 161], 57) := by decide +kernel
theorem dX12_count_60 : decode cX12_count 60 = .ok (.aload_n 0, 1) := dk_42 (dk_at dksX12_count_2 0 rfl rfl)
theorem dX12_count_61 : decode cX12_count 61 = .ok (.getfield 13, 3) := dk_180 0 13 (dk_at dksX12_count_2 1 rfl rfl)
theorem dX12_count_64 : decode cX12_count 64 = .ok (.iconst 0, 1) := dk_3 (dk_at dksX12_count_2 4 rfl rfl)
theorem dX12_count_65 : decode cX12_count 65 = .ok (.iaload, 1) := dk_46 (dk_at dksX12_count_2 5 rfl rfl)
theorem dX12_count_66 : decode cX12_count 66 = .ok (.ireturn, 1) := dk_172 (dk_at dksX12_count_2 6 rfl rfl)
theorem dX12_count_67 : decode cX12_count 67 = .ok (.aload_n 0, 1) := dk_42 (dk_at dksX12_count_2 7 rfl rfl)
theorem dX12_count_68 : decode cX12_count 68 = .ok (.getfield 13, 3) := dk_180 0 13 (dk_at dksX12_count_2 8 rfl rfl)
theorem dX12_count_71 : decode cX12_count 71 = .ok (.iconst 1, 1) := dk_4 (dk_at dksX12_count_2 11 rfl rfl)
theorem dX12_count_72 : decode cX12_count 72 = .ok (.iaload, 1) := dk_46 (dk_at dksX12_count_2 12 rfl rfl)
theorem dX12_count_73 : decode cX12_count 73 = .ok (.ireturn, 1) := dk_172 (dk_at dksX12_count_2 13 rfl rfl)
theorem dX12_count_74 : decode cX12_count 74 = .ok (.aload_n 0, 1) := dk_42 (dk_at dksX12_count_2 14 rfl rfl)
theorem dX12_count_75 : decode cX12_count 75 = .ok (.invokevirtual 291, 3) := dk_182 1 35 (dk_at dksX12_count_2 15 rfl rfl)
theorem dX12_count_78 : decode cX12_count 78 = .ok (.ireturn, 1) := dk_172 (dk_at dksX12_count_2 18 rfl rfl)
theorem dX12_count_79 : decode cX12_count 79 = .ok (.aload_n 0, 1) := dk_42 (dk_at dksX12_count_2 19 rfl rfl)
theorem dX12_count_80 : decode cX12_count 80 = .ok (.getfield 13, 3) := dk_180 0 13 (dk_at dksX12_count_2 20 rfl rfl)
theorem dX12_count_83 : decode cX12_count 83 = .ok (.bipush 7, 2) := dk_16 7 (dk_at dksX12_count_3 0 rfl rfl)
theorem dX12_count_85 : decode cX12_count 85 = .ok (.iaload, 1) := dk_46 (dk_at dksX12_count_3 2 rfl rfl)
theorem dX12_count_86 : decode cX12_count 86 = .ok (.ireturn, 1) := dk_172 (dk_at dksX12_count_3 3 rfl rfl)
theorem dX12_count_87 : decode cX12_count 87 = .ok (.iconst 0, 1) := dk_3 (dk_at dksX12_count_3 4 rfl rfl)
theorem dX12_count_88 : decode cX12_count 88 = .ok (.istore_n 3, 1) := dk_62 (dk_at dksX12_count_3 5 rfl rfl)
theorem dX12_count_89 : decode cX12_count 89 = .ok (.iload_n 3, 1) := dk_29 (dk_at dksX12_count_3 6 rfl rfl)
theorem dX12_count_90 : decode cX12_count 90 = .ok (.aload_n 0, 1) := dk_42 (dk_at dksX12_count_3 7 rfl rfl)
theorem dX12_count_91 : decode cX12_count 91 = .ok (.getfield 13, 3) := dk_180 0 13 (dk_at dksX12_count_3 8 rfl rfl)
theorem dX12_count_94 : decode cX12_count 94 = .ok (.bipush 7, 2) := dk_16 7 (dk_at dksX12_count_3 11 rfl rfl)
theorem dX12_count_96 : decode cX12_count 96 = .ok (.iaload, 1) := dk_46 (dk_at dksX12_count_3 13 rfl rfl)
theorem dX12_count_97 : decode cX12_count 97 = .ok (.if_icmp .ge 30, 3) := dk_162 0 30 (dk_at dksX12_count_3 14 rfl rfl)
theorem dX12_count_100 : decode cX12_count 100 = .ok (.iload_n 2, 1) := dk_28 (dk_at dksX12_count_3 17 rfl rfl)
theorem dX12_count_101 : decode cX12_count 101 = .ok (.aload_n 0, 1) := dk_42 (dk_at dksX12_count_3 18 rfl rfl)
theorem dX12_count_102 : decode cX12_count 102 = .ok (.iload_n 3, 1) := dk_29 (dk_at dksX12_count_3 19 rfl rfl)
theorem dX12_count_103 : decode cX12_count 103 = .ok (.iconst 3, 1) := dk_6 (dk_at dksX12_count_3 20 rfl rfl)
theorem dX12_count_104 : decode cX12_count 104 = .ok (.invokevirtual 325, 3) := dk_182 1 69 (dk_at dksX12_count_3 21 rfl rfl)
theorem dX12_count_107 : decode cX12_count 107 = .ok (.aload_n 0, 1) := dk_42 (dk_at dksX12_count_4 0 rfl rfl)
theorem dX12_count_108 : decode cX12_count 108 = .ok (.invokevirtual 291, 3) := dk_182 1 35 (dk_at dksX12_count_4 1 rfl rfl)
theorem dX12_count_111 : decode cX12_count 111 = .ok (.if_icmp .ge 7, 3) := dk_162 0 7 (dk_at dksX12_count_4 4 rfl rfl)
theorem dX12_count_114 : decode cX12_count 114 = .ok (.iconst 1, 1) := dk_4 (dk_at dksX12_count_4 7 rfl rfl)
theorem dX12_count_115 : decode cX12_count 115 = .ok (.goto 4, 3) := dk_167 0 4 (dk_at dksX12_count_4 8 rfl rfl)
theorem dX12_count_118 : decode cX12_count 118 = .ok (.iconst 0, 1) := dk_3 (dk_at dksX12_count_4 11 rfl rfl)
theorem dX12_count_119 : decode cX12_count 119 = .ok (.iadd, 1) := dk_96 (dk_at dksX12_count_4 12 rfl rfl)
theorem dX12_count_120 : decode cX12_count 120 = .ok (.istore_n 2, 1) := dk_61 (dk_at dksX12_count_4 13 rfl rfl)
theorem dX12_count_121 : decode cX12_count 121 = .ok (.iinc 3 1, 3) := dk_132 3 1 (dk_at dksX12_count_4 14 rfl rfl)
theorem dX12_count_124 : decode cX12_count 124 = .ok (.goto (-35), 3) := dk_167 255 221 (dk_at dksX12_count_4 17 rfl rfl)
theorem dX12_count_127 : decode cX12_count 127 = .ok (.iload_n 2, 1) := dk_28 (dk_at dksX12_count_4 20 rfl rfl)
theorem dX12_count_128 : decode cX12_count 128 = .ok (.ireturn, 1) := dk_172 (dk_at dksX12_count_4 21 rfl rfl)
theorem dX12_count_129 : decode cX12_count 129 = .ok (.aload_n 0, 1) := dk_42 (dk_at dksX12_count_4 22 rfl rfl)
theorem dX12_count_130 : decode cX12_count 130 = .ok (.getfield 13, 3) := dk_180 0 13 (dk_at dksX12_count_5 0 rfl rfl)
theorem dX12_count_133 : decode cX12_count 133 = .ok (.bipush 8, 2) := dk_16 8 (dk_at dksX12_count_5 3 rfl rfl)
theorem dX12_count_135 : decode cX12_count 135 = .ok (.iaload, 1) := dk_46 (dk_at dksX12_count_5 5 rfl rfl)
theorem dX12_count_136 : decode cX12_count 136 = .ok (.ireturn, 1) := dk_172 (dk_at dksX12_count_5 6 rfl rfl)
theorem dX12_count_137 : decode cX12_count 137 = .ok (.aload_n 0, 1) := dk_42 (dk_at dksX12_count_5 7 rfl rfl)
theorem dX12_count_138 : decode cX12_count 138 = .ok (.getfield 13, 3) := dk_180 0 13 (dk_at dksX12_count_5 8 rfl rfl)
theorem dX12_count_141 : decode cX12_count 141 = .ok (.bipush 9, 2) := dk_16 9 (dk_at dksX12_count_5 11 rfl rfl)
theorem dX12_count_143 : decode cX12_count 143 = .ok (.iaload, 1) := dk_46 (dk_at dksX12_count_5 13 rfl rfl)
theorem dX12_count_144 : decode cX12_count 144 = .ok (.ireturn, 1) := dk_172 (dk_at dksX12_count_5 14 rfl rfl)
theorem dX12_count_145 : decode cX12_count 145 = .ok (.aload_n 0, 1) := dk_42 (dk_at dksX12_count_5 15 rfl rfl)
theorem dX12_count_146 : decode cX12_count 146 = .ok (.getfield 109, 3) := dk_180 0 109 (dk_at dksX12_count_5 16 rfl rfl)
theorem dX12_count_149 : decode cX12_count 149 = .ok (.ireturn, 1) := dk_172 (dk_at dksX12_count_5 19 rfl rfl)
theorem dX12_count_150 : decode cX12_count 150 = .ok (.aload_n 0, 1) := dk_42 (dk_at dksX12_count_5 20 rfl rfl)
theorem dX12_count_151 : decode cX12_count 151 = .ok (.getfield 13, 3) := dk_180 0 13 (dk_at dksX12_count_5 21 rfl rfl)
theorem dX12_count_154 : decode cX12_count 154 = .ok (.iconst 5, 1) := dk_8 (dk_at dksX12_count_6 0 rfl rfl)
theorem dX12_count_155 : decode cX12_count 155 = .ok (.iaload, 1) := dk_46 (dk_at dksX12_count_6 1 rfl rfl)
theorem dX12_count_156 : decode cX12_count 156 = .ok (.ireturn, 1) := dk_172 (dk_at dksX12_count_6 2 rfl rfl)
theorem dX12_count_157 : decode cX12_count 157 = .ok (.aload_n 0, 1) := dk_42 (dk_at dksX12_count_6 3 rfl rfl)
theorem dX12_count_158 : decode cX12_count 158 = .ok (.getfield 13, 3) := dk_180 0 13 (dk_at dksX12_count_6 4 rfl rfl)
theorem dX12_count_161 : decode cX12_count 161 = .ok (.iconst 4, 1) := dk_7 (dk_at dksX12_count_6 7 rfl rfl)
theorem dX12_count_162 : decode cX12_count 162 = .ok (.iaload, 1) := dk_46 (dk_at dksX12_count_6 8 rfl rfl)
theorem dX12_count_163 : decode cX12_count 163 = .ok (.ireturn, 1) := dk_172 (dk_at dksX12_count_6 9 rfl rfl)
theorem dX12_count_164 : decode cX12_count 164 = .ok (.iconst 0, 1) := dk_3 (dk_at dksX12_count_6 10 rfl rfl)
theorem dX12_count_165 : decode cX12_count 165 = .ok (.istore_n 3, 1) := dk_62 (dk_at dksX12_count_6 11 rfl rfl)
theorem dX12_count_166 : decode cX12_count 166 = .ok (.iload_n 3, 1) := dk_29 (dk_at dksX12_count_6 12 rfl rfl)
theorem dX12_count_167 : decode cX12_count 167 = .ok (.iconst 4, 1) := dk_7 (dk_at dksX12_count_6 13 rfl rfl)
theorem dX12_count_168 : decode cX12_count 168 = .ok (.if_icmp .ge 27, 3) := dk_162 0 27 (dk_at dksX12_count_6 14 rfl rfl)
theorem dX12_count_171 : decode cX12_count 171 = .ok (.iload_n 2, 1) := dk_28 (dk_at dksX12_count_6 17 rfl rfl)
theorem dX12_count_172 : decode cX12_count 172 = .ok (.aload_n 0, 1) := dk_42 (dk_at dksX12_count_6 18 rfl rfl)
theorem dX12_count_173 : decode cX12_count 173 = .ok (.getfield 86, 3) := dk_180 0 86 (dk_at dksX12_count_6 19 rfl rfl)
theorem dX12_count_176 : decode cX12_count 176 = .ok (.iload_n 3, 1) := dk_29 (dk_at dksX12_count_6 22 rfl rfl)
theorem dX12_count_177 : decode cX12_count 177 = .ok (.iaload, 1) := dk_46 (dk_at dksX12_count_6 23 rfl rfl)
theorem dX12_count_178 : decode cX12_count 178 = .ok (.iconst (-1), 1) := dk_2 (dk_at dksX12_count_7 0 rfl rfl)
theorem dX12_count_179 : decode cX12_count 179 = .ok (.if_icmp .ne 7, 3) := dk_160 0 7 (dk_at dksX12_count_7 1 rfl rfl)
theorem dX12_count_182 : decode cX12_count 182 = .ok (.iconst 0, 1) := dk_3 (dk_at dksX12_count_7 4 rfl rfl)
theorem dX12_count_183 : decode cX12_count 183 = .ok (.goto 4, 3) := dk_167 0 4 (dk_at dksX12_count_7 5 rfl rfl)
theorem dX12_count_186 : decode cX12_count 186 = .ok (.iconst 1, 1) := dk_4 (dk_at dksX12_count_7 8 rfl rfl)
theorem dX12_count_187 : decode cX12_count 187 = .ok (.iadd, 1) := dk_96 (dk_at dksX12_count_7 9 rfl rfl)
theorem dX12_count_188 : decode cX12_count 188 = .ok (.istore_n 2, 1) := dk_61 (dk_at dksX12_count_7 10 rfl rfl)
theorem dX12_count_189 : decode cX12_count 189 = .ok (.iinc 3 1, 3) := dk_132 3 1 (dk_at dksX12_count_7 11 rfl rfl)
theorem dX12_count_192 : decode cX12_count 192 = .ok (.goto (-26), 3) := dk_167 255 230 (dk_at dksX12_count_7 14 rfl rfl)
theorem dX12_count_195 : decode cX12_count 195 = .ok (.iload_n 2, 1) := dk_28 (dk_at dksX12_count_7 17 rfl rfl)
theorem dX12_count_196 : decode cX12_count 196 = .ok (.ireturn, 1) := dk_172 (dk_at dksX12_count_7 18 rfl rfl)
theorem dX12_count_197 : decode cX12_count 197 = .ok (.iconst (-1), 1) := dk_2 (dk_at dksX12_count_7 19 rfl rfl)
theorem dX12_count_198 : decode cX12_count 198 = .ok (.ireturn, 1) := dk_172 (dk_at dksX12_count_7 20 rfl rfl)
abbrev cX12_row : ByteArray := prog_25_method_101_code
def yX12_row : MethodName := ⟨RX12, "row", "(III)I"⟩
def dkwX12_row_3 : List UInt8 := [9, 80, 132, 4, 1, 167, 255, 233, 3, 172]
abbrev dktX12_row_3 : List UInt8 := dkwX12_row_3 ++ []
def dkwX12_row_2 : List UInt8 := [27, 28, 79, 3, 54, 4, 21, 4, 16, 60, 162, 0, 22, 42, 180, 0, 92, 16, 60, 27, 104, 21, 4, 96]
abbrev dktX12_row_2 : List UInt8 := dkwX12_row_2 ++ dktX12_row_3
def dkwX12_row_1 : List UInt8 := [164, 0, 6, 16, 254, 172, 29, 156, 0, 6, 16, 253, 172, 42, 180, 0, 86, 27, 29, 79, 42, 180, 0, 89]
abbrev dktX12_row_1 : List UInt8 := dkwX12_row_1 ++ dktX12_row_2
def dkwX12_row_0 : List UInt8 := [27, 184, 1, 115, 153, 0, 21, 28, 133, 9, 20, 1, 57, 184, 0, 101, 153, 0, 9, 29, 16, 60]
abbrev dktX12_row_0 : List UInt8 := dkwX12_row_0 ++ dktX12_row_1
theorem dksX12_row_0 : cX12_row.data.toList.drop 0 = dktX12_row_0 := by decide +kernel
theorem dksX12_row_1 : cX12_row.data.toList.drop 22 = dktX12_row_1 := dk_seg dksX12_row_0 22 rfl rfl
theorem dksX12_row_2 : cX12_row.data.toList.drop 46 = dktX12_row_2 := dk_seg dksX12_row_1 24 rfl rfl
theorem dksX12_row_3 : cX12_row.data.toList.drop 70 = dktX12_row_3 := dk_seg dksX12_row_2 24 rfl rfl
theorem dX12_row_0 : decode cX12_row 0 = .ok (.iload_n 1, 1) := dk_27 (dk_at dksX12_row_0 0 rfl rfl)
theorem dX12_row_1 : decode cX12_row 1 = .ok (.invokestatic 371, 3) := dk_184 1 115 (dk_at dksX12_row_0 1 rfl rfl)
theorem dX12_row_4 : decode cX12_row 4 = .ok (.ifCond .eq 21, 3) := dk_153 0 21 (dk_at dksX12_row_0 4 rfl rfl)
theorem dX12_row_7 : decode cX12_row 7 = .ok (.iload_n 2, 1) := dk_28 (dk_at dksX12_row_0 7 rfl rfl)
theorem dX12_row_8 : decode cX12_row 8 = .ok (.i2l, 1) := dk_133 (dk_at dksX12_row_0 8 rfl rfl)
theorem dX12_row_9 : decode cX12_row 9 = .ok (.lconst 0, 1) := dk_9 (dk_at dksX12_row_0 9 rfl rfl)
theorem dX12_row_10 : decode cX12_row 10 = .ok (.ldc2_w 313, 3) := dk_20 1 57 (dk_at dksX12_row_0 10 rfl rfl)
theorem dX12_row_13 : decode cX12_row 13 = .ok (.invokestatic 101, 3) := dk_184 0 101 (dk_at dksX12_row_0 13 rfl rfl)
theorem dX12_row_16 : decode cX12_row 16 = .ok (.ifCond .eq 9, 3) := dk_153 0 9 (dk_at dksX12_row_0 16 rfl rfl)
theorem dX12_row_19 : decode cX12_row 19 = .ok (.iload_n 3, 1) := dk_29 (dk_at dksX12_row_0 19 rfl rfl)
theorem dX12_row_20 : decode cX12_row 20 = .ok (.bipush 60, 2) := dk_16 60 (dk_at dksX12_row_0 20 rfl rfl)
theorem dX12_row_22 : decode cX12_row 22 = .ok (.if_icmp .le 6, 3) := dk_164 0 6 (dk_at dksX12_row_1 0 rfl rfl)
theorem dX12_row_25 : decode cX12_row 25 = .ok (.bipush (-2), 2) := dk_16 254 (dk_at dksX12_row_1 3 rfl rfl)
theorem dX12_row_27 : decode cX12_row 27 = .ok (.ireturn, 1) := dk_172 (dk_at dksX12_row_1 5 rfl rfl)
theorem dX12_row_28 : decode cX12_row 28 = .ok (.iload_n 3, 1) := dk_29 (dk_at dksX12_row_1 6 rfl rfl)
theorem dX12_row_29 : decode cX12_row 29 = .ok (.ifCond .ge 6, 3) := dk_156 0 6 (dk_at dksX12_row_1 7 rfl rfl)
theorem dX12_row_32 : decode cX12_row 32 = .ok (.bipush (-3), 2) := dk_16 253 (dk_at dksX12_row_1 10 rfl rfl)
theorem dX12_row_34 : decode cX12_row 34 = .ok (.ireturn, 1) := dk_172 (dk_at dksX12_row_1 12 rfl rfl)
theorem dX12_row_35 : decode cX12_row 35 = .ok (.aload_n 0, 1) := dk_42 (dk_at dksX12_row_1 13 rfl rfl)
theorem dX12_row_36 : decode cX12_row 36 = .ok (.getfield 86, 3) := dk_180 0 86 (dk_at dksX12_row_1 14 rfl rfl)
theorem dX12_row_39 : decode cX12_row 39 = .ok (.iload_n 1, 1) := dk_27 (dk_at dksX12_row_1 17 rfl rfl)
theorem dX12_row_40 : decode cX12_row 40 = .ok (.iload_n 3, 1) := dk_29 (dk_at dksX12_row_1 18 rfl rfl)
theorem dX12_row_41 : decode cX12_row 41 = .ok (.iastore, 1) := dk_79 (dk_at dksX12_row_1 19 rfl rfl)
theorem dX12_row_42 : decode cX12_row 42 = .ok (.aload_n 0, 1) := dk_42 (dk_at dksX12_row_1 20 rfl rfl)
theorem dX12_row_43 : decode cX12_row 43 = .ok (.getfield 89, 3) := dk_180 0 89 (dk_at dksX12_row_1 21 rfl rfl)
theorem dX12_row_46 : decode cX12_row 46 = .ok (.iload_n 1, 1) := dk_27 (dk_at dksX12_row_2 0 rfl rfl)
theorem dX12_row_47 : decode cX12_row 47 = .ok (.iload_n 2, 1) := dk_28 (dk_at dksX12_row_2 1 rfl rfl)
theorem dX12_row_48 : decode cX12_row 48 = .ok (.iastore, 1) := dk_79 (dk_at dksX12_row_2 2 rfl rfl)
theorem dX12_row_49 : decode cX12_row 49 = .ok (.iconst 0, 1) := dk_3 (dk_at dksX12_row_2 3 rfl rfl)
theorem dX12_row_50 : decode cX12_row 50 = .ok (.istore 4, 2) := dk_54 4 (dk_at dksX12_row_2 4 rfl rfl)
theorem dX12_row_52 : decode cX12_row 52 = .ok (.iload 4, 2) := dk_21 4 (dk_at dksX12_row_2 6 rfl rfl)
theorem dX12_row_54 : decode cX12_row 54 = .ok (.bipush 60, 2) := dk_16 60 (dk_at dksX12_row_2 8 rfl rfl)
theorem dX12_row_56 : decode cX12_row 56 = .ok (.if_icmp .ge 22, 3) := dk_162 0 22 (dk_at dksX12_row_2 10 rfl rfl)
theorem dX12_row_59 : decode cX12_row 59 = .ok (.aload_n 0, 1) := dk_42 (dk_at dksX12_row_2 13 rfl rfl)
theorem dX12_row_60 : decode cX12_row 60 = .ok (.getfield 92, 3) := dk_180 0 92 (dk_at dksX12_row_2 14 rfl rfl)
theorem dX12_row_63 : decode cX12_row 63 = .ok (.bipush 60, 2) := dk_16 60 (dk_at dksX12_row_2 17 rfl rfl)
theorem dX12_row_65 : decode cX12_row 65 = .ok (.iload_n 1, 1) := dk_27 (dk_at dksX12_row_2 19 rfl rfl)
theorem dX12_row_66 : decode cX12_row 66 = .ok (.imul, 1) := dk_104 (dk_at dksX12_row_2 20 rfl rfl)
theorem dX12_row_67 : decode cX12_row 67 = .ok (.iload 4, 2) := dk_21 4 (dk_at dksX12_row_2 21 rfl rfl)
theorem dX12_row_69 : decode cX12_row 69 = .ok (.iadd, 1) := dk_96 (dk_at dksX12_row_2 23 rfl rfl)
theorem dX12_row_70 : decode cX12_row 70 = .ok (.lconst 0, 1) := dk_9 (dk_at dksX12_row_3 0 rfl rfl)
theorem dX12_row_71 : decode cX12_row 71 = .ok (.lastore, 1) := dk_80 (dk_at dksX12_row_3 1 rfl rfl)
theorem dX12_row_72 : decode cX12_row 72 = .ok (.iinc 4 1, 3) := dk_132 4 1 (dk_at dksX12_row_3 2 rfl rfl)
theorem dX12_row_75 : decode cX12_row 75 = .ok (.goto (-23), 3) := dk_167 255 233 (dk_at dksX12_row_3 5 rfl rfl)
theorem dX12_row_78 : decode cX12_row 78 = .ok (.iconst 0, 1) := dk_3 (dk_at dksX12_row_3 8 rfl rfl)
theorem dX12_row_79 : decode cX12_row 79 = .ok (.ireturn, 1) := dk_172 (dk_at dksX12_row_3 9 rfl rfl)
abbrev cX12_write : ByteArray := prog_25_method_102_code
def yX12_write : MethodName := ⟨RX12, "write", "(IIJ)I"⟩
def dkwX12_write_2 : List UInt8 := [16, 60, 27, 104, 28, 96, 33, 42, 180, 0, 89, 27, 46, 184, 1, 215, 80, 3, 172]
abbrev dktX12_write_2 : List UInt8 := dkwX12_write_2 ++ []
def dkwX12_write_1 : List UInt8 := [133, 9, 42, 180, 0, 86, 27, 46, 4, 100, 133, 184, 0, 101, 154, 0, 6, 16, 249, 172, 42, 180, 0, 92]
abbrev dktX12_write_1 : List UInt8 := dkwX12_write_1 ++ dktX12_write_2
def dkwX12_write_0 : List UInt8 := [27, 184, 1, 115, 154, 0, 6, 16, 254, 172, 42, 180, 0, 86, 27, 46, 2, 160, 0, 6, 16, 250, 172, 28]
abbrev dktX12_write_0 : List UInt8 := dkwX12_write_0 ++ dktX12_write_1
theorem dksX12_write_0 : cX12_write.data.toList.drop 0 = dktX12_write_0 := by decide +kernel
theorem dksX12_write_1 : cX12_write.data.toList.drop 24 = dktX12_write_1 := dk_seg dksX12_write_0 24 rfl rfl
theorem dksX12_write_2 : cX12_write.data.toList.drop 48 = dktX12_write_2 := dk_seg dksX12_write_1 24 rfl rfl
theorem dX12_write_0 : decode cX12_write 0 = .ok (.iload_n 1, 1) := dk_27 (dk_at dksX12_write_0 0 rfl rfl)
theorem dX12_write_1 : decode cX12_write 1 = .ok (.invokestatic 371, 3) := dk_184 1 115 (dk_at dksX12_write_0 1 rfl rfl)
theorem dX12_write_4 : decode cX12_write 4 = .ok (.ifCond .ne 6, 3) := dk_154 0 6 (dk_at dksX12_write_0 4 rfl rfl)
theorem dX12_write_7 : decode cX12_write 7 = .ok (.bipush (-2), 2) := dk_16 254 (dk_at dksX12_write_0 7 rfl rfl)
theorem dX12_write_9 : decode cX12_write 9 = .ok (.ireturn, 1) := dk_172 (dk_at dksX12_write_0 9 rfl rfl)
theorem dX12_write_10 : decode cX12_write 10 = .ok (.aload_n 0, 1) := dk_42 (dk_at dksX12_write_0 10 rfl rfl)
theorem dX12_write_11 : decode cX12_write 11 = .ok (.getfield 86, 3) := dk_180 0 86 (dk_at dksX12_write_0 11 rfl rfl)
theorem dX12_write_14 : decode cX12_write 14 = .ok (.iload_n 1, 1) := dk_27 (dk_at dksX12_write_0 14 rfl rfl)
theorem dX12_write_15 : decode cX12_write 15 = .ok (.iaload, 1) := dk_46 (dk_at dksX12_write_0 15 rfl rfl)
theorem dX12_write_16 : decode cX12_write 16 = .ok (.iconst (-1), 1) := dk_2 (dk_at dksX12_write_0 16 rfl rfl)
theorem dX12_write_17 : decode cX12_write 17 = .ok (.if_icmp .ne 6, 3) := dk_160 0 6 (dk_at dksX12_write_0 17 rfl rfl)
theorem dX12_write_20 : decode cX12_write 20 = .ok (.bipush (-6), 2) := dk_16 250 (dk_at dksX12_write_0 20 rfl rfl)
theorem dX12_write_22 : decode cX12_write 22 = .ok (.ireturn, 1) := dk_172 (dk_at dksX12_write_0 22 rfl rfl)
theorem dX12_write_23 : decode cX12_write 23 = .ok (.iload_n 2, 1) := dk_28 (dk_at dksX12_write_0 23 rfl rfl)
theorem dX12_write_24 : decode cX12_write 24 = .ok (.i2l, 1) := dk_133 (dk_at dksX12_write_1 0 rfl rfl)
theorem dX12_write_25 : decode cX12_write 25 = .ok (.lconst 0, 1) := dk_9 (dk_at dksX12_write_1 1 rfl rfl)
theorem dX12_write_26 : decode cX12_write 26 = .ok (.aload_n 0, 1) := dk_42 (dk_at dksX12_write_1 2 rfl rfl)
theorem dX12_write_27 : decode cX12_write 27 = .ok (.getfield 86, 3) := dk_180 0 86 (dk_at dksX12_write_1 3 rfl rfl)
theorem dX12_write_30 : decode cX12_write 30 = .ok (.iload_n 1, 1) := dk_27 (dk_at dksX12_write_1 6 rfl rfl)
theorem dX12_write_31 : decode cX12_write 31 = .ok (.iaload, 1) := dk_46 (dk_at dksX12_write_1 7 rfl rfl)
theorem dX12_write_32 : decode cX12_write 32 = .ok (.iconst 1, 1) := dk_4 (dk_at dksX12_write_1 8 rfl rfl)
theorem dX12_write_33 : decode cX12_write 33 = .ok (.isub, 1) := dk_100 (dk_at dksX12_write_1 9 rfl rfl)
theorem dX12_write_34 : decode cX12_write 34 = .ok (.i2l, 1) := dk_133 (dk_at dksX12_write_1 10 rfl rfl)
theorem dX12_write_35 : decode cX12_write 35 = .ok (.invokestatic 101, 3) := dk_184 0 101 (dk_at dksX12_write_1 11 rfl rfl)
theorem dX12_write_38 : decode cX12_write 38 = .ok (.ifCond .ne 6, 3) := dk_154 0 6 (dk_at dksX12_write_1 14 rfl rfl)
theorem dX12_write_41 : decode cX12_write 41 = .ok (.bipush (-7), 2) := dk_16 249 (dk_at dksX12_write_1 17 rfl rfl)
theorem dX12_write_43 : decode cX12_write 43 = .ok (.ireturn, 1) := dk_172 (dk_at dksX12_write_1 19 rfl rfl)
theorem dX12_write_44 : decode cX12_write 44 = .ok (.aload_n 0, 1) := dk_42 (dk_at dksX12_write_1 20 rfl rfl)
theorem dX12_write_45 : decode cX12_write 45 = .ok (.getfield 92, 3) := dk_180 0 92 (dk_at dksX12_write_1 21 rfl rfl)
theorem dX12_write_48 : decode cX12_write 48 = .ok (.bipush 60, 2) := dk_16 60 (dk_at dksX12_write_2 0 rfl rfl)
theorem dX12_write_50 : decode cX12_write 50 = .ok (.iload_n 1, 1) := dk_27 (dk_at dksX12_write_2 2 rfl rfl)
theorem dX12_write_51 : decode cX12_write 51 = .ok (.imul, 1) := dk_104 (dk_at dksX12_write_2 3 rfl rfl)
theorem dX12_write_52 : decode cX12_write 52 = .ok (.iload_n 2, 1) := dk_28 (dk_at dksX12_write_2 4 rfl rfl)
theorem dX12_write_53 : decode cX12_write 53 = .ok (.iadd, 1) := dk_96 (dk_at dksX12_write_2 5 rfl rfl)
theorem dX12_write_54 : decode cX12_write 54 = .ok (.lload_n 3, 1) := dk_33 (dk_at dksX12_write_2 6 rfl rfl)
theorem dX12_write_55 : decode cX12_write 55 = .ok (.aload_n 0, 1) := dk_42 (dk_at dksX12_write_2 7 rfl rfl)
theorem dX12_write_56 : decode cX12_write 56 = .ok (.getfield 89, 3) := dk_180 0 89 (dk_at dksX12_write_2 8 rfl rfl)
theorem dX12_write_59 : decode cX12_write 59 = .ok (.iload_n 1, 1) := dk_27 (dk_at dksX12_write_2 11 rfl rfl)
theorem dX12_write_60 : decode cX12_write 60 = .ok (.iaload, 1) := dk_46 (dk_at dksX12_write_2 12 rfl rfl)
theorem dX12_write_61 : decode cX12_write 61 = .ok (.invokestatic 471, 3) := dk_184 1 215 (dk_at dksX12_write_2 13 rfl rfl)
theorem dX12_write_64 : decode cX12_write 64 = .ok (.lastore, 1) := dk_80 (dk_at dksX12_write_2 16 rfl rfl)
theorem dX12_write_65 : decode cX12_write 65 = .ok (.iconst 0, 1) := dk_3 (dk_at dksX12_write_2 17 rfl rfl)
theorem dX12_write_66 : decode cX12_write 66 = .ok (.ireturn, 1) := dk_172 (dk_at dksX12_write_2 18 rfl rfl)
abbrev cX12_cut : ByteArray := prog_25_method_100_code
def yX12_cut : MethodName := ⟨RX12, "cut", "(JI)J"⟩
def dkwX12_cut_0 : List UInt8 := [16, 64, 16, 8, 28, 120, 100, 62, 30, 29, 121, 29, 123, 173]
abbrev dktX12_cut_0 : List UInt8 := dkwX12_cut_0 ++ []
theorem dksX12_cut_0 : cX12_cut.data.toList.drop 0 = dktX12_cut_0 := by decide +kernel
theorem dX12_cut_0 : decode cX12_cut 0 = .ok (.bipush 64, 2) := dk_16 64 (dk_at dksX12_cut_0 0 rfl rfl)
theorem dX12_cut_2 : decode cX12_cut 2 = .ok (.bipush 8, 2) := dk_16 8 (dk_at dksX12_cut_0 2 rfl rfl)
theorem dX12_cut_4 : decode cX12_cut 4 = .ok (.iload_n 2, 1) := dk_28 (dk_at dksX12_cut_0 4 rfl rfl)
theorem dX12_cut_5 : decode cX12_cut 5 = .ok (.ishl, 1) := dk_120 (dk_at dksX12_cut_0 5 rfl rfl)
theorem dX12_cut_6 : decode cX12_cut 6 = .ok (.isub, 1) := dk_100 (dk_at dksX12_cut_0 6 rfl rfl)
theorem dX12_cut_7 : decode cX12_cut 7 = .ok (.istore_n 3, 1) := dk_62 (dk_at dksX12_cut_0 7 rfl rfl)
theorem dX12_cut_8 : decode cX12_cut 8 = .ok (.lload_n 0, 1) := dk_30 (dk_at dksX12_cut_0 8 rfl rfl)
theorem dX12_cut_9 : decode cX12_cut 9 = .ok (.iload_n 3, 1) := dk_29 (dk_at dksX12_cut_0 9 rfl rfl)
theorem dX12_cut_10 : decode cX12_cut 10 = .ok (.lshl, 1) := dk_121 (dk_at dksX12_cut_0 10 rfl rfl)
theorem dX12_cut_11 : decode cX12_cut 11 = .ok (.iload_n 3, 1) := dk_29 (dk_at dksX12_cut_0 11 rfl rfl)
theorem dX12_cut_12 : decode cX12_cut 12 = .ok (.lshr, 1) := dk_123 (dk_at dksX12_cut_0 12 rfl rfl)
theorem dX12_cut_13 : decode cX12_cut 13 = .ok (.lreturn, 1) := dk_173 (dk_at dksX12_cut_0 13 rfl rfl)
abbrev cX12_paste : ByteArray := prog_25_method_103_code
def yX12_paste : MethodName := ⟨RX12, "paste", "(IIIII)I"⟩
def dkwX12_paste_7 : List UInt8 := [29, 104, 21, 4, 96, 21, 6, 96, 42, 180, 0, 96, 21, 6, 47, 80, 132, 6, 1, 167, 255, 224, 3, 172]
abbrev dktX12_paste_7 : List UInt8 := dkwX12_paste_7 ++ []
def dkwX12_paste_6 : List UInt8 := [47, 80, 132, 6, 1, 167, 255, 225, 3, 54, 6, 21, 6, 21, 5, 162, 0, 31, 42, 180, 0, 92, 16, 60]
abbrev dktX12_paste_6 : List UInt8 := dkwX12_paste_6 ++ dktX12_paste_7
def dkwX12_paste_5 : List UInt8 := [21, 5, 162, 0, 30, 42, 180, 0, 96, 21, 6, 42, 180, 0, 92, 16, 60, 27, 104, 28, 96, 21, 6, 96]
abbrev dktX12_paste_5 : List UInt8 := dkwX12_paste_5 ++ dktX12_paste_6
def dkwX12_paste_4 : List UInt8 := [21, 5, 133, 97, 42, 180, 0, 86, 29, 46, 133, 148, 158, 0, 6, 16, 249, 172, 3, 54, 6, 21, 6]
abbrev dktX12_paste_4 : List UInt8 := dkwX12_paste_4 ++ dktX12_paste_5
def dkwX12_paste_3 : List UInt8 := [155, 0, 38, 28, 133, 21, 5, 133, 97, 42, 180, 0, 86, 27, 46, 133, 148, 157, 0, 21, 21, 4, 133]
abbrev dktX12_paste_3 : List UInt8 := dkwX12_paste_3 ++ dktX12_paste_4
def dkwX12_paste_2 : List UInt8 := [180, 0, 89, 29, 46, 159, 0, 6, 16, 248, 172, 28, 155, 0, 48, 21, 4, 155, 0, 43, 21, 5]
abbrev dktX12_paste_2 : List UInt8 := dkwX12_paste_2 ++ dktX12_paste_3
def dkwX12_paste_1 : List UInt8 := [159, 0, 13, 42, 180, 0, 86, 29, 46, 2, 160, 0, 6, 16, 250, 172, 42, 180, 0, 89, 27, 46, 42]
abbrev dktX12_paste_1 : List UInt8 := dkwX12_paste_1 ++ dktX12_paste_2
def dkwX12_paste_0 : List UInt8 := [27, 184, 1, 115, 153, 0, 10, 29, 184, 1, 115, 154, 0, 6, 16, 254, 172, 42, 180, 0, 86, 27, 46, 2]
abbrev dktX12_paste_0 : List UInt8 := dkwX12_paste_0 ++ dktX12_paste_1
theorem dksX12_paste_0 : cX12_paste.data.toList.drop 0 = dktX12_paste_0 := by decide +kernel
theorem dksX12_paste_1 : cX12_paste.data.toList.drop 24 = dktX12_paste_1 := dk_seg dksX12_paste_0 24 rfl rfl
theorem dksX12_paste_2 : cX12_paste.data.toList.drop 47 = dktX12_paste_2 := dk_seg dksX12_paste_1 23 rfl rfl
theorem dksX12_paste_3 : cX12_paste.data.toList.drop 69 = dktX12_paste_3 := dk_seg dksX12_paste_2 22 rfl rfl
theorem dksX12_paste_4 : cX12_paste.data.toList.drop 92 = dktX12_paste_4 := dk_seg dksX12_paste_3 23 rfl rfl
theorem dksX12_paste_5 : cX12_paste.data.toList.drop 115 = dktX12_paste_5 := dk_seg dksX12_paste_4 23 rfl rfl
theorem dksX12_paste_6 : cX12_paste.data.toList.drop 139 = dktX12_paste_6 := dk_seg dksX12_paste_5 24 rfl rfl
theorem dksX12_paste_7 : cX12_paste.data.toList.drop 163 = dktX12_paste_7 := dk_seg dksX12_paste_6 24 rfl rfl
theorem dX12_paste_0 : decode cX12_paste 0 = .ok (.iload_n 1, 1) := dk_27 (dk_at dksX12_paste_0 0 rfl rfl)
theorem dX12_paste_1 : decode cX12_paste 1 = .ok (.invokestatic 371, 3) := dk_184 1 115 (dk_at dksX12_paste_0 1 rfl rfl)
theorem dX12_paste_4 : decode cX12_paste 4 = .ok (.ifCond .eq 10, 3) := dk_153 0 10 (dk_at dksX12_paste_0 4 rfl rfl)
theorem dX12_paste_7 : decode cX12_paste 7 = .ok (.iload_n 3, 1) := dk_29 (dk_at dksX12_paste_0 7 rfl rfl)
theorem dX12_paste_8 : decode cX12_paste 8 = .ok (.invokestatic 371, 3) := dk_184 1 115 (dk_at dksX12_paste_0 8 rfl rfl)
theorem dX12_paste_11 : decode cX12_paste 11 = .ok (.ifCond .ne 6, 3) := dk_154 0 6 (dk_at dksX12_paste_0 11 rfl rfl)
theorem dX12_paste_14 : decode cX12_paste 14 = .ok (.bipush (-2), 2) := dk_16 254 (dk_at dksX12_paste_0 14 rfl rfl)
theorem dX12_paste_16 : decode cX12_paste 16 = .ok (.ireturn, 1) := dk_172 (dk_at dksX12_paste_0 16 rfl rfl)
theorem dX12_paste_17 : decode cX12_paste 17 = .ok (.aload_n 0, 1) := dk_42 (dk_at dksX12_paste_0 17 rfl rfl)
theorem dX12_paste_18 : decode cX12_paste 18 = .ok (.getfield 86, 3) := dk_180 0 86 (dk_at dksX12_paste_0 18 rfl rfl)
theorem dX12_paste_21 : decode cX12_paste 21 = .ok (.iload_n 1, 1) := dk_27 (dk_at dksX12_paste_0 21 rfl rfl)
theorem dX12_paste_22 : decode cX12_paste 22 = .ok (.iaload, 1) := dk_46 (dk_at dksX12_paste_0 22 rfl rfl)
theorem dX12_paste_23 : decode cX12_paste 23 = .ok (.iconst (-1), 1) := dk_2 (dk_at dksX12_paste_0 23 rfl rfl)
theorem dX12_paste_24 : decode cX12_paste 24 = .ok (.if_icmp .eq 13, 3) := dk_159 0 13 (dk_at dksX12_paste_1 0 rfl rfl)
theorem dX12_paste_27 : decode cX12_paste 27 = .ok (.aload_n 0, 1) := dk_42 (dk_at dksX12_paste_1 3 rfl rfl)
theorem dX12_paste_28 : decode cX12_paste 28 = .ok (.getfield 86, 3) := dk_180 0 86 (dk_at dksX12_paste_1 4 rfl rfl)
theorem dX12_paste_31 : decode cX12_paste 31 = .ok (.iload_n 3, 1) := dk_29 (dk_at dksX12_paste_1 7 rfl rfl)
theorem dX12_paste_32 : decode cX12_paste 32 = .ok (.iaload, 1) := dk_46 (dk_at dksX12_paste_1 8 rfl rfl)
theorem dX12_paste_33 : decode cX12_paste 33 = .ok (.iconst (-1), 1) := dk_2 (dk_at dksX12_paste_1 9 rfl rfl)
theorem dX12_paste_34 : decode cX12_paste 34 = .ok (.if_icmp .ne 6, 3) := dk_160 0 6 (dk_at dksX12_paste_1 10 rfl rfl)
theorem dX12_paste_37 : decode cX12_paste 37 = .ok (.bipush (-6), 2) := dk_16 250 (dk_at dksX12_paste_1 13 rfl rfl)
theorem dX12_paste_39 : decode cX12_paste 39 = .ok (.ireturn, 1) := dk_172 (dk_at dksX12_paste_1 15 rfl rfl)
theorem dX12_paste_40 : decode cX12_paste 40 = .ok (.aload_n 0, 1) := dk_42 (dk_at dksX12_paste_1 16 rfl rfl)
theorem dX12_paste_41 : decode cX12_paste 41 = .ok (.getfield 89, 3) := dk_180 0 89 (dk_at dksX12_paste_1 17 rfl rfl)
theorem dX12_paste_44 : decode cX12_paste 44 = .ok (.iload_n 1, 1) := dk_27 (dk_at dksX12_paste_1 20 rfl rfl)
theorem dX12_paste_45 : decode cX12_paste 45 = .ok (.iaload, 1) := dk_46 (dk_at dksX12_paste_1 21 rfl rfl)
theorem dX12_paste_46 : decode cX12_paste 46 = .ok (.aload_n 0, 1) := dk_42 (dk_at dksX12_paste_1 22 rfl rfl)
theorem dX12_paste_47 : decode cX12_paste 47 = .ok (.getfield 89, 3) := dk_180 0 89 (dk_at dksX12_paste_2 0 rfl rfl)
theorem dX12_paste_50 : decode cX12_paste 50 = .ok (.iload_n 3, 1) := dk_29 (dk_at dksX12_paste_2 3 rfl rfl)
theorem dX12_paste_51 : decode cX12_paste 51 = .ok (.iaload, 1) := dk_46 (dk_at dksX12_paste_2 4 rfl rfl)
theorem dX12_paste_52 : decode cX12_paste 52 = .ok (.if_icmp .eq 6, 3) := dk_159 0 6 (dk_at dksX12_paste_2 5 rfl rfl)
theorem dX12_paste_55 : decode cX12_paste 55 = .ok (.bipush (-8), 2) := dk_16 248 (dk_at dksX12_paste_2 8 rfl rfl)
theorem dX12_paste_57 : decode cX12_paste 57 = .ok (.ireturn, 1) := dk_172 (dk_at dksX12_paste_2 10 rfl rfl)
theorem dX12_paste_58 : decode cX12_paste 58 = .ok (.iload_n 2, 1) := dk_28 (dk_at dksX12_paste_2 11 rfl rfl)
theorem dX12_paste_59 : decode cX12_paste 59 = .ok (.ifCond .lt 48, 3) := dk_155 0 48 (dk_at dksX12_paste_2 12 rfl rfl)
theorem dX12_paste_62 : decode cX12_paste 62 = .ok (.iload 4, 2) := dk_21 4 (dk_at dksX12_paste_2 15 rfl rfl)
theorem dX12_paste_64 : decode cX12_paste 64 = .ok (.ifCond .lt 43, 3) := dk_155 0 43 (dk_at dksX12_paste_2 17 rfl rfl)
theorem dX12_paste_67 : decode cX12_paste 67 = .ok (.iload 5, 2) := dk_21 5 (dk_at dksX12_paste_2 20 rfl rfl)
theorem dX12_paste_69 : decode cX12_paste 69 = .ok (.ifCond .lt 38, 3) := dk_155 0 38 (dk_at dksX12_paste_3 0 rfl rfl)
theorem dX12_paste_72 : decode cX12_paste 72 = .ok (.iload_n 2, 1) := dk_28 (dk_at dksX12_paste_3 3 rfl rfl)
theorem dX12_paste_73 : decode cX12_paste 73 = .ok (.i2l, 1) := dk_133 (dk_at dksX12_paste_3 4 rfl rfl)
theorem dX12_paste_74 : decode cX12_paste 74 = .ok (.iload 5, 2) := dk_21 5 (dk_at dksX12_paste_3 5 rfl rfl)
theorem dX12_paste_76 : decode cX12_paste 76 = .ok (.i2l, 1) := dk_133 (dk_at dksX12_paste_3 7 rfl rfl)
theorem dX12_paste_77 : decode cX12_paste 77 = .ok (.ladd, 1) := dk_97 (dk_at dksX12_paste_3 8 rfl rfl)
theorem dX12_paste_78 : decode cX12_paste 78 = .ok (.aload_n 0, 1) := dk_42 (dk_at dksX12_paste_3 9 rfl rfl)
theorem dX12_paste_79 : decode cX12_paste 79 = .ok (.getfield 86, 3) := dk_180 0 86 (dk_at dksX12_paste_3 10 rfl rfl)
theorem dX12_paste_82 : decode cX12_paste 82 = .ok (.iload_n 1, 1) := dk_27 (dk_at dksX12_paste_3 13 rfl rfl)
theorem dX12_paste_83 : decode cX12_paste 83 = .ok (.iaload, 1) := dk_46 (dk_at dksX12_paste_3 14 rfl rfl)
theorem dX12_paste_84 : decode cX12_paste 84 = .ok (.i2l, 1) := dk_133 (dk_at dksX12_paste_3 15 rfl rfl)
theorem dX12_paste_85 : decode cX12_paste 85 = .ok (.lcmp, 1) := dk_148 (dk_at dksX12_paste_3 16 rfl rfl)
theorem dX12_paste_86 : decode cX12_paste 86 = .ok (.ifCond .gt 21, 3) := dk_157 0 21 (dk_at dksX12_paste_3 17 rfl rfl)
theorem dX12_paste_89 : decode cX12_paste 89 = .ok (.iload 4, 2) := dk_21 4 (dk_at dksX12_paste_3 20 rfl rfl)
theorem dX12_paste_91 : decode cX12_paste 91 = .ok (.i2l, 1) := dk_133 (dk_at dksX12_paste_3 22 rfl rfl)
theorem dX12_paste_92 : decode cX12_paste 92 = .ok (.iload 5, 2) := dk_21 5 (dk_at dksX12_paste_4 0 rfl rfl)
theorem dX12_paste_94 : decode cX12_paste 94 = .ok (.i2l, 1) := dk_133 (dk_at dksX12_paste_4 2 rfl rfl)
theorem dX12_paste_95 : decode cX12_paste 95 = .ok (.ladd, 1) := dk_97 (dk_at dksX12_paste_4 3 rfl rfl)
theorem dX12_paste_96 : decode cX12_paste 96 = .ok (.aload_n 0, 1) := dk_42 (dk_at dksX12_paste_4 4 rfl rfl)
theorem dX12_paste_97 : decode cX12_paste 97 = .ok (.getfield 86, 3) := dk_180 0 86 (dk_at dksX12_paste_4 5 rfl rfl)
theorem dX12_paste_100 : decode cX12_paste 100 = .ok (.iload_n 3, 1) := dk_29 (dk_at dksX12_paste_4 8 rfl rfl)
theorem dX12_paste_101 : decode cX12_paste 101 = .ok (.iaload, 1) := dk_46 (dk_at dksX12_paste_4 9 rfl rfl)
theorem dX12_paste_102 : decode cX12_paste 102 = .ok (.i2l, 1) := dk_133 (dk_at dksX12_paste_4 10 rfl rfl)
theorem dX12_paste_103 : decode cX12_paste 103 = .ok (.lcmp, 1) := dk_148 (dk_at dksX12_paste_4 11 rfl rfl)
theorem dX12_paste_104 : decode cX12_paste 104 = .ok (.ifCond .le 6, 3) := dk_158 0 6 (dk_at dksX12_paste_4 12 rfl rfl)
theorem dX12_paste_107 : decode cX12_paste 107 = .ok (.bipush (-7), 2) := dk_16 249 (dk_at dksX12_paste_4 15 rfl rfl)
theorem dX12_paste_109 : decode cX12_paste 109 = .ok (.ireturn, 1) := dk_172 (dk_at dksX12_paste_4 17 rfl rfl)
theorem dX12_paste_110 : decode cX12_paste 110 = .ok (.iconst 0, 1) := dk_3 (dk_at dksX12_paste_4 18 rfl rfl)
theorem dX12_paste_111 : decode cX12_paste 111 = .ok (.istore 6, 2) := dk_54 6 (dk_at dksX12_paste_4 19 rfl rfl)
theorem dX12_paste_113 : decode cX12_paste 113 = .ok (.iload 6, 2) := dk_21 6 (dk_at dksX12_paste_4 21 rfl rfl)
theorem dX12_paste_115 : decode cX12_paste 115 = .ok (.iload 5, 2) := dk_21 5 (dk_at dksX12_paste_5 0 rfl rfl)
theorem dX12_paste_117 : decode cX12_paste 117 = .ok (.if_icmp .ge 30, 3) := dk_162 0 30 (dk_at dksX12_paste_5 2 rfl rfl)
theorem dX12_paste_120 : decode cX12_paste 120 = .ok (.aload_n 0, 1) := dk_42 (dk_at dksX12_paste_5 5 rfl rfl)
theorem dX12_paste_121 : decode cX12_paste 121 = .ok (.getfield 96, 3) := dk_180 0 96 (dk_at dksX12_paste_5 6 rfl rfl)
theorem dX12_paste_124 : decode cX12_paste 124 = .ok (.iload 6, 2) := dk_21 6 (dk_at dksX12_paste_5 9 rfl rfl)
theorem dX12_paste_126 : decode cX12_paste 126 = .ok (.aload_n 0, 1) := dk_42 (dk_at dksX12_paste_5 11 rfl rfl)
theorem dX12_paste_127 : decode cX12_paste 127 = .ok (.getfield 92, 3) := dk_180 0 92 (dk_at dksX12_paste_5 12 rfl rfl)
theorem dX12_paste_130 : decode cX12_paste 130 = .ok (.bipush 60, 2) := dk_16 60 (dk_at dksX12_paste_5 15 rfl rfl)
theorem dX12_paste_132 : decode cX12_paste 132 = .ok (.iload_n 1, 1) := dk_27 (dk_at dksX12_paste_5 17 rfl rfl)
theorem dX12_paste_133 : decode cX12_paste 133 = .ok (.imul, 1) := dk_104 (dk_at dksX12_paste_5 18 rfl rfl)
theorem dX12_paste_134 : decode cX12_paste 134 = .ok (.iload_n 2, 1) := dk_28 (dk_at dksX12_paste_5 19 rfl rfl)
theorem dX12_paste_135 : decode cX12_paste 135 = .ok (.iadd, 1) := dk_96 (dk_at dksX12_paste_5 20 rfl rfl)
theorem dX12_paste_136 : decode cX12_paste 136 = .ok (.iload 6, 2) := dk_21 6 (dk_at dksX12_paste_5 21 rfl rfl)
theorem dX12_paste_138 : decode cX12_paste 138 = .ok (.iadd, 1) := dk_96 (dk_at dksX12_paste_5 23 rfl rfl)
theorem dX12_paste_139 : decode cX12_paste 139 = .ok (.laload, 1) := dk_47 (dk_at dksX12_paste_6 0 rfl rfl)
theorem dX12_paste_140 : decode cX12_paste 140 = .ok (.lastore, 1) := dk_80 (dk_at dksX12_paste_6 1 rfl rfl)
theorem dX12_paste_141 : decode cX12_paste 141 = .ok (.iinc 6 1, 3) := dk_132 6 1 (dk_at dksX12_paste_6 2 rfl rfl)
theorem dX12_paste_144 : decode cX12_paste 144 = .ok (.goto (-31), 3) := dk_167 255 225 (dk_at dksX12_paste_6 5 rfl rfl)
theorem dX12_paste_147 : decode cX12_paste 147 = .ok (.iconst 0, 1) := dk_3 (dk_at dksX12_paste_6 8 rfl rfl)
theorem dX12_paste_148 : decode cX12_paste 148 = .ok (.istore 6, 2) := dk_54 6 (dk_at dksX12_paste_6 9 rfl rfl)
theorem dX12_paste_150 : decode cX12_paste 150 = .ok (.iload 6, 2) := dk_21 6 (dk_at dksX12_paste_6 11 rfl rfl)
theorem dX12_paste_152 : decode cX12_paste 152 = .ok (.iload 5, 2) := dk_21 5 (dk_at dksX12_paste_6 13 rfl rfl)
theorem dX12_paste_154 : decode cX12_paste 154 = .ok (.if_icmp .ge 31, 3) := dk_162 0 31 (dk_at dksX12_paste_6 15 rfl rfl)
theorem dX12_paste_157 : decode cX12_paste 157 = .ok (.aload_n 0, 1) := dk_42 (dk_at dksX12_paste_6 18 rfl rfl)
theorem dX12_paste_158 : decode cX12_paste 158 = .ok (.getfield 92, 3) := dk_180 0 92 (dk_at dksX12_paste_6 19 rfl rfl)
theorem dX12_paste_161 : decode cX12_paste 161 = .ok (.bipush 60, 2) := dk_16 60 (dk_at dksX12_paste_6 22 rfl rfl)
theorem dX12_paste_163 : decode cX12_paste 163 = .ok (.iload_n 3, 1) := dk_29 (dk_at dksX12_paste_7 0 rfl rfl)
theorem dX12_paste_164 : decode cX12_paste 164 = .ok (.imul, 1) := dk_104 (dk_at dksX12_paste_7 1 rfl rfl)
theorem dX12_paste_165 : decode cX12_paste 165 = .ok (.iload 4, 2) := dk_21 4 (dk_at dksX12_paste_7 2 rfl rfl)
theorem dX12_paste_167 : decode cX12_paste 167 = .ok (.iadd, 1) := dk_96 (dk_at dksX12_paste_7 4 rfl rfl)
theorem dX12_paste_168 : decode cX12_paste 168 = .ok (.iload 6, 2) := dk_21 6 (dk_at dksX12_paste_7 5 rfl rfl)
theorem dX12_paste_170 : decode cX12_paste 170 = .ok (.iadd, 1) := dk_96 (dk_at dksX12_paste_7 7 rfl rfl)
theorem dX12_paste_171 : decode cX12_paste 171 = .ok (.aload_n 0, 1) := dk_42 (dk_at dksX12_paste_7 8 rfl rfl)
theorem dX12_paste_172 : decode cX12_paste 172 = .ok (.getfield 96, 3) := dk_180 0 96 (dk_at dksX12_paste_7 9 rfl rfl)
theorem dX12_paste_175 : decode cX12_paste 175 = .ok (.iload 6, 2) := dk_21 6 (dk_at dksX12_paste_7 12 rfl rfl)
theorem dX12_paste_177 : decode cX12_paste 177 = .ok (.laload, 1) := dk_47 (dk_at dksX12_paste_7 14 rfl rfl)
theorem dX12_paste_178 : decode cX12_paste 178 = .ok (.lastore, 1) := dk_80 (dk_at dksX12_paste_7 15 rfl rfl)
theorem dX12_paste_179 : decode cX12_paste 179 = .ok (.iinc 6 1, 3) := dk_132 6 1 (dk_at dksX12_paste_7 16 rfl rfl)
theorem dX12_paste_182 : decode cX12_paste 182 = .ok (.goto (-32), 3) := dk_167 255 224 (dk_at dksX12_paste_7 19 rfl rfl)
theorem dX12_paste_185 : decode cX12_paste 185 = .ok (.iconst 0, 1) := dk_3 (dk_at dksX12_paste_7 22 rfl rfl)
theorem dX12_paste_186 : decode cX12_paste 186 = .ok (.ireturn, 1) := dk_172 (dk_at dksX12_paste_7 23 rfl rfl)
theorem q126 : (Jvm.Cond.initialized "CardBowlModel") ∈ lw_all := lw_g (lw_at lw_m1 17 rfl) rfl
theorem q1053 : (Jvm.Cond.selects "CardBowlModel" ({ cls := "java/lang/Object", name := "getClass", desc := "()Ljava/lang/Class;" } : Jvm.MethodName) ({ cls := "java/lang/Object", name := "getClass", desc := "()Ljava/lang/Class;" } : Jvm.MethodName)) ∈ lw_all := lw_g (lw_at lw_m4 224 rfl) rfl
theorem q1683 : (Jvm.Cond.instantiable "CardBowlModel" (41 : Nat)) ∈ lw_all := lw_g (lw_at lw_m7 134 rfl) rfl
theorem q1685 : (Jvm.Cond.instanceMethod ({ cls := "CardBowlModel", name := "<init>", desc := "()V" } : Jvm.MethodName)) ∈ lw_all := lw_g (lw_at lw_m7 136 rfl) rfl
theorem q1686 : (Jvm.Cond.code ({ cls := "CardBowlModel", name := "<init>", desc := "()V" } : Jvm.MethodName) prog_25_method_5_code (1 : Nat) (Option.none : Option Jvm.ClassFile.FieldType)) ∈ lw_all := lw_g (lw_at lw_m7 137 rfl) rfl
theorem q1687 : (Jvm.Cond.methodLink "CardBowlModel" (7 : Nat) ({ cls := "java/lang/Object", name := "<init>", desc := "()V" } : Jvm.MethodName)) ∈ lw_all := lw_g (lw_at lw_m7 138 rfl) rfl
theorem q1688 : (Jvm.Cond.constant "CardBowlModel" (64 : Nat) (65536 : Int32)) ∈ lw_all := lw_g (lw_at lw_m7 139 rfl) rfl
theorem q1689 : (Jvm.Cond.fieldLink "CardBowlModel" (13 : Nat) "CardBowlModel" "world" "[I") ∈ lw_all := lw_g (lw_at lw_m7 140 rfl) rfl
theorem q1690 : (Jvm.Cond.fieldLink "CardBowlModel" (17 : Nat) "CardBowlModel" "images" "[I") ∈ lw_all := lw_g (lw_at lw_m7 141 rfl) rfl
theorem q1691 : (Jvm.Cond.fieldLink "CardBowlModel" (20 : Nat) "CardBowlModel" "hasImage" "[Z") ∈ lw_all := lw_g (lw_at lw_m7 142 rfl) rfl
theorem q1692 : (Jvm.Cond.fieldLink "CardBowlModel" (24 : Nat) "CardBowlModel" "tape" "[B") ∈ lw_all := lw_g (lw_at lw_m7 143 rfl) rfl
theorem q1693 : (Jvm.Cond.fieldLink "CardBowlModel" (109 : Nat) "CardBowlModel" "taped" "I") ∈ lw_all := lw_g (lw_at lw_m7 144 rfl) rfl
theorem q1694 : (Jvm.Cond.fieldLink "CardBowlModel" (28 : Nat) "CardBowlModel" "five" "[I") ∈ lw_all := lw_g (lw_at lw_m7 145 rfl) rfl
theorem q1695 : (Jvm.Cond.fieldLink "CardBowlModel" (112 : Nat) "CardBowlModel" "size" "I") ∈ lw_all := lw_g (lw_at lw_m7 146 rfl) rfl
theorem q1696 : (Jvm.Cond.fieldLink "CardBowlModel" (115 : Nat) "CardBowlModel" "at" "I") ∈ lw_all := lw_g (lw_at lw_m7 147 rfl) rfl
theorem q1697 : (Jvm.Cond.fieldLink "CardBowlModel" (122 : Nat) "CardBowlModel" "from" "I") ∈ lw_all := lw_g (lw_at lw_m7 148 rfl) rfl
theorem q1698 : (Jvm.Cond.fieldLink "CardBowlModel" (125 : Nat) "CardBowlModel" "token" "I") ∈ lw_all := lw_g (lw_at lw_m7 149 rfl) rfl
theorem q1699 : (Jvm.Cond.fieldLink "CardBowlModel" (136 : Nat) "CardBowlModel" "value" "I") ∈ lw_all := lw_g (lw_at lw_m7 150 rfl) rfl
theorem q1700 : (Jvm.Cond.fieldLink "CardBowlModel" (145 : Nat) "CardBowlModel" "faultKind" "I") ∈ lw_all := lw_g (lw_at lw_m7 151 rfl) rfl
theorem q1701 : (Jvm.Cond.fieldLink "CardBowlModel" (31 : Nat) "CardBowlModel" "faultPlace" "I") ∈ lw_all := lw_g (lw_at lw_m7 152 rfl) rfl
theorem q1702 : (Jvm.Cond.fieldLink "CardBowlModel" (34 : Nat) "CardBowlModel" "fresh" "[I") ∈ lw_all := lw_g (lw_at lw_m7 153 rfl) rfl
theorem q1703 : (Jvm.Cond.fieldLink "CardBowlModel" (37 : Nat) "CardBowlModel" "parts" "[I") ∈ lw_all := lw_g (lw_at lw_m7 154 rfl) rfl
theorem q1704 : (Jvm.Cond.fieldLink "CardBowlModel" (40 : Nat) "CardBowlModel" "houses" "[I") ∈ lw_all := lw_g (lw_at lw_m7 155 rfl) rfl
theorem q1705 : (Jvm.Cond.fieldLink "CardBowlModel" (393 : Nat) "CardBowlModel" "houseMany" "I") ∈ lw_all := lw_g (lw_at lw_m7 156 rfl) rfl
theorem q1706 : (Jvm.Cond.fieldLink "CardBowlModel" (43 : Nat) "CardBowlModel" "worthOf" "[I") ∈ lw_all := lw_g (lw_at lw_m7 157 rfl) rfl
theorem q1707 : (Jvm.Cond.fieldLink "CardBowlModel" (46 : Nat) "CardBowlModel" "byCall" "[Z") ∈ lw_all := lw_g (lw_at lw_m7 158 rfl) rfl
theorem q1708 : (Jvm.Cond.fieldLink "CardBowlModel" (49 : Nat) "CardBowlModel" "over" "[I") ∈ lw_all := lw_g (lw_at lw_m7 159 rfl) rfl
theorem q1709 : (Jvm.Cond.fieldLink "CardBowlModel" (415 : Nat) "CardBowlModel" "bestSet" "I") ∈ lw_all := lw_g (lw_at lw_m7 160 rfl) rfl
theorem q1710 : (Jvm.Cond.fieldLink "CardBowlModel" (418 : Nat) "CardBowlModel" "bestOver" "I") ∈ lw_all := lw_g (lw_at lw_m7 161 rfl) rfl
theorem q1711 : (Jvm.Cond.fieldLink "CardBowlModel" (421 : Nat) "CardBowlModel" "bestWorth" "I") ∈ lw_all := lw_g (lw_at lw_m7 162 rfl) rfl
theorem q1712 : (Jvm.Cond.fieldLink "CardBowlModel" (52 : Nat) "CardBowlModel" "row" "[I") ∈ lw_all := lw_g (lw_at lw_m7 163 rfl) rfl
theorem q1713 : (Jvm.Cond.fieldLink "CardBowlModel" (55 : Nat) "CardBowlModel" "tenDebts" "[I") ∈ lw_all := lw_g (lw_at lw_m7 164 rfl) rfl
theorem q1714 : (Jvm.Cond.fieldLink "CardBowlModel" (438 : Nat) "CardBowlModel" "tenMany" "I") ∈ lw_all := lw_g (lw_at lw_m7 165 rfl) rfl
theorem q1715 : (Jvm.Cond.fieldLink "CardBowlModel" (58 : Nat) "CardBowlModel" "fewestBy" "[I") ∈ lw_all := lw_g (lw_at lw_m7 166 rfl) rfl
theorem q1716 : (Jvm.Cond.fieldLink "CardBowlModel" (61 : Nat) "CardBowlModel" "covered" "[I") ∈ lw_all := lw_g (lw_at lw_m7 167 rfl) rfl
theorem q1717 : (Jvm.Cond.fieldLink "CardBowlModel" (65 : Nat) "CardBowlModel" "queue" "[I") ∈ lw_all := lw_g (lw_at lw_m7 168 rfl) rfl
theorem q1718 : (Jvm.Cond.fieldLink "CardBowlModel" (68 : Nat) "CardBowlModel" "cameBy" "[I") ∈ lw_all := lw_g (lw_at lw_m7 169 rfl) rfl
theorem q1719 : (Jvm.Cond.fieldLink "CardBowlModel" (71 : Nat) "CardBowlModel" "parent" "[I") ∈ lw_all := lw_g (lw_at lw_m7 170 rfl) rfl
theorem q1720 : (Jvm.Cond.fieldLink "CardBowlModel" (74 : Nat) "CardBowlModel" "met" "[Z") ∈ lw_all := lw_g (lw_at lw_m7 171 rfl) rfl
theorem q1721 : (Jvm.Cond.fieldLink "CardBowlModel" (77 : Nat) "CardBowlModel" "calls" "[I") ∈ lw_all := lw_g (lw_at lw_m7 172 rfl) rfl
theorem q1722 : (Jvm.Cond.fieldLink "CardBowlModel" (450 : Nat) "CardBowlModel" "callMany" "I") ∈ lw_all := lw_g (lw_at lw_m7 173 rfl) rfl
theorem q1723 : (Jvm.Cond.fieldLink "CardBowlModel" (80 : Nat) "CardBowlModel" "calledOn" "[I") ∈ lw_all := lw_g (lw_at lw_m7 174 rfl) rfl
theorem q1724 : (Jvm.Cond.fieldLink "CardBowlModel" (83 : Nat) "CardBowlModel" "saved" "[I") ∈ lw_all := lw_g (lw_at lw_m7 175 rfl) rfl
theorem q1725 : (Jvm.Cond.fieldLink "CardBowlModel" (86 : Nat) "CardBowlModel" "many" "[I") ∈ lw_all := lw_g (lw_at lw_m7 176 rfl) rfl
theorem q1726 : (Jvm.Cond.fieldLink "CardBowlModel" (89 : Nat) "CardBowlModel" "width" "[I") ∈ lw_all := lw_g (lw_at lw_m7 177 rfl) rfl
theorem q1727 : (Jvm.Cond.fieldLink "CardBowlModel" (92 : Nat) "CardBowlModel" "numbers" "[J") ∈ lw_all := lw_g (lw_at lw_m7 178 rfl) rfl
theorem q1728 : (Jvm.Cond.fieldLink "CardBowlModel" (96 : Nat) "CardBowlModel" "moving" "[J") ∈ lw_all := lw_g (lw_at lw_m7 179 rfl) rfl
theorem q1729 : (Jvm.Cond.lays "CardBowlModel" "CardBowlModel" "thrown" "I") ∈ lw_all := lw_g (lw_at lw_m7 180 rfl) rfl
theorem q1730 : (Jvm.Cond.soleField "CardBowlModel" "thrown") ∈ lw_all := lw_g (lw_at lw_m7 181 rfl) rfl
theorem q1731 : (Jvm.Cond.laysFinal "CardBowlModel" "CardBowlModel" "world" "[I") ∈ lw_all := lw_g (lw_at lw_m7 182 rfl) rfl
theorem q1732 : (Jvm.Cond.soleField "CardBowlModel" "world") ∈ lw_all := lw_g (lw_at lw_m7 183 rfl) rfl
theorem q1733 : (Jvm.Cond.laysFinal "CardBowlModel" "CardBowlModel" "images" "[I") ∈ lw_all := lw_g (lw_at lw_m7 184 rfl) rfl
theorem q1734 : (Jvm.Cond.soleField "CardBowlModel" "images") ∈ lw_all := lw_g (lw_at lw_m7 185 rfl) rfl
theorem q1735 : (Jvm.Cond.laysFinal "CardBowlModel" "CardBowlModel" "hasImage" "[Z") ∈ lw_all := lw_g (lw_at lw_m7 186 rfl) rfl
theorem q1736 : (Jvm.Cond.soleField "CardBowlModel" "hasImage") ∈ lw_all := lw_g (lw_at lw_m7 187 rfl) rfl
theorem q1737 : (Jvm.Cond.laysFinal "CardBowlModel" "CardBowlModel" "tape" "[B") ∈ lw_all := lw_g (lw_at lw_m7 188 rfl) rfl
theorem q1738 : (Jvm.Cond.soleField "CardBowlModel" "tape") ∈ lw_all := lw_g (lw_at lw_m7 189 rfl) rfl
theorem q1739 : (Jvm.Cond.lays "CardBowlModel" "CardBowlModel" "taped" "I") ∈ lw_all := lw_g (lw_at lw_m7 190 rfl) rfl
theorem q1740 : (Jvm.Cond.soleField "CardBowlModel" "taped") ∈ lw_all := lw_g (lw_at lw_m7 191 rfl) rfl
theorem q1741 : (Jvm.Cond.laysFinal "CardBowlModel" "CardBowlModel" "five" "[I") ∈ lw_all := lw_g (lw_at lw_m7 192 rfl) rfl
theorem q1742 : (Jvm.Cond.soleField "CardBowlModel" "five") ∈ lw_all := lw_g (lw_at lw_m7 193 rfl) rfl
theorem q1743 : (Jvm.Cond.lays "CardBowlModel" "CardBowlModel" "size" "I") ∈ lw_all := lw_g (lw_at lw_m7 194 rfl) rfl
theorem q1744 : (Jvm.Cond.soleField "CardBowlModel" "size") ∈ lw_all := lw_g (lw_at lw_m7 195 rfl) rfl
theorem q1745 : (Jvm.Cond.lays "CardBowlModel" "CardBowlModel" "at" "I") ∈ lw_all := lw_g (lw_at lw_m7 196 rfl) rfl
theorem q1746 : (Jvm.Cond.soleField "CardBowlModel" "at") ∈ lw_all := lw_g (lw_at lw_m7 197 rfl) rfl
theorem q1747 : (Jvm.Cond.lays "CardBowlModel" "CardBowlModel" "from" "I") ∈ lw_all := lw_g (lw_at lw_m7 198 rfl) rfl
theorem q1748 : (Jvm.Cond.soleField "CardBowlModel" "from") ∈ lw_all := lw_g (lw_at lw_m7 199 rfl) rfl
theorem q1749 : (Jvm.Cond.lays "CardBowlModel" "CardBowlModel" "token" "I") ∈ lw_all := lw_g (lw_at lw_m7 200 rfl) rfl
theorem q1750 : (Jvm.Cond.soleField "CardBowlModel" "token") ∈ lw_all := lw_g (lw_at lw_m7 201 rfl) rfl
theorem q1751 : (Jvm.Cond.lays "CardBowlModel" "CardBowlModel" "value" "I") ∈ lw_all := lw_g (lw_at lw_m7 202 rfl) rfl
theorem q1752 : (Jvm.Cond.soleField "CardBowlModel" "value") ∈ lw_all := lw_g (lw_at lw_m7 203 rfl) rfl
theorem q1753 : (Jvm.Cond.lays "CardBowlModel" "CardBowlModel" "faultKind" "I") ∈ lw_all := lw_g (lw_at lw_m7 204 rfl) rfl
theorem q1754 : (Jvm.Cond.soleField "CardBowlModel" "faultKind") ∈ lw_all := lw_g (lw_at lw_m7 205 rfl) rfl
theorem q1755 : (Jvm.Cond.lays "CardBowlModel" "CardBowlModel" "faultPlace" "I") ∈ lw_all := lw_g (lw_at lw_m7 206 rfl) rfl
theorem q1756 : (Jvm.Cond.soleField "CardBowlModel" "faultPlace") ∈ lw_all := lw_g (lw_at lw_m7 207 rfl) rfl
theorem q1757 : (Jvm.Cond.laysFinal "CardBowlModel" "CardBowlModel" "fresh" "[I") ∈ lw_all := lw_g (lw_at lw_m7 208 rfl) rfl
theorem q1758 : (Jvm.Cond.soleField "CardBowlModel" "fresh") ∈ lw_all := lw_g (lw_at lw_m7 209 rfl) rfl
theorem q1759 : (Jvm.Cond.laysFinal "CardBowlModel" "CardBowlModel" "parts" "[I") ∈ lw_all := lw_g (lw_at lw_m7 210 rfl) rfl
theorem q1760 : (Jvm.Cond.soleField "CardBowlModel" "parts") ∈ lw_all := lw_g (lw_at lw_m7 211 rfl) rfl
theorem q1761 : (Jvm.Cond.laysFinal "CardBowlModel" "CardBowlModel" "houses" "[I") ∈ lw_all := lw_g (lw_at lw_m7 212 rfl) rfl
theorem q1762 : (Jvm.Cond.soleField "CardBowlModel" "houses") ∈ lw_all := lw_g (lw_at lw_m7 213 rfl) rfl
theorem q1763 : (Jvm.Cond.lays "CardBowlModel" "CardBowlModel" "houseMany" "I") ∈ lw_all := lw_g (lw_at lw_m7 214 rfl) rfl
theorem q1764 : (Jvm.Cond.soleField "CardBowlModel" "houseMany") ∈ lw_all := lw_g (lw_at lw_m7 215 rfl) rfl
theorem q1765 : (Jvm.Cond.laysFinal "CardBowlModel" "CardBowlModel" "worthOf" "[I") ∈ lw_all := lw_g (lw_at lw_m7 216 rfl) rfl
theorem q1766 : (Jvm.Cond.soleField "CardBowlModel" "worthOf") ∈ lw_all := lw_g (lw_at lw_m7 217 rfl) rfl
theorem q1767 : (Jvm.Cond.laysFinal "CardBowlModel" "CardBowlModel" "byCall" "[Z") ∈ lw_all := lw_g (lw_at lw_m7 218 rfl) rfl
theorem q1768 : (Jvm.Cond.soleField "CardBowlModel" "byCall") ∈ lw_all := lw_g (lw_at lw_m7 219 rfl) rfl
theorem q1769 : (Jvm.Cond.laysFinal "CardBowlModel" "CardBowlModel" "over" "[I") ∈ lw_all := lw_g (lw_at lw_m7 220 rfl) rfl
theorem q1770 : (Jvm.Cond.soleField "CardBowlModel" "over") ∈ lw_all := lw_g (lw_at lw_m7 221 rfl) rfl
theorem q1771 : (Jvm.Cond.lays "CardBowlModel" "CardBowlModel" "bestSet" "I") ∈ lw_all := lw_g (lw_at lw_m7 222 rfl) rfl
theorem q1772 : (Jvm.Cond.soleField "CardBowlModel" "bestSet") ∈ lw_all := lw_g (lw_at lw_m7 223 rfl) rfl
theorem q1773 : (Jvm.Cond.lays "CardBowlModel" "CardBowlModel" "bestOver" "I") ∈ lw_all := lw_g (lw_at lw_m7 224 rfl) rfl
theorem q1774 : (Jvm.Cond.soleField "CardBowlModel" "bestOver") ∈ lw_all := lw_g (lw_at lw_m7 225 rfl) rfl
theorem q1775 : (Jvm.Cond.lays "CardBowlModel" "CardBowlModel" "bestWorth" "I") ∈ lw_all := lw_g (lw_at lw_m7 226 rfl) rfl
theorem q1776 : (Jvm.Cond.soleField "CardBowlModel" "bestWorth") ∈ lw_all := lw_g (lw_at lw_m7 227 rfl) rfl
theorem q1777 : (Jvm.Cond.laysFinal "CardBowlModel" "CardBowlModel" "row" "[I") ∈ lw_all := lw_g (lw_at lw_m7 228 rfl) rfl
theorem q1778 : (Jvm.Cond.soleField "CardBowlModel" "row") ∈ lw_all := lw_g (lw_at lw_m7 229 rfl) rfl
theorem q1779 : (Jvm.Cond.laysFinal "CardBowlModel" "CardBowlModel" "tenDebts" "[I") ∈ lw_all := lw_g (lw_at lw_m7 230 rfl) rfl
theorem q1780 : (Jvm.Cond.soleField "CardBowlModel" "tenDebts") ∈ lw_all := lw_g (lw_at lw_m7 231 rfl) rfl
theorem q1781 : (Jvm.Cond.lays "CardBowlModel" "CardBowlModel" "tenMany" "I") ∈ lw_all := lw_g (lw_at lw_m7 232 rfl) rfl
theorem q1782 : (Jvm.Cond.soleField "CardBowlModel" "tenMany") ∈ lw_all := lw_g (lw_at lw_m7 233 rfl) rfl
theorem q1783 : (Jvm.Cond.laysFinal "CardBowlModel" "CardBowlModel" "fewestBy" "[I") ∈ lw_all := lw_g (lw_at lw_m7 234 rfl) rfl
theorem q1784 : (Jvm.Cond.soleField "CardBowlModel" "fewestBy") ∈ lw_all := lw_g (lw_at lw_m7 235 rfl) rfl
theorem q1785 : (Jvm.Cond.laysFinal "CardBowlModel" "CardBowlModel" "covered" "[I") ∈ lw_all := lw_g (lw_at lw_m7 236 rfl) rfl
theorem q1786 : (Jvm.Cond.soleField "CardBowlModel" "covered") ∈ lw_all := lw_g (lw_at lw_m7 237 rfl) rfl
theorem q1787 : (Jvm.Cond.laysFinal "CardBowlModel" "CardBowlModel" "queue" "[I") ∈ lw_all := lw_g (lw_at lw_m7 238 rfl) rfl
theorem q1788 : (Jvm.Cond.soleField "CardBowlModel" "queue") ∈ lw_all := lw_g (lw_at lw_m7 239 rfl) rfl
theorem q1789 : (Jvm.Cond.laysFinal "CardBowlModel" "CardBowlModel" "cameBy" "[I") ∈ lw_all := lw_g (lw_at lw_m8 0 rfl) rfl
theorem q1790 : (Jvm.Cond.soleField "CardBowlModel" "cameBy") ∈ lw_all := lw_g (lw_at lw_m8 1 rfl) rfl
theorem q1791 : (Jvm.Cond.laysFinal "CardBowlModel" "CardBowlModel" "parent" "[I") ∈ lw_all := lw_g (lw_at lw_m8 2 rfl) rfl
theorem q1792 : (Jvm.Cond.soleField "CardBowlModel" "parent") ∈ lw_all := lw_g (lw_at lw_m8 3 rfl) rfl
theorem q1793 : (Jvm.Cond.laysFinal "CardBowlModel" "CardBowlModel" "met" "[Z") ∈ lw_all := lw_g (lw_at lw_m8 4 rfl) rfl
theorem q1794 : (Jvm.Cond.soleField "CardBowlModel" "met") ∈ lw_all := lw_g (lw_at lw_m8 5 rfl) rfl
theorem q1795 : (Jvm.Cond.laysFinal "CardBowlModel" "CardBowlModel" "calls" "[I") ∈ lw_all := lw_g (lw_at lw_m8 6 rfl) rfl
theorem q1796 : (Jvm.Cond.soleField "CardBowlModel" "calls") ∈ lw_all := lw_g (lw_at lw_m8 7 rfl) rfl
theorem q1797 : (Jvm.Cond.lays "CardBowlModel" "CardBowlModel" "callMany" "I") ∈ lw_all := lw_g (lw_at lw_m8 8 rfl) rfl
theorem q1798 : (Jvm.Cond.soleField "CardBowlModel" "callMany") ∈ lw_all := lw_g (lw_at lw_m8 9 rfl) rfl
theorem q1799 : (Jvm.Cond.laysFinal "CardBowlModel" "CardBowlModel" "calledOn" "[I") ∈ lw_all := lw_g (lw_at lw_m8 10 rfl) rfl
theorem q1800 : (Jvm.Cond.soleField "CardBowlModel" "calledOn") ∈ lw_all := lw_g (lw_at lw_m8 11 rfl) rfl
theorem q1801 : (Jvm.Cond.laysFinal "CardBowlModel" "CardBowlModel" "saved" "[I") ∈ lw_all := lw_g (lw_at lw_m8 12 rfl) rfl
theorem q1802 : (Jvm.Cond.soleField "CardBowlModel" "saved") ∈ lw_all := lw_g (lw_at lw_m8 13 rfl) rfl
theorem q1803 : (Jvm.Cond.laysFinal "CardBowlModel" "CardBowlModel" "many" "[I") ∈ lw_all := lw_g (lw_at lw_m8 14 rfl) rfl
theorem q1804 : (Jvm.Cond.soleField "CardBowlModel" "many") ∈ lw_all := lw_g (lw_at lw_m8 15 rfl) rfl
theorem q1805 : (Jvm.Cond.laysFinal "CardBowlModel" "CardBowlModel" "width" "[I") ∈ lw_all := lw_g (lw_at lw_m8 16 rfl) rfl
theorem q1806 : (Jvm.Cond.soleField "CardBowlModel" "width") ∈ lw_all := lw_g (lw_at lw_m8 17 rfl) rfl
theorem q1807 : (Jvm.Cond.laysFinal "CardBowlModel" "CardBowlModel" "numbers" "[J") ∈ lw_all := lw_g (lw_at lw_m8 18 rfl) rfl
theorem q1808 : (Jvm.Cond.soleField "CardBowlModel" "numbers") ∈ lw_all := lw_g (lw_at lw_m8 19 rfl) rfl
theorem q1809 : (Jvm.Cond.laysFinal "CardBowlModel" "CardBowlModel" "moving" "[J") ∈ lw_all := lw_g (lw_at lw_m8 20 rfl) rfl
theorem q1810 : (Jvm.Cond.soleField "CardBowlModel" "moving") ∈ lw_all := lw_g (lw_at lw_m8 21 rfl) rfl
theorem q1811 : (Jvm.Cond.superclass "CardBowlModel" "java/lang/Object") ∈ lw_all := lw_g (lw_at lw_m8 22 rfl) rfl
theorem q1814 : (Jvm.Cond.instanceMethod ({ cls := "CardBowlModel", name := "keep", desc := "(I)I" } : Jvm.MethodName)) ∈ lw_all := lw_g (lw_at lw_m8 25 rfl) rfl
theorem q1815 : (Jvm.Cond.selects "CardBowlModel" ({ cls := "CardBowlModel", name := "keep", desc := "(I)I" } : Jvm.MethodName) ({ cls := "CardBowlModel", name := "keep", desc := "(I)I" } : Jvm.MethodName)) ∈ lw_all := lw_g (lw_at lw_m8 26 rfl) rfl
theorem q1816 : (Jvm.Cond.code ({ cls := "CardBowlModel", name := "keep", desc := "(I)I" } : Jvm.MethodName) prog_25_method_6_code (3 : Nat) (Option.some Jvm.ClassFile.FieldType.int)) ∈ lw_all := lw_g (lw_at lw_m8 27 rfl) rfl
theorem q1817 : (Jvm.Cond.constantLong "CardBowlModel" (99 : Nat) (2 : Int64)) ∈ lw_all := lw_g (lw_at lw_m8 28 rfl) rfl
theorem q1818 : (Jvm.Cond.methodLink "CardBowlModel" (101 : Nat) ({ cls := "CardBowlModel", name := "in", desc := "(JJJ)Z" } : Jvm.MethodName)) ∈ lw_all := lw_g (lw_at lw_m8 29 rfl) rfl
theorem q1819 : (Jvm.Cond.static ({ cls := "CardBowlModel", name := "in", desc := "(JJJ)Z" } : Jvm.MethodName)) ∈ lw_all := lw_g (lw_at lw_m8 30 rfl) rfl
theorem q1820 : (Jvm.Cond.code ({ cls := "CardBowlModel", name := "in", desc := "(JJJ)Z" } : Jvm.MethodName) prog_25_method_2_code (6 : Nat) (Option.some Jvm.ClassFile.FieldType.boolean)) ∈ lw_all := lw_g (lw_at lw_m8 31 rfl) rfl
theorem q1822 : (Jvm.Cond.instanceMethod ({ cls := "CardBowlModel", name := "back", desc := "(I)I" } : Jvm.MethodName)) ∈ lw_all := lw_g (lw_at lw_m8 33 rfl) rfl
theorem q1823 : (Jvm.Cond.selects "CardBowlModel" ({ cls := "CardBowlModel", name := "back", desc := "(I)I" } : Jvm.MethodName) ({ cls := "CardBowlModel", name := "back", desc := "(I)I" } : Jvm.MethodName)) ∈ lw_all := lw_g (lw_at lw_m8 34 rfl) rfl
theorem q1824 : (Jvm.Cond.code ({ cls := "CardBowlModel", name := "back", desc := "(I)I" } : Jvm.MethodName) prog_25_method_7_code (3 : Nat) (Option.some Jvm.ClassFile.FieldType.int)) ∈ lw_all := lw_g (lw_at lw_m8 35 rfl) rfl
theorem q1826 : (Jvm.Cond.instanceMethod ({ cls := "CardBowlModel", name := "feed", desc := "(IIIII)I" } : Jvm.MethodName)) ∈ lw_all := lw_g (lw_at lw_m8 37 rfl) rfl
theorem q1827 : (Jvm.Cond.selects "CardBowlModel" ({ cls := "CardBowlModel", name := "feed", desc := "(IIIII)I" } : Jvm.MethodName) ({ cls := "CardBowlModel", name := "feed", desc := "(IIIII)I" } : Jvm.MethodName)) ∈ lw_all := lw_g (lw_at lw_m8 38 rfl) rfl
theorem q1828 : (Jvm.Cond.code ({ cls := "CardBowlModel", name := "feed", desc := "(IIIII)I" } : Jvm.MethodName) prog_25_method_13_code (7 : Nat) (Option.some Jvm.ClassFile.FieldType.int)) ∈ lw_all := lw_g (lw_at lw_m8 39 rfl) rfl
theorem q1830 : (Jvm.Cond.instanceMethod ({ cls := "CardBowlModel", name := "end", desc := "(I)I" } : Jvm.MethodName)) ∈ lw_all := lw_g (lw_at lw_m8 41 rfl) rfl
theorem q1831 : (Jvm.Cond.selects "CardBowlModel" ({ cls := "CardBowlModel", name := "end", desc := "(I)I" } : Jvm.MethodName) ({ cls := "CardBowlModel", name := "end", desc := "(I)I" } : Jvm.MethodName)) ∈ lw_all := lw_g (lw_at lw_m8 42 rfl) rfl
theorem q1832 : (Jvm.Cond.code ({ cls := "CardBowlModel", name := "end", desc := "(I)I" } : Jvm.MethodName) prog_25_method_14_code (2 : Nat) (Option.some Jvm.ClassFile.FieldType.int)) ∈ lw_all := lw_g (lw_at lw_m8 43 rfl) rfl
theorem q1834 : (Jvm.Cond.instanceMethod ({ cls := "CardBowlModel", name := "fault", desc := "(I)I" } : Jvm.MethodName)) ∈ lw_all := lw_g (lw_at lw_m8 45 rfl) rfl
theorem q1835 : (Jvm.Cond.selects "CardBowlModel" ({ cls := "CardBowlModel", name := "fault", desc := "(I)I" } : Jvm.MethodName) ({ cls := "CardBowlModel", name := "fault", desc := "(I)I" } : Jvm.MethodName)) ∈ lw_all := lw_g (lw_at lw_m8 46 rfl) rfl
theorem q1836 : (Jvm.Cond.code ({ cls := "CardBowlModel", name := "fault", desc := "(I)I" } : Jvm.MethodName) prog_25_method_24_code (2 : Nat) (Option.some Jvm.ClassFile.FieldType.int)) ∈ lw_all := lw_g (lw_at lw_m8 47 rfl) rfl
theorem q1838 : (Jvm.Cond.instanceMethod ({ cls := "CardBowlModel", name := "town", desc := "()I" } : Jvm.MethodName)) ∈ lw_all := lw_g (lw_at lw_m8 49 rfl) rfl
theorem q1839 : (Jvm.Cond.selects "CardBowlModel" ({ cls := "CardBowlModel", name := "town", desc := "()I" } : Jvm.MethodName) ({ cls := "CardBowlModel", name := "town", desc := "()I" } : Jvm.MethodName)) ∈ lw_all := lw_g (lw_at lw_m8 50 rfl) rfl
theorem q1840 : (Jvm.Cond.code ({ cls := "CardBowlModel", name := "town", desc := "()I" } : Jvm.MethodName) prog_25_method_35_code (2 : Nat) (Option.some Jvm.ClassFile.FieldType.int)) ∈ lw_all := lw_g (lw_at lw_m8 51 rfl) rfl
theorem q1841 : (Jvm.Cond.methodLink "CardBowlModel" (166 : Nat) ({ cls := "CardBowlModel", name := "advance", desc := "()V" } : Jvm.MethodName)) ∈ lw_all := lw_g (lw_at lw_m8 52 rfl) rfl
theorem q1842 : (Jvm.Cond.privateMethod ({ cls := "CardBowlModel", name := "advance", desc := "()V" } : Jvm.MethodName)) ∈ lw_tbl := lw_at lw_m8 53 rfl
theorem q1843 : (Jvm.Cond.instanceMethod ({ cls := "CardBowlModel", name := "advance", desc := "()V" } : Jvm.MethodName)) ∈ lw_all := lw_g (lw_at lw_m8 54 rfl) rfl
theorem q1844 : (Jvm.Cond.code ({ cls := "CardBowlModel", name := "advance", desc := "()V" } : Jvm.MethodName) prog_25_method_16_code (2 : Nat) (Option.none : Option Jvm.ClassFile.FieldType)) ∈ lw_all := lw_g (lw_at lw_m8 55 rfl) rfl
theorem q1845 : (Jvm.Cond.methodLink "CardBowlModel" (118 : Nat) ({ cls := "CardBowlModel", name := "see", desc := "(I)I" } : Jvm.MethodName)) ∈ lw_all := lw_g (lw_at lw_m8 56 rfl) rfl
theorem q1846 : (Jvm.Cond.privateMethod ({ cls := "CardBowlModel", name := "see", desc := "(I)I" } : Jvm.MethodName)) ∈ lw_tbl := lw_at lw_m8 57 rfl
theorem q1847 : (Jvm.Cond.instanceMethod ({ cls := "CardBowlModel", name := "see", desc := "(I)I" } : Jvm.MethodName)) ∈ lw_all := lw_g (lw_at lw_m8 58 rfl) rfl
theorem q1848 : (Jvm.Cond.code ({ cls := "CardBowlModel", name := "see", desc := "(I)I" } : Jvm.MethodName) prog_25_method_15_code (2 : Nat) (Option.some Jvm.ClassFile.FieldType.int)) ∈ lw_all := lw_g (lw_at lw_m8 59 rfl) rfl
theorem q1849 : (Jvm.Cond.constantLong "CardBowlModel" (128 : Nat) (97 : Int64)) ∈ lw_all := lw_g (lw_at lw_m8 60 rfl) rfl
theorem q1850 : (Jvm.Cond.constantLong "CardBowlModel" (130 : Nat) (122 : Int64)) ∈ lw_all := lw_g (lw_at lw_m8 61 rfl) rfl
theorem q1851 : (Jvm.Cond.constantLong "CardBowlModel" (132 : Nat) (48 : Int64)) ∈ lw_all := lw_g (lw_at lw_m8 62 rfl) rfl
theorem q1852 : (Jvm.Cond.constantLong "CardBowlModel" (134 : Nat) (57 : Int64)) ∈ lw_all := lw_g (lw_at lw_m8 63 rfl) rfl
theorem q1853 : (Jvm.Cond.methodLink "CardBowlModel" (139 : Nat) ({ cls := "java/lang/Math", name := "min", desc := "(II)I" } : Jvm.MethodName)) ∈ lw_all := lw_g (lw_at lw_m8 64 rfl) rfl
theorem q1854 : (Jvm.Cond.methodLink "CardBowlModel" (148 : Nat) ({ cls := "CardBowlModel", name := "good", desc := "()Z" } : Jvm.MethodName)) ∈ lw_all := lw_g (lw_at lw_m8 65 rfl) rfl
theorem q1855 : (Jvm.Cond.privateMethod ({ cls := "CardBowlModel", name := "good", desc := "()Z" } : Jvm.MethodName)) ∈ lw_tbl := lw_at lw_m8 66 rfl
theorem q1856 : (Jvm.Cond.instanceMethod ({ cls := "CardBowlModel", name := "good", desc := "()Z" } : Jvm.MethodName)) ∈ lw_all := lw_g (lw_at lw_m8 67 rfl) rfl
theorem q1857 : (Jvm.Cond.code ({ cls := "CardBowlModel", name := "good", desc := "()Z" } : Jvm.MethodName) prog_25_method_17_code (1 : Nat) (Option.some Jvm.ClassFile.FieldType.boolean)) ∈ lw_all := lw_g (lw_at lw_m8 68 rfl) rfl
theorem q1858 : (Jvm.Cond.methodLink "CardBowlModel" (283 : Nat) ({ cls := "CardBowlModel", name := "readLine", desc := "()V" } : Jvm.MethodName)) ∈ lw_all := lw_g (lw_at lw_m8 69 rfl) rfl
theorem q1859 : (Jvm.Cond.privateMethod ({ cls := "CardBowlModel", name := "readLine", desc := "()V" } : Jvm.MethodName)) ∈ lw_tbl := lw_at lw_m8 70 rfl
theorem q1860 : (Jvm.Cond.instanceMethod ({ cls := "CardBowlModel", name := "readLine", desc := "()V" } : Jvm.MethodName)) ∈ lw_all := lw_g (lw_at lw_m8 71 rfl) rfl
theorem q1861 : (Jvm.Cond.code ({ cls := "CardBowlModel", name := "readLine", desc := "()V" } : Jvm.MethodName) prog_25_method_34_code (3 : Nat) (Option.none : Option Jvm.ClassFile.FieldType)) ∈ lw_all := lw_g (lw_at lw_m8 72 rfl) rfl
theorem q1862 : (Jvm.Cond.methodLink "CardBowlModel" (252 : Nat) ({ cls := "CardBowlModel", name := "payingHere", desc := "()I" } : Jvm.MethodName)) ∈ lw_all := lw_g (lw_at lw_m8 73 rfl) rfl
theorem q1863 : (Jvm.Cond.privateMethod ({ cls := "CardBowlModel", name := "payingHere", desc := "()I" } : Jvm.MethodName)) ∈ lw_tbl := lw_at lw_m8 74 rfl
theorem q1864 : (Jvm.Cond.instanceMethod ({ cls := "CardBowlModel", name := "payingHere", desc := "()I" } : Jvm.MethodName)) ∈ lw_all := lw_g (lw_at lw_m8 75 rfl) rfl
theorem q1865 : (Jvm.Cond.code ({ cls := "CardBowlModel", name := "payingHere", desc := "()I" } : Jvm.MethodName) prog_25_method_26_code (1 : Nat) (Option.some Jvm.ClassFile.FieldType.int)) ∈ lw_all := lw_g (lw_at lw_m8 76 rfl) rfl
theorem q1866 : (Jvm.Cond.stringRef "CardBowlModel" (197 : Nat) "sent") ∈ lw_tbl := lw_at lw_m8 77 rfl
theorem q1867 : (Jvm.Cond.methodLink "CardBowlModel" (162 : Nat) ({ cls := "CardBowlModel", name := "is", desc := "(Ljava/lang/String;)Z" } : Jvm.MethodName)) ∈ lw_all := lw_g (lw_at lw_m8 78 rfl) rfl
theorem q1868 : (Jvm.Cond.privateMethod ({ cls := "CardBowlModel", name := "is", desc := "(Ljava/lang/String;)Z" } : Jvm.MethodName)) ∈ lw_tbl := lw_at lw_m8 79 rfl
theorem q1869 : (Jvm.Cond.instanceMethod ({ cls := "CardBowlModel", name := "is", desc := "(Ljava/lang/String;)Z" } : Jvm.MethodName)) ∈ lw_all := lw_g (lw_at lw_m8 80 rfl) rfl
theorem q1870 : (Jvm.Cond.code ({ cls := "CardBowlModel", name := "is", desc := "(Ljava/lang/String;)Z" } : Jvm.MethodName) prog_25_method_19_code (4 : Nat) (Option.some Jvm.ClassFile.FieldType.boolean)) ∈ lw_all := lw_g (lw_at lw_m8 81 rfl) rfl
theorem q1871 : (Jvm.Cond.methodLink "CardBowlModel" (152 : Nat) ({ cls := "java/lang/String", name := "length", desc := "()I" } : Jvm.MethodName)) ∈ lw_all := lw_g (lw_at lw_m8 82 rfl) rfl
theorem q1872 : (Jvm.Cond.methodLink "CardBowlModel" (158 : Nat) ({ cls := "java/lang/String", name := "charAt", desc := "(I)C" } : Jvm.MethodName)) ∈ lw_all := lw_g (lw_at lw_m8 83 rfl) rfl
theorem q1873 : (Jvm.Cond.stringRef "CardBowlModel" (199 : Nat) "card") ∈ lw_tbl := lw_at lw_m8 84 rfl
theorem q1874 : (Jvm.Cond.stringRef "CardBowlModel" (201 : Nat) "call") ∈ lw_tbl := lw_at lw_m8 85 rfl
theorem q1875 : (Jvm.Cond.stringRef "CardBowlModel" (203 : Nat) "dinner") ∈ lw_tbl := lw_at lw_m8 86 rfl
theorem q1876 : (Jvm.Cond.stringRef "CardBowlModel" (266 : Nat) "house") ∈ lw_tbl := lw_at lw_m8 87 rfl
theorem q1877 : (Jvm.Cond.stringRef "CardBowlModel" (268 : Nat) "know") ∈ lw_tbl := lw_at lw_m8 88 rfl
theorem q1878 : (Jvm.Cond.stringRef "CardBowlModel" (270 : Nat) "new") ∈ lw_tbl := lw_at lw_m8 89 rfl
theorem q1879 : (Jvm.Cond.stringRef "CardBowlModel" (272 : Nat) "introduce") ∈ lw_tbl := lw_at lw_m8 90 rfl
theorem q1880 : (Jvm.Cond.methodLink "CardBowlModel" (172 : Nat) ({ cls := "CardBowlModel", name := "errs", desc := "(I)V" } : Jvm.MethodName)) ∈ lw_all := lw_g (lw_at lw_m8 91 rfl) rfl
theorem q1881 : (Jvm.Cond.privateMethod ({ cls := "CardBowlModel", name := "errs", desc := "(I)V" } : Jvm.MethodName)) ∈ lw_tbl := lw_at lw_m8 92 rfl
theorem q1882 : (Jvm.Cond.instanceMethod ({ cls := "CardBowlModel", name := "errs", desc := "(I)V" } : Jvm.MethodName)) ∈ lw_all := lw_g (lw_at lw_m8 93 rfl) rfl
theorem q1883 : (Jvm.Cond.code ({ cls := "CardBowlModel", name := "errs", desc := "(I)V" } : Jvm.MethodName) prog_25_method_18_code (2 : Nat) (Option.none : Option Jvm.ClassFile.FieldType)) ∈ lw_all := lw_g (lw_at lw_m8 94 rfl) rfl
theorem q1884 : (Jvm.Cond.methodLink "CardBowlModel" (274 : Nat) ({ cls := "CardBowlModel", name := "readOwes", desc := "()V" } : Jvm.MethodName)) ∈ lw_all := lw_g (lw_at lw_m8 95 rfl) rfl
theorem q1885 : (Jvm.Cond.privateMethod ({ cls := "CardBowlModel", name := "readOwes", desc := "()V" } : Jvm.MethodName)) ∈ lw_tbl := lw_at lw_m8 96 rfl
theorem q1886 : (Jvm.Cond.instanceMethod ({ cls := "CardBowlModel", name := "readOwes", desc := "()V" } : Jvm.MethodName)) ∈ lw_all := lw_g (lw_at lw_m8 97 rfl) rfl
theorem q1887 : (Jvm.Cond.code ({ cls := "CardBowlModel", name := "readOwes", desc := "()V" } : Jvm.MethodName) prog_25_method_33_code (2 : Nat) (Option.none : Option Jvm.ClassFile.FieldType)) ∈ lw_all := lw_g (lw_at lw_m8 98 rfl) rfl
theorem q1888 : (Jvm.Cond.methodLink "CardBowlModel" (217 : Nat) ({ cls := "CardBowlModel", name := "taken", desc := "(I)I" } : Jvm.MethodName)) ∈ lw_all := lw_g (lw_at lw_m8 99 rfl) rfl
theorem q1889 : (Jvm.Cond.privateMethod ({ cls := "CardBowlModel", name := "taken", desc := "(I)I" } : Jvm.MethodName)) ∈ lw_tbl := lw_at lw_m8 100 rfl
theorem q1890 : (Jvm.Cond.instanceMethod ({ cls := "CardBowlModel", name := "taken", desc := "(I)I" } : Jvm.MethodName)) ∈ lw_all := lw_g (lw_at lw_m8 101 rfl) rfl
theorem q1891 : (Jvm.Cond.code ({ cls := "CardBowlModel", name := "taken", desc := "(I)I" } : Jvm.MethodName) prog_25_method_27_code (2 : Nat) (Option.some Jvm.ClassFile.FieldType.int)) ∈ lw_all := lw_g (lw_at lw_m8 102 rfl) rfl
theorem q1892 : (Jvm.Cond.stringRef "CardBowlModel" (255 : Nat) "owes") ∈ lw_tbl := lw_at lw_m8 103 rfl
theorem q1893 : (Jvm.Cond.methodLink "CardBowlModel" (176 : Nat) ({ cls := "CardBowlModel", name := "needs", desc := "(Ljava/lang/String;)V" } : Jvm.MethodName)) ∈ lw_all := lw_g (lw_at lw_m8 104 rfl) rfl
theorem q1894 : (Jvm.Cond.privateMethod ({ cls := "CardBowlModel", name := "needs", desc := "(Ljava/lang/String;)V" } : Jvm.MethodName)) ∈ lw_tbl := lw_at lw_m8 105 rfl
theorem q1895 : (Jvm.Cond.instanceMethod ({ cls := "CardBowlModel", name := "needs", desc := "(Ljava/lang/String;)V" } : Jvm.MethodName)) ∈ lw_all := lw_g (lw_at lw_m8 106 rfl) rfl
theorem q1896 : (Jvm.Cond.code ({ cls := "CardBowlModel", name := "needs", desc := "(Ljava/lang/String;)V" } : Jvm.MethodName) prog_25_method_21_code (2 : Nat) (Option.none : Option Jvm.ClassFile.FieldType)) ∈ lw_all := lw_g (lw_at lw_m8 107 rfl) rfl
theorem q1897 : (Jvm.Cond.methodLink "CardBowlModel" (169 : Nat) ({ cls := "CardBowlModel", name := "takes", desc := "(Ljava/lang/String;)Z" } : Jvm.MethodName)) ∈ lw_all := lw_g (lw_at lw_m8 108 rfl) rfl
theorem q1898 : (Jvm.Cond.privateMethod ({ cls := "CardBowlModel", name := "takes", desc := "(Ljava/lang/String;)Z" } : Jvm.MethodName)) ∈ lw_tbl := lw_at lw_m8 109 rfl
theorem q1899 : (Jvm.Cond.instanceMethod ({ cls := "CardBowlModel", name := "takes", desc := "(Ljava/lang/String;)Z" } : Jvm.MethodName)) ∈ lw_all := lw_g (lw_at lw_m8 110 rfl) rfl
theorem q1900 : (Jvm.Cond.code ({ cls := "CardBowlModel", name := "takes", desc := "(Ljava/lang/String;)Z" } : Jvm.MethodName) prog_25_method_20_code (3 : Nat) (Option.some Jvm.ClassFile.FieldType.boolean)) ∈ lw_all := lw_g (lw_at lw_m8 111 rfl) rfl
theorem q1901 : (Jvm.Cond.stringRef "CardBowlModel" (257 : Nat) "within") ∈ lw_tbl := lw_at lw_m8 112 rfl
theorem q1902 : (Jvm.Cond.methodLink "CardBowlModel" (206 : Nat) ({ cls := "CardBowlModel", name := "told", desc := "(Ljava/lang/String;II)I" } : Jvm.MethodName)) ∈ lw_all := lw_g (lw_at lw_m8 113 rfl) rfl
theorem q1903 : (Jvm.Cond.privateMethod ({ cls := "CardBowlModel", name := "told", desc := "(Ljava/lang/String;II)I" } : Jvm.MethodName)) ∈ lw_tbl := lw_at lw_m8 114 rfl
theorem q1904 : (Jvm.Cond.instanceMethod ({ cls := "CardBowlModel", name := "told", desc := "(Ljava/lang/String;II)I" } : Jvm.MethodName)) ∈ lw_all := lw_g (lw_at lw_m8 115 rfl) rfl
theorem q1905 : (Jvm.Cond.code ({ cls := "CardBowlModel", name := "told", desc := "(Ljava/lang/String;II)I" } : Jvm.MethodName) prog_25_method_23_code (4 : Nat) (Option.some Jvm.ClassFile.FieldType.int)) ∈ lw_all := lw_g (lw_at lw_m8 116 rfl) rfl
theorem q1906 : (Jvm.Cond.methodLink "CardBowlModel" (180 : Nat) ({ cls := "CardBowlModel", name := "number", desc := "(II)I" } : Jvm.MethodName)) ∈ lw_all := lw_g (lw_at lw_m8 117 rfl) rfl
theorem q1907 : (Jvm.Cond.privateMethod ({ cls := "CardBowlModel", name := "number", desc := "(II)I" } : Jvm.MethodName)) ∈ lw_tbl := lw_at lw_m8 118 rfl
theorem q1908 : (Jvm.Cond.instanceMethod ({ cls := "CardBowlModel", name := "number", desc := "(II)I" } : Jvm.MethodName)) ∈ lw_all := lw_g (lw_at lw_m8 119 rfl) rfl
theorem q1909 : (Jvm.Cond.code ({ cls := "CardBowlModel", name := "number", desc := "(II)I" } : Jvm.MethodName) prog_25_method_22_code (4 : Nat) (Option.some Jvm.ClassFile.FieldType.int)) ∈ lw_all := lw_g (lw_at lw_m8 120 rfl) rfl
theorem q1910 : (Jvm.Cond.stringRef "CardBowlModel" (259 : Nat) "if") ∈ lw_tbl := lw_at lw_m8 121 rfl
theorem q1911 : (Jvm.Cond.methodLink "CardBowlModel" (261 : Nat) ({ cls := "CardBowlModel", name := "readTest", desc := "()V" } : Jvm.MethodName)) ∈ lw_all := lw_g (lw_at lw_m8 122 rfl) rfl
theorem q1912 : (Jvm.Cond.privateMethod ({ cls := "CardBowlModel", name := "readTest", desc := "()V" } : Jvm.MethodName)) ∈ lw_tbl := lw_at lw_m8 123 rfl
theorem q1913 : (Jvm.Cond.instanceMethod ({ cls := "CardBowlModel", name := "readTest", desc := "()V" } : Jvm.MethodName)) ∈ lw_all := lw_g (lw_at lw_m8 124 rfl) rfl
theorem q1914 : (Jvm.Cond.code ({ cls := "CardBowlModel", name := "readTest", desc := "()V" } : Jvm.MethodName) prog_25_method_32_code (4 : Nat) (Option.none : Option Jvm.ClassFile.FieldType)) ∈ lw_all := lw_g (lw_at lw_m8 125 rfl) rfl
theorem q1915 : (Jvm.Cond.methodLink "CardBowlModel" (243 : Nat) ({ cls := "CardBowlModel", name := "readSum", desc := "(I)V" } : Jvm.MethodName)) ∈ lw_all := lw_g (lw_at lw_m8 126 rfl) rfl
theorem q1916 : (Jvm.Cond.privateMethod ({ cls := "CardBowlModel", name := "readSum", desc := "(I)V" } : Jvm.MethodName)) ∈ lw_tbl := lw_at lw_m8 127 rfl
theorem q1917 : (Jvm.Cond.instanceMethod ({ cls := "CardBowlModel", name := "readSum", desc := "(I)V" } : Jvm.MethodName)) ∈ lw_all := lw_g (lw_at lw_m8 128 rfl) rfl
theorem q1918 : (Jvm.Cond.code ({ cls := "CardBowlModel", name := "readSum", desc := "(I)V" } : Jvm.MethodName) prog_25_method_31_code (3 : Nat) (Option.none : Option Jvm.ClassFile.FieldType)) ∈ lw_all := lw_g (lw_at lw_m8 129 rfl) rfl
theorem q1919 : (Jvm.Cond.methodLink "CardBowlModel" (234 : Nat) ({ cls := "CardBowlModel", name := "readPart", desc := "(I)V" } : Jvm.MethodName)) ∈ lw_all := lw_g (lw_at lw_m8 130 rfl) rfl
theorem q1920 : (Jvm.Cond.privateMethod ({ cls := "CardBowlModel", name := "readPart", desc := "(I)V" } : Jvm.MethodName)) ∈ lw_tbl := lw_at lw_m8 131 rfl
theorem q1921 : (Jvm.Cond.instanceMethod ({ cls := "CardBowlModel", name := "readPart", desc := "(I)V" } : Jvm.MethodName)) ∈ lw_all := lw_g (lw_at lw_m8 132 rfl) rfl
theorem q1922 : (Jvm.Cond.code ({ cls := "CardBowlModel", name := "readPart", desc := "(I)V" } : Jvm.MethodName) prog_25_method_30_code (5 : Nat) (Option.none : Option Jvm.ClassFile.FieldType)) ∈ lw_all := lw_g (lw_at lw_m8 133 rfl) rfl
theorem q1923 : (Jvm.Cond.stringRef "CardBowlModel" (224 : Nat) "mine") ∈ lw_tbl := lw_at lw_m8 134 rfl
theorem q1924 : (Jvm.Cond.stringRef "CardBowlModel" (226 : Nat) "theirs") ∈ lw_tbl := lw_at lw_m8 135 rfl
theorem q1925 : (Jvm.Cond.stringRef "CardBowlModel" (228 : Nat) "debts") ∈ lw_tbl := lw_at lw_m8 136 rfl
theorem q1926 : (Jvm.Cond.stringRef "CardBowlModel" (230 : Nat) "day") ∈ lw_tbl := lw_at lw_m8 137 rfl
theorem q1927 : (Jvm.Cond.stringRef "CardBowlModel" (232 : Nat) "known") ∈ lw_tbl := lw_at lw_m8 138 rfl
theorem q1928 : (Jvm.Cond.stringRef "CardBowlModel" (237 : Nat) "plus") ∈ lw_tbl := lw_at lw_m8 139 rfl
theorem q1929 : (Jvm.Cond.stringRef "CardBowlModel" (239 : Nat) "minus") ∈ lw_tbl := lw_at lw_m8 140 rfl
theorem q1930 : (Jvm.Cond.stringRef "CardBowlModel" (241 : Nat) "times") ∈ lw_tbl := lw_at lw_m8 141 rfl
theorem q1931 : (Jvm.Cond.stringRef "CardBowlModel" (246 : Nat) "more") ∈ lw_tbl := lw_at lw_m8 142 rfl
theorem q1932 : (Jvm.Cond.stringRef "CardBowlModel" (248 : Nat) "less") ∈ lw_tbl := lw_at lw_m8 143 rfl
theorem q1933 : (Jvm.Cond.stringRef "CardBowlModel" (250 : Nat) "same") ∈ lw_tbl := lw_at lw_m8 144 rfl
theorem q1934 : (Jvm.Cond.stringRef "CardBowlModel" (264 : Nat) "and") ∈ lw_tbl := lw_at lw_m8 145 rfl
theorem q1935 : (Jvm.Cond.methodLink "CardBowlModel" (277 : Nat) ({ cls := "CardBowlModel", name := "readHouse", desc := "()V" } : Jvm.MethodName)) ∈ lw_all := lw_g (lw_at lw_m8 146 rfl) rfl
theorem q1936 : (Jvm.Cond.privateMethod ({ cls := "CardBowlModel", name := "readHouse", desc := "()V" } : Jvm.MethodName)) ∈ lw_tbl := lw_at lw_m8 147 rfl
theorem q1937 : (Jvm.Cond.instanceMethod ({ cls := "CardBowlModel", name := "readHouse", desc := "()V" } : Jvm.MethodName)) ∈ lw_all := lw_g (lw_at lw_m8 148 rfl) rfl
theorem q1938 : (Jvm.Cond.code ({ cls := "CardBowlModel", name := "readHouse", desc := "()V" } : Jvm.MethodName) prog_25_method_28_code (2 : Nat) (Option.none : Option Jvm.ClassFile.FieldType)) ∈ lw_all := lw_g (lw_at lw_m8 149 rfl) rfl
theorem q1939 : (Jvm.Cond.stringRef "CardBowlModel" (205 : Nat) "at") ∈ lw_tbl := lw_at lw_m8 150 rfl
theorem q1940 : (Jvm.Cond.stringRef "CardBowlModel" (210 : Nat) "rank") ∈ lw_tbl := lw_at lw_m8 151 rfl
theorem q1941 : (Jvm.Cond.stringRef "CardBowlModel" (212 : Nat) "home") ∈ lw_tbl := lw_at lw_m8 152 rfl
theorem q1942 : (Jvm.Cond.methodLink "CardBowlModel" (214 : Nat) ({ cls := "CardBowlModel", name := "dayHere", desc := "()I" } : Jvm.MethodName)) ∈ lw_all := lw_g (lw_at lw_m8 153 rfl) rfl
theorem q1943 : (Jvm.Cond.privateMethod ({ cls := "CardBowlModel", name := "dayHere", desc := "()I" } : Jvm.MethodName)) ∈ lw_tbl := lw_at lw_m8 154 rfl
theorem q1944 : (Jvm.Cond.instanceMethod ({ cls := "CardBowlModel", name := "dayHere", desc := "()I" } : Jvm.MethodName)) ∈ lw_all := lw_g (lw_at lw_m8 155 rfl) rfl
theorem q1945 : (Jvm.Cond.code ({ cls := "CardBowlModel", name := "dayHere", desc := "()I" } : Jvm.MethodName) prog_25_method_25_code (1 : Nat) (Option.some Jvm.ClassFile.FieldType.int)) ∈ lw_all := lw_g (lw_at lw_m8 156 rfl) rfl
theorem q1946 : (Jvm.Cond.stringRef "CardBowlModel" (183 : Nat) "sun") ∈ lw_tbl := lw_at lw_m8 157 rfl
theorem q1947 : (Jvm.Cond.stringRef "CardBowlModel" (185 : Nat) "mon") ∈ lw_tbl := lw_at lw_m8 158 rfl
theorem q1948 : (Jvm.Cond.stringRef "CardBowlModel" (187 : Nat) "tue") ∈ lw_tbl := lw_at lw_m8 159 rfl
theorem q1949 : (Jvm.Cond.stringRef "CardBowlModel" (189 : Nat) "wed") ∈ lw_tbl := lw_at lw_m8 160 rfl
theorem q1950 : (Jvm.Cond.stringRef "CardBowlModel" (191 : Nat) "thu") ∈ lw_tbl := lw_at lw_m8 161 rfl
theorem q1951 : (Jvm.Cond.stringRef "CardBowlModel" (193 : Nat) "fri") ∈ lw_tbl := lw_at lw_m8 162 rfl
theorem q1952 : (Jvm.Cond.stringRef "CardBowlModel" (195 : Nat) "sat") ∈ lw_tbl := lw_at lw_m8 163 rfl
theorem q1953 : (Jvm.Cond.stringRef "CardBowlModel" (220 : Nat) "came") ∈ lw_tbl := lw_at lw_m8 164 rfl
theorem q1954 : (Jvm.Cond.stringRef "CardBowlModel" (222 : Nat) "bride") ∈ lw_tbl := lw_at lw_m8 165 rfl
theorem q1955 : (Jvm.Cond.methodLink "CardBowlModel" (280 : Nat) ({ cls := "CardBowlModel", name := "readKnow", desc := "()V" } : Jvm.MethodName)) ∈ lw_all := lw_g (lw_at lw_m8 166 rfl) rfl
theorem q1956 : (Jvm.Cond.privateMethod ({ cls := "CardBowlModel", name := "readKnow", desc := "()V" } : Jvm.MethodName)) ∈ lw_tbl := lw_at lw_m8 167 rfl
theorem q1957 : (Jvm.Cond.instanceMethod ({ cls := "CardBowlModel", name := "readKnow", desc := "()V" } : Jvm.MethodName)) ∈ lw_all := lw_g (lw_at lw_m8 168 rfl) rfl
theorem q1958 : (Jvm.Cond.code ({ cls := "CardBowlModel", name := "readKnow", desc := "()V" } : Jvm.MethodName) prog_25_method_29_code (3 : Nat) (Option.none : Option Jvm.ClassFile.FieldType)) ∈ lw_all := lw_g (lw_at lw_m8 169 rfl) rfl
theorem q1959 : (Jvm.Cond.methodLink "CardBowlModel" (286 : Nat) ({ cls := "CardBowlModel", name := "ofHouse", desc := "(II)I" } : Jvm.MethodName)) ∈ lw_all := lw_g (lw_at lw_m8 170 rfl) rfl
theorem q1960 : (Jvm.Cond.privateMethod ({ cls := "CardBowlModel", name := "ofHouse", desc := "(II)I" } : Jvm.MethodName)) ∈ lw_tbl := lw_at lw_m8 171 rfl
theorem q1961 : (Jvm.Cond.instanceMethod ({ cls := "CardBowlModel", name := "ofHouse", desc := "(II)I" } : Jvm.MethodName)) ∈ lw_all := lw_g (lw_at lw_m8 172 rfl) rfl
theorem q1962 : (Jvm.Cond.code ({ cls := "CardBowlModel", name := "ofHouse", desc := "(II)I" } : Jvm.MethodName) prog_25_method_8_code (3 : Nat) (Option.some Jvm.ClassFile.FieldType.int)) ∈ lw_all := lw_g (lw_at lw_m8 173 rfl) rfl
theorem q1964 : (Jvm.Cond.instanceMethod ({ cls := "CardBowlModel", name := "days", desc := "(I)I" } : Jvm.MethodName)) ∈ lw_all := lw_g (lw_at lw_m8 175 rfl) rfl
theorem q1965 : (Jvm.Cond.selects "CardBowlModel" ({ cls := "CardBowlModel", name := "days", desc := "(I)I" } : Jvm.MethodName) ({ cls := "CardBowlModel", name := "days", desc := "(I)I" } : Jvm.MethodName)) ∈ lw_all := lw_g (lw_at lw_m8 176 rfl) rfl
theorem q1966 : (Jvm.Cond.code ({ cls := "CardBowlModel", name := "days", desc := "(I)I" } : Jvm.MethodName) prog_25_method_36_code (2 : Nat) (Option.some Jvm.ClassFile.FieldType.int)) ∈ lw_all := lw_g (lw_at lw_m8 177 rfl) rfl
theorem q1967 : (Jvm.Cond.constantLong "CardBowlModel" (289 : Nat) (60 : Int64)) ∈ lw_all := lw_g (lw_at lw_m8 178 rfl) rfl
theorem q1968 : (Jvm.Cond.methodLink "CardBowlModel" (291 : Nat) ({ cls := "CardBowlModel", name := "today", desc := "()I" } : Jvm.MethodName)) ∈ lw_all := lw_g (lw_at lw_m8 179 rfl) rfl
theorem q1969 : (Jvm.Cond.privateMethod ({ cls := "CardBowlModel", name := "today", desc := "()I" } : Jvm.MethodName)) ∈ lw_tbl := lw_at lw_m8 180 rfl
theorem q1970 : (Jvm.Cond.instanceMethod ({ cls := "CardBowlModel", name := "today", desc := "()I" } : Jvm.MethodName)) ∈ lw_all := lw_g (lw_at lw_m8 181 rfl) rfl
theorem q1971 : (Jvm.Cond.code ({ cls := "CardBowlModel", name := "today", desc := "()I" } : Jvm.MethodName) prog_25_method_12_code (1 : Nat) (Option.some Jvm.ClassFile.FieldType.int)) ∈ lw_all := lw_g (lw_at lw_m8 182 rfl) rfl
theorem q1973 : (Jvm.Cond.instanceMethod ({ cls := "CardBowlModel", name := "bars", desc := "(III)I" } : Jvm.MethodName)) ∈ lw_all := lw_g (lw_at lw_m8 184 rfl) rfl
theorem q1974 : (Jvm.Cond.selects "CardBowlModel" ({ cls := "CardBowlModel", name := "bars", desc := "(III)I" } : Jvm.MethodName) ({ cls := "CardBowlModel", name := "bars", desc := "(III)I" } : Jvm.MethodName)) ∈ lw_all := lw_g (lw_at lw_m8 185 rfl) rfl
theorem q1975 : (Jvm.Cond.code ({ cls := "CardBowlModel", name := "bars", desc := "(III)I" } : Jvm.MethodName) prog_25_method_43_code (4 : Nat) (Option.some Jvm.ClassFile.FieldType.int)) ∈ lw_all := lw_g (lw_at lw_m8 186 rfl) rfl
theorem q1976 : (Jvm.Cond.methodLink "CardBowlModel" (315 : Nat) ({ cls := "CardBowlModel", name := "areTwo", desc := "(II)Z" } : Jvm.MethodName)) ∈ lw_all := lw_g (lw_at lw_m8 187 rfl) rfl
theorem q1977 : (Jvm.Cond.privateMethod ({ cls := "CardBowlModel", name := "areTwo", desc := "(II)Z" } : Jvm.MethodName)) ∈ lw_tbl := lw_at lw_m8 188 rfl
theorem q1978 : (Jvm.Cond.instanceMethod ({ cls := "CardBowlModel", name := "areTwo", desc := "(II)Z" } : Jvm.MethodName)) ∈ lw_all := lw_g (lw_at lw_m8 189 rfl) rfl
theorem q1979 : (Jvm.Cond.code ({ cls := "CardBowlModel", name := "areTwo", desc := "(II)Z" } : Jvm.MethodName) prog_25_method_11_code (3 : Nat) (Option.some Jvm.ClassFile.FieldType.boolean)) ∈ lw_all := lw_g (lw_at lw_m8 190 rfl) rfl
theorem q1980 : (Jvm.Cond.methodLink "CardBowlModel" (105 : Nat) ({ cls := "CardBowlModel", name := "isHouse", desc := "(I)Z" } : Jvm.MethodName)) ∈ lw_all := lw_g (lw_at lw_m8 191 rfl) rfl
theorem q1981 : (Jvm.Cond.privateMethod ({ cls := "CardBowlModel", name := "isHouse", desc := "(I)Z" } : Jvm.MethodName)) ∈ lw_tbl := lw_at lw_m8 192 rfl
theorem q1982 : (Jvm.Cond.instanceMethod ({ cls := "CardBowlModel", name := "isHouse", desc := "(I)Z" } : Jvm.MethodName)) ∈ lw_all := lw_g (lw_at lw_m8 193 rfl) rfl
theorem q1983 : (Jvm.Cond.code ({ cls := "CardBowlModel", name := "isHouse", desc := "(I)Z" } : Jvm.MethodName) prog_25_method_10_code (2 : Nat) (Option.some Jvm.ClassFile.FieldType.boolean)) ∈ lw_all := lw_g (lw_at lw_m8 194 rfl) rfl
theorem q1984 : (Jvm.Cond.methodLink "CardBowlModel" (318 : Nat) ({ cls := "CardBowlModel", name := "isPaying", desc := "(I)Z" } : Jvm.MethodName)) ∈ lw_all := lw_g (lw_at lw_m8 195 rfl) rfl
theorem q1985 : (Jvm.Cond.static ({ cls := "CardBowlModel", name := "isPaying", desc := "(I)Z" } : Jvm.MethodName)) ∈ lw_all := lw_g (lw_at lw_m8 196 rfl) rfl
theorem q1986 : (Jvm.Cond.code ({ cls := "CardBowlModel", name := "isPaying", desc := "(I)Z" } : Jvm.MethodName) prog_25_method_42_code (1 : Nat) (Option.some Jvm.ClassFile.FieldType.boolean)) ∈ lw_all := lw_g (lw_at lw_m8 197 rfl) rfl
theorem q1987 : (Jvm.Cond.constantLong "CardBowlModel" (313 : Nat) (3 : Int64)) ∈ lw_all := lw_g (lw_at lw_m8 198 rfl) rfl
theorem q1988 : (Jvm.Cond.methodLink "CardBowlModel" (321 : Nat) ({ cls := "CardBowlModel", name := "barsOf", desc := "(III)I" } : Jvm.MethodName)) ∈ lw_all := lw_g (lw_at lw_m8 199 rfl) rfl
theorem q1989 : (Jvm.Cond.privateMethod ({ cls := "CardBowlModel", name := "barsOf", desc := "(III)I" } : Jvm.MethodName)) ∈ lw_tbl := lw_at lw_m8 200 rfl
theorem q1990 : (Jvm.Cond.instanceMethod ({ cls := "CardBowlModel", name := "barsOf", desc := "(III)I" } : Jvm.MethodName)) ∈ lw_all := lw_g (lw_at lw_m8 201 rfl) rfl
theorem q1991 : (Jvm.Cond.code ({ cls := "CardBowlModel", name := "barsOf", desc := "(III)I" } : Jvm.MethodName) prog_25_method_41_code (6 : Nat) (Option.some Jvm.ClassFile.FieldType.int)) ∈ lw_all := lw_g (lw_at lw_m8 202 rfl) rfl
theorem q1992 : (Jvm.Cond.methodLink "CardBowlModel" (301 : Nat) ({ cls := "CardBowlModel", name := "isThere", desc := "(II)Z" } : Jvm.MethodName)) ∈ lw_all := lw_g (lw_at lw_m8 203 rfl) rfl
theorem q1993 : (Jvm.Cond.privateMethod ({ cls := "CardBowlModel", name := "isThere", desc := "(II)Z" } : Jvm.MethodName)) ∈ lw_tbl := lw_at lw_m8 204 rfl
theorem q1994 : (Jvm.Cond.instanceMethod ({ cls := "CardBowlModel", name := "isThere", desc := "(II)Z" } : Jvm.MethodName)) ∈ lw_all := lw_g (lw_at lw_m8 205 rfl) rfl
theorem q1995 : (Jvm.Cond.code ({ cls := "CardBowlModel", name := "isThere", desc := "(II)Z" } : Jvm.MethodName) prog_25_method_37_code (3 : Nat) (Option.some Jvm.ClassFile.FieldType.boolean)) ∈ lw_all := lw_g (lw_at lw_m8 206 rfl) rfl
theorem q1996 : (Jvm.Cond.methodLink "CardBowlModel" (304 : Nat) ({ cls := "CardBowlModel", name := "areKnown", desc := "(II)Z" } : Jvm.MethodName)) ∈ lw_all := lw_g (lw_at lw_m8 207 rfl) rfl
theorem q1997 : (Jvm.Cond.privateMethod ({ cls := "CardBowlModel", name := "areKnown", desc := "(II)Z" } : Jvm.MethodName)) ∈ lw_tbl := lw_at lw_m8 208 rfl
theorem q1998 : (Jvm.Cond.instanceMethod ({ cls := "CardBowlModel", name := "areKnown", desc := "(II)Z" } : Jvm.MethodName)) ∈ lw_all := lw_g (lw_at lw_m8 209 rfl) rfl
theorem q1999 : (Jvm.Cond.code ({ cls := "CardBowlModel", name := "areKnown", desc := "(II)Z" } : Jvm.MethodName) prog_25_method_39_code (3 : Nat) (Option.some Jvm.ClassFile.FieldType.boolean)) ∈ lw_all := lw_g (lw_at lw_m8 210 rfl) rfl
theorem q2000 : (Jvm.Cond.methodLink "CardBowlModel" (294 : Nat) ({ cls := "CardBowlModel", name := "holds", desc := "(II)Z" } : Jvm.MethodName)) ∈ lw_all := lw_g (lw_at lw_m8 211 rfl) rfl
theorem q2001 : (Jvm.Cond.static ({ cls := "CardBowlModel", name := "holds", desc := "(II)Z" } : Jvm.MethodName)) ∈ lw_all := lw_g (lw_at lw_m8 212 rfl) rfl
theorem q2002 : (Jvm.Cond.code ({ cls := "CardBowlModel", name := "holds", desc := "(II)Z" } : Jvm.MethodName) prog_25_method_3_code (2 : Nat) (Option.some Jvm.ClassFile.FieldType.boolean)) ∈ lw_all := lw_g (lw_at lw_m8 213 rfl) rfl
theorem q2003 : (Jvm.Cond.methodLink "CardBowlModel" (307 : Nat) ({ cls := "CardBowlModel", name := "isNew", desc := "(I)Z" } : Jvm.MethodName)) ∈ lw_all := lw_g (lw_at lw_m8 214 rfl) rfl
theorem q2004 : (Jvm.Cond.privateMethod ({ cls := "CardBowlModel", name := "isNew", desc := "(I)Z" } : Jvm.MethodName)) ∈ lw_tbl := lw_at lw_m8 215 rfl
theorem q2005 : (Jvm.Cond.instanceMethod ({ cls := "CardBowlModel", name := "isNew", desc := "(I)Z" } : Jvm.MethodName)) ∈ lw_all := lw_g (lw_at lw_m8 216 rfl) rfl
theorem q2006 : (Jvm.Cond.code ({ cls := "CardBowlModel", name := "isNew", desc := "(I)Z" } : Jvm.MethodName) prog_25_method_38_code (2 : Nat) (Option.some Jvm.ClassFile.FieldType.boolean)) ∈ lw_all := lw_g (lw_at lw_m8 217 rfl) rfl
theorem q2007 : (Jvm.Cond.methodLink "CardBowlModel" (310 : Nat) ({ cls := "CardBowlModel", name := "isIntroduced", desc := "(II)Z" } : Jvm.MethodName)) ∈ lw_all := lw_g (lw_at lw_m8 218 rfl) rfl
theorem q2008 : (Jvm.Cond.privateMethod ({ cls := "CardBowlModel", name := "isIntroduced", desc := "(II)Z" } : Jvm.MethodName)) ∈ lw_tbl := lw_at lw_m8 219 rfl
theorem q2009 : (Jvm.Cond.instanceMethod ({ cls := "CardBowlModel", name := "isIntroduced", desc := "(II)Z" } : Jvm.MethodName)) ∈ lw_all := lw_g (lw_at lw_m8 220 rfl) rfl
theorem q2010 : (Jvm.Cond.code ({ cls := "CardBowlModel", name := "isIntroduced", desc := "(II)Z" } : Jvm.MethodName) prog_25_method_40_code (3 : Nat) (Option.some Jvm.ClassFile.FieldType.boolean)) ∈ lw_all := lw_g (lw_at lw_m8 221 rfl) rfl
theorem q2011 : (Jvm.Cond.methodLink "CardBowlModel" (298 : Nat) ({ cls := "CardBowlModel", name := "ones", desc := "(I)I" } : Jvm.MethodName)) ∈ lw_all := lw_g (lw_at lw_m8 222 rfl) rfl
theorem q2012 : (Jvm.Cond.static ({ cls := "CardBowlModel", name := "ones", desc := "(I)I" } : Jvm.MethodName)) ∈ lw_all := lw_g (lw_at lw_m8 223 rfl) rfl
theorem q2013 : (Jvm.Cond.code ({ cls := "CardBowlModel", name := "ones", desc := "(I)I" } : Jvm.MethodName) prog_25_method_4_code (3 : Nat) (Option.some Jvm.ClassFile.FieldType.int)) ∈ lw_all := lw_g (lw_at lw_m8 224 rfl) rfl
theorem q2015 : (Jvm.Cond.instanceMethod ({ cls := "CardBowlModel", name := "known", desc := "(II)I" } : Jvm.MethodName)) ∈ lw_all := lw_g (lw_at lw_m8 226 rfl) rfl
theorem q2016 : (Jvm.Cond.selects "CardBowlModel" ({ cls := "CardBowlModel", name := "known", desc := "(II)I" } : Jvm.MethodName) ({ cls := "CardBowlModel", name := "known", desc := "(II)I" } : Jvm.MethodName)) ∈ lw_all := lw_g (lw_at lw_m8 227 rfl) rfl
theorem q2017 : (Jvm.Cond.code ({ cls := "CardBowlModel", name := "known", desc := "(II)I" } : Jvm.MethodName) prog_25_method_44_code (3 : Nat) (Option.some Jvm.ClassFile.FieldType.int)) ∈ lw_all := lw_g (lw_at lw_m8 228 rfl) rfl
theorem q2019 : (Jvm.Cond.instanceMethod ({ cls := "CardBowlModel", name := "does", desc := "(III)I" } : Jvm.MethodName)) ∈ lw_all := lw_g (lw_at lw_m8 230 rfl) rfl
theorem q2020 : (Jvm.Cond.selects "CardBowlModel" ({ cls := "CardBowlModel", name := "does", desc := "(III)I" } : Jvm.MethodName) ({ cls := "CardBowlModel", name := "does", desc := "(III)I" } : Jvm.MethodName)) ∈ lw_all := lw_g (lw_at lw_m8 231 rfl) rfl
theorem q2021 : (Jvm.Cond.code ({ cls := "CardBowlModel", name := "does", desc := "(III)I" } : Jvm.MethodName) prog_25_method_56_code (4 : Nat) (Option.some Jvm.ClassFile.FieldType.int)) ∈ lw_all := lw_g (lw_at lw_m8 232 rfl) rfl
theorem q2022 : (Jvm.Cond.methodLink "CardBowlModel" (368 : Nat) ({ cls := "CardBowlModel", name := "notes", desc := "(III)I" } : Jvm.MethodName)) ∈ lw_all := lw_g (lw_at lw_m8 233 rfl) rfl
theorem q2023 : (Jvm.Cond.privateMethod ({ cls := "CardBowlModel", name := "notes", desc := "(III)I" } : Jvm.MethodName)) ∈ lw_tbl := lw_at lw_m8 234 rfl
theorem q2024 : (Jvm.Cond.instanceMethod ({ cls := "CardBowlModel", name := "notes", desc := "(III)I" } : Jvm.MethodName)) ∈ lw_all := lw_g (lw_at lw_m8 235 rfl) rfl
theorem q2025 : (Jvm.Cond.code ({ cls := "CardBowlModel", name := "notes", desc := "(III)I" } : Jvm.MethodName) prog_25_method_55_code (6 : Nat) (Option.some Jvm.ClassFile.FieldType.int)) ∈ lw_all := lw_g (lw_at lw_m8 236 rfl) rfl
theorem q2026 : (Jvm.Cond.methodLink "CardBowlModel" (364 : Nat) ({ cls := "CardBowlModel", name := "goes", desc := "(IIII)I" } : Jvm.MethodName)) ∈ lw_all := lw_g (lw_at lw_m8 237 rfl) rfl
theorem q2027 : (Jvm.Cond.privateMethod ({ cls := "CardBowlModel", name := "goes", desc := "(IIII)I" } : Jvm.MethodName)) ∈ lw_tbl := lw_at lw_m8 238 rfl
theorem q2028 : (Jvm.Cond.instanceMethod ({ cls := "CardBowlModel", name := "goes", desc := "(IIII)I" } : Jvm.MethodName)) ∈ lw_all := lw_g (lw_at lw_m8 239 rfl) rfl
theorem q2029 : (Jvm.Cond.code ({ cls := "CardBowlModel", name := "goes", desc := "(IIII)I" } : Jvm.MethodName) prog_25_method_54_code (8 : Nat) (Option.some Jvm.ClassFile.FieldType.int)) ∈ lw_all := lw_g (lw_at lw_m9 0 rfl) rfl
theorem q2030 : (Jvm.Cond.methodLink "CardBowlModel" (345 : Nat) ({ cls := "CardBowlModel", name := "meets", desc := "(II)V" } : Jvm.MethodName)) ∈ lw_all := lw_g (lw_at lw_m9 1 rfl) rfl
theorem q2031 : (Jvm.Cond.privateMethod ({ cls := "CardBowlModel", name := "meets", desc := "(II)V" } : Jvm.MethodName)) ∈ lw_tbl := lw_at lw_m9 2 rfl
theorem q2032 : (Jvm.Cond.instanceMethod ({ cls := "CardBowlModel", name := "meets", desc := "(II)V" } : Jvm.MethodName)) ∈ lw_all := lw_g (lw_at lw_m9 3 rfl) rfl
theorem q2033 : (Jvm.Cond.code ({ cls := "CardBowlModel", name := "meets", desc := "(II)V" } : Jvm.MethodName) prog_25_method_53_code (3 : Nat) (Option.none : Option Jvm.ClassFile.FieldType)) ∈ lw_all := lw_g (lw_at lw_m9 4 rfl) rfl
theorem q2034 : (Jvm.Cond.methodLink "CardBowlModel" (349 : Nat) ({ cls := "CardBowlModel", name := "pays", desc := "(III)I" } : Jvm.MethodName)) ∈ lw_all := lw_g (lw_at lw_m9 5 rfl) rfl
theorem q2035 : (Jvm.Cond.privateMethod ({ cls := "CardBowlModel", name := "pays", desc := "(III)I" } : Jvm.MethodName)) ∈ lw_tbl := lw_at lw_m9 6 rfl
theorem q2036 : (Jvm.Cond.instanceMethod ({ cls := "CardBowlModel", name := "pays", desc := "(III)I" } : Jvm.MethodName)) ∈ lw_all := lw_g (lw_at lw_m9 7 rfl) rfl
theorem q2037 : (Jvm.Cond.code ({ cls := "CardBowlModel", name := "pays", desc := "(III)I" } : Jvm.MethodName) prog_25_method_47_code (6 : Nat) (Option.some Jvm.ClassFile.FieldType.int)) ∈ lw_all := lw_g (lw_at lw_m9 8 rfl) rfl
theorem q2038 : (Jvm.Cond.methodLink "CardBowlModel" (325 : Nat) ({ cls := "CardBowlModel", name := "ofDebt", desc := "(II)I" } : Jvm.MethodName)) ∈ lw_all := lw_g (lw_at lw_m9 9 rfl) rfl
theorem q2039 : (Jvm.Cond.privateMethod ({ cls := "CardBowlModel", name := "ofDebt", desc := "(II)I" } : Jvm.MethodName)) ∈ lw_tbl := lw_at lw_m9 10 rfl
theorem q2040 : (Jvm.Cond.instanceMethod ({ cls := "CardBowlModel", name := "ofDebt", desc := "(II)I" } : Jvm.MethodName)) ∈ lw_all := lw_g (lw_at lw_m9 11 rfl) rfl
theorem q2041 : (Jvm.Cond.code ({ cls := "CardBowlModel", name := "ofDebt", desc := "(II)I" } : Jvm.MethodName) prog_25_method_9_code (3 : Nat) (Option.some Jvm.ClassFile.FieldType.int)) ∈ lw_all := lw_g (lw_at lw_m9 12 rfl) rfl
theorem q2042 : (Jvm.Cond.methodLink "CardBowlModel" (328 : Nat) ({ cls := "CardBowlModel", name := "drops", desc := "(I)V" } : Jvm.MethodName)) ∈ lw_all := lw_g (lw_at lw_m9 13 rfl) rfl
theorem q2043 : (Jvm.Cond.privateMethod ({ cls := "CardBowlModel", name := "drops", desc := "(I)V" } : Jvm.MethodName)) ∈ lw_tbl := lw_at lw_m9 14 rfl
theorem q2044 : (Jvm.Cond.instanceMethod ({ cls := "CardBowlModel", name := "drops", desc := "(I)V" } : Jvm.MethodName)) ∈ lw_all := lw_g (lw_at lw_m9 15 rfl) rfl
theorem q2045 : (Jvm.Cond.code ({ cls := "CardBowlModel", name := "drops", desc := "(I)V" } : Jvm.MethodName) prog_25_method_46_code (3 : Nat) (Option.none : Option Jvm.ClassFile.FieldType)) ∈ lw_all := lw_g (lw_at lw_m9 16 rfl) rfl
theorem q2046 : (Jvm.Cond.methodLink "CardBowlModel" (352 : Nat) ({ cls := "CardBowlModel", name := "lineFor", desc := "(IIIZI)I" } : Jvm.MethodName)) ∈ lw_all := lw_g (lw_at lw_m9 17 rfl) rfl
theorem q2047 : (Jvm.Cond.privateMethod ({ cls := "CardBowlModel", name := "lineFor", desc := "(IIIZI)I" } : Jvm.MethodName)) ∈ lw_tbl := lw_at lw_m9 18 rfl
theorem q2048 : (Jvm.Cond.instanceMethod ({ cls := "CardBowlModel", name := "lineFor", desc := "(IIIZI)I" } : Jvm.MethodName)) ∈ lw_all := lw_g (lw_at lw_m9 19 rfl) rfl
theorem q2049 : (Jvm.Cond.code ({ cls := "CardBowlModel", name := "lineFor", desc := "(IIIZI)I" } : Jvm.MethodName) prog_25_method_51_code (10 : Nat) (Option.some Jvm.ClassFile.FieldType.int)) ∈ lw_all := lw_g (lw_at lw_m9 20 rfl) rfl
theorem q2050 : (Jvm.Cond.methodLink "CardBowlModel" (339 : Nat) ({ cls := "CardBowlModel", name := "debtsOf", desc := "(I)I" } : Jvm.MethodName)) ∈ lw_all := lw_g (lw_at lw_m9 21 rfl) rfl
theorem q2051 : (Jvm.Cond.privateMethod ({ cls := "CardBowlModel", name := "debtsOf", desc := "(I)I" } : Jvm.MethodName)) ∈ lw_tbl := lw_at lw_m9 22 rfl
theorem q2052 : (Jvm.Cond.instanceMethod ({ cls := "CardBowlModel", name := "debtsOf", desc := "(I)I" } : Jvm.MethodName)) ∈ lw_all := lw_g (lw_at lw_m9 23 rfl) rfl
theorem q2053 : (Jvm.Cond.code ({ cls := "CardBowlModel", name := "debtsOf", desc := "(I)I" } : Jvm.MethodName) prog_25_method_45_code (4 : Nat) (Option.some Jvm.ClassFile.FieldType.int)) ∈ lw_all := lw_g (lw_at lw_m9 24 rfl) rfl
theorem q2054 : (Jvm.Cond.methodLink "CardBowlModel" (342 : Nat) ({ cls := "CardBowlModel", name := "testHolds", desc := "(I)Z" } : Jvm.MethodName)) ∈ lw_all := lw_g (lw_at lw_m9 25 rfl) rfl
theorem q2055 : (Jvm.Cond.privateMethod ({ cls := "CardBowlModel", name := "testHolds", desc := "(I)Z" } : Jvm.MethodName)) ∈ lw_tbl := lw_at lw_m9 26 rfl
theorem q2056 : (Jvm.Cond.instanceMethod ({ cls := "CardBowlModel", name := "testHolds", desc := "(I)Z" } : Jvm.MethodName)) ∈ lw_all := lw_g (lw_at lw_m9 27 rfl) rfl
theorem q2057 : (Jvm.Cond.code ({ cls := "CardBowlModel", name := "testHolds", desc := "(I)Z" } : Jvm.MethodName) prog_25_method_50_code (11 : Nat) (Option.some Jvm.ClassFile.FieldType.boolean)) ∈ lw_all := lw_g (lw_at lw_m9 28 rfl) rfl
theorem q2058 : (Jvm.Cond.methodLink "CardBowlModel" (331 : Nat) ({ cls := "CardBowlModel", name := "partOf", desc := "(I)J" } : Jvm.MethodName)) ∈ lw_all := lw_g (lw_at lw_m9 29 rfl) rfl
theorem q2059 : (Jvm.Cond.privateMethod ({ cls := "CardBowlModel", name := "partOf", desc := "(I)J" } : Jvm.MethodName)) ∈ lw_tbl := lw_at lw_m9 30 rfl
theorem q2060 : (Jvm.Cond.instanceMethod ({ cls := "CardBowlModel", name := "partOf", desc := "(I)J" } : Jvm.MethodName)) ∈ lw_all := lw_g (lw_at lw_m9 31 rfl) rfl
theorem q2061 : (Jvm.Cond.code ({ cls := "CardBowlModel", name := "partOf", desc := "(I)J" } : Jvm.MethodName) prog_25_method_49_code (3 : Nat) (Option.some Jvm.ClassFile.FieldType.long)) ∈ lw_all := lw_g (lw_at lw_m9 32 rfl) rfl
theorem q2062 : (Jvm.Cond.constantLong "CardBowlModel" (335 : Nat) (-1000000000 : Int64)) ∈ lw_all := lw_g (lw_at lw_m9 33 rfl) rfl
theorem q2063 : (Jvm.Cond.constantLong "CardBowlModel" (337 : Nat) (1000000000 : Int64)) ∈ lw_all := lw_g (lw_at lw_m9 34 rfl) rfl
theorem q2064 : (Jvm.Cond.methodLink "CardBowlModel" (356 : Nat) ({ cls := "CardBowlModel", name := "owesAlready", desc := "(III)Z" } : Jvm.MethodName)) ∈ lw_all := lw_g (lw_at lw_m9 35 rfl) rfl
theorem q2065 : (Jvm.Cond.privateMethod ({ cls := "CardBowlModel", name := "owesAlready", desc := "(III)Z" } : Jvm.MethodName)) ∈ lw_tbl := lw_at lw_m9 36 rfl
theorem q2066 : (Jvm.Cond.instanceMethod ({ cls := "CardBowlModel", name := "owesAlready", desc := "(III)Z" } : Jvm.MethodName)) ∈ lw_all := lw_g (lw_at lw_m9 37 rfl) rfl
theorem q2067 : (Jvm.Cond.code ({ cls := "CardBowlModel", name := "owesAlready", desc := "(III)Z" } : Jvm.MethodName) prog_25_method_48_code (5 : Nat) (Option.some Jvm.ClassFile.FieldType.boolean)) ∈ lw_all := lw_g (lw_at lw_m9 38 rfl) rfl
theorem q2068 : (Jvm.Cond.methodLink "CardBowlModel" (360 : Nat) ({ cls := "CardBowlModel", name := "comes", desc := "(IIIII)V" } : Jvm.MethodName)) ∈ lw_all := lw_g (lw_at lw_m9 39 rfl) rfl
theorem q2069 : (Jvm.Cond.privateMethod ({ cls := "CardBowlModel", name := "comes", desc := "(IIIII)V" } : Jvm.MethodName)) ∈ lw_tbl := lw_at lw_m9 40 rfl
theorem q2070 : (Jvm.Cond.instanceMethod ({ cls := "CardBowlModel", name := "comes", desc := "(IIIII)V" } : Jvm.MethodName)) ∈ lw_all := lw_g (lw_at lw_m9 41 rfl) rfl
theorem q2071 : (Jvm.Cond.code ({ cls := "CardBowlModel", name := "comes", desc := "(IIIII)V" } : Jvm.MethodName) prog_25_method_52_code (7 : Nat) (Option.none : Option Jvm.ClassFile.FieldType)) ∈ lw_all := lw_g (lw_at lw_m9 42 rfl) rfl
theorem q2073 : (Jvm.Cond.instanceMethod ({ cls := "CardBowlModel", name := "meet", desc := "(II)I" } : Jvm.MethodName)) ∈ lw_all := lw_g (lw_at lw_m9 44 rfl) rfl
theorem q2074 : (Jvm.Cond.selects "CardBowlModel" ({ cls := "CardBowlModel", name := "meet", desc := "(II)I" } : Jvm.MethodName) ({ cls := "CardBowlModel", name := "meet", desc := "(II)I" } : Jvm.MethodName)) ∈ lw_all := lw_g (lw_at lw_m9 45 rfl) rfl
theorem q2075 : (Jvm.Cond.code ({ cls := "CardBowlModel", name := "meet", desc := "(II)I" } : Jvm.MethodName) prog_25_method_57_code (4 : Nat) (Option.some Jvm.ClassFile.FieldType.int)) ∈ lw_all := lw_g (lw_at lw_m9 46 rfl) rfl
theorem q2077 : (Jvm.Cond.instanceMethod ({ cls := "CardBowlModel", name := "done", desc := "(I)I" } : Jvm.MethodName)) ∈ lw_all := lw_g (lw_at lw_m9 48 rfl) rfl
theorem q2078 : (Jvm.Cond.selects "CardBowlModel" ({ cls := "CardBowlModel", name := "done", desc := "(I)I" } : Jvm.MethodName) ({ cls := "CardBowlModel", name := "done", desc := "(I)I" } : Jvm.MethodName)) ∈ lw_all := lw_g (lw_at lw_m9 49 rfl) rfl
theorem q2079 : (Jvm.Cond.code ({ cls := "CardBowlModel", name := "done", desc := "(I)I" } : Jvm.MethodName) prog_25_method_58_code (11 : Nat) (Option.some Jvm.ClassFile.FieldType.int)) ∈ lw_all := lw_g (lw_at lw_m9 50 rfl) rfl
theorem q2080 : (Jvm.Cond.methodLink "CardBowlModel" (371 : Nat) ({ cls := "CardBowlModel", name := "isSlot", desc := "(I)Z" } : Jvm.MethodName)) ∈ lw_all := lw_g (lw_at lw_m9 51 rfl) rfl
theorem q2081 : (Jvm.Cond.static ({ cls := "CardBowlModel", name := "isSlot", desc := "(I)Z" } : Jvm.MethodName)) ∈ lw_all := lw_g (lw_at lw_m9 52 rfl) rfl
theorem q2082 : (Jvm.Cond.code ({ cls := "CardBowlModel", name := "isSlot", desc := "(I)Z" } : Jvm.MethodName) prog_25_method_99_code (1 : Nat) (Option.some Jvm.ClassFile.FieldType.boolean)) ∈ lw_all := lw_g (lw_at lw_m9 53 rfl) rfl
theorem q2083 : (Jvm.Cond.constantLong "CardBowlModel" (374 : Nat) (16 : Int64)) ∈ lw_all := lw_g (lw_at lw_m9 54 rfl) rfl
theorem q2084 : (Jvm.Cond.constantLong "CardBowlModel" (376 : Nat) (4 : Int64)) ∈ lw_all := lw_g (lw_at lw_m9 55 rfl) rfl
theorem q2085 : (Jvm.Cond.methodLink "CardBowlModel" (378 : Nat) ({ cls := "CardBowlModel", name := "meet", desc := "(II)I" } : Jvm.MethodName)) ∈ lw_all := lw_g (lw_at lw_m9 56 rfl) rfl
theorem q2086 : (Jvm.Cond.methodLink "CardBowlModel" (381 : Nat) ({ cls := "CardBowlModel", name := "does", desc := "(III)I" } : Jvm.MethodName)) ∈ lw_all := lw_g (lw_at lw_m9 57 rfl) rfl
theorem q2088 : (Jvm.Cond.instanceMethod ({ cls := "CardBowlModel", name := "debts", desc := "(I)I" } : Jvm.MethodName)) ∈ lw_all := lw_g (lw_at lw_m9 59 rfl) rfl
theorem q2089 : (Jvm.Cond.selects "CardBowlModel" ({ cls := "CardBowlModel", name := "debts", desc := "(I)I" } : Jvm.MethodName) ({ cls := "CardBowlModel", name := "debts", desc := "(I)I" } : Jvm.MethodName)) ∈ lw_all := lw_g (lw_at lw_m9 60 rfl) rfl
theorem q2090 : (Jvm.Cond.code ({ cls := "CardBowlModel", name := "debts", desc := "(I)I" } : Jvm.MethodName) prog_25_method_59_code (2 : Nat) (Option.some Jvm.ClassFile.FieldType.int)) ∈ lw_all := lw_g (lw_at lw_m9 61 rfl) rfl
theorem q2092 : (Jvm.Cond.instanceMethod ({ cls := "CardBowlModel", name := "debt", desc := "(III)I" } : Jvm.MethodName)) ∈ lw_all := lw_g (lw_at lw_m9 63 rfl) rfl
theorem q2093 : (Jvm.Cond.selects "CardBowlModel" ({ cls := "CardBowlModel", name := "debt", desc := "(III)I" } : Jvm.MethodName) ({ cls := "CardBowlModel", name := "debt", desc := "(III)I" } : Jvm.MethodName)) ∈ lw_all := lw_g (lw_at lw_m9 64 rfl) rfl
theorem q2094 : (Jvm.Cond.code ({ cls := "CardBowlModel", name := "debt", desc := "(III)I" } : Jvm.MethodName) prog_25_method_61_code (5 : Nat) (Option.some Jvm.ClassFile.FieldType.int)) ∈ lw_all := lw_g (lw_at lw_m9 65 rfl) rfl
theorem q2095 : (Jvm.Cond.methodLink "CardBowlModel" (384 : Nat) ({ cls := "CardBowlModel", name := "placeOf", desc := "(II)I" } : Jvm.MethodName)) ∈ lw_all := lw_g (lw_at lw_m9 66 rfl) rfl
theorem q2096 : (Jvm.Cond.privateMethod ({ cls := "CardBowlModel", name := "placeOf", desc := "(II)I" } : Jvm.MethodName)) ∈ lw_tbl := lw_at lw_m9 67 rfl
theorem q2097 : (Jvm.Cond.instanceMethod ({ cls := "CardBowlModel", name := "placeOf", desc := "(II)I" } : Jvm.MethodName)) ∈ lw_all := lw_g (lw_at lw_m9 68 rfl) rfl
theorem q2098 : (Jvm.Cond.code ({ cls := "CardBowlModel", name := "placeOf", desc := "(II)I" } : Jvm.MethodName) prog_25_method_60_code (5 : Nat) (Option.some Jvm.ClassFile.FieldType.int)) ∈ lw_all := lw_g (lw_at lw_m9 69 rfl) rfl
theorem q2100 : (Jvm.Cond.instanceMethod ({ cls := "CardBowlModel", name := "slights", desc := "(I)I" } : Jvm.MethodName)) ∈ lw_all := lw_g (lw_at lw_m9 71 rfl) rfl
theorem q2101 : (Jvm.Cond.selects "CardBowlModel" ({ cls := "CardBowlModel", name := "slights", desc := "(I)I" } : Jvm.MethodName) ({ cls := "CardBowlModel", name := "slights", desc := "(I)I" } : Jvm.MethodName)) ∈ lw_all := lw_g (lw_at lw_m9 72 rfl) rfl
theorem q2102 : (Jvm.Cond.code ({ cls := "CardBowlModel", name := "slights", desc := "(I)I" } : Jvm.MethodName) prog_25_method_63_code (2 : Nat) (Option.some Jvm.ClassFile.FieldType.int)) ∈ lw_all := lw_g (lw_at lw_m9 73 rfl) rfl
theorem q2103 : (Jvm.Cond.methodLink "CardBowlModel" (387 : Nat) ({ cls := "CardBowlModel", name := "slightsOf", desc := "(I)I" } : Jvm.MethodName)) ∈ lw_all := lw_g (lw_at lw_m9 74 rfl) rfl
theorem q2104 : (Jvm.Cond.privateMethod ({ cls := "CardBowlModel", name := "slightsOf", desc := "(I)I" } : Jvm.MethodName)) ∈ lw_tbl := lw_at lw_m9 75 rfl
theorem q2105 : (Jvm.Cond.instanceMethod ({ cls := "CardBowlModel", name := "slightsOf", desc := "(I)I" } : Jvm.MethodName)) ∈ lw_all := lw_g (lw_at lw_m9 76 rfl) rfl
theorem q2106 : (Jvm.Cond.code ({ cls := "CardBowlModel", name := "slightsOf", desc := "(I)I" } : Jvm.MethodName) prog_25_method_62_code (4 : Nat) (Option.some Jvm.ClassFile.FieldType.int)) ∈ lw_all := lw_g (lw_at lw_m9 77 rfl) rfl
theorem q2108 : (Jvm.Cond.instanceMethod ({ cls := "CardBowlModel", name := "first", desc := "()I" } : Jvm.MethodName)) ∈ lw_all := lw_g (lw_at lw_m9 79 rfl) rfl
theorem q2109 : (Jvm.Cond.selects "CardBowlModel" ({ cls := "CardBowlModel", name := "first", desc := "()I" } : Jvm.MethodName) ({ cls := "CardBowlModel", name := "first", desc := "()I" } : Jvm.MethodName)) ∈ lw_all := lw_g (lw_at lw_m9 80 rfl) rfl
theorem q2110 : (Jvm.Cond.code ({ cls := "CardBowlModel", name := "first", desc := "()I" } : Jvm.MethodName) prog_25_method_64_code (5 : Nat) (Option.some Jvm.ClassFile.FieldType.int)) ∈ lw_all := lw_g (lw_at lw_m9 81 rfl) rfl
theorem q2112 : (Jvm.Cond.instanceMethod ({ cls := "CardBowlModel", name := "owes", desc := "(III)I" } : Jvm.MethodName)) ∈ lw_all := lw_g (lw_at lw_m9 83 rfl) rfl
theorem q2113 : (Jvm.Cond.selects "CardBowlModel" ({ cls := "CardBowlModel", name := "owes", desc := "(III)I" } : Jvm.MethodName) ({ cls := "CardBowlModel", name := "owes", desc := "(III)I" } : Jvm.MethodName)) ∈ lw_all := lw_g (lw_at lw_m9 84 rfl) rfl
theorem q2114 : (Jvm.Cond.code ({ cls := "CardBowlModel", name := "owes", desc := "(III)I" } : Jvm.MethodName) prog_25_method_65_code (6 : Nat) (Option.some Jvm.ClassFile.FieldType.int)) ∈ lw_all := lw_g (lw_at lw_m9 85 rfl) rfl
theorem q2116 : (Jvm.Cond.instanceMethod ({ cls := "CardBowlModel", name := "worth", desc := "(II)I" } : Jvm.MethodName)) ∈ lw_all := lw_g (lw_at lw_m9 87 rfl) rfl
theorem q2117 : (Jvm.Cond.selects "CardBowlModel" ({ cls := "CardBowlModel", name := "worth", desc := "(II)I" } : Jvm.MethodName) ({ cls := "CardBowlModel", name := "worth", desc := "(II)I" } : Jvm.MethodName)) ∈ lw_all := lw_g (lw_at lw_m9 88 rfl) rfl
theorem q2118 : (Jvm.Cond.code ({ cls := "CardBowlModel", name := "worth", desc := "(II)I" } : Jvm.MethodName) prog_25_method_74_code (3 : Nat) (Option.some Jvm.ClassFile.FieldType.int)) ∈ lw_all := lw_g (lw_at lw_m9 89 rfl) rfl
theorem q2119 : (Jvm.Cond.methodLink "CardBowlModel" (429 : Nat) ({ cls := "CardBowlModel", name := "isRound", desc := "(II)Z" } : Jvm.MethodName)) ∈ lw_all := lw_g (lw_at lw_m9 90 rfl) rfl
theorem q2120 : (Jvm.Cond.privateMethod ({ cls := "CardBowlModel", name := "isRound", desc := "(II)Z" } : Jvm.MethodName)) ∈ lw_tbl := lw_at lw_m9 91 rfl
theorem q2121 : (Jvm.Cond.instanceMethod ({ cls := "CardBowlModel", name := "isRound", desc := "(II)Z" } : Jvm.MethodName)) ∈ lw_all := lw_g (lw_at lw_m9 92 rfl) rfl
theorem q2122 : (Jvm.Cond.code ({ cls := "CardBowlModel", name := "isRound", desc := "(II)Z" } : Jvm.MethodName) prog_25_method_73_code (3 : Nat) (Option.some Jvm.ClassFile.FieldType.boolean)) ∈ lw_all := lw_g (lw_at lw_m9 93 rfl) rfl
theorem q2123 : (Jvm.Cond.constantLong "CardBowlModel" (427 : Nat) (399 : Int64)) ∈ lw_all := lw_g (lw_at lw_m9 94 rfl) rfl
theorem q2124 : (Jvm.Cond.methodLink "CardBowlModel" (432 : Nat) ({ cls := "CardBowlModel", name := "rounds", desc := "(II)V" } : Jvm.MethodName)) ∈ lw_all := lw_g (lw_at lw_m9 95 rfl) rfl
theorem q2125 : (Jvm.Cond.privateMethod ({ cls := "CardBowlModel", name := "rounds", desc := "(II)V" } : Jvm.MethodName)) ∈ lw_tbl := lw_at lw_m9 96 rfl
theorem q2126 : (Jvm.Cond.instanceMethod ({ cls := "CardBowlModel", name := "rounds", desc := "(II)V" } : Jvm.MethodName)) ∈ lw_all := lw_g (lw_at lw_m9 97 rfl) rfl
theorem q2127 : (Jvm.Cond.code ({ cls := "CardBowlModel", name := "rounds", desc := "(II)V" } : Jvm.MethodName) prog_25_method_72_code (7 : Nat) (Option.none : Option Jvm.ClassFile.FieldType)) ∈ lw_all := lw_g (lw_at lw_m9 98 rfl) rfl
theorem q2128 : (Jvm.Cond.methodLink "CardBowlModel" (408 : Nat) ({ cls := "CardBowlModel", name := "lists", desc := "(I)V" } : Jvm.MethodName)) ∈ lw_all := lw_g (lw_at lw_m9 99 rfl) rfl
theorem q2129 : (Jvm.Cond.privateMethod ({ cls := "CardBowlModel", name := "lists", desc := "(I)V" } : Jvm.MethodName)) ∈ lw_tbl := lw_at lw_m9 100 rfl
theorem q2130 : (Jvm.Cond.instanceMethod ({ cls := "CardBowlModel", name := "lists", desc := "(I)V" } : Jvm.MethodName)) ∈ lw_all := lw_g (lw_at lw_m9 101 rfl) rfl
theorem q2131 : (Jvm.Cond.code ({ cls := "CardBowlModel", name := "lists", desc := "(I)V" } : Jvm.MethodName) prog_25_method_67_code (3 : Nat) (Option.none : Option Jvm.ClassFile.FieldType)) ∈ lw_all := lw_g (lw_at lw_m9 102 rfl) rfl
theorem q2132 : (Jvm.Cond.methodLink "CardBowlModel" (390 : Nat) ({ cls := "CardBowlModel", name := "weighs", desc := "(I)V" } : Jvm.MethodName)) ∈ lw_all := lw_g (lw_at lw_m9 103 rfl) rfl
theorem q2133 : (Jvm.Cond.privateMethod ({ cls := "CardBowlModel", name := "weighs", desc := "(I)V" } : Jvm.MethodName)) ∈ lw_tbl := lw_at lw_m9 104 rfl
theorem q2134 : (Jvm.Cond.instanceMethod ({ cls := "CardBowlModel", name := "weighs", desc := "(I)V" } : Jvm.MethodName)) ∈ lw_all := lw_g (lw_at lw_m9 105 rfl) rfl
theorem q2135 : (Jvm.Cond.code ({ cls := "CardBowlModel", name := "weighs", desc := "(I)V" } : Jvm.MethodName) prog_25_method_66_code (4 : Nat) (Option.none : Option Jvm.ClassFile.FieldType)) ∈ lw_all := lw_g (lw_at lw_m9 106 rfl) rfl
theorem q2136 : (Jvm.Cond.methodLink "CardBowlModel" (411 : Nat) ({ cls := "CardBowlModel", name := "goesThrough", desc := "(IIII)V" } : Jvm.MethodName)) ∈ lw_all := lw_g (lw_at lw_m9 107 rfl) rfl
theorem q2137 : (Jvm.Cond.privateMethod ({ cls := "CardBowlModel", name := "goesThrough", desc := "(IIII)V" } : Jvm.MethodName)) ∈ lw_tbl := lw_at lw_m9 108 rfl
theorem q2138 : (Jvm.Cond.instanceMethod ({ cls := "CardBowlModel", name := "goesThrough", desc := "(IIII)V" } : Jvm.MethodName)) ∈ lw_all := lw_g (lw_at lw_m9 109 rfl) rfl
theorem q2139 : (Jvm.Cond.code ({ cls := "CardBowlModel", name := "goesThrough", desc := "(IIII)V" } : Jvm.MethodName) prog_25_method_70_code (11 : Nat) (Option.none : Option Jvm.ClassFile.FieldType)) ∈ lw_all := lw_g (lw_at lw_m9 110 rfl) rfl
theorem q2140 : (Jvm.Cond.methodLink "CardBowlModel" (405 : Nat) ({ cls := "CardBowlModel", name := "seen", desc := "(IIII)I" } : Jvm.MethodName)) ∈ lw_all := lw_g (lw_at lw_m9 111 rfl) rfl
theorem q2141 : (Jvm.Cond.privateMethod ({ cls := "CardBowlModel", name := "seen", desc := "(IIII)I" } : Jvm.MethodName)) ∈ lw_tbl := lw_at lw_m9 112 rfl
theorem q2142 : (Jvm.Cond.instanceMethod ({ cls := "CardBowlModel", name := "seen", desc := "(IIII)I" } : Jvm.MethodName)) ∈ lw_all := lw_g (lw_at lw_m9 113 rfl) rfl
theorem q2143 : (Jvm.Cond.code ({ cls := "CardBowlModel", name := "seen", desc := "(IIII)I" } : Jvm.MethodName) prog_25_method_69_code (6 : Nat) (Option.some Jvm.ClassFile.FieldType.int)) ∈ lw_all := lw_g (lw_at lw_m9 114 rfl) rfl
theorem q2144 : (Jvm.Cond.methodLink "CardBowlModel" (399 : Nat) ({ cls := "CardBowlModel", name := "minutes", desc := "(II)I" } : Jvm.MethodName)) ∈ lw_all := lw_g (lw_at lw_m9 115 rfl) rfl
theorem q2145 : (Jvm.Cond.privateMethod ({ cls := "CardBowlModel", name := "minutes", desc := "(II)I" } : Jvm.MethodName)) ∈ lw_tbl := lw_at lw_m9 116 rfl
theorem q2146 : (Jvm.Cond.instanceMethod ({ cls := "CardBowlModel", name := "minutes", desc := "(II)I" } : Jvm.MethodName)) ∈ lw_all := lw_g (lw_at lw_m9 117 rfl) rfl
theorem q2147 : (Jvm.Cond.code ({ cls := "CardBowlModel", name := "minutes", desc := "(II)I" } : Jvm.MethodName) prog_25_method_68_code (3 : Nat) (Option.some Jvm.ClassFile.FieldType.int)) ∈ lw_all := lw_g (lw_at lw_m9 118 rfl) rfl
theorem q2148 : (Jvm.Cond.methodLink "CardBowlModel" (396 : Nat) ({ cls := "java/lang/Math", name := "abs", desc := "(I)I" } : Jvm.MethodName)) ∈ lw_all := lw_g (lw_at lw_m9 119 rfl) rfl
theorem q2149 : (Jvm.Cond.methodLink "CardBowlModel" (402 : Nat) ({ cls := "java/lang/Math", name := "max", desc := "(II)I" } : Jvm.MethodName)) ∈ lw_all := lw_g (lw_at lw_m9 120 rfl) rfl
theorem q2150 : (Jvm.Cond.methodLink "CardBowlModel" (424 : Nat) ({ cls := "CardBowlModel", name := "overOf", desc := "(I)I" } : Jvm.MethodName)) ∈ lw_all := lw_g (lw_at lw_m9 121 rfl) rfl
theorem q2151 : (Jvm.Cond.privateMethod ({ cls := "CardBowlModel", name := "overOf", desc := "(I)I" } : Jvm.MethodName)) ∈ lw_tbl := lw_at lw_m9 122 rfl
theorem q2152 : (Jvm.Cond.instanceMethod ({ cls := "CardBowlModel", name := "overOf", desc := "(I)I" } : Jvm.MethodName)) ∈ lw_all := lw_g (lw_at lw_m9 123 rfl) rfl
theorem q2153 : (Jvm.Cond.code ({ cls := "CardBowlModel", name := "overOf", desc := "(I)I" } : Jvm.MethodName) prog_25_method_71_code (5 : Nat) (Option.some Jvm.ClassFile.FieldType.int)) ∈ lw_all := lw_g (lw_at lw_m9 124 rfl) rfl
theorem q2155 : (Jvm.Cond.instanceMethod ({ cls := "CardBowlModel", name := "over", desc := "(II)I" } : Jvm.MethodName)) ∈ lw_all := lw_g (lw_at lw_m9 126 rfl) rfl
theorem q2156 : (Jvm.Cond.selects "CardBowlModel" ({ cls := "CardBowlModel", name := "over", desc := "(II)I" } : Jvm.MethodName) ({ cls := "CardBowlModel", name := "over", desc := "(II)I" } : Jvm.MethodName)) ∈ lw_all := lw_g (lw_at lw_m9 127 rfl) rfl
theorem q2157 : (Jvm.Cond.code ({ cls := "CardBowlModel", name := "over", desc := "(II)I" } : Jvm.MethodName) prog_25_method_75_code (3 : Nat) (Option.some Jvm.ClassFile.FieldType.int)) ∈ lw_all := lw_g (lw_at lw_m9 128 rfl) rfl
theorem q2159 : (Jvm.Cond.instanceMethod ({ cls := "CardBowlModel", name := "round", desc := "(III)I" } : Jvm.MethodName)) ∈ lw_all := lw_g (lw_at lw_m9 130 rfl) rfl
theorem q2160 : (Jvm.Cond.selects "CardBowlModel" ({ cls := "CardBowlModel", name := "round", desc := "(III)I" } : Jvm.MethodName) ({ cls := "CardBowlModel", name := "round", desc := "(III)I" } : Jvm.MethodName)) ∈ lw_all := lw_g (lw_at lw_m9 131 rfl) rfl
theorem q2161 : (Jvm.Cond.code ({ cls := "CardBowlModel", name := "round", desc := "(III)I" } : Jvm.MethodName) prog_25_method_77_code (5 : Nat) (Option.some Jvm.ClassFile.FieldType.int)) ∈ lw_all := lw_g (lw_at lw_m9 132 rfl) rfl
theorem q2162 : (Jvm.Cond.methodLink "CardBowlModel" (435 : Nat) ({ cls := "CardBowlModel", name := "rowOf", desc := "(II)V" } : Jvm.MethodName)) ∈ lw_all := lw_g (lw_at lw_m9 133 rfl) rfl
theorem q2163 : (Jvm.Cond.privateMethod ({ cls := "CardBowlModel", name := "rowOf", desc := "(II)V" } : Jvm.MethodName)) ∈ lw_tbl := lw_at lw_m9 134 rfl
theorem q2164 : (Jvm.Cond.instanceMethod ({ cls := "CardBowlModel", name := "rowOf", desc := "(II)V" } : Jvm.MethodName)) ∈ lw_all := lw_g (lw_at lw_m9 135 rfl) rfl
theorem q2165 : (Jvm.Cond.code ({ cls := "CardBowlModel", name := "rowOf", desc := "(II)V" } : Jvm.MethodName) prog_25_method_76_code (12 : Nat) (Option.none : Option Jvm.ClassFile.FieldType)) ∈ lw_all := lw_g (lw_at lw_m9 136 rfl) rfl
theorem q2167 : (Jvm.Cond.instanceMethod ({ cls := "CardBowlModel", name := "may", desc := "(III)I" } : Jvm.MethodName)) ∈ lw_all := lw_g (lw_at lw_m9 138 rfl) rfl
theorem q2168 : (Jvm.Cond.selects "CardBowlModel" ({ cls := "CardBowlModel", name := "may", desc := "(III)I" } : Jvm.MethodName) ({ cls := "CardBowlModel", name := "may", desc := "(III)I" } : Jvm.MethodName)) ∈ lw_all := lw_g (lw_at lw_m9 139 rfl) rfl
theorem q2169 : (Jvm.Cond.code ({ cls := "CardBowlModel", name := "may", desc := "(III)I" } : Jvm.MethodName) prog_25_method_78_code (11 : Nat) (Option.some Jvm.ClassFile.FieldType.int)) ∈ lw_all := lw_g (lw_at lw_m9 140 rfl) rfl
theorem q2171 : (Jvm.Cond.instanceMethod ({ cls := "CardBowlModel", name := "fewest", desc := "(I)I" } : Jvm.MethodName)) ∈ lw_all := lw_g (lw_at lw_m9 142 rfl) rfl
theorem q2172 : (Jvm.Cond.selects "CardBowlModel" ({ cls := "CardBowlModel", name := "fewest", desc := "(I)I" } : Jvm.MethodName) ({ cls := "CardBowlModel", name := "fewest", desc := "(I)I" } : Jvm.MethodName)) ∈ lw_all := lw_g (lw_at lw_m9 143 rfl) rfl
theorem q2173 : (Jvm.Cond.code ({ cls := "CardBowlModel", name := "fewest", desc := "(I)I" } : Jvm.MethodName) prog_25_method_81_code (7 : Nat) (Option.some Jvm.ClassFile.FieldType.int)) ∈ lw_all := lw_g (lw_at lw_m9 144 rfl) rfl
theorem q2174 : (Jvm.Cond.methodLink "CardBowlModel" (441 : Nat) ({ cls := "CardBowlModel", name := "listsTen", desc := "(I)V" } : Jvm.MethodName)) ∈ lw_all := lw_g (lw_at lw_m9 145 rfl) rfl
theorem q2175 : (Jvm.Cond.privateMethod ({ cls := "CardBowlModel", name := "listsTen", desc := "(I)V" } : Jvm.MethodName)) ∈ lw_tbl := lw_at lw_m9 146 rfl
theorem q2176 : (Jvm.Cond.instanceMethod ({ cls := "CardBowlModel", name := "listsTen", desc := "(I)V" } : Jvm.MethodName)) ∈ lw_all := lw_g (lw_at lw_m9 147 rfl) rfl
theorem q2177 : (Jvm.Cond.code ({ cls := "CardBowlModel", name := "listsTen", desc := "(I)V" } : Jvm.MethodName) prog_25_method_79_code (4 : Nat) (Option.none : Option Jvm.ClassFile.FieldType)) ∈ lw_all := lw_g (lw_at lw_m9 148 rfl) rfl
theorem q2178 : (Jvm.Cond.methodLink "CardBowlModel" (444 : Nat) ({ cls := "CardBowlModel", name := "covers", desc := "(II)I" } : Jvm.MethodName)) ∈ lw_all := lw_g (lw_at lw_m9 149 rfl) rfl
theorem q2179 : (Jvm.Cond.privateMethod ({ cls := "CardBowlModel", name := "covers", desc := "(II)I" } : Jvm.MethodName)) ∈ lw_tbl := lw_at lw_m9 150 rfl
theorem q2180 : (Jvm.Cond.instanceMethod ({ cls := "CardBowlModel", name := "covers", desc := "(II)I" } : Jvm.MethodName)) ∈ lw_all := lw_g (lw_at lw_m9 151 rfl) rfl
theorem q2181 : (Jvm.Cond.code ({ cls := "CardBowlModel", name := "covers", desc := "(II)I" } : Jvm.MethodName) prog_25_method_80_code (6 : Nat) (Option.some Jvm.ClassFile.FieldType.int)) ∈ lw_all := lw_g (lw_at lw_m9 152 rfl) rfl
theorem q2183 : (Jvm.Cond.instanceMethod ({ cls := "CardBowlModel", name := "lost", desc := "(I)I" } : Jvm.MethodName)) ∈ lw_all := lw_g (lw_at lw_m9 154 rfl) rfl
theorem q2184 : (Jvm.Cond.selects "CardBowlModel" ({ cls := "CardBowlModel", name := "lost", desc := "(I)I" } : Jvm.MethodName) ({ cls := "CardBowlModel", name := "lost", desc := "(I)I" } : Jvm.MethodName)) ∈ lw_all := lw_g (lw_at lw_m9 155 rfl) rfl
theorem q2185 : (Jvm.Cond.code ({ cls := "CardBowlModel", name := "lost", desc := "(I)I" } : Jvm.MethodName) prog_25_method_82_code (6 : Nat) (Option.some Jvm.ClassFile.FieldType.int)) ∈ lw_all := lw_g (lw_at lw_m9 156 rfl) rfl
theorem q2187 : (Jvm.Cond.instanceMethod ({ cls := "CardBowlModel", name := "soon", desc := "(II)I" } : Jvm.MethodName)) ∈ lw_all := lw_g (lw_at lw_m9 158 rfl) rfl
theorem q2188 : (Jvm.Cond.selects "CardBowlModel" ({ cls := "CardBowlModel", name := "soon", desc := "(II)I" } : Jvm.MethodName) ({ cls := "CardBowlModel", name := "soon", desc := "(II)I" } : Jvm.MethodName)) ∈ lw_all := lw_g (lw_at lw_m9 159 rfl) rfl
theorem q2189 : (Jvm.Cond.code ({ cls := "CardBowlModel", name := "soon", desc := "(II)I" } : Jvm.MethodName) prog_25_method_85_code (3 : Nat) (Option.some Jvm.ClassFile.FieldType.int)) ∈ lw_all := lw_g (lw_at lw_m9 160 rfl) rfl
theorem q2190 : (Jvm.Cond.methodLink "CardBowlModel" (453 : Nat) ({ cls := "CardBowlModel", name := "finds", desc := "(II)Z" } : Jvm.MethodName)) ∈ lw_all := lw_g (lw_at lw_m9 161 rfl) rfl
theorem q2191 : (Jvm.Cond.privateMethod ({ cls := "CardBowlModel", name := "finds", desc := "(II)Z" } : Jvm.MethodName)) ∈ lw_tbl := lw_at lw_m9 162 rfl
theorem q2192 : (Jvm.Cond.instanceMethod ({ cls := "CardBowlModel", name := "finds", desc := "(II)Z" } : Jvm.MethodName)) ∈ lw_all := lw_g (lw_at lw_m9 163 rfl) rfl
theorem q2193 : (Jvm.Cond.code ({ cls := "CardBowlModel", name := "finds", desc := "(II)Z" } : Jvm.MethodName) prog_25_method_83_code (7 : Nat) (Option.some Jvm.ClassFile.FieldType.boolean)) ∈ lw_all := lw_g (lw_at lw_m9 164 rfl) rfl
theorem q2194 : (Jvm.Cond.methodLink "CardBowlModel" (447 : Nat) ({ cls := "CardBowlModel", name := "walks", desc := "(I)V" } : Jvm.MethodName)) ∈ lw_all := lw_g (lw_at lw_m9 165 rfl) rfl
theorem q2195 : (Jvm.Cond.privateMethod ({ cls := "CardBowlModel", name := "walks", desc := "(I)V" } : Jvm.MethodName)) ∈ lw_tbl := lw_at lw_m9 166 rfl
theorem q2196 : (Jvm.Cond.instanceMethod ({ cls := "CardBowlModel", name := "walks", desc := "(I)V" } : Jvm.MethodName)) ∈ lw_all := lw_g (lw_at lw_m9 167 rfl) rfl
theorem q2197 : (Jvm.Cond.code ({ cls := "CardBowlModel", name := "walks", desc := "(I)V" } : Jvm.MethodName) prog_25_method_84_code (4 : Nat) (Option.none : Option Jvm.ClassFile.FieldType)) ∈ lw_all := lw_g (lw_at lw_m9 168 rfl) rfl
theorem q2199 : (Jvm.Cond.instanceMethod ({ cls := "CardBowlModel", name := "path", desc := "(III)I" } : Jvm.MethodName)) ∈ lw_all := lw_g (lw_at lw_m9 170 rfl) rfl
theorem q2200 : (Jvm.Cond.selects "CardBowlModel" ({ cls := "CardBowlModel", name := "path", desc := "(III)I" } : Jvm.MethodName) ({ cls := "CardBowlModel", name := "path", desc := "(III)I" } : Jvm.MethodName)) ∈ lw_all := lw_g (lw_at lw_m9 171 rfl) rfl
theorem q2201 : (Jvm.Cond.code ({ cls := "CardBowlModel", name := "path", desc := "(III)I" } : Jvm.MethodName) prog_25_method_86_code (4 : Nat) (Option.some Jvm.ClassFile.FieldType.int)) ∈ lw_all := lw_g (lw_at lw_m9 172 rfl) rfl
theorem q2203 : (Jvm.Cond.instanceMethod ({ cls := "CardBowlModel", name := "reach", desc := "(I)I" } : Jvm.MethodName)) ∈ lw_all := lw_g (lw_at lw_m9 174 rfl) rfl
theorem q2204 : (Jvm.Cond.selects "CardBowlModel" ({ cls := "CardBowlModel", name := "reach", desc := "(I)I" } : Jvm.MethodName) ({ cls := "CardBowlModel", name := "reach", desc := "(I)I" } : Jvm.MethodName)) ∈ lw_all := lw_g (lw_at lw_m9 175 rfl) rfl
theorem q2205 : (Jvm.Cond.code ({ cls := "CardBowlModel", name := "reach", desc := "(I)I" } : Jvm.MethodName) prog_25_method_88_code (2 : Nat) (Option.some Jvm.ClassFile.FieldType.int)) ∈ lw_all := lw_g (lw_at lw_m9 176 rfl) rfl
theorem q2206 : (Jvm.Cond.methodLink "CardBowlModel" (456 : Nat) ({ cls := "CardBowlModel", name := "hangs", desc := "(III)I" } : Jvm.MethodName)) ∈ lw_all := lw_g (lw_at lw_m9 177 rfl) rfl
theorem q2207 : (Jvm.Cond.privateMethod ({ cls := "CardBowlModel", name := "hangs", desc := "(III)I" } : Jvm.MethodName)) ∈ lw_tbl := lw_at lw_m9 178 rfl
theorem q2208 : (Jvm.Cond.instanceMethod ({ cls := "CardBowlModel", name := "hangs", desc := "(III)I" } : Jvm.MethodName)) ∈ lw_all := lw_g (lw_at lw_m9 179 rfl) rfl
theorem q2209 : (Jvm.Cond.code ({ cls := "CardBowlModel", name := "hangs", desc := "(III)I" } : Jvm.MethodName) prog_25_method_87_code (8 : Nat) (Option.some Jvm.ClassFile.FieldType.int)) ∈ lw_all := lw_g (lw_at lw_m9 180 rfl) rfl
theorem q2211 : (Jvm.Cond.instanceMethod ({ cls := "CardBowlModel", name := "drop", desc := "(I)I" } : Jvm.MethodName)) ∈ lw_all := lw_g (lw_at lw_m9 182 rfl) rfl
theorem q2212 : (Jvm.Cond.selects "CardBowlModel" ({ cls := "CardBowlModel", name := "drop", desc := "(I)I" } : Jvm.MethodName) ({ cls := "CardBowlModel", name := "drop", desc := "(I)I" } : Jvm.MethodName)) ∈ lw_all := lw_g (lw_at lw_m9 183 rfl) rfl
theorem q2213 : (Jvm.Cond.code ({ cls := "CardBowlModel", name := "drop", desc := "(I)I" } : Jvm.MethodName) prog_25_method_89_code (5 : Nat) (Option.some Jvm.ClassFile.FieldType.int)) ∈ lw_all := lw_g (lw_at lw_m9 184 rfl) rfl
theorem q2215 : (Jvm.Cond.instanceMethod ({ cls := "CardBowlModel", name := "tie", desc := "(II)I" } : Jvm.MethodName)) ∈ lw_all := lw_g (lw_at lw_m9 186 rfl) rfl
theorem q2216 : (Jvm.Cond.selects "CardBowlModel" ({ cls := "CardBowlModel", name := "tie", desc := "(II)I" } : Jvm.MethodName) ({ cls := "CardBowlModel", name := "tie", desc := "(II)I" } : Jvm.MethodName)) ∈ lw_all := lw_g (lw_at lw_m9 187 rfl) rfl
theorem q2217 : (Jvm.Cond.code ({ cls := "CardBowlModel", name := "tie", desc := "(II)I" } : Jvm.MethodName) prog_25_method_90_code (3 : Nat) (Option.some Jvm.ClassFile.FieldType.int)) ∈ lw_all := lw_g (lw_at lw_m9 188 rfl) rfl
theorem q2219 : (Jvm.Cond.instanceMethod ({ cls := "CardBowlModel", name := "ring", desc := "(I)I" } : Jvm.MethodName)) ∈ lw_all := lw_g (lw_at lw_m9 190 rfl) rfl
theorem q2220 : (Jvm.Cond.selects "CardBowlModel" ({ cls := "CardBowlModel", name := "ring", desc := "(I)I" } : Jvm.MethodName) ({ cls := "CardBowlModel", name := "ring", desc := "(I)I" } : Jvm.MethodName)) ∈ lw_all := lw_g (lw_at lw_m9 191 rfl) rfl
theorem q2221 : (Jvm.Cond.code ({ cls := "CardBowlModel", name := "ring", desc := "(I)I" } : Jvm.MethodName) prog_25_method_94_code (2 : Nat) (Option.some Jvm.ClassFile.FieldType.int)) ∈ lw_all := lw_g (lw_at lw_m9 192 rfl) rfl
theorem q2222 : (Jvm.Cond.methodLink "CardBowlModel" (462 : Nat) ({ cls := "CardBowlModel", name := "callsAll", desc := "()V" } : Jvm.MethodName)) ∈ lw_all := lw_g (lw_at lw_m9 193 rfl) rfl
theorem q2223 : (Jvm.Cond.privateMethod ({ cls := "CardBowlModel", name := "callsAll", desc := "()V" } : Jvm.MethodName)) ∈ lw_tbl := lw_at lw_m9 194 rfl
theorem q2224 : (Jvm.Cond.instanceMethod ({ cls := "CardBowlModel", name := "callsAll", desc := "()V" } : Jvm.MethodName)) ∈ lw_all := lw_g (lw_at lw_m9 195 rfl) rfl
theorem q2225 : (Jvm.Cond.code ({ cls := "CardBowlModel", name := "callsAll", desc := "()V" } : Jvm.MethodName) prog_25_method_91_code (2 : Nat) (Option.none : Option Jvm.ClassFile.FieldType)) ∈ lw_all := lw_g (lw_at lw_m9 196 rfl) rfl
theorem q2226 : (Jvm.Cond.methodLink "CardBowlModel" (465 : Nat) ({ cls := "CardBowlModel", name := "ringOf", desc := "(I)I" } : Jvm.MethodName)) ∈ lw_all := lw_g (lw_at lw_m9 197 rfl) rfl
theorem q2227 : (Jvm.Cond.privateMethod ({ cls := "CardBowlModel", name := "ringOf", desc := "(I)I" } : Jvm.MethodName)) ∈ lw_tbl := lw_at lw_m9 198 rfl
theorem q2228 : (Jvm.Cond.instanceMethod ({ cls := "CardBowlModel", name := "ringOf", desc := "(I)I" } : Jvm.MethodName)) ∈ lw_all := lw_g (lw_at lw_m9 199 rfl) rfl
theorem q2229 : (Jvm.Cond.code ({ cls := "CardBowlModel", name := "ringOf", desc := "(I)I" } : Jvm.MethodName) prog_25_method_93_code (4 : Nat) (Option.some Jvm.ClassFile.FieldType.int)) ∈ lw_all := lw_g (lw_at lw_m9 200 rfl) rfl
theorem q2230 : (Jvm.Cond.methodLink "CardBowlModel" (459 : Nat) ({ cls := "CardBowlModel", name := "comesTo", desc := "(I)I" } : Jvm.MethodName)) ∈ lw_all := lw_g (lw_at lw_m9 201 rfl) rfl
theorem q2231 : (Jvm.Cond.privateMethod ({ cls := "CardBowlModel", name := "comesTo", desc := "(I)I" } : Jvm.MethodName)) ∈ lw_tbl := lw_at lw_m9 202 rfl
theorem q2232 : (Jvm.Cond.instanceMethod ({ cls := "CardBowlModel", name := "comesTo", desc := "(I)I" } : Jvm.MethodName)) ∈ lw_all := lw_g (lw_at lw_m9 203 rfl) rfl
theorem q2233 : (Jvm.Cond.code ({ cls := "CardBowlModel", name := "comesTo", desc := "(I)I" } : Jvm.MethodName) prog_25_method_92_code (5 : Nat) (Option.some Jvm.ClassFile.FieldType.int)) ∈ lw_all := lw_g (lw_at lw_m9 204 rfl) rfl
theorem q2235 : (Jvm.Cond.instanceMethod ({ cls := "CardBowlModel", name := "rings", desc := "()I" } : Jvm.MethodName)) ∈ lw_all := lw_g (lw_at lw_m9 206 rfl) rfl
theorem q2236 : (Jvm.Cond.selects "CardBowlModel" ({ cls := "CardBowlModel", name := "rings", desc := "()I" } : Jvm.MethodName) ({ cls := "CardBowlModel", name := "rings", desc := "()I" } : Jvm.MethodName)) ∈ lw_all := lw_g (lw_at lw_m9 207 rfl) rfl
theorem q2237 : (Jvm.Cond.code ({ cls := "CardBowlModel", name := "rings", desc := "()I" } : Jvm.MethodName) prog_25_method_95_code (4 : Nat) (Option.some Jvm.ClassFile.FieldType.int)) ∈ lw_all := lw_g (lw_at lw_m9 208 rfl) rfl
theorem q2239 : (Jvm.Cond.instanceMethod ({ cls := "CardBowlModel", name := "house", desc := "(II)I" } : Jvm.MethodName)) ∈ lw_all := lw_g (lw_at lw_m9 210 rfl) rfl
theorem q2240 : (Jvm.Cond.selects "CardBowlModel" ({ cls := "CardBowlModel", name := "house", desc := "(II)I" } : Jvm.MethodName) ({ cls := "CardBowlModel", name := "house", desc := "(II)I" } : Jvm.MethodName)) ∈ lw_all := lw_g (lw_at lw_m9 211 rfl) rfl
theorem q2241 : (Jvm.Cond.code ({ cls := "CardBowlModel", name := "house", desc := "(II)I" } : Jvm.MethodName) prog_25_method_96_code (5 : Nat) (Option.some Jvm.ClassFile.FieldType.int)) ∈ lw_all := lw_g (lw_at lw_m9 212 rfl) rfl
theorem q2242 : (Jvm.Cond.constantLong "CardBowlModel" (468 : Nat) (8 : Int64)) ∈ lw_all := lw_g (lw_at lw_m9 213 rfl) rfl
theorem q2243 : (Jvm.Cond.constant "CardBowlModel" (470 : Nat) (-2000000000 : Int32)) ∈ lw_all := lw_g (lw_at lw_m9 214 rfl) rfl
theorem q2245 : (Jvm.Cond.instanceMethod ({ cls := "CardBowlModel", name := "beside", desc := "(I)I" } : Jvm.MethodName)) ∈ lw_all := lw_g (lw_at lw_m9 216 rfl) rfl
theorem q2246 : (Jvm.Cond.selects "CardBowlModel" ({ cls := "CardBowlModel", name := "beside", desc := "(I)I" } : Jvm.MethodName) ({ cls := "CardBowlModel", name := "beside", desc := "(I)I" } : Jvm.MethodName)) ∈ lw_all := lw_g (lw_at lw_m9 217 rfl) rfl
theorem q2247 : (Jvm.Cond.code ({ cls := "CardBowlModel", name := "beside", desc := "(I)I" } : Jvm.MethodName) prog_25_method_97_code (5 : Nat) (Option.some Jvm.ClassFile.FieldType.int)) ∈ lw_all := lw_g (lw_at lw_m9 218 rfl) rfl
theorem q2249 : (Jvm.Cond.instanceMethod ({ cls := "CardBowlModel", name := "count", desc := "(I)I" } : Jvm.MethodName)) ∈ lw_all := lw_g (lw_at lw_m9 220 rfl) rfl
theorem q2250 : (Jvm.Cond.selects "CardBowlModel" ({ cls := "CardBowlModel", name := "count", desc := "(I)I" } : Jvm.MethodName) ({ cls := "CardBowlModel", name := "count", desc := "(I)I" } : Jvm.MethodName)) ∈ lw_all := lw_g (lw_at lw_m9 221 rfl) rfl
theorem q2251 : (Jvm.Cond.code ({ cls := "CardBowlModel", name := "count", desc := "(I)I" } : Jvm.MethodName) prog_25_method_98_code (4 : Nat) (Option.some Jvm.ClassFile.FieldType.int)) ∈ lw_all := lw_g (lw_at lw_m9 222 rfl) rfl
theorem q2253 : (Jvm.Cond.instanceMethod ({ cls := "CardBowlModel", name := "row", desc := "(III)I" } : Jvm.MethodName)) ∈ lw_all := lw_g (lw_at lw_m9 224 rfl) rfl
theorem q2254 : (Jvm.Cond.selects "CardBowlModel" ({ cls := "CardBowlModel", name := "row", desc := "(III)I" } : Jvm.MethodName) ({ cls := "CardBowlModel", name := "row", desc := "(III)I" } : Jvm.MethodName)) ∈ lw_all := lw_g (lw_at lw_m9 225 rfl) rfl
theorem q2255 : (Jvm.Cond.code ({ cls := "CardBowlModel", name := "row", desc := "(III)I" } : Jvm.MethodName) prog_25_method_101_code (5 : Nat) (Option.some Jvm.ClassFile.FieldType.int)) ∈ lw_all := lw_g (lw_at lw_m9 226 rfl) rfl
theorem q2257 : (Jvm.Cond.instanceMethod ({ cls := "CardBowlModel", name := "write", desc := "(IIJ)I" } : Jvm.MethodName)) ∈ lw_all := lw_g (lw_at lw_m9 228 rfl) rfl
theorem q2258 : (Jvm.Cond.selects "CardBowlModel" ({ cls := "CardBowlModel", name := "write", desc := "(IIJ)I" } : Jvm.MethodName) ({ cls := "CardBowlModel", name := "write", desc := "(IIJ)I" } : Jvm.MethodName)) ∈ lw_all := lw_g (lw_at lw_m9 229 rfl) rfl
theorem q2259 : (Jvm.Cond.code ({ cls := "CardBowlModel", name := "write", desc := "(IIJ)I" } : Jvm.MethodName) prog_25_method_102_code (5 : Nat) (Option.some Jvm.ClassFile.FieldType.int)) ∈ lw_all := lw_g (lw_at lw_m9 230 rfl) rfl
theorem q2260 : (Jvm.Cond.methodLink "CardBowlModel" (471 : Nat) ({ cls := "CardBowlModel", name := "cut", desc := "(JI)J" } : Jvm.MethodName)) ∈ lw_all := lw_g (lw_at lw_m9 231 rfl) rfl
theorem q2261 : (Jvm.Cond.static ({ cls := "CardBowlModel", name := "cut", desc := "(JI)J" } : Jvm.MethodName)) ∈ lw_all := lw_g (lw_at lw_m9 232 rfl) rfl
theorem q2262 : (Jvm.Cond.code ({ cls := "CardBowlModel", name := "cut", desc := "(JI)J" } : Jvm.MethodName) prog_25_method_100_code (4 : Nat) (Option.some Jvm.ClassFile.FieldType.long)) ∈ lw_all := lw_g (lw_at lw_m9 233 rfl) rfl
theorem q2264 : (Jvm.Cond.instanceMethod ({ cls := "CardBowlModel", name := "paste", desc := "(IIIII)I" } : Jvm.MethodName)) ∈ lw_all := lw_g (lw_at lw_m9 235 rfl) rfl
theorem q2265 : (Jvm.Cond.selects "CardBowlModel" ({ cls := "CardBowlModel", name := "paste", desc := "(IIIII)I" } : Jvm.MethodName) ({ cls := "CardBowlModel", name := "paste", desc := "(IIIII)I" } : Jvm.MethodName)) ∈ lw_all := lw_g (lw_at lw_m9 236 rfl) rfl
theorem q2266 : (Jvm.Cond.code ({ cls := "CardBowlModel", name := "paste", desc := "(IIIII)I" } : Jvm.MethodName) prog_25_method_103_code (7 : Nat) (Option.some Jvm.ClassFile.FieldType.int)) ∈ lw_all := lw_g (lw_at lw_m9 237 rfl) rfl
theorem q2286 : (Jvm.Cond.castable "CardBowlModel" "java/lang/Object") ∈ lw_tbl := lw_at lw_m10 17 rfl
theorem in_X12 : ∀ w ∈ wsX120, w ∈ lw_all := lw_in wsX120 [1729, 1731, 1733, 1735, 1737, 1739, 1741, 1743, 1745, 1747, 1749, 1751, 1753, 1755, 1757, 1759, 1761, 1763, 1765, 1767, 1769, 1771, 1773, 1775, 1777, 1779, 1781, 1783, 1785, 1787, 1789, 1791, 1793, 1795, 1797, 1799, 1801, 1803, 1805, 1807, 1809] (by decide +kernel) (by decide +kernel)
