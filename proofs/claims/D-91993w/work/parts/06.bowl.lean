/-! CardBowl -/
set_option maxRecDepth 100000
def RX0 : String := "CardBowl"
def TX0 : u_T := fun k => match k with
  | 0 => ("CardBowl", "slots", "[LCardBowl$Slot;", true)
  | 1 => ("CardBowl", "now", "LCardBowl$State;", true)
  | 2 => ("CardBowl", "images", "[LCardBowl$State;", true)
  | 3 => ("CardBowl", "payings", "[LCardBowl$Paying;", true)
  | 4 => ("CardBowl", "afternoon", "LCardBowl$Afternoon;", true)
  | 5 => ("CardBowl", "tape", "[B", true)
  | 6 => ("CardBowl", "taped", "I", false)
  | 7 => ("CardBowl", "faultKind", "I", false)
  | 8 => ("CardBowl", "faultPlace", "I", false)
  | 9 => ("CardBowl", "fewestDays", "[I", true)
  | 10 => ("CardBowl", "fewestThen", "[I", true)
  | _ => ("CardBowl", "calls", "[I", true)
def tyX0 : Nat → FieldType := fun k => match k with
  | 0 => .array (.object "CardBowl$Slot")
  | 1 => .object "CardBowl$State"
  | 2 => .array (.object "CardBowl$State")
  | 3 => .array (.object "CardBowl$Paying")
  | 4 => .object "CardBowl$Afternoon"
  | 5 => .array .byte
  | 6 => .int
  | 7 => .int
  | 8 => .int
  | 9 => .array .int
  | 10 => .array .int
  | _ => .array .int
abbrev wsX00 : List Cond := u_ws RX0 TX0 12
theorem nmX0 : ∀ a, a < 12 → ∀ b, b < 12 → a ≠ b → (TX0 a).2.1 ≠ (TX0 b).2.1 := by decide +kernel
theorem tyX0_ok : ∀ k, k < 12 → parseFieldDescriptor (TX0 k).2.2.1 = some (tyX0 k) := by decide +kernel
abbrev cX0_row : ByteArray := prog_1_method_4_code
def yX0_row : MethodName := ⟨RX0, "row", "(III)I"⟩
def dkwX0_row_2 : List UInt8 := [16, 253, 172]
abbrev dktX0_row_2 : List UInt8 := dkwX0_row_2 ++ []
def dkwX0_row_1 : List UInt8 := [164, 0, 6, 16, 254, 172, 42, 180, 0, 13, 27, 50, 28, 29, 182, 0, 17, 153, 0, 7, 3, 167, 0, 5]
abbrev dktX0_row_1 : List UInt8 := dkwX0_row_1 ++ dktX0_row_2
def dkwX0_row_0 : List UInt8 := [27, 184, 0, 9, 153, 0, 21, 28, 133, 9, 20, 0, 3, 184, 0, 5, 153, 0, 9, 29, 16, 60]
abbrev dktX0_row_0 : List UInt8 := dkwX0_row_0 ++ dktX0_row_1
theorem dksX0_row_0 : cX0_row.data.toList.drop 0 = dktX0_row_0 := by decide +kernel
theorem dksX0_row_1 : cX0_row.data.toList.drop 22 = dktX0_row_1 := dk_seg dksX0_row_0 22 rfl rfl
theorem dksX0_row_2 : cX0_row.data.toList.drop 46 = dktX0_row_2 := dk_seg dksX0_row_1 24 rfl rfl
theorem dX0_row_0 : decode cX0_row 0 = .ok (.iload_n 1, 1) := dk_27 (dk_at dksX0_row_0 0 rfl rfl)
theorem dX0_row_1 : decode cX0_row 1 = .ok (.invokestatic 9, 3) := dk_184 0 9 (dk_at dksX0_row_0 1 rfl rfl)
theorem dX0_row_4 : decode cX0_row 4 = .ok (.ifCond .eq 21, 3) := dk_153 0 21 (dk_at dksX0_row_0 4 rfl rfl)
theorem dX0_row_7 : decode cX0_row 7 = .ok (.iload_n 2, 1) := dk_28 (dk_at dksX0_row_0 7 rfl rfl)
theorem dX0_row_8 : decode cX0_row 8 = .ok (.i2l, 1) := dk_133 (dk_at dksX0_row_0 8 rfl rfl)
theorem dX0_row_9 : decode cX0_row 9 = .ok (.lconst 0, 1) := dk_9 (dk_at dksX0_row_0 9 rfl rfl)
theorem dX0_row_10 : decode cX0_row 10 = .ok (.ldc2_w 3, 3) := dk_20 0 3 (dk_at dksX0_row_0 10 rfl rfl)
theorem dX0_row_13 : decode cX0_row 13 = .ok (.invokestatic 5, 3) := dk_184 0 5 (dk_at dksX0_row_0 13 rfl rfl)
theorem dX0_row_16 : decode cX0_row 16 = .ok (.ifCond .eq 9, 3) := dk_153 0 9 (dk_at dksX0_row_0 16 rfl rfl)
theorem dX0_row_19 : decode cX0_row 19 = .ok (.iload_n 3, 1) := dk_29 (dk_at dksX0_row_0 19 rfl rfl)
theorem dX0_row_20 : decode cX0_row 20 = .ok (.bipush 60, 2) := dk_16 60 (dk_at dksX0_row_0 20 rfl rfl)
theorem dX0_row_22 : decode cX0_row 22 = .ok (.if_icmp .le 6, 3) := dk_164 0 6 (dk_at dksX0_row_1 0 rfl rfl)
theorem dX0_row_25 : decode cX0_row 25 = .ok (.bipush (-2), 2) := dk_16 254 (dk_at dksX0_row_1 3 rfl rfl)
theorem dX0_row_27 : decode cX0_row 27 = .ok (.ireturn, 1) := dk_172 (dk_at dksX0_row_1 5 rfl rfl)
theorem dX0_row_28 : decode cX0_row 28 = .ok (.aload_n 0, 1) := dk_42 (dk_at dksX0_row_1 6 rfl rfl)
theorem dX0_row_29 : decode cX0_row 29 = .ok (.getfield 13, 3) := dk_180 0 13 (dk_at dksX0_row_1 7 rfl rfl)
theorem dX0_row_32 : decode cX0_row 32 = .ok (.iload_n 1, 1) := dk_27 (dk_at dksX0_row_1 10 rfl rfl)
theorem dX0_row_33 : decode cX0_row 33 = .ok (.aaload, 1) := dk_50 (dk_at dksX0_row_1 11 rfl rfl)
theorem dX0_row_34 : decode cX0_row 34 = .ok (.iload_n 2, 1) := dk_28 (dk_at dksX0_row_1 12 rfl rfl)
theorem dX0_row_35 : decode cX0_row 35 = .ok (.iload_n 3, 1) := dk_29 (dk_at dksX0_row_1 13 rfl rfl)
theorem dX0_row_36 : decode cX0_row 36 = .ok (.invokevirtual 17, 3) := dk_182 0 17 (dk_at dksX0_row_1 14 rfl rfl)
theorem dX0_row_39 : decode cX0_row 39 = .ok (.ifCond .eq 7, 3) := dk_153 0 7 (dk_at dksX0_row_1 17 rfl rfl)
theorem dX0_row_42 : decode cX0_row 42 = .ok (.iconst 0, 1) := dk_3 (dk_at dksX0_row_1 20 rfl rfl)
theorem dX0_row_43 : decode cX0_row 43 = .ok (.goto 5, 3) := dk_167 0 5 (dk_at dksX0_row_1 21 rfl rfl)
theorem dX0_row_46 : decode cX0_row 46 = .ok (.bipush (-3), 2) := dk_16 253 (dk_at dksX0_row_2 0 rfl rfl)
theorem dX0_row_48 : decode cX0_row 48 = .ok (.ireturn, 1) := dk_172 (dk_at dksX0_row_2 2 rfl rfl)
abbrev cX0_isSlot : ByteArray := prog_1_method_3_code
def yX0_isSlot : MethodName := ⟨RX0, "isSlot", "(I)Z"⟩
def dkwX0_isSlot_0 : List UInt8 := [26, 133, 9, 20, 0, 3, 184, 0, 5, 172]
abbrev dktX0_isSlot_0 : List UInt8 := dkwX0_isSlot_0 ++ []
theorem dksX0_isSlot_0 : cX0_isSlot.data.toList.drop 0 = dktX0_isSlot_0 := by decide +kernel
theorem dX0_isSlot_0 : decode cX0_isSlot 0 = .ok (.iload_n 0, 1) := dk_26 (dk_at dksX0_isSlot_0 0 rfl rfl)
theorem dX0_isSlot_1 : decode cX0_isSlot 1 = .ok (.i2l, 1) := dk_133 (dk_at dksX0_isSlot_0 1 rfl rfl)
theorem dX0_isSlot_2 : decode cX0_isSlot 2 = .ok (.lconst 0, 1) := dk_9 (dk_at dksX0_isSlot_0 2 rfl rfl)
theorem dX0_isSlot_3 : decode cX0_isSlot 3 = .ok (.ldc2_w 3, 3) := dk_20 0 3 (dk_at dksX0_isSlot_0 3 rfl rfl)
theorem dX0_isSlot_6 : decode cX0_isSlot 6 = .ok (.invokestatic 5, 3) := dk_184 0 5 (dk_at dksX0_isSlot_0 6 rfl rfl)
theorem dX0_isSlot_9 : decode cX0_isSlot 9 = .ok (.ireturn, 1) := dk_172 (dk_at dksX0_isSlot_0 9 rfl rfl)
abbrev cX0_in : ByteArray := prog_1_method_1_code
def yX0_in : MethodName := ⟨RX0, "in", "(JJJ)Z"⟩
def dkwX0_in_0 : List UInt8 := [30, 32, 148, 155, 0, 14, 30, 22, 4, 148, 157, 0, 7, 4, 167, 0, 4, 3, 172]
abbrev dktX0_in_0 : List UInt8 := dkwX0_in_0 ++ []
theorem dksX0_in_0 : cX0_in.data.toList.drop 0 = dktX0_in_0 := by decide +kernel
theorem dX0_in_0 : decode cX0_in 0 = .ok (.lload_n 0, 1) := dk_30 (dk_at dksX0_in_0 0 rfl rfl)
theorem dX0_in_1 : decode cX0_in 1 = .ok (.lload_n 2, 1) := dk_32 (dk_at dksX0_in_0 1 rfl rfl)
theorem dX0_in_2 : decode cX0_in 2 = .ok (.lcmp, 1) := dk_148 (dk_at dksX0_in_0 2 rfl rfl)
theorem dX0_in_3 : decode cX0_in 3 = .ok (.ifCond .lt 14, 3) := dk_155 0 14 (dk_at dksX0_in_0 3 rfl rfl)
theorem dX0_in_6 : decode cX0_in 6 = .ok (.lload_n 0, 1) := dk_30 (dk_at dksX0_in_0 6 rfl rfl)
theorem dX0_in_7 : decode cX0_in 7 = .ok (.lload 4, 2) := dk_22 4 (dk_at dksX0_in_0 7 rfl rfl)
theorem dX0_in_9 : decode cX0_in 9 = .ok (.lcmp, 1) := dk_148 (dk_at dksX0_in_0 9 rfl rfl)
theorem dX0_in_10 : decode cX0_in 10 = .ok (.ifCond .gt 7, 3) := dk_157 0 7 (dk_at dksX0_in_0 10 rfl rfl)
theorem dX0_in_13 : decode cX0_in 13 = .ok (.iconst 1, 1) := dk_4 (dk_at dksX0_in_0 13 rfl rfl)
theorem dX0_in_14 : decode cX0_in 14 = .ok (.goto 4, 3) := dk_167 0 4 (dk_at dksX0_in_0 14 rfl rfl)
theorem dX0_in_17 : decode cX0_in 17 = .ok (.iconst 0, 1) := dk_3 (dk_at dksX0_in_0 17 rfl rfl)
theorem dX0_in_18 : decode cX0_in 18 = .ok (.ireturn, 1) := dk_172 (dk_at dksX0_in_0 18 rfl rfl)
abbrev cX0_write : ByteArray := prog_1_method_5_code
def yX0_write : MethodName := ⟨RX0, "write", "(IIJ)I"⟩
def dkwX0_write_0 : List UInt8 := [27, 184, 0, 9, 153, 0, 17, 42, 180, 0, 13, 27, 50, 28, 33, 182, 0, 23, 167, 0, 5, 16, 254, 172]
abbrev dktX0_write_0 : List UInt8 := dkwX0_write_0 ++ []
theorem dksX0_write_0 : cX0_write.data.toList.drop 0 = dktX0_write_0 := by decide +kernel
theorem dX0_write_0 : decode cX0_write 0 = .ok (.iload_n 1, 1) := dk_27 (dk_at dksX0_write_0 0 rfl rfl)
theorem dX0_write_1 : decode cX0_write 1 = .ok (.invokestatic 9, 3) := dk_184 0 9 (dk_at dksX0_write_0 1 rfl rfl)
theorem dX0_write_4 : decode cX0_write 4 = .ok (.ifCond .eq 17, 3) := dk_153 0 17 (dk_at dksX0_write_0 4 rfl rfl)
theorem dX0_write_7 : decode cX0_write 7 = .ok (.aload_n 0, 1) := dk_42 (dk_at dksX0_write_0 7 rfl rfl)
theorem dX0_write_8 : decode cX0_write 8 = .ok (.getfield 13, 3) := dk_180 0 13 (dk_at dksX0_write_0 8 rfl rfl)
theorem dX0_write_11 : decode cX0_write 11 = .ok (.iload_n 1, 1) := dk_27 (dk_at dksX0_write_0 11 rfl rfl)
theorem dX0_write_12 : decode cX0_write 12 = .ok (.aaload, 1) := dk_50 (dk_at dksX0_write_0 12 rfl rfl)
theorem dX0_write_13 : decode cX0_write 13 = .ok (.iload_n 2, 1) := dk_28 (dk_at dksX0_write_0 13 rfl rfl)
theorem dX0_write_14 : decode cX0_write 14 = .ok (.lload_n 3, 1) := dk_33 (dk_at dksX0_write_0 14 rfl rfl)
theorem dX0_write_15 : decode cX0_write 15 = .ok (.invokevirtual 23, 3) := dk_182 0 23 (dk_at dksX0_write_0 15 rfl rfl)
theorem dX0_write_18 : decode cX0_write 18 = .ok (.goto 5, 3) := dk_167 0 5 (dk_at dksX0_write_0 18 rfl rfl)
theorem dX0_write_21 : decode cX0_write 21 = .ok (.bipush (-2), 2) := dk_16 254 (dk_at dksX0_write_0 21 rfl rfl)
theorem dX0_write_23 : decode cX0_write 23 = .ok (.ireturn, 1) := dk_172 (dk_at dksX0_write_0 23 rfl rfl)
abbrev cX0_paste : ByteArray := prog_1_method_6_code
def yX0_paste : MethodName := ⟨RX0, "paste", "(IIIII)I"⟩
def dkwX0_paste_1 : List UInt8 := [180, 0, 13, 29, 50, 21, 4, 21, 5, 182, 0, 27, 167, 0, 5, 16, 254, 172]
abbrev dktX0_paste_1 : List UInt8 := dkwX0_paste_1 ++ []
def dkwX0_paste_0 : List UInt8 := [27, 184, 0, 9, 153, 0, 33, 29, 184, 0, 9, 153, 0, 26, 42, 180, 0, 13, 27, 50, 28, 42]
abbrev dktX0_paste_0 : List UInt8 := dkwX0_paste_0 ++ dktX0_paste_1
theorem dksX0_paste_0 : cX0_paste.data.toList.drop 0 = dktX0_paste_0 := by decide +kernel
theorem dksX0_paste_1 : cX0_paste.data.toList.drop 22 = dktX0_paste_1 := dk_seg dksX0_paste_0 22 rfl rfl
theorem dX0_paste_0 : decode cX0_paste 0 = .ok (.iload_n 1, 1) := dk_27 (dk_at dksX0_paste_0 0 rfl rfl)
theorem dX0_paste_1 : decode cX0_paste 1 = .ok (.invokestatic 9, 3) := dk_184 0 9 (dk_at dksX0_paste_0 1 rfl rfl)
theorem dX0_paste_4 : decode cX0_paste 4 = .ok (.ifCond .eq 33, 3) := dk_153 0 33 (dk_at dksX0_paste_0 4 rfl rfl)
theorem dX0_paste_7 : decode cX0_paste 7 = .ok (.iload_n 3, 1) := dk_29 (dk_at dksX0_paste_0 7 rfl rfl)
theorem dX0_paste_8 : decode cX0_paste 8 = .ok (.invokestatic 9, 3) := dk_184 0 9 (dk_at dksX0_paste_0 8 rfl rfl)
theorem dX0_paste_11 : decode cX0_paste 11 = .ok (.ifCond .eq 26, 3) := dk_153 0 26 (dk_at dksX0_paste_0 11 rfl rfl)
theorem dX0_paste_14 : decode cX0_paste 14 = .ok (.aload_n 0, 1) := dk_42 (dk_at dksX0_paste_0 14 rfl rfl)
theorem dX0_paste_15 : decode cX0_paste 15 = .ok (.getfield 13, 3) := dk_180 0 13 (dk_at dksX0_paste_0 15 rfl rfl)
theorem dX0_paste_18 : decode cX0_paste 18 = .ok (.iload_n 1, 1) := dk_27 (dk_at dksX0_paste_0 18 rfl rfl)
theorem dX0_paste_19 : decode cX0_paste 19 = .ok (.aaload, 1) := dk_50 (dk_at dksX0_paste_0 19 rfl rfl)
theorem dX0_paste_20 : decode cX0_paste 20 = .ok (.iload_n 2, 1) := dk_28 (dk_at dksX0_paste_0 20 rfl rfl)
theorem dX0_paste_21 : decode cX0_paste 21 = .ok (.aload_n 0, 1) := dk_42 (dk_at dksX0_paste_0 21 rfl rfl)
theorem dX0_paste_22 : decode cX0_paste 22 = .ok (.getfield 13, 3) := dk_180 0 13 (dk_at dksX0_paste_1 0 rfl rfl)
theorem dX0_paste_25 : decode cX0_paste 25 = .ok (.iload_n 3, 1) := dk_29 (dk_at dksX0_paste_1 3 rfl rfl)
theorem dX0_paste_26 : decode cX0_paste 26 = .ok (.aaload, 1) := dk_50 (dk_at dksX0_paste_1 4 rfl rfl)
theorem dX0_paste_27 : decode cX0_paste 27 = .ok (.iload 4, 2) := dk_21 4 (dk_at dksX0_paste_1 5 rfl rfl)
theorem dX0_paste_29 : decode cX0_paste 29 = .ok (.iload 5, 2) := dk_21 5 (dk_at dksX0_paste_1 7 rfl rfl)
theorem dX0_paste_31 : decode cX0_paste 31 = .ok (.invokevirtual 27, 3) := dk_182 0 27 (dk_at dksX0_paste_1 9 rfl rfl)
theorem dX0_paste_34 : decode cX0_paste 34 = .ok (.goto 5, 3) := dk_167 0 5 (dk_at dksX0_paste_1 12 rfl rfl)
theorem dX0_paste_37 : decode cX0_paste 37 = .ok (.bipush (-2), 2) := dk_16 254 (dk_at dksX0_paste_1 15 rfl rfl)
theorem dX0_paste_39 : decode cX0_paste 39 = .ok (.ireturn, 1) := dk_172 (dk_at dksX0_paste_1 17 rfl rfl)
abbrev cX0_init : ByteArray := prog_1_method_7_code
def yX0_init : MethodName := ⟨RX0, "<init>", "()V"⟩
def dkwX0_init_6 : List UInt8 := [27, 187, 0, 18, 89, 183, 0, 94, 83, 132, 1, 1, 167, 255, 235, 177]
abbrev dktX0_init_6 : List UInt8 := dkwX0_init_6 ++ []
def dkwX0_init_5 : List UInt8 := [188, 10, 181, 0, 87, 42, 18, 90, 188, 10, 181, 0, 91, 3, 60, 27, 7, 162, 0, 22, 42, 180, 0, 13]
abbrev dktX0_init_5 : List UInt8 := dkwX0_init_5 ++ dktX0_init_6
def dkwX0_init_4 : List UInt8 := [188, 8, 181, 0, 75, 42, 2, 181, 0, 79, 42, 17, 4, 0, 188, 10, 181, 0, 83, 42, 17, 4, 0]
abbrev dktX0_init_4 : List UInt8 := dkwX0_init_4 ++ dktX0_init_5
def dkwX0_init_3 : List UInt8 := [183, 0, 61, 83, 181, 0, 62, 42, 187, 0, 66, 89, 42, 183, 0, 68, 181, 0, 71, 42, 17, 5, 120]
abbrev dktX0_init_3 : List UInt8 := dkwX0_init_3 ++ dktX0_init_4
def dkwX0_init_2 : List UInt8 := [187, 0, 53, 89, 183, 0, 55, 83, 89, 5, 187, 0, 56, 89, 183, 0, 58, 83, 89, 6, 187, 0, 59, 89]
abbrev dktX0_init_2 : List UInt8 := dkwX0_init_2 ++ dktX0_init_3
def dkwX0_init_1 : List UInt8 := [6, 189, 0, 37, 181, 0, 44, 42, 7, 189, 0, 48, 89, 3, 187, 0, 50, 89, 183, 0, 52, 83, 89, 4]
abbrev dktX0_init_1 : List UInt8 := dkwX0_init_1 ++ dktX0_init_2
def dkwX0_init_0 : List UInt8 := [42, 183, 0, 31, 42, 7, 189, 0, 18, 181, 0, 13, 42, 187, 0, 37, 89, 183, 0, 39, 181, 0, 40, 42]
abbrev dktX0_init_0 : List UInt8 := dkwX0_init_0 ++ dktX0_init_1
theorem dksX0_init_0 : cX0_init.data.toList.drop 0 = dktX0_init_0 := by decide +kernel
theorem dksX0_init_1 : cX0_init.data.toList.drop 24 = dktX0_init_1 := dk_seg dksX0_init_0 24 rfl rfl
theorem dksX0_init_2 : cX0_init.data.toList.drop 48 = dktX0_init_2 := dk_seg dksX0_init_1 24 rfl rfl
theorem dksX0_init_3 : cX0_init.data.toList.drop 72 = dktX0_init_3 := dk_seg dksX0_init_2 24 rfl rfl
theorem dksX0_init_4 : cX0_init.data.toList.drop 95 = dktX0_init_4 := dk_seg dksX0_init_3 23 rfl rfl
theorem dksX0_init_5 : cX0_init.data.toList.drop 118 = dktX0_init_5 := dk_seg dksX0_init_4 23 rfl rfl
theorem dksX0_init_6 : cX0_init.data.toList.drop 142 = dktX0_init_6 := dk_seg dksX0_init_5 24 rfl rfl
theorem dX0_init_0 : decode cX0_init 0 = .ok (.aload_n 0, 1) := dk_42 (dk_at dksX0_init_0 0 rfl rfl)
theorem dX0_init_1 : decode cX0_init 1 = .ok (.invokespecial 31, 3) := dk_183 0 31 (dk_at dksX0_init_0 1 rfl rfl)
theorem dX0_init_4 : decode cX0_init 4 = .ok (.aload_n 0, 1) := dk_42 (dk_at dksX0_init_0 4 rfl rfl)
theorem dX0_init_5 : decode cX0_init 5 = .ok (.iconst 4, 1) := dk_7 (dk_at dksX0_init_0 5 rfl rfl)
theorem dX0_init_6 : decode cX0_init 6 = .ok (.anewarray 18, 3) := dk_189 0 18 (dk_at dksX0_init_0 6 rfl rfl)
theorem dX0_init_9 : decode cX0_init 9 = .ok (.putfield 13, 3) := dk_181 0 13 (dk_at dksX0_init_0 9 rfl rfl)
theorem dX0_init_12 : decode cX0_init 12 = .ok (.aload_n 0, 1) := dk_42 (dk_at dksX0_init_0 12 rfl rfl)
theorem dX0_init_13 : decode cX0_init 13 = .ok (.new 37, 3) := dk_187 0 37 (dk_at dksX0_init_0 13 rfl rfl)
theorem dX0_init_16 : decode cX0_init 16 = .ok (.dup, 1) := dk_89 (dk_at dksX0_init_0 16 rfl rfl)
theorem dX0_init_17 : decode cX0_init 17 = .ok (.invokespecial 39, 3) := dk_183 0 39 (dk_at dksX0_init_0 17 rfl rfl)
theorem dX0_init_20 : decode cX0_init 20 = .ok (.putfield 40, 3) := dk_181 0 40 (dk_at dksX0_init_0 20 rfl rfl)
theorem dX0_init_23 : decode cX0_init 23 = .ok (.aload_n 0, 1) := dk_42 (dk_at dksX0_init_0 23 rfl rfl)
theorem dX0_init_24 : decode cX0_init 24 = .ok (.iconst 3, 1) := dk_6 (dk_at dksX0_init_1 0 rfl rfl)
theorem dX0_init_25 : decode cX0_init 25 = .ok (.anewarray 37, 3) := dk_189 0 37 (dk_at dksX0_init_1 1 rfl rfl)
theorem dX0_init_28 : decode cX0_init 28 = .ok (.putfield 44, 3) := dk_181 0 44 (dk_at dksX0_init_1 4 rfl rfl)
theorem dX0_init_31 : decode cX0_init 31 = .ok (.aload_n 0, 1) := dk_42 (dk_at dksX0_init_1 7 rfl rfl)
theorem dX0_init_32 : decode cX0_init 32 = .ok (.iconst 4, 1) := dk_7 (dk_at dksX0_init_1 8 rfl rfl)
theorem dX0_init_33 : decode cX0_init 33 = .ok (.anewarray 48, 3) := dk_189 0 48 (dk_at dksX0_init_1 9 rfl rfl)
theorem dX0_init_36 : decode cX0_init 36 = .ok (.dup, 1) := dk_89 (dk_at dksX0_init_1 12 rfl rfl)
theorem dX0_init_37 : decode cX0_init 37 = .ok (.iconst 0, 1) := dk_3 (dk_at dksX0_init_1 13 rfl rfl)
theorem dX0_init_38 : decode cX0_init 38 = .ok (.new 50, 3) := dk_187 0 50 (dk_at dksX0_init_1 14 rfl rfl)
theorem dX0_init_41 : decode cX0_init 41 = .ok (.dup, 1) := dk_89 (dk_at dksX0_init_1 17 rfl rfl)
theorem dX0_init_42 : decode cX0_init 42 = .ok (.invokespecial 52, 3) := dk_183 0 52 (dk_at dksX0_init_1 18 rfl rfl)
theorem dX0_init_45 : decode cX0_init 45 = .ok (.aastore, 1) := dk_83 (dk_at dksX0_init_1 21 rfl rfl)
theorem dX0_init_46 : decode cX0_init 46 = .ok (.dup, 1) := dk_89 (dk_at dksX0_init_1 22 rfl rfl)
theorem dX0_init_47 : decode cX0_init 47 = .ok (.iconst 1, 1) := dk_4 (dk_at dksX0_init_1 23 rfl rfl)
theorem dX0_init_48 : decode cX0_init 48 = .ok (.new 53, 3) := dk_187 0 53 (dk_at dksX0_init_2 0 rfl rfl)
theorem dX0_init_51 : decode cX0_init 51 = .ok (.dup, 1) := dk_89 (dk_at dksX0_init_2 3 rfl rfl)
theorem dX0_init_52 : decode cX0_init 52 = .ok (.invokespecial 55, 3) := dk_183 0 55 (dk_at dksX0_init_2 4 rfl rfl)
theorem dX0_init_55 : decode cX0_init 55 = .ok (.aastore, 1) := dk_83 (dk_at dksX0_init_2 7 rfl rfl)
theorem dX0_init_56 : decode cX0_init 56 = .ok (.dup, 1) := dk_89 (dk_at dksX0_init_2 8 rfl rfl)
theorem dX0_init_57 : decode cX0_init 57 = .ok (.iconst 2, 1) := dk_5 (dk_at dksX0_init_2 9 rfl rfl)
theorem dX0_init_58 : decode cX0_init 58 = .ok (.new 56, 3) := dk_187 0 56 (dk_at dksX0_init_2 10 rfl rfl)
theorem dX0_init_61 : decode cX0_init 61 = .ok (.dup, 1) := dk_89 (dk_at dksX0_init_2 13 rfl rfl)
theorem dX0_init_62 : decode cX0_init 62 = .ok (.invokespecial 58, 3) := dk_183 0 58 (dk_at dksX0_init_2 14 rfl rfl)
theorem dX0_init_65 : decode cX0_init 65 = .ok (.aastore, 1) := dk_83 (dk_at dksX0_init_2 17 rfl rfl)
theorem dX0_init_66 : decode cX0_init 66 = .ok (.dup, 1) := dk_89 (dk_at dksX0_init_2 18 rfl rfl)
theorem dX0_init_67 : decode cX0_init 67 = .ok (.iconst 3, 1) := dk_6 (dk_at dksX0_init_2 19 rfl rfl)
theorem dX0_init_68 : decode cX0_init 68 = .ok (.new 59, 3) := dk_187 0 59 (dk_at dksX0_init_2 20 rfl rfl)
theorem dX0_init_71 : decode cX0_init 71 = .ok (.dup, 1) := dk_89 (dk_at dksX0_init_2 23 rfl rfl)
theorem dX0_init_72 : decode cX0_init 72 = .ok (.invokespecial 61, 3) := dk_183 0 61 (dk_at dksX0_init_3 0 rfl rfl)
theorem dX0_init_75 : decode cX0_init 75 = .ok (.aastore, 1) := dk_83 (dk_at dksX0_init_3 3 rfl rfl)
theorem dX0_init_76 : decode cX0_init 76 = .ok (.putfield 62, 3) := dk_181 0 62 (dk_at dksX0_init_3 4 rfl rfl)
theorem dX0_init_79 : decode cX0_init 79 = .ok (.aload_n 0, 1) := dk_42 (dk_at dksX0_init_3 7 rfl rfl)
theorem dX0_init_80 : decode cX0_init 80 = .ok (.new 66, 3) := dk_187 0 66 (dk_at dksX0_init_3 8 rfl rfl)
theorem dX0_init_83 : decode cX0_init 83 = .ok (.dup, 1) := dk_89 (dk_at dksX0_init_3 11 rfl rfl)
theorem dX0_init_84 : decode cX0_init 84 = .ok (.aload_n 0, 1) := dk_42 (dk_at dksX0_init_3 12 rfl rfl)
theorem dX0_init_85 : decode cX0_init 85 = .ok (.invokespecial 68, 3) := dk_183 0 68 (dk_at dksX0_init_3 13 rfl rfl)
theorem dX0_init_88 : decode cX0_init 88 = .ok (.putfield 71, 3) := dk_181 0 71 (dk_at dksX0_init_3 16 rfl rfl)
theorem dX0_init_91 : decode cX0_init 91 = .ok (.aload_n 0, 1) := dk_42 (dk_at dksX0_init_3 19 rfl rfl)
theorem dX0_init_92 : decode cX0_init 92 = .ok (.sipush 1400, 3) := dk_17 5 120 (dk_at dksX0_init_3 20 rfl rfl)
theorem dX0_init_95 : decode cX0_init 95 = .ok (.newarray .byte, 2) := dk_188_8 (dk_at dksX0_init_4 0 rfl rfl)
theorem dX0_init_97 : decode cX0_init 97 = .ok (.putfield 75, 3) := dk_181 0 75 (dk_at dksX0_init_4 2 rfl rfl)
theorem dX0_init_100 : decode cX0_init 100 = .ok (.aload_n 0, 1) := dk_42 (dk_at dksX0_init_4 5 rfl rfl)
theorem dX0_init_101 : decode cX0_init 101 = .ok (.iconst (-1), 1) := dk_2 (dk_at dksX0_init_4 6 rfl rfl)
theorem dX0_init_102 : decode cX0_init 102 = .ok (.putfield 79, 3) := dk_181 0 79 (dk_at dksX0_init_4 7 rfl rfl)
theorem dX0_init_105 : decode cX0_init 105 = .ok (.aload_n 0, 1) := dk_42 (dk_at dksX0_init_4 10 rfl rfl)
theorem dX0_init_106 : decode cX0_init 106 = .ok (.sipush 1024, 3) := dk_17 4 0 (dk_at dksX0_init_4 11 rfl rfl)
theorem dX0_init_109 : decode cX0_init 109 = .ok (.newarray .int, 2) := dk_188_10 (dk_at dksX0_init_4 14 rfl rfl)
theorem dX0_init_111 : decode cX0_init 111 = .ok (.putfield 83, 3) := dk_181 0 83 (dk_at dksX0_init_4 16 rfl rfl)
theorem dX0_init_114 : decode cX0_init 114 = .ok (.aload_n 0, 1) := dk_42 (dk_at dksX0_init_4 19 rfl rfl)
theorem dX0_init_115 : decode cX0_init 115 = .ok (.sipush 1024, 3) := dk_17 4 0 (dk_at dksX0_init_4 20 rfl rfl)
theorem dX0_init_118 : decode cX0_init 118 = .ok (.newarray .int, 2) := dk_188_10 (dk_at dksX0_init_5 0 rfl rfl)
theorem dX0_init_120 : decode cX0_init 120 = .ok (.putfield 87, 3) := dk_181 0 87 (dk_at dksX0_init_5 2 rfl rfl)
theorem dX0_init_123 : decode cX0_init 123 = .ok (.aload_n 0, 1) := dk_42 (dk_at dksX0_init_5 5 rfl rfl)
theorem dX0_init_124 : decode cX0_init 124 = .ok (.ldc 90, 2) := dk_18 90 (dk_at dksX0_init_5 6 rfl rfl)
theorem dX0_init_126 : decode cX0_init 126 = .ok (.newarray .int, 2) := dk_188_10 (dk_at dksX0_init_5 8 rfl rfl)
theorem dX0_init_128 : decode cX0_init 128 = .ok (.putfield 91, 3) := dk_181 0 91 (dk_at dksX0_init_5 10 rfl rfl)
theorem dX0_init_131 : decode cX0_init 131 = .ok (.iconst 0, 1) := dk_3 (dk_at dksX0_init_5 13 rfl rfl)
theorem dX0_init_132 : decode cX0_init 132 = .ok (.istore_n 1, 1) := dk_60 (dk_at dksX0_init_5 14 rfl rfl)
theorem dX0_init_133 : decode cX0_init 133 = .ok (.iload_n 1, 1) := dk_27 (dk_at dksX0_init_5 15 rfl rfl)
theorem dX0_init_134 : decode cX0_init 134 = .ok (.iconst 4, 1) := dk_7 (dk_at dksX0_init_5 16 rfl rfl)
theorem dX0_init_135 : decode cX0_init 135 = .ok (.if_icmp .ge 22, 3) := dk_162 0 22 (dk_at dksX0_init_5 17 rfl rfl)
theorem dX0_init_138 : decode cX0_init 138 = .ok (.aload_n 0, 1) := dk_42 (dk_at dksX0_init_5 20 rfl rfl)
theorem dX0_init_139 : decode cX0_init 139 = .ok (.getfield 13, 3) := dk_180 0 13 (dk_at dksX0_init_5 21 rfl rfl)
theorem dX0_init_142 : decode cX0_init 142 = .ok (.iload_n 1, 1) := dk_27 (dk_at dksX0_init_6 0 rfl rfl)
theorem dX0_init_143 : decode cX0_init 143 = .ok (.new 18, 3) := dk_187 0 18 (dk_at dksX0_init_6 1 rfl rfl)
theorem dX0_init_146 : decode cX0_init 146 = .ok (.dup, 1) := dk_89 (dk_at dksX0_init_6 4 rfl rfl)
theorem dX0_init_147 : decode cX0_init 147 = .ok (.invokespecial 94, 3) := dk_183 0 94 (dk_at dksX0_init_6 5 rfl rfl)
theorem dX0_init_150 : decode cX0_init 150 = .ok (.aastore, 1) := dk_83 (dk_at dksX0_init_6 8 rfl rfl)
theorem dX0_init_151 : decode cX0_init 151 = .ok (.iinc 1 1, 3) := dk_132 1 1 (dk_at dksX0_init_6 9 rfl rfl)
theorem dX0_init_154 : decode cX0_init 154 = .ok (.goto (-21), 3) := dk_167 255 235 (dk_at dksX0_init_6 12 rfl rfl)
theorem dX0_init_157 : decode cX0_init 157 = .ok (.return_, 1) := dk_177 (dk_at dksX0_init_6 15 rfl rfl)
abbrev cX0_feed : ByteArray := prog_1_method_8_code
def yX0_feed : MethodName := ⟨RX0, "feed", "(IIIII)I"⟩
def dkwX0_feed_2 : List UInt8 := [172]
abbrev dktX0_feed_2 : List UInt8 := dkwX0_feed_2 ++ []
def dkwX0_feed_1 : List UInt8 := [182, 0, 98, 42, 29, 182, 0, 98, 42, 21, 4, 182, 0, 98, 42, 21, 5, 182, 0, 98, 42, 180, 0, 95]
abbrev dktX0_feed_1 : List UInt8 := dkwX0_feed_1 ++ dktX0_feed_2
def dkwX0_feed_0 : List UInt8 := [42, 180, 0, 95, 16, 20, 96, 17, 5, 120, 164, 0, 5, 2, 172, 42, 27, 182, 0, 98, 42, 28]
abbrev dktX0_feed_0 : List UInt8 := dkwX0_feed_0 ++ dktX0_feed_1
theorem dksX0_feed_0 : cX0_feed.data.toList.drop 0 = dktX0_feed_0 := by decide +kernel
theorem dksX0_feed_1 : cX0_feed.data.toList.drop 22 = dktX0_feed_1 := dk_seg dksX0_feed_0 22 rfl rfl
theorem dksX0_feed_2 : cX0_feed.data.toList.drop 46 = dktX0_feed_2 := dk_seg dksX0_feed_1 24 rfl rfl
theorem dX0_feed_0 : decode cX0_feed 0 = .ok (.aload_n 0, 1) := dk_42 (dk_at dksX0_feed_0 0 rfl rfl)
theorem dX0_feed_1 : decode cX0_feed 1 = .ok (.getfield 95, 3) := dk_180 0 95 (dk_at dksX0_feed_0 1 rfl rfl)
theorem dX0_feed_4 : decode cX0_feed 4 = .ok (.bipush 20, 2) := dk_16 20 (dk_at dksX0_feed_0 4 rfl rfl)
theorem dX0_feed_6 : decode cX0_feed 6 = .ok (.iadd, 1) := dk_96 (dk_at dksX0_feed_0 6 rfl rfl)
theorem dX0_feed_7 : decode cX0_feed 7 = .ok (.sipush 1400, 3) := dk_17 5 120 (dk_at dksX0_feed_0 7 rfl rfl)
theorem dX0_feed_10 : decode cX0_feed 10 = .ok (.if_icmp .le 5, 3) := dk_164 0 5 (dk_at dksX0_feed_0 10 rfl rfl)
theorem dX0_feed_13 : decode cX0_feed 13 = .ok (.iconst (-1), 1) := dk_2 (dk_at dksX0_feed_0 13 rfl rfl)
theorem dX0_feed_14 : decode cX0_feed 14 = .ok (.ireturn, 1) := dk_172 (dk_at dksX0_feed_0 14 rfl rfl)
theorem dX0_feed_15 : decode cX0_feed 15 = .ok (.aload_n 0, 1) := dk_42 (dk_at dksX0_feed_0 15 rfl rfl)
theorem dX0_feed_16 : decode cX0_feed 16 = .ok (.iload_n 1, 1) := dk_27 (dk_at dksX0_feed_0 16 rfl rfl)
theorem dX0_feed_17 : decode cX0_feed 17 = .ok (.invokevirtual 98, 3) := dk_182 0 98 (dk_at dksX0_feed_0 17 rfl rfl)
theorem dX0_feed_20 : decode cX0_feed 20 = .ok (.aload_n 0, 1) := dk_42 (dk_at dksX0_feed_0 20 rfl rfl)
theorem dX0_feed_21 : decode cX0_feed 21 = .ok (.iload_n 2, 1) := dk_28 (dk_at dksX0_feed_0 21 rfl rfl)
theorem dX0_feed_22 : decode cX0_feed 22 = .ok (.invokevirtual 98, 3) := dk_182 0 98 (dk_at dksX0_feed_1 0 rfl rfl)
theorem dX0_feed_25 : decode cX0_feed 25 = .ok (.aload_n 0, 1) := dk_42 (dk_at dksX0_feed_1 3 rfl rfl)
theorem dX0_feed_26 : decode cX0_feed 26 = .ok (.iload_n 3, 1) := dk_29 (dk_at dksX0_feed_1 4 rfl rfl)
theorem dX0_feed_27 : decode cX0_feed 27 = .ok (.invokevirtual 98, 3) := dk_182 0 98 (dk_at dksX0_feed_1 5 rfl rfl)
theorem dX0_feed_30 : decode cX0_feed 30 = .ok (.aload_n 0, 1) := dk_42 (dk_at dksX0_feed_1 8 rfl rfl)
theorem dX0_feed_31 : decode cX0_feed 31 = .ok (.iload 4, 2) := dk_21 4 (dk_at dksX0_feed_1 9 rfl rfl)
theorem dX0_feed_33 : decode cX0_feed 33 = .ok (.invokevirtual 98, 3) := dk_182 0 98 (dk_at dksX0_feed_1 11 rfl rfl)
theorem dX0_feed_36 : decode cX0_feed 36 = .ok (.aload_n 0, 1) := dk_42 (dk_at dksX0_feed_1 14 rfl rfl)
theorem dX0_feed_37 : decode cX0_feed 37 = .ok (.iload 5, 2) := dk_21 5 (dk_at dksX0_feed_1 15 rfl rfl)
theorem dX0_feed_39 : decode cX0_feed 39 = .ok (.invokevirtual 98, 3) := dk_182 0 98 (dk_at dksX0_feed_1 17 rfl rfl)
theorem dX0_feed_42 : decode cX0_feed 42 = .ok (.aload_n 0, 1) := dk_42 (dk_at dksX0_feed_1 20 rfl rfl)
theorem dX0_feed_43 : decode cX0_feed 43 = .ok (.getfield 95, 3) := dk_180 0 95 (dk_at dksX0_feed_1 21 rfl rfl)
theorem dX0_feed_46 : decode cX0_feed 46 = .ok (.ireturn, 1) := dk_172 (dk_at dksX0_feed_2 0 rfl rfl)
abbrev cX0_puts : ByteArray := prog_1_method_9_code
def yX0_puts : MethodName := ⟨RX0, "puts", "(I)V"⟩
def dkwX0_puts_1 : List UInt8 := [180, 0, 95, 4, 96, 181, 0, 95, 132, 2, 248, 167, 255, 226, 177]
abbrev dktX0_puts_1 : List UInt8 := dkwX0_puts_1 ++ []
def dkwX0_puts_0 : List UInt8 := [16, 24, 61, 28, 155, 0, 32, 42, 180, 0, 75, 42, 180, 0, 95, 27, 28, 122, 145, 84, 42, 89]
abbrev dktX0_puts_0 : List UInt8 := dkwX0_puts_0 ++ dktX0_puts_1
theorem dksX0_puts_0 : cX0_puts.data.toList.drop 0 = dktX0_puts_0 := by decide +kernel
theorem dksX0_puts_1 : cX0_puts.data.toList.drop 22 = dktX0_puts_1 := dk_seg dksX0_puts_0 22 rfl rfl
theorem dX0_puts_0 : decode cX0_puts 0 = .ok (.bipush 24, 2) := dk_16 24 (dk_at dksX0_puts_0 0 rfl rfl)
theorem dX0_puts_2 : decode cX0_puts 2 = .ok (.istore_n 2, 1) := dk_61 (dk_at dksX0_puts_0 2 rfl rfl)
theorem dX0_puts_3 : decode cX0_puts 3 = .ok (.iload_n 2, 1) := dk_28 (dk_at dksX0_puts_0 3 rfl rfl)
theorem dX0_puts_4 : decode cX0_puts 4 = .ok (.ifCond .lt 32, 3) := dk_155 0 32 (dk_at dksX0_puts_0 4 rfl rfl)
theorem dX0_puts_7 : decode cX0_puts 7 = .ok (.aload_n 0, 1) := dk_42 (dk_at dksX0_puts_0 7 rfl rfl)
theorem dX0_puts_8 : decode cX0_puts 8 = .ok (.getfield 75, 3) := dk_180 0 75 (dk_at dksX0_puts_0 8 rfl rfl)
theorem dX0_puts_11 : decode cX0_puts 11 = .ok (.aload_n 0, 1) := dk_42 (dk_at dksX0_puts_0 11 rfl rfl)
theorem dX0_puts_12 : decode cX0_puts 12 = .ok (.getfield 95, 3) := dk_180 0 95 (dk_at dksX0_puts_0 12 rfl rfl)
theorem dX0_puts_15 : decode cX0_puts 15 = .ok (.iload_n 1, 1) := dk_27 (dk_at dksX0_puts_0 15 rfl rfl)
theorem dX0_puts_16 : decode cX0_puts 16 = .ok (.iload_n 2, 1) := dk_28 (dk_at dksX0_puts_0 16 rfl rfl)
theorem dX0_puts_17 : decode cX0_puts 17 = .ok (.ishr, 1) := dk_122 (dk_at dksX0_puts_0 17 rfl rfl)
theorem dX0_puts_18 : decode cX0_puts 18 = .ok (.i2b, 1) := dk_145 (dk_at dksX0_puts_0 18 rfl rfl)
theorem dX0_puts_19 : decode cX0_puts 19 = .ok (.bastore, 1) := dk_84 (dk_at dksX0_puts_0 19 rfl rfl)
theorem dX0_puts_20 : decode cX0_puts 20 = .ok (.aload_n 0, 1) := dk_42 (dk_at dksX0_puts_0 20 rfl rfl)
theorem dX0_puts_21 : decode cX0_puts 21 = .ok (.dup, 1) := dk_89 (dk_at dksX0_puts_0 21 rfl rfl)
theorem dX0_puts_22 : decode cX0_puts 22 = .ok (.getfield 95, 3) := dk_180 0 95 (dk_at dksX0_puts_1 0 rfl rfl)
theorem dX0_puts_25 : decode cX0_puts 25 = .ok (.iconst 1, 1) := dk_4 (dk_at dksX0_puts_1 3 rfl rfl)
theorem dX0_puts_26 : decode cX0_puts 26 = .ok (.iadd, 1) := dk_96 (dk_at dksX0_puts_1 4 rfl rfl)
theorem dX0_puts_27 : decode cX0_puts 27 = .ok (.putfield 95, 3) := dk_181 0 95 (dk_at dksX0_puts_1 5 rfl rfl)
theorem dX0_puts_30 : decode cX0_puts 30 = .ok (.iinc 2 (-8), 3) := dk_132 2 248 (dk_at dksX0_puts_1 8 rfl rfl)
theorem dX0_puts_33 : decode cX0_puts 33 = .ok (.goto (-30), 3) := dk_167 255 226 (dk_at dksX0_puts_1 11 rfl rfl)
theorem dX0_puts_36 : decode cX0_puts 36 = .ok (.return_, 1) := dk_177 (dk_at dksX0_puts_1 14 rfl rfl)
abbrev cX0_end : ByteArray := prog_1_method_10_code
def yX0_end : MethodName := ⟨RX0, "end", "(I)I"⟩
def dkwX0_end_0 : List UInt8 := [27, 133, 9, 42, 180, 0, 95, 133, 184, 0, 5, 154, 0, 5, 2, 172, 42, 27, 181, 0, 95, 27, 172]
abbrev dktX0_end_0 : List UInt8 := dkwX0_end_0 ++ []
theorem dksX0_end_0 : cX0_end.data.toList.drop 0 = dktX0_end_0 := by decide +kernel
theorem dX0_end_0 : decode cX0_end 0 = .ok (.iload_n 1, 1) := dk_27 (dk_at dksX0_end_0 0 rfl rfl)
theorem dX0_end_1 : decode cX0_end 1 = .ok (.i2l, 1) := dk_133 (dk_at dksX0_end_0 1 rfl rfl)
theorem dX0_end_2 : decode cX0_end 2 = .ok (.lconst 0, 1) := dk_9 (dk_at dksX0_end_0 2 rfl rfl)
theorem dX0_end_3 : decode cX0_end 3 = .ok (.aload_n 0, 1) := dk_42 (dk_at dksX0_end_0 3 rfl rfl)
theorem dX0_end_4 : decode cX0_end 4 = .ok (.getfield 95, 3) := dk_180 0 95 (dk_at dksX0_end_0 4 rfl rfl)
theorem dX0_end_7 : decode cX0_end 7 = .ok (.i2l, 1) := dk_133 (dk_at dksX0_end_0 7 rfl rfl)
theorem dX0_end_8 : decode cX0_end 8 = .ok (.invokestatic 5, 3) := dk_184 0 5 (dk_at dksX0_end_0 8 rfl rfl)
theorem dX0_end_11 : decode cX0_end 11 = .ok (.ifCond .ne 5, 3) := dk_154 0 5 (dk_at dksX0_end_0 11 rfl rfl)
theorem dX0_end_14 : decode cX0_end 14 = .ok (.iconst (-1), 1) := dk_2 (dk_at dksX0_end_0 14 rfl rfl)
theorem dX0_end_15 : decode cX0_end 15 = .ok (.ireturn, 1) := dk_172 (dk_at dksX0_end_0 15 rfl rfl)
theorem dX0_end_16 : decode cX0_end 16 = .ok (.aload_n 0, 1) := dk_42 (dk_at dksX0_end_0 16 rfl rfl)
theorem dX0_end_17 : decode cX0_end 17 = .ok (.iload_n 1, 1) := dk_27 (dk_at dksX0_end_0 17 rfl rfl)
theorem dX0_end_18 : decode cX0_end 18 = .ok (.putfield 95, 3) := dk_181 0 95 (dk_at dksX0_end_0 18 rfl rfl)
theorem dX0_end_21 : decode cX0_end 21 = .ok (.iload_n 1, 1) := dk_27 (dk_at dksX0_end_0 21 rfl rfl)
theorem dX0_end_22 : decode cX0_end 22 = .ok (.ireturn, 1) := dk_172 (dk_at dksX0_end_0 22 rfl rfl)
abbrev cX0_town : ByteArray := prog_1_method_11_code
def yX0_town : MethodName := ⟨RX0, "town", "()I"⟩
def dkwX0_town_3 : List UInt8 := [16, 252, 61, 42, 3, 181, 0, 95, 28, 172, 78, 42, 3, 181, 0, 95, 45, 191]
abbrev dktX0_town_3 : List UInt8 := dkwX0_town_3 ++ []
def dkwX0_town_2 : List UInt8 := [3, 181, 0, 95, 27, 172, 76, 42, 43, 180, 0, 128, 181, 0, 101, 42, 43, 180, 0, 131, 181, 0, 79]
abbrev dktX0_town_2 : List UInt8 := dkwX0_town_2 ++ dktX0_town_3
def dkwX0_town_1 : List UInt8 := [180, 0, 95, 183, 0, 106, 182, 0, 109, 182, 0, 113, 42, 180, 0, 40, 180, 0, 116, 182, 0, 120, 60, 42]
abbrev dktX0_town_1 : List UInt8 := dkwX0_town_1 ++ dktX0_town_2
def dkwX0_town_0 : List UInt8 := [42, 3, 181, 0, 101, 42, 2, 181, 0, 79, 42, 180, 0, 40, 187, 0, 104, 89, 42, 180, 0, 75, 42]
abbrev dktX0_town_0 : List UInt8 := dkwX0_town_0 ++ dktX0_town_1
theorem dksX0_town_0 : cX0_town.data.toList.drop 0 = dktX0_town_0 := by decide +kernel
theorem dksX0_town_1 : cX0_town.data.toList.drop 23 = dktX0_town_1 := dk_seg dksX0_town_0 23 rfl rfl
theorem dksX0_town_2 : cX0_town.data.toList.drop 47 = dktX0_town_2 := dk_seg dksX0_town_1 24 rfl rfl
theorem dksX0_town_3 : cX0_town.data.toList.drop 70 = dktX0_town_3 := dk_seg dksX0_town_2 23 rfl rfl
theorem dX0_town_0 : decode cX0_town 0 = .ok (.aload_n 0, 1) := dk_42 (dk_at dksX0_town_0 0 rfl rfl)
theorem dX0_town_1 : decode cX0_town 1 = .ok (.iconst 0, 1) := dk_3 (dk_at dksX0_town_0 1 rfl rfl)
theorem dX0_town_2 : decode cX0_town 2 = .ok (.putfield 101, 3) := dk_181 0 101 (dk_at dksX0_town_0 2 rfl rfl)
theorem dX0_town_5 : decode cX0_town 5 = .ok (.aload_n 0, 1) := dk_42 (dk_at dksX0_town_0 5 rfl rfl)
theorem dX0_town_6 : decode cX0_town 6 = .ok (.iconst (-1), 1) := dk_2 (dk_at dksX0_town_0 6 rfl rfl)
theorem dX0_town_7 : decode cX0_town 7 = .ok (.putfield 79, 3) := dk_181 0 79 (dk_at dksX0_town_0 7 rfl rfl)
theorem dX0_town_10 : decode cX0_town 10 = .ok (.aload_n 0, 1) := dk_42 (dk_at dksX0_town_0 10 rfl rfl)
theorem dX0_town_11 : decode cX0_town 11 = .ok (.getfield 40, 3) := dk_180 0 40 (dk_at dksX0_town_0 11 rfl rfl)
theorem dX0_town_14 : decode cX0_town 14 = .ok (.new 104, 3) := dk_187 0 104 (dk_at dksX0_town_0 14 rfl rfl)
theorem dX0_town_17 : decode cX0_town 17 = .ok (.dup, 1) := dk_89 (dk_at dksX0_town_0 17 rfl rfl)
theorem dX0_town_18 : decode cX0_town 18 = .ok (.aload_n 0, 1) := dk_42 (dk_at dksX0_town_0 18 rfl rfl)
theorem dX0_town_19 : decode cX0_town 19 = .ok (.getfield 75, 3) := dk_180 0 75 (dk_at dksX0_town_0 19 rfl rfl)
theorem dX0_town_22 : decode cX0_town 22 = .ok (.aload_n 0, 1) := dk_42 (dk_at dksX0_town_0 22 rfl rfl)
theorem dX0_town_23 : decode cX0_town 23 = .ok (.getfield 95, 3) := dk_180 0 95 (dk_at dksX0_town_1 0 rfl rfl)
theorem dX0_town_26 : decode cX0_town 26 = .ok (.invokespecial 106, 3) := dk_183 0 106 (dk_at dksX0_town_1 3 rfl rfl)
theorem dX0_town_29 : decode cX0_town 29 = .ok (.invokevirtual 109, 3) := dk_182 0 109 (dk_at dksX0_town_1 6 rfl rfl)
theorem dX0_town_32 : decode cX0_town 32 = .ok (.invokevirtual 113, 3) := dk_182 0 113 (dk_at dksX0_town_1 9 rfl rfl)
theorem dX0_town_35 : decode cX0_town 35 = .ok (.aload_n 0, 1) := dk_42 (dk_at dksX0_town_1 12 rfl rfl)
theorem dX0_town_36 : decode cX0_town 36 = .ok (.getfield 40, 3) := dk_180 0 40 (dk_at dksX0_town_1 13 rfl rfl)
theorem dX0_town_39 : decode cX0_town 39 = .ok (.getfield 116, 3) := dk_180 0 116 (dk_at dksX0_town_1 16 rfl rfl)
theorem dX0_town_42 : decode cX0_town 42 = .ok (.invokevirtual 120, 3) := dk_182 0 120 (dk_at dksX0_town_1 19 rfl rfl)
theorem dX0_town_45 : decode cX0_town 45 = .ok (.istore_n 1, 1) := dk_60 (dk_at dksX0_town_1 22 rfl rfl)
theorem dX0_town_46 : decode cX0_town 46 = .ok (.aload_n 0, 1) := dk_42 (dk_at dksX0_town_1 23 rfl rfl)
theorem dX0_town_47 : decode cX0_town 47 = .ok (.iconst 0, 1) := dk_3 (dk_at dksX0_town_2 0 rfl rfl)
theorem dX0_town_48 : decode cX0_town 48 = .ok (.putfield 95, 3) := dk_181 0 95 (dk_at dksX0_town_2 1 rfl rfl)
theorem dX0_town_51 : decode cX0_town 51 = .ok (.iload_n 1, 1) := dk_27 (dk_at dksX0_town_2 4 rfl rfl)
theorem dX0_town_52 : decode cX0_town 52 = .ok (.ireturn, 1) := dk_172 (dk_at dksX0_town_2 5 rfl rfl)
theorem dX0_town_53 : decode cX0_town 53 = .ok (.astore_n 1, 1) := dk_76 (dk_at dksX0_town_2 6 rfl rfl)
theorem dX0_town_54 : decode cX0_town 54 = .ok (.aload_n 0, 1) := dk_42 (dk_at dksX0_town_2 7 rfl rfl)
theorem dX0_town_55 : decode cX0_town 55 = .ok (.aload_n 1, 1) := dk_43 (dk_at dksX0_town_2 8 rfl rfl)
theorem dX0_town_56 : decode cX0_town 56 = .ok (.getfield 128, 3) := dk_180 0 128 (dk_at dksX0_town_2 9 rfl rfl)
theorem dX0_town_59 : decode cX0_town 59 = .ok (.putfield 101, 3) := dk_181 0 101 (dk_at dksX0_town_2 12 rfl rfl)
theorem dX0_town_62 : decode cX0_town 62 = .ok (.aload_n 0, 1) := dk_42 (dk_at dksX0_town_2 15 rfl rfl)
theorem dX0_town_63 : decode cX0_town 63 = .ok (.aload_n 1, 1) := dk_43 (dk_at dksX0_town_2 16 rfl rfl)
theorem dX0_town_64 : decode cX0_town 64 = .ok (.getfield 131, 3) := dk_180 0 131 (dk_at dksX0_town_2 17 rfl rfl)
theorem dX0_town_67 : decode cX0_town 67 = .ok (.putfield 79, 3) := dk_181 0 79 (dk_at dksX0_town_2 20 rfl rfl)
theorem dX0_town_70 : decode cX0_town 70 = .ok (.bipush (-4), 2) := dk_16 252 (dk_at dksX0_town_3 0 rfl rfl)
theorem dX0_town_72 : decode cX0_town 72 = .ok (.istore_n 2, 1) := dk_61 (dk_at dksX0_town_3 2 rfl rfl)
theorem dX0_town_73 : decode cX0_town 73 = .ok (.aload_n 0, 1) := dk_42 (dk_at dksX0_town_3 3 rfl rfl)
theorem dX0_town_74 : decode cX0_town 74 = .ok (.iconst 0, 1) := dk_3 (dk_at dksX0_town_3 4 rfl rfl)
theorem dX0_town_75 : decode cX0_town 75 = .ok (.putfield 95, 3) := dk_181 0 95 (dk_at dksX0_town_3 5 rfl rfl)
theorem dX0_town_78 : decode cX0_town 78 = .ok (.iload_n 2, 1) := dk_28 (dk_at dksX0_town_3 8 rfl rfl)
theorem dX0_town_79 : decode cX0_town 79 = .ok (.ireturn, 1) := dk_172 (dk_at dksX0_town_3 9 rfl rfl)
theorem dX0_town_80 : decode cX0_town 80 = .ok (.astore_n 3, 1) := dk_78 (dk_at dksX0_town_3 10 rfl rfl)
theorem dX0_town_81 : decode cX0_town 81 = .ok (.aload_n 0, 1) := dk_42 (dk_at dksX0_town_3 11 rfl rfl)
theorem dX0_town_82 : decode cX0_town 82 = .ok (.iconst 0, 1) := dk_3 (dk_at dksX0_town_3 12 rfl rfl)
theorem dX0_town_83 : decode cX0_town 83 = .ok (.putfield 95, 3) := dk_181 0 95 (dk_at dksX0_town_3 13 rfl rfl)
theorem dX0_town_86 : decode cX0_town 86 = .ok (.aload_n 3, 1) := dk_45 (dk_at dksX0_town_3 16 rfl rfl)
theorem dX0_town_87 : decode cX0_town 87 = .ok (.athrow, 1) := dk_191 (dk_at dksX0_town_3 17 rfl rfl)
abbrev cX0_fault : ByteArray := prog_1_method_12_code
def yX0_fault : MethodName := ⟨RX0, "fault", "(I)I"⟩
def dkwX0_fault_1 : List UInt8 := [172]
abbrev dktX0_fault_1 : List UInt8 := dkwX0_fault_1 ++ []
def dkwX0_fault_0 : List UInt8 := [27, 154, 0, 10, 42, 180, 0, 101, 167, 0, 16, 27, 4, 160, 0, 10, 42, 180, 0, 79, 167, 0, 4, 2]
abbrev dktX0_fault_0 : List UInt8 := dkwX0_fault_0 ++ dktX0_fault_1
theorem dksX0_fault_0 : cX0_fault.data.toList.drop 0 = dktX0_fault_0 := by decide +kernel
theorem dksX0_fault_1 : cX0_fault.data.toList.drop 24 = dktX0_fault_1 := dk_seg dksX0_fault_0 24 rfl rfl
theorem dX0_fault_0 : decode cX0_fault 0 = .ok (.iload_n 1, 1) := dk_27 (dk_at dksX0_fault_0 0 rfl rfl)
theorem dX0_fault_1 : decode cX0_fault 1 = .ok (.ifCond .ne 10, 3) := dk_154 0 10 (dk_at dksX0_fault_0 1 rfl rfl)
theorem dX0_fault_4 : decode cX0_fault 4 = .ok (.aload_n 0, 1) := dk_42 (dk_at dksX0_fault_0 4 rfl rfl)
theorem dX0_fault_5 : decode cX0_fault 5 = .ok (.getfield 101, 3) := dk_180 0 101 (dk_at dksX0_fault_0 5 rfl rfl)
theorem dX0_fault_8 : decode cX0_fault 8 = .ok (.goto 16, 3) := dk_167 0 16 (dk_at dksX0_fault_0 8 rfl rfl)
theorem dX0_fault_11 : decode cX0_fault 11 = .ok (.iload_n 1, 1) := dk_27 (dk_at dksX0_fault_0 11 rfl rfl)
theorem dX0_fault_12 : decode cX0_fault 12 = .ok (.iconst 1, 1) := dk_4 (dk_at dksX0_fault_0 12 rfl rfl)
theorem dX0_fault_13 : decode cX0_fault 13 = .ok (.if_icmp .ne 10, 3) := dk_160 0 10 (dk_at dksX0_fault_0 13 rfl rfl)
theorem dX0_fault_16 : decode cX0_fault 16 = .ok (.aload_n 0, 1) := dk_42 (dk_at dksX0_fault_0 16 rfl rfl)
theorem dX0_fault_17 : decode cX0_fault 17 = .ok (.getfield 79, 3) := dk_180 0 79 (dk_at dksX0_fault_0 17 rfl rfl)
theorem dX0_fault_20 : decode cX0_fault 20 = .ok (.goto 4, 3) := dk_167 0 4 (dk_at dksX0_fault_0 20 rfl rfl)
theorem dX0_fault_23 : decode cX0_fault 23 = .ok (.iconst (-1), 1) := dk_2 (dk_at dksX0_fault_0 23 rfl rfl)
theorem dX0_fault_24 : decode cX0_fault 24 = .ok (.ireturn, 1) := dk_172 (dk_at dksX0_fault_1 0 rfl rfl)
abbrev cX0_days : ByteArray := prog_1_method_16_code
def yX0_days : MethodName := ⟨RX0, "days", "(I)I"⟩
def dkwX0_days_2 : List UInt8 := [180, 0, 146, 172]
abbrev dktX0_days_2 : List UInt8 := dkwX0_days_2 ++ []
def dkwX0_days_1 : List UInt8 := [164, 0, 6, 16, 254, 172, 42, 180, 0, 40, 89, 180, 0, 146, 27, 96, 181, 0, 146, 42, 180, 0, 40]
abbrev dktX0_days_1 : List UInt8 := dkwX0_days_1 ++ dktX0_days_2
def dkwX0_days_0 : List UInt8 := [27, 133, 9, 20, 0, 144, 184, 0, 5, 153, 0, 18, 42, 180, 0, 40, 180, 0, 146, 27, 96, 17, 1, 143]
abbrev dktX0_days_0 : List UInt8 := dkwX0_days_0 ++ dktX0_days_1
theorem dksX0_days_0 : cX0_days.data.toList.drop 0 = dktX0_days_0 := by decide +kernel
theorem dksX0_days_1 : cX0_days.data.toList.drop 24 = dktX0_days_1 := dk_seg dksX0_days_0 24 rfl rfl
theorem dksX0_days_2 : cX0_days.data.toList.drop 47 = dktX0_days_2 := dk_seg dksX0_days_1 23 rfl rfl
theorem dX0_days_0 : decode cX0_days 0 = .ok (.iload_n 1, 1) := dk_27 (dk_at dksX0_days_0 0 rfl rfl)
theorem dX0_days_1 : decode cX0_days 1 = .ok (.i2l, 1) := dk_133 (dk_at dksX0_days_0 1 rfl rfl)
theorem dX0_days_2 : decode cX0_days 2 = .ok (.lconst 0, 1) := dk_9 (dk_at dksX0_days_0 2 rfl rfl)
theorem dX0_days_3 : decode cX0_days 3 = .ok (.ldc2_w 144, 3) := dk_20 0 144 (dk_at dksX0_days_0 3 rfl rfl)
theorem dX0_days_6 : decode cX0_days 6 = .ok (.invokestatic 5, 3) := dk_184 0 5 (dk_at dksX0_days_0 6 rfl rfl)
theorem dX0_days_9 : decode cX0_days 9 = .ok (.ifCond .eq 18, 3) := dk_153 0 18 (dk_at dksX0_days_0 9 rfl rfl)
theorem dX0_days_12 : decode cX0_days 12 = .ok (.aload_n 0, 1) := dk_42 (dk_at dksX0_days_0 12 rfl rfl)
theorem dX0_days_13 : decode cX0_days 13 = .ok (.getfield 40, 3) := dk_180 0 40 (dk_at dksX0_days_0 13 rfl rfl)
theorem dX0_days_16 : decode cX0_days 16 = .ok (.getfield 146, 3) := dk_180 0 146 (dk_at dksX0_days_0 16 rfl rfl)
theorem dX0_days_19 : decode cX0_days 19 = .ok (.iload_n 1, 1) := dk_27 (dk_at dksX0_days_0 19 rfl rfl)
theorem dX0_days_20 : decode cX0_days 20 = .ok (.iadd, 1) := dk_96 (dk_at dksX0_days_0 20 rfl rfl)
theorem dX0_days_21 : decode cX0_days 21 = .ok (.sipush 399, 3) := dk_17 1 143 (dk_at dksX0_days_0 21 rfl rfl)
theorem dX0_days_24 : decode cX0_days 24 = .ok (.if_icmp .le 6, 3) := dk_164 0 6 (dk_at dksX0_days_1 0 rfl rfl)
theorem dX0_days_27 : decode cX0_days 27 = .ok (.bipush (-2), 2) := dk_16 254 (dk_at dksX0_days_1 3 rfl rfl)
theorem dX0_days_29 : decode cX0_days 29 = .ok (.ireturn, 1) := dk_172 (dk_at dksX0_days_1 5 rfl rfl)
theorem dX0_days_30 : decode cX0_days 30 = .ok (.aload_n 0, 1) := dk_42 (dk_at dksX0_days_1 6 rfl rfl)
theorem dX0_days_31 : decode cX0_days 31 = .ok (.getfield 40, 3) := dk_180 0 40 (dk_at dksX0_days_1 7 rfl rfl)
theorem dX0_days_34 : decode cX0_days 34 = .ok (.dup, 1) := dk_89 (dk_at dksX0_days_1 10 rfl rfl)
theorem dX0_days_35 : decode cX0_days 35 = .ok (.getfield 146, 3) := dk_180 0 146 (dk_at dksX0_days_1 11 rfl rfl)
theorem dX0_days_38 : decode cX0_days 38 = .ok (.iload_n 1, 1) := dk_27 (dk_at dksX0_days_1 14 rfl rfl)
theorem dX0_days_39 : decode cX0_days 39 = .ok (.iadd, 1) := dk_96 (dk_at dksX0_days_1 15 rfl rfl)
theorem dX0_days_40 : decode cX0_days 40 = .ok (.putfield 146, 3) := dk_181 0 146 (dk_at dksX0_days_1 16 rfl rfl)
theorem dX0_days_43 : decode cX0_days 43 = .ok (.aload_n 0, 1) := dk_42 (dk_at dksX0_days_1 19 rfl rfl)
theorem dX0_days_44 : decode cX0_days 44 = .ok (.getfield 40, 3) := dk_180 0 40 (dk_at dksX0_days_1 20 rfl rfl)
theorem dX0_days_47 : decode cX0_days 47 = .ok (.getfield 146, 3) := dk_180 0 146 (dk_at dksX0_days_2 0 rfl rfl)
theorem dX0_days_50 : decode cX0_days 50 = .ok (.ireturn, 1) := dk_172 (dk_at dksX0_days_2 3 rfl rfl)
abbrev cX0_bars : ByteArray := prog_1_method_20_code
def yX0_bars : MethodName := ⟨RX0, "bars", "(III)I"⟩
def dkwX0_bars_1 : List UInt8 := [29, 182, 0, 197, 167, 0, 5, 16, 254, 172]
abbrev dktX0_bars_1 : List UInt8 := dkwX0_bars_1 ++ []
def dkwX0_bars_0 : List UInt8 := [42, 27, 28, 182, 0, 194, 153, 0, 25, 29, 133, 9, 20, 0, 3, 184, 0, 5, 153, 0, 13, 42, 27, 28]
abbrev dktX0_bars_0 : List UInt8 := dkwX0_bars_0 ++ dktX0_bars_1
theorem dksX0_bars_0 : cX0_bars.data.toList.drop 0 = dktX0_bars_0 := by decide +kernel
theorem dksX0_bars_1 : cX0_bars.data.toList.drop 24 = dktX0_bars_1 := dk_seg dksX0_bars_0 24 rfl rfl
theorem dX0_bars_0 : decode cX0_bars 0 = .ok (.aload_n 0, 1) := dk_42 (dk_at dksX0_bars_0 0 rfl rfl)
theorem dX0_bars_1 : decode cX0_bars 1 = .ok (.iload_n 1, 1) := dk_27 (dk_at dksX0_bars_0 1 rfl rfl)
theorem dX0_bars_2 : decode cX0_bars 2 = .ok (.iload_n 2, 1) := dk_28 (dk_at dksX0_bars_0 2 rfl rfl)
theorem dX0_bars_3 : decode cX0_bars 3 = .ok (.invokevirtual 194, 3) := dk_182 0 194 (dk_at dksX0_bars_0 3 rfl rfl)
theorem dX0_bars_6 : decode cX0_bars 6 = .ok (.ifCond .eq 25, 3) := dk_153 0 25 (dk_at dksX0_bars_0 6 rfl rfl)
theorem dX0_bars_9 : decode cX0_bars 9 = .ok (.iload_n 3, 1) := dk_29 (dk_at dksX0_bars_0 9 rfl rfl)
theorem dX0_bars_10 : decode cX0_bars 10 = .ok (.i2l, 1) := dk_133 (dk_at dksX0_bars_0 10 rfl rfl)
theorem dX0_bars_11 : decode cX0_bars 11 = .ok (.lconst 0, 1) := dk_9 (dk_at dksX0_bars_0 11 rfl rfl)
theorem dX0_bars_12 : decode cX0_bars 12 = .ok (.ldc2_w 3, 3) := dk_20 0 3 (dk_at dksX0_bars_0 12 rfl rfl)
theorem dX0_bars_15 : decode cX0_bars 15 = .ok (.invokestatic 5, 3) := dk_184 0 5 (dk_at dksX0_bars_0 15 rfl rfl)
theorem dX0_bars_18 : decode cX0_bars 18 = .ok (.ifCond .eq 13, 3) := dk_153 0 13 (dk_at dksX0_bars_0 18 rfl rfl)
theorem dX0_bars_21 : decode cX0_bars 21 = .ok (.aload_n 0, 1) := dk_42 (dk_at dksX0_bars_0 21 rfl rfl)
theorem dX0_bars_22 : decode cX0_bars 22 = .ok (.iload_n 1, 1) := dk_27 (dk_at dksX0_bars_0 22 rfl rfl)
theorem dX0_bars_23 : decode cX0_bars 23 = .ok (.iload_n 2, 1) := dk_28 (dk_at dksX0_bars_0 23 rfl rfl)
theorem dX0_bars_24 : decode cX0_bars 24 = .ok (.iload_n 3, 1) := dk_29 (dk_at dksX0_bars_1 0 rfl rfl)
theorem dX0_bars_25 : decode cX0_bars 25 = .ok (.invokevirtual 197, 3) := dk_182 0 197 (dk_at dksX0_bars_1 1 rfl rfl)
theorem dX0_bars_28 : decode cX0_bars 28 = .ok (.goto 5, 3) := dk_167 0 5 (dk_at dksX0_bars_1 4 rfl rfl)
theorem dX0_bars_31 : decode cX0_bars 31 = .ok (.bipush (-2), 2) := dk_16 254 (dk_at dksX0_bars_1 7 rfl rfl)
theorem dX0_bars_33 : decode cX0_bars 33 = .ok (.ireturn, 1) := dk_172 (dk_at dksX0_bars_1 9 rfl rfl)
abbrev cX0_areTwo : ByteArray := prog_1_method_14_code
def yX0_areTwo : MethodName := ⟨RX0, "areTwo", "(II)Z"⟩
def dkwX0_areTwo_1 : List UInt8 := [167, 0, 4, 3, 172]
abbrev dktX0_areTwo_1 : List UInt8 := dkwX0_areTwo_1 ++ []
def dkwX0_areTwo_0 : List UInt8 := [42, 27, 182, 0, 137, 153, 0, 20, 42, 28, 182, 0, 137, 153, 0, 12, 27, 28, 159, 0, 7, 4]
abbrev dktX0_areTwo_0 : List UInt8 := dkwX0_areTwo_0 ++ dktX0_areTwo_1
theorem dksX0_areTwo_0 : cX0_areTwo.data.toList.drop 0 = dktX0_areTwo_0 := by decide +kernel
theorem dksX0_areTwo_1 : cX0_areTwo.data.toList.drop 22 = dktX0_areTwo_1 := dk_seg dksX0_areTwo_0 22 rfl rfl
theorem dX0_areTwo_0 : decode cX0_areTwo 0 = .ok (.aload_n 0, 1) := dk_42 (dk_at dksX0_areTwo_0 0 rfl rfl)
theorem dX0_areTwo_1 : decode cX0_areTwo 1 = .ok (.iload_n 1, 1) := dk_27 (dk_at dksX0_areTwo_0 1 rfl rfl)
theorem dX0_areTwo_2 : decode cX0_areTwo 2 = .ok (.invokevirtual 137, 3) := dk_182 0 137 (dk_at dksX0_areTwo_0 2 rfl rfl)
theorem dX0_areTwo_5 : decode cX0_areTwo 5 = .ok (.ifCond .eq 20, 3) := dk_153 0 20 (dk_at dksX0_areTwo_0 5 rfl rfl)
theorem dX0_areTwo_8 : decode cX0_areTwo 8 = .ok (.aload_n 0, 1) := dk_42 (dk_at dksX0_areTwo_0 8 rfl rfl)
theorem dX0_areTwo_9 : decode cX0_areTwo 9 = .ok (.iload_n 2, 1) := dk_28 (dk_at dksX0_areTwo_0 9 rfl rfl)
theorem dX0_areTwo_10 : decode cX0_areTwo 10 = .ok (.invokevirtual 137, 3) := dk_182 0 137 (dk_at dksX0_areTwo_0 10 rfl rfl)
theorem dX0_areTwo_13 : decode cX0_areTwo 13 = .ok (.ifCond .eq 12, 3) := dk_153 0 12 (dk_at dksX0_areTwo_0 13 rfl rfl)
theorem dX0_areTwo_16 : decode cX0_areTwo 16 = .ok (.iload_n 1, 1) := dk_27 (dk_at dksX0_areTwo_0 16 rfl rfl)
theorem dX0_areTwo_17 : decode cX0_areTwo 17 = .ok (.iload_n 2, 1) := dk_28 (dk_at dksX0_areTwo_0 17 rfl rfl)
theorem dX0_areTwo_18 : decode cX0_areTwo 18 = .ok (.if_icmp .eq 7, 3) := dk_159 0 7 (dk_at dksX0_areTwo_0 18 rfl rfl)
theorem dX0_areTwo_21 : decode cX0_areTwo 21 = .ok (.iconst 1, 1) := dk_4 (dk_at dksX0_areTwo_0 21 rfl rfl)
theorem dX0_areTwo_22 : decode cX0_areTwo 22 = .ok (.goto 4, 3) := dk_167 0 4 (dk_at dksX0_areTwo_1 0 rfl rfl)
theorem dX0_areTwo_25 : decode cX0_areTwo 25 = .ok (.iconst 0, 1) := dk_3 (dk_at dksX0_areTwo_1 3 rfl rfl)
theorem dX0_areTwo_26 : decode cX0_areTwo 26 = .ok (.ireturn, 1) := dk_172 (dk_at dksX0_areTwo_1 4 rfl rfl)
abbrev cX0_isHouse : ByteArray := prog_1_method_13_code
def yX0_isHouse : MethodName := ⟨RX0, "isHouse", "(I)Z"⟩
def dkwX0_isHouse_0 : List UInt8 := [42, 180, 0, 40, 180, 0, 116, 27, 182, 0, 134, 172]
abbrev dktX0_isHouse_0 : List UInt8 := dkwX0_isHouse_0 ++ []
theorem dksX0_isHouse_0 : cX0_isHouse.data.toList.drop 0 = dktX0_isHouse_0 := by decide +kernel
theorem dX0_isHouse_0 : decode cX0_isHouse 0 = .ok (.aload_n 0, 1) := dk_42 (dk_at dksX0_isHouse_0 0 rfl rfl)
theorem dX0_isHouse_1 : decode cX0_isHouse 1 = .ok (.getfield 40, 3) := dk_180 0 40 (dk_at dksX0_isHouse_0 1 rfl rfl)
theorem dX0_isHouse_4 : decode cX0_isHouse 4 = .ok (.getfield 116, 3) := dk_180 0 116 (dk_at dksX0_isHouse_0 4 rfl rfl)
theorem dX0_isHouse_7 : decode cX0_isHouse 7 = .ok (.iload_n 1, 1) := dk_27 (dk_at dksX0_isHouse_0 7 rfl rfl)
theorem dX0_isHouse_8 : decode cX0_isHouse 8 = .ok (.invokevirtual 134, 3) := dk_182 0 134 (dk_at dksX0_isHouse_0 8 rfl rfl)
theorem dX0_isHouse_11 : decode cX0_isHouse 11 = .ok (.ireturn, 1) := dk_172 (dk_at dksX0_isHouse_0 11 rfl rfl)
abbrev cX0_barsOf : ByteArray := prog_1_method_19_code
def yX0_barsOf : MethodName := ⟨RX0, "barsOf", "(III)I"⟩
def dkwX0_barsOf_1 : List UInt8 := [182, 0, 149, 42, 180, 0, 40, 180, 0, 146, 182, 0, 190, 167, 0, 4, 4, 172]
abbrev dktX0_barsOf_1 : List UInt8 := dkwX0_barsOf_1 ++ []
def dkwX0_barsOf_0 : List UInt8 := [42, 27, 28, 182, 0, 187, 153, 0, 32, 42, 180, 0, 62, 29, 50, 42, 27, 182, 0, 149, 42, 28]
abbrev dktX0_barsOf_0 : List UInt8 := dkwX0_barsOf_0 ++ dktX0_barsOf_1
theorem dksX0_barsOf_0 : cX0_barsOf.data.toList.drop 0 = dktX0_barsOf_0 := by decide +kernel
theorem dksX0_barsOf_1 : cX0_barsOf.data.toList.drop 22 = dktX0_barsOf_1 := dk_seg dksX0_barsOf_0 22 rfl rfl
theorem dX0_barsOf_0 : decode cX0_barsOf 0 = .ok (.aload_n 0, 1) := dk_42 (dk_at dksX0_barsOf_0 0 rfl rfl)
theorem dX0_barsOf_1 : decode cX0_barsOf 1 = .ok (.iload_n 1, 1) := dk_27 (dk_at dksX0_barsOf_0 1 rfl rfl)
theorem dX0_barsOf_2 : decode cX0_barsOf 2 = .ok (.iload_n 2, 1) := dk_28 (dk_at dksX0_barsOf_0 2 rfl rfl)
theorem dX0_barsOf_3 : decode cX0_barsOf 3 = .ok (.invokevirtual 187, 3) := dk_182 0 187 (dk_at dksX0_barsOf_0 3 rfl rfl)
theorem dX0_barsOf_6 : decode cX0_barsOf 6 = .ok (.ifCond .eq 32, 3) := dk_153 0 32 (dk_at dksX0_barsOf_0 6 rfl rfl)
theorem dX0_barsOf_9 : decode cX0_barsOf 9 = .ok (.aload_n 0, 1) := dk_42 (dk_at dksX0_barsOf_0 9 rfl rfl)
theorem dX0_barsOf_10 : decode cX0_barsOf 10 = .ok (.getfield 62, 3) := dk_180 0 62 (dk_at dksX0_barsOf_0 10 rfl rfl)
theorem dX0_barsOf_13 : decode cX0_barsOf 13 = .ok (.iload_n 3, 1) := dk_29 (dk_at dksX0_barsOf_0 13 rfl rfl)
theorem dX0_barsOf_14 : decode cX0_barsOf 14 = .ok (.aaload, 1) := dk_50 (dk_at dksX0_barsOf_0 14 rfl rfl)
theorem dX0_barsOf_15 : decode cX0_barsOf 15 = .ok (.aload_n 0, 1) := dk_42 (dk_at dksX0_barsOf_0 15 rfl rfl)
theorem dX0_barsOf_16 : decode cX0_barsOf 16 = .ok (.iload_n 1, 1) := dk_27 (dk_at dksX0_barsOf_0 16 rfl rfl)
theorem dX0_barsOf_17 : decode cX0_barsOf 17 = .ok (.invokevirtual 149, 3) := dk_182 0 149 (dk_at dksX0_barsOf_0 17 rfl rfl)
theorem dX0_barsOf_20 : decode cX0_barsOf 20 = .ok (.aload_n 0, 1) := dk_42 (dk_at dksX0_barsOf_0 20 rfl rfl)
theorem dX0_barsOf_21 : decode cX0_barsOf 21 = .ok (.iload_n 2, 1) := dk_28 (dk_at dksX0_barsOf_0 21 rfl rfl)
theorem dX0_barsOf_22 : decode cX0_barsOf 22 = .ok (.invokevirtual 149, 3) := dk_182 0 149 (dk_at dksX0_barsOf_1 0 rfl rfl)
theorem dX0_barsOf_25 : decode cX0_barsOf 25 = .ok (.aload_n 0, 1) := dk_42 (dk_at dksX0_barsOf_1 3 rfl rfl)
theorem dX0_barsOf_26 : decode cX0_barsOf 26 = .ok (.getfield 40, 3) := dk_180 0 40 (dk_at dksX0_barsOf_1 4 rfl rfl)
theorem dX0_barsOf_29 : decode cX0_barsOf 29 = .ok (.getfield 146, 3) := dk_180 0 146 (dk_at dksX0_barsOf_1 7 rfl rfl)
theorem dX0_barsOf_32 : decode cX0_barsOf 32 = .ok (.invokevirtual 190, 3) := dk_182 0 190 (dk_at dksX0_barsOf_1 10 rfl rfl)
theorem dX0_barsOf_35 : decode cX0_barsOf 35 = .ok (.goto 4, 3) := dk_167 0 4 (dk_at dksX0_barsOf_1 13 rfl rfl)
theorem dX0_barsOf_38 : decode cX0_barsOf 38 = .ok (.iconst 1, 1) := dk_4 (dk_at dksX0_barsOf_1 16 rfl rfl)
theorem dX0_barsOf_39 : decode cX0_barsOf 39 = .ok (.ireturn, 1) := dk_172 (dk_at dksX0_barsOf_1 17 rfl rfl)
abbrev cX0_mayKnow : ByteArray := prog_1_method_18_code
def yX0_mayKnow : MethodName := ⟨RX0, "mayKnow", "(II)Z"⟩
def dkwX0_mayKnow_4 : List UInt8 := [126, 184, 0, 178, 42, 180, 0, 40, 180, 0, 116, 180, 0, 184, 161, 0, 7, 4, 167, 0, 4, 3, 172]
abbrev dktX0_mayKnow_4 : List UInt8 := dkwX0_mayKnow_4 ++ []
def dkwX0_mayKnow_3 : List UInt8 := [42, 180, 0, 40, 180, 0, 163, 180, 0, 175, 27, 46, 42, 180, 0, 40, 180, 0, 163, 180, 0, 175, 28, 46]
abbrev dktX0_mayKnow_3 : List UInt8 := dkwX0_mayKnow_3 ++ dktX0_mayKnow_4
def dkwX0_mayKnow_2 : List UInt8 := [182, 0, 167, 154, 0, 19, 42, 28, 182, 0, 172, 153, 0, 13, 42, 27, 182, 0, 172, 154, 0, 5, 4, 172]
abbrev dktX0_mayKnow_2 : List UInt8 := dkwX0_mayKnow_2 ++ dktX0_mayKnow_3
def dkwX0_mayKnow_1 : List UInt8 := [180, 0, 40, 180, 0, 146, 182, 0, 160, 154, 0, 5, 3, 172, 42, 180, 0, 40, 180, 0, 163, 27, 28]
abbrev dktX0_mayKnow_1 : List UInt8 := dkwX0_mayKnow_1 ++ dktX0_mayKnow_2
def dkwX0_mayKnow_0 : List UInt8 := [42, 27, 182, 0, 149, 42, 180, 0, 40, 180, 0, 146, 182, 0, 160, 153, 0, 21, 42, 28, 182, 0, 149, 42]
abbrev dktX0_mayKnow_0 : List UInt8 := dkwX0_mayKnow_0 ++ dktX0_mayKnow_1
theorem dksX0_mayKnow_0 : cX0_mayKnow.data.toList.drop 0 = dktX0_mayKnow_0 := by decide +kernel
theorem dksX0_mayKnow_1 : cX0_mayKnow.data.toList.drop 24 = dktX0_mayKnow_1 := dk_seg dksX0_mayKnow_0 24 rfl rfl
theorem dksX0_mayKnow_2 : cX0_mayKnow.data.toList.drop 47 = dktX0_mayKnow_2 := dk_seg dksX0_mayKnow_1 23 rfl rfl
theorem dksX0_mayKnow_3 : cX0_mayKnow.data.toList.drop 71 = dktX0_mayKnow_3 := dk_seg dksX0_mayKnow_2 24 rfl rfl
theorem dksX0_mayKnow_4 : cX0_mayKnow.data.toList.drop 95 = dktX0_mayKnow_4 := dk_seg dksX0_mayKnow_3 24 rfl rfl
theorem dX0_mayKnow_0 : decode cX0_mayKnow 0 = .ok (.aload_n 0, 1) := dk_42 (dk_at dksX0_mayKnow_0 0 rfl rfl)
theorem dX0_mayKnow_1 : decode cX0_mayKnow 1 = .ok (.iload_n 1, 1) := dk_27 (dk_at dksX0_mayKnow_0 1 rfl rfl)
theorem dX0_mayKnow_2 : decode cX0_mayKnow 2 = .ok (.invokevirtual 149, 3) := dk_182 0 149 (dk_at dksX0_mayKnow_0 2 rfl rfl)
theorem dX0_mayKnow_5 : decode cX0_mayKnow 5 = .ok (.aload_n 0, 1) := dk_42 (dk_at dksX0_mayKnow_0 5 rfl rfl)
theorem dX0_mayKnow_6 : decode cX0_mayKnow 6 = .ok (.getfield 40, 3) := dk_180 0 40 (dk_at dksX0_mayKnow_0 6 rfl rfl)
theorem dX0_mayKnow_9 : decode cX0_mayKnow 9 = .ok (.getfield 146, 3) := dk_180 0 146 (dk_at dksX0_mayKnow_0 9 rfl rfl)
theorem dX0_mayKnow_12 : decode cX0_mayKnow 12 = .ok (.invokevirtual 160, 3) := dk_182 0 160 (dk_at dksX0_mayKnow_0 12 rfl rfl)
theorem dX0_mayKnow_15 : decode cX0_mayKnow 15 = .ok (.ifCond .eq 21, 3) := dk_153 0 21 (dk_at dksX0_mayKnow_0 15 rfl rfl)
theorem dX0_mayKnow_18 : decode cX0_mayKnow 18 = .ok (.aload_n 0, 1) := dk_42 (dk_at dksX0_mayKnow_0 18 rfl rfl)
theorem dX0_mayKnow_19 : decode cX0_mayKnow 19 = .ok (.iload_n 2, 1) := dk_28 (dk_at dksX0_mayKnow_0 19 rfl rfl)
theorem dX0_mayKnow_20 : decode cX0_mayKnow 20 = .ok (.invokevirtual 149, 3) := dk_182 0 149 (dk_at dksX0_mayKnow_0 20 rfl rfl)
theorem dX0_mayKnow_23 : decode cX0_mayKnow 23 = .ok (.aload_n 0, 1) := dk_42 (dk_at dksX0_mayKnow_0 23 rfl rfl)
theorem dX0_mayKnow_24 : decode cX0_mayKnow 24 = .ok (.getfield 40, 3) := dk_180 0 40 (dk_at dksX0_mayKnow_1 0 rfl rfl)
theorem dX0_mayKnow_27 : decode cX0_mayKnow 27 = .ok (.getfield 146, 3) := dk_180 0 146 (dk_at dksX0_mayKnow_1 3 rfl rfl)
theorem dX0_mayKnow_30 : decode cX0_mayKnow 30 = .ok (.invokevirtual 160, 3) := dk_182 0 160 (dk_at dksX0_mayKnow_1 6 rfl rfl)
theorem dX0_mayKnow_33 : decode cX0_mayKnow 33 = .ok (.ifCond .ne 5, 3) := dk_154 0 5 (dk_at dksX0_mayKnow_1 9 rfl rfl)
theorem dX0_mayKnow_36 : decode cX0_mayKnow 36 = .ok (.iconst 0, 1) := dk_3 (dk_at dksX0_mayKnow_1 12 rfl rfl)
theorem dX0_mayKnow_37 : decode cX0_mayKnow 37 = .ok (.ireturn, 1) := dk_172 (dk_at dksX0_mayKnow_1 13 rfl rfl)
theorem dX0_mayKnow_38 : decode cX0_mayKnow 38 = .ok (.aload_n 0, 1) := dk_42 (dk_at dksX0_mayKnow_1 14 rfl rfl)
theorem dX0_mayKnow_39 : decode cX0_mayKnow 39 = .ok (.getfield 40, 3) := dk_180 0 40 (dk_at dksX0_mayKnow_1 15 rfl rfl)
theorem dX0_mayKnow_42 : decode cX0_mayKnow 42 = .ok (.getfield 163, 3) := dk_180 0 163 (dk_at dksX0_mayKnow_1 18 rfl rfl)
theorem dX0_mayKnow_45 : decode cX0_mayKnow 45 = .ok (.iload_n 1, 1) := dk_27 (dk_at dksX0_mayKnow_1 21 rfl rfl)
theorem dX0_mayKnow_46 : decode cX0_mayKnow 46 = .ok (.iload_n 2, 1) := dk_28 (dk_at dksX0_mayKnow_1 22 rfl rfl)
theorem dX0_mayKnow_47 : decode cX0_mayKnow 47 = .ok (.invokevirtual 167, 3) := dk_182 0 167 (dk_at dksX0_mayKnow_2 0 rfl rfl)
theorem dX0_mayKnow_50 : decode cX0_mayKnow 50 = .ok (.ifCond .ne 19, 3) := dk_154 0 19 (dk_at dksX0_mayKnow_2 3 rfl rfl)
theorem dX0_mayKnow_53 : decode cX0_mayKnow 53 = .ok (.aload_n 0, 1) := dk_42 (dk_at dksX0_mayKnow_2 6 rfl rfl)
theorem dX0_mayKnow_54 : decode cX0_mayKnow 54 = .ok (.iload_n 2, 1) := dk_28 (dk_at dksX0_mayKnow_2 7 rfl rfl)
theorem dX0_mayKnow_55 : decode cX0_mayKnow 55 = .ok (.invokevirtual 172, 3) := dk_182 0 172 (dk_at dksX0_mayKnow_2 8 rfl rfl)
theorem dX0_mayKnow_58 : decode cX0_mayKnow 58 = .ok (.ifCond .eq 13, 3) := dk_153 0 13 (dk_at dksX0_mayKnow_2 11 rfl rfl)
theorem dX0_mayKnow_61 : decode cX0_mayKnow 61 = .ok (.aload_n 0, 1) := dk_42 (dk_at dksX0_mayKnow_2 14 rfl rfl)
theorem dX0_mayKnow_62 : decode cX0_mayKnow 62 = .ok (.iload_n 1, 1) := dk_27 (dk_at dksX0_mayKnow_2 15 rfl rfl)
theorem dX0_mayKnow_63 : decode cX0_mayKnow 63 = .ok (.invokevirtual 172, 3) := dk_182 0 172 (dk_at dksX0_mayKnow_2 16 rfl rfl)
theorem dX0_mayKnow_66 : decode cX0_mayKnow 66 = .ok (.ifCond .ne 5, 3) := dk_154 0 5 (dk_at dksX0_mayKnow_2 19 rfl rfl)
theorem dX0_mayKnow_69 : decode cX0_mayKnow 69 = .ok (.iconst 1, 1) := dk_4 (dk_at dksX0_mayKnow_2 22 rfl rfl)
theorem dX0_mayKnow_70 : decode cX0_mayKnow 70 = .ok (.ireturn, 1) := dk_172 (dk_at dksX0_mayKnow_2 23 rfl rfl)
theorem dX0_mayKnow_71 : decode cX0_mayKnow 71 = .ok (.aload_n 0, 1) := dk_42 (dk_at dksX0_mayKnow_3 0 rfl rfl)
theorem dX0_mayKnow_72 : decode cX0_mayKnow 72 = .ok (.getfield 40, 3) := dk_180 0 40 (dk_at dksX0_mayKnow_3 1 rfl rfl)
theorem dX0_mayKnow_75 : decode cX0_mayKnow 75 = .ok (.getfield 163, 3) := dk_180 0 163 (dk_at dksX0_mayKnow_3 4 rfl rfl)
theorem dX0_mayKnow_78 : decode cX0_mayKnow 78 = .ok (.getfield 175, 3) := dk_180 0 175 (dk_at dksX0_mayKnow_3 7 rfl rfl)
theorem dX0_mayKnow_81 : decode cX0_mayKnow 81 = .ok (.iload_n 1, 1) := dk_27 (dk_at dksX0_mayKnow_3 10 rfl rfl)
theorem dX0_mayKnow_82 : decode cX0_mayKnow 82 = .ok (.iaload, 1) := dk_46 (dk_at dksX0_mayKnow_3 11 rfl rfl)
theorem dX0_mayKnow_83 : decode cX0_mayKnow 83 = .ok (.aload_n 0, 1) := dk_42 (dk_at dksX0_mayKnow_3 12 rfl rfl)
theorem dX0_mayKnow_84 : decode cX0_mayKnow 84 = .ok (.getfield 40, 3) := dk_180 0 40 (dk_at dksX0_mayKnow_3 13 rfl rfl)
theorem dX0_mayKnow_87 : decode cX0_mayKnow 87 = .ok (.getfield 163, 3) := dk_180 0 163 (dk_at dksX0_mayKnow_3 16 rfl rfl)
theorem dX0_mayKnow_90 : decode cX0_mayKnow 90 = .ok (.getfield 175, 3) := dk_180 0 175 (dk_at dksX0_mayKnow_3 19 rfl rfl)
theorem dX0_mayKnow_93 : decode cX0_mayKnow 93 = .ok (.iload_n 2, 1) := dk_28 (dk_at dksX0_mayKnow_3 22 rfl rfl)
theorem dX0_mayKnow_94 : decode cX0_mayKnow 94 = .ok (.iaload, 1) := dk_46 (dk_at dksX0_mayKnow_3 23 rfl rfl)
theorem dX0_mayKnow_95 : decode cX0_mayKnow 95 = .ok (.iand, 1) := dk_126 (dk_at dksX0_mayKnow_4 0 rfl rfl)
theorem dX0_mayKnow_96 : decode cX0_mayKnow 96 = .ok (.invokestatic 178, 3) := dk_184 0 178 (dk_at dksX0_mayKnow_4 1 rfl rfl)
theorem dX0_mayKnow_99 : decode cX0_mayKnow 99 = .ok (.aload_n 0, 1) := dk_42 (dk_at dksX0_mayKnow_4 4 rfl rfl)
theorem dX0_mayKnow_100 : decode cX0_mayKnow 100 = .ok (.getfield 40, 3) := dk_180 0 40 (dk_at dksX0_mayKnow_4 5 rfl rfl)
theorem dX0_mayKnow_103 : decode cX0_mayKnow 103 = .ok (.getfield 116, 3) := dk_180 0 116 (dk_at dksX0_mayKnow_4 8 rfl rfl)
theorem dX0_mayKnow_106 : decode cX0_mayKnow 106 = .ok (.getfield 184, 3) := dk_180 0 184 (dk_at dksX0_mayKnow_4 11 rfl rfl)
theorem dX0_mayKnow_109 : decode cX0_mayKnow 109 = .ok (.if_icmp .lt 7, 3) := dk_161 0 7 (dk_at dksX0_mayKnow_4 14 rfl rfl)
theorem dX0_mayKnow_112 : decode cX0_mayKnow 112 = .ok (.iconst 1, 1) := dk_4 (dk_at dksX0_mayKnow_4 17 rfl rfl)
theorem dX0_mayKnow_113 : decode cX0_mayKnow 113 = .ok (.goto 4, 3) := dk_167 0 4 (dk_at dksX0_mayKnow_4 18 rfl rfl)
theorem dX0_mayKnow_116 : decode cX0_mayKnow 116 = .ok (.iconst 0, 1) := dk_3 (dk_at dksX0_mayKnow_4 21 rfl rfl)
theorem dX0_mayKnow_117 : decode cX0_mayKnow 117 = .ok (.ireturn, 1) := dk_172 (dk_at dksX0_mayKnow_4 22 rfl rfl)
abbrev cX0_at : ByteArray := prog_1_method_15_code
def yX0_at : MethodName := ⟨RX0, "at", "(I)LCardBowl$House;"⟩
def dkwX0_at_0 : List UInt8 := [42, 180, 0, 40, 180, 0, 116, 27, 182, 0, 140, 176]
abbrev dktX0_at_0 : List UInt8 := dkwX0_at_0 ++ []
theorem dksX0_at_0 : cX0_at.data.toList.drop 0 = dktX0_at_0 := by decide +kernel
theorem dX0_at_0 : decode cX0_at 0 = .ok (.aload_n 0, 1) := dk_42 (dk_at dksX0_at_0 0 rfl rfl)
theorem dX0_at_1 : decode cX0_at 1 = .ok (.getfield 40, 3) := dk_180 0 40 (dk_at dksX0_at_0 1 rfl rfl)
theorem dX0_at_4 : decode cX0_at 4 = .ok (.getfield 116, 3) := dk_180 0 116 (dk_at dksX0_at_0 4 rfl rfl)
theorem dX0_at_7 : decode cX0_at 7 = .ok (.iload_n 1, 1) := dk_27 (dk_at dksX0_at_0 7 rfl rfl)
theorem dX0_at_8 : decode cX0_at 8 = .ok (.invokevirtual 140, 3) := dk_182 0 140 (dk_at dksX0_at_0 8 rfl rfl)
theorem dX0_at_11 : decode cX0_at 11 = .ok (.areturn, 1) := dk_176 (dk_at dksX0_at_0 11 rfl rfl)
abbrev cX0_has : ByteArray := prog_1_method_2_code
def yX0_has : MethodName := ⟨RX0, "has", "(II)Z"⟩
def dkwX0_has_0 : List UInt8 := [26, 27, 122, 4, 126, 4, 160, 0, 7, 4, 167, 0, 4, 3, 172]
abbrev dktX0_has_0 : List UInt8 := dkwX0_has_0 ++ []
theorem dksX0_has_0 : cX0_has.data.toList.drop 0 = dktX0_has_0 := by decide +kernel
theorem dX0_has_0 : decode cX0_has 0 = .ok (.iload_n 0, 1) := dk_26 (dk_at dksX0_has_0 0 rfl rfl)
theorem dX0_has_1 : decode cX0_has 1 = .ok (.iload_n 1, 1) := dk_27 (dk_at dksX0_has_0 1 rfl rfl)
theorem dX0_has_2 : decode cX0_has 2 = .ok (.ishr, 1) := dk_122 (dk_at dksX0_has_0 2 rfl rfl)
theorem dX0_has_3 : decode cX0_has 3 = .ok (.iconst 1, 1) := dk_4 (dk_at dksX0_has_0 3 rfl rfl)
theorem dX0_has_4 : decode cX0_has 4 = .ok (.iand, 1) := dk_126 (dk_at dksX0_has_0 4 rfl rfl)
theorem dX0_has_5 : decode cX0_has 5 = .ok (.iconst 1, 1) := dk_4 (dk_at dksX0_has_0 5 rfl rfl)
theorem dX0_has_6 : decode cX0_has 6 = .ok (.if_icmp .ne 7, 3) := dk_160 0 7 (dk_at dksX0_has_0 6 rfl rfl)
theorem dX0_has_9 : decode cX0_has 9 = .ok (.iconst 1, 1) := dk_4 (dk_at dksX0_has_0 9 rfl rfl)
theorem dX0_has_10 : decode cX0_has 10 = .ok (.goto 4, 3) := dk_167 0 4 (dk_at dksX0_has_0 10 rfl rfl)
theorem dX0_has_13 : decode cX0_has 13 = .ok (.iconst 0, 1) := dk_3 (dk_at dksX0_has_0 13 rfl rfl)
theorem dX0_has_14 : decode cX0_has 14 = .ok (.ireturn, 1) := dk_172 (dk_at dksX0_has_0 14 rfl rfl)
abbrev cX0_isNew : ByteArray := prog_1_method_17_code
def yX0_isNew : MethodName := ⟨RX0, "isNew", "(I)Z"⟩
def dkwX0_isNew_1 : List UInt8 := [180, 0, 157, 163, 0, 7, 4, 167, 0, 4, 3, 172]
abbrev dktX0_isNew_1 : List UInt8 := dkwX0_isNew_1 ++ []
def dkwX0_isNew_0 : List UInt8 := [42, 180, 0, 40, 180, 0, 146, 42, 27, 182, 0, 149, 180, 0, 152, 100, 42, 180, 0, 40, 180, 0, 116]
abbrev dktX0_isNew_0 : List UInt8 := dkwX0_isNew_0 ++ dktX0_isNew_1
theorem dksX0_isNew_0 : cX0_isNew.data.toList.drop 0 = dktX0_isNew_0 := by decide +kernel
theorem dksX0_isNew_1 : cX0_isNew.data.toList.drop 23 = dktX0_isNew_1 := dk_seg dksX0_isNew_0 23 rfl rfl
theorem dX0_isNew_0 : decode cX0_isNew 0 = .ok (.aload_n 0, 1) := dk_42 (dk_at dksX0_isNew_0 0 rfl rfl)
theorem dX0_isNew_1 : decode cX0_isNew 1 = .ok (.getfield 40, 3) := dk_180 0 40 (dk_at dksX0_isNew_0 1 rfl rfl)
theorem dX0_isNew_4 : decode cX0_isNew 4 = .ok (.getfield 146, 3) := dk_180 0 146 (dk_at dksX0_isNew_0 4 rfl rfl)
theorem dX0_isNew_7 : decode cX0_isNew 7 = .ok (.aload_n 0, 1) := dk_42 (dk_at dksX0_isNew_0 7 rfl rfl)
theorem dX0_isNew_8 : decode cX0_isNew 8 = .ok (.iload_n 1, 1) := dk_27 (dk_at dksX0_isNew_0 8 rfl rfl)
theorem dX0_isNew_9 : decode cX0_isNew 9 = .ok (.invokevirtual 149, 3) := dk_182 0 149 (dk_at dksX0_isNew_0 9 rfl rfl)
theorem dX0_isNew_12 : decode cX0_isNew 12 = .ok (.getfield 152, 3) := dk_180 0 152 (dk_at dksX0_isNew_0 12 rfl rfl)
theorem dX0_isNew_15 : decode cX0_isNew 15 = .ok (.isub, 1) := dk_100 (dk_at dksX0_isNew_0 15 rfl rfl)
theorem dX0_isNew_16 : decode cX0_isNew 16 = .ok (.aload_n 0, 1) := dk_42 (dk_at dksX0_isNew_0 16 rfl rfl)
theorem dX0_isNew_17 : decode cX0_isNew 17 = .ok (.getfield 40, 3) := dk_180 0 40 (dk_at dksX0_isNew_0 17 rfl rfl)
theorem dX0_isNew_20 : decode cX0_isNew 20 = .ok (.getfield 116, 3) := dk_180 0 116 (dk_at dksX0_isNew_0 20 rfl rfl)
theorem dX0_isNew_23 : decode cX0_isNew 23 = .ok (.getfield 157, 3) := dk_180 0 157 (dk_at dksX0_isNew_1 0 rfl rfl)
theorem dX0_isNew_26 : decode cX0_isNew 26 = .ok (.if_icmp .gt 7, 3) := dk_163 0 7 (dk_at dksX0_isNew_1 3 rfl rfl)
theorem dX0_isNew_29 : decode cX0_isNew 29 = .ok (.iconst 1, 1) := dk_4 (dk_at dksX0_isNew_1 6 rfl rfl)
theorem dX0_isNew_30 : decode cX0_isNew 30 = .ok (.goto 4, 3) := dk_167 0 4 (dk_at dksX0_isNew_1 7 rfl rfl)
theorem dX0_isNew_33 : decode cX0_isNew 33 = .ok (.iconst 0, 1) := dk_3 (dk_at dksX0_isNew_1 10 rfl rfl)
theorem dX0_isNew_34 : decode cX0_isNew 34 = .ok (.ireturn, 1) := dk_172 (dk_at dksX0_isNew_1 11 rfl rfl)
abbrev cX0_does : ByteArray := prog_1_method_21_code
def yX0_does : MethodName := ⟨RX0, "does", "(III)I"⟩
def dkwX0_does_4 : List UInt8 := [180, 0, 163, 27, 28, 42, 180, 0, 62, 29, 50, 42, 180, 0, 40, 180, 0, 146, 182, 0, 219, 172]
abbrev dktX0_does_4 : List UInt8 := dkwX0_does_4 ++ []
def dkwX0_does_3 : List UInt8 := [89, 27, 28, 29, 42, 180, 0, 40, 180, 0, 146, 183, 0, 212, 185, 0, 215, 2, 0, 87, 42, 180, 0, 40]
abbrev dktX0_does_3 : List UInt8 := dkwX0_does_3 ++ dktX0_does_4
def dkwX0_does_2 : List UInt8 := [185, 0, 205, 1, 0, 17, 2, 88, 160, 0, 6, 16, 253, 172, 42, 180, 0, 40, 180, 0, 201, 187, 0, 210]
abbrev dktX0_does_2 : List UInt8 := dkwX0_does_2 ++ dktX0_does_3
def dkwX0_does_1 : List UInt8 := [42, 27, 28, 29, 182, 0, 197, 153, 0, 6, 16, 251, 172, 42, 180, 0, 40, 180, 0, 201]
abbrev dktX0_does_1 : List UInt8 := dkwX0_does_1 ++ dktX0_does_2
def dkwX0_does_0 : List UInt8 := [42, 27, 28, 182, 0, 194, 153, 0, 15, 29, 133, 9, 20, 0, 3, 184, 0, 5, 154, 0, 6, 16, 254, 172]
abbrev dktX0_does_0 : List UInt8 := dkwX0_does_0 ++ dktX0_does_1
theorem dksX0_does_0 : cX0_does.data.toList.drop 0 = dktX0_does_0 := by decide +kernel
theorem dksX0_does_1 : cX0_does.data.toList.drop 24 = dktX0_does_1 := dk_seg dksX0_does_0 24 rfl rfl
theorem dksX0_does_2 : cX0_does.data.toList.drop 44 = dktX0_does_2 := dk_seg dksX0_does_1 20 rfl rfl
theorem dksX0_does_3 : cX0_does.data.toList.drop 68 = dktX0_does_3 := dk_seg dksX0_does_2 24 rfl rfl
theorem dksX0_does_4 : cX0_does.data.toList.drop 92 = dktX0_does_4 := dk_seg dksX0_does_3 24 rfl rfl
theorem dX0_does_0 : decode cX0_does 0 = .ok (.aload_n 0, 1) := dk_42 (dk_at dksX0_does_0 0 rfl rfl)
theorem dX0_does_1 : decode cX0_does 1 = .ok (.iload_n 1, 1) := dk_27 (dk_at dksX0_does_0 1 rfl rfl)
theorem dX0_does_2 : decode cX0_does 2 = .ok (.iload_n 2, 1) := dk_28 (dk_at dksX0_does_0 2 rfl rfl)
theorem dX0_does_3 : decode cX0_does 3 = .ok (.invokevirtual 194, 3) := dk_182 0 194 (dk_at dksX0_does_0 3 rfl rfl)
theorem dX0_does_6 : decode cX0_does 6 = .ok (.ifCond .eq 15, 3) := dk_153 0 15 (dk_at dksX0_does_0 6 rfl rfl)
theorem dX0_does_9 : decode cX0_does 9 = .ok (.iload_n 3, 1) := dk_29 (dk_at dksX0_does_0 9 rfl rfl)
theorem dX0_does_10 : decode cX0_does 10 = .ok (.i2l, 1) := dk_133 (dk_at dksX0_does_0 10 rfl rfl)
theorem dX0_does_11 : decode cX0_does 11 = .ok (.lconst 0, 1) := dk_9 (dk_at dksX0_does_0 11 rfl rfl)
theorem dX0_does_12 : decode cX0_does 12 = .ok (.ldc2_w 3, 3) := dk_20 0 3 (dk_at dksX0_does_0 12 rfl rfl)
theorem dX0_does_15 : decode cX0_does 15 = .ok (.invokestatic 5, 3) := dk_184 0 5 (dk_at dksX0_does_0 15 rfl rfl)
theorem dX0_does_18 : decode cX0_does 18 = .ok (.ifCond .ne 6, 3) := dk_154 0 6 (dk_at dksX0_does_0 18 rfl rfl)
theorem dX0_does_21 : decode cX0_does 21 = .ok (.bipush (-2), 2) := dk_16 254 (dk_at dksX0_does_0 21 rfl rfl)
theorem dX0_does_23 : decode cX0_does 23 = .ok (.ireturn, 1) := dk_172 (dk_at dksX0_does_0 23 rfl rfl)
theorem dX0_does_24 : decode cX0_does 24 = .ok (.aload_n 0, 1) := dk_42 (dk_at dksX0_does_1 0 rfl rfl)
theorem dX0_does_25 : decode cX0_does 25 = .ok (.iload_n 1, 1) := dk_27 (dk_at dksX0_does_1 1 rfl rfl)
theorem dX0_does_26 : decode cX0_does 26 = .ok (.iload_n 2, 1) := dk_28 (dk_at dksX0_does_1 2 rfl rfl)
theorem dX0_does_27 : decode cX0_does 27 = .ok (.iload_n 3, 1) := dk_29 (dk_at dksX0_does_1 3 rfl rfl)
theorem dX0_does_28 : decode cX0_does 28 = .ok (.invokevirtual 197, 3) := dk_182 0 197 (dk_at dksX0_does_1 4 rfl rfl)
theorem dX0_does_31 : decode cX0_does 31 = .ok (.ifCond .eq 6, 3) := dk_153 0 6 (dk_at dksX0_does_1 7 rfl rfl)
theorem dX0_does_34 : decode cX0_does 34 = .ok (.bipush (-5), 2) := dk_16 251 (dk_at dksX0_does_1 10 rfl rfl)
theorem dX0_does_36 : decode cX0_does 36 = .ok (.ireturn, 1) := dk_172 (dk_at dksX0_does_1 12 rfl rfl)
theorem dX0_does_37 : decode cX0_does 37 = .ok (.aload_n 0, 1) := dk_42 (dk_at dksX0_does_1 13 rfl rfl)
theorem dX0_does_38 : decode cX0_does 38 = .ok (.getfield 40, 3) := dk_180 0 40 (dk_at dksX0_does_1 14 rfl rfl)
theorem dX0_does_41 : decode cX0_does 41 = .ok (.getfield 201, 3) := dk_180 0 201 (dk_at dksX0_does_1 17 rfl rfl)
theorem dX0_does_44 : decode cX0_does 44 = .ok (.invokeinterface 205 1, 5) := by decide +kernel
theorem dX0_does_49 : decode cX0_does 49 = .ok (.sipush 600, 3) := dk_17 2 88 (dk_at dksX0_does_2 5 rfl rfl)
theorem dX0_does_52 : decode cX0_does 52 = .ok (.if_icmp .ne 6, 3) := dk_160 0 6 (dk_at dksX0_does_2 8 rfl rfl)
theorem dX0_does_55 : decode cX0_does 55 = .ok (.bipush (-3), 2) := dk_16 253 (dk_at dksX0_does_2 11 rfl rfl)
theorem dX0_does_57 : decode cX0_does 57 = .ok (.ireturn, 1) := dk_172 (dk_at dksX0_does_2 13 rfl rfl)
theorem dX0_does_58 : decode cX0_does 58 = .ok (.aload_n 0, 1) := dk_42 (dk_at dksX0_does_2 14 rfl rfl)
theorem dX0_does_59 : decode cX0_does 59 = .ok (.getfield 40, 3) := dk_180 0 40 (dk_at dksX0_does_2 15 rfl rfl)
theorem dX0_does_62 : decode cX0_does 62 = .ok (.getfield 201, 3) := dk_180 0 201 (dk_at dksX0_does_2 18 rfl rfl)
theorem dX0_does_65 : decode cX0_does 65 = .ok (.new 210, 3) := dk_187 0 210 (dk_at dksX0_does_2 21 rfl rfl)
theorem dX0_does_68 : decode cX0_does 68 = .ok (.dup, 1) := dk_89 (dk_at dksX0_does_3 0 rfl rfl)
theorem dX0_does_69 : decode cX0_does 69 = .ok (.iload_n 1, 1) := dk_27 (dk_at dksX0_does_3 1 rfl rfl)
theorem dX0_does_70 : decode cX0_does 70 = .ok (.iload_n 2, 1) := dk_28 (dk_at dksX0_does_3 2 rfl rfl)
theorem dX0_does_71 : decode cX0_does 71 = .ok (.iload_n 3, 1) := dk_29 (dk_at dksX0_does_3 3 rfl rfl)
theorem dX0_does_72 : decode cX0_does 72 = .ok (.aload_n 0, 1) := dk_42 (dk_at dksX0_does_3 4 rfl rfl)
theorem dX0_does_73 : decode cX0_does 73 = .ok (.getfield 40, 3) := dk_180 0 40 (dk_at dksX0_does_3 5 rfl rfl)
theorem dX0_does_76 : decode cX0_does 76 = .ok (.getfield 146, 3) := dk_180 0 146 (dk_at dksX0_does_3 8 rfl rfl)
theorem dX0_does_79 : decode cX0_does 79 = .ok (.invokespecial 212, 3) := dk_183 0 212 (dk_at dksX0_does_3 11 rfl rfl)
theorem dX0_does_82 : decode cX0_does 82 = .ok (.invokeinterface 215 2, 5) := by decide +kernel
theorem dX0_does_87 : decode cX0_does 87 = .ok (.pop, 1) := dk_87 (dk_at dksX0_does_3 19 rfl rfl)
theorem dX0_does_88 : decode cX0_does 88 = .ok (.aload_n 0, 1) := dk_42 (dk_at dksX0_does_3 20 rfl rfl)
theorem dX0_does_89 : decode cX0_does 89 = .ok (.getfield 40, 3) := dk_180 0 40 (dk_at dksX0_does_3 21 rfl rfl)
theorem dX0_does_92 : decode cX0_does 92 = .ok (.getfield 163, 3) := dk_180 0 163 (dk_at dksX0_does_4 0 rfl rfl)
theorem dX0_does_95 : decode cX0_does 95 = .ok (.iload_n 1, 1) := dk_27 (dk_at dksX0_does_4 3 rfl rfl)
theorem dX0_does_96 : decode cX0_does 96 = .ok (.iload_n 2, 1) := dk_28 (dk_at dksX0_does_4 4 rfl rfl)
theorem dX0_does_97 : decode cX0_does 97 = .ok (.aload_n 0, 1) := dk_42 (dk_at dksX0_does_4 5 rfl rfl)
theorem dX0_does_98 : decode cX0_does 98 = .ok (.getfield 62, 3) := dk_180 0 62 (dk_at dksX0_does_4 6 rfl rfl)
theorem dX0_does_101 : decode cX0_does 101 = .ok (.iload_n 3, 1) := dk_29 (dk_at dksX0_does_4 9 rfl rfl)
theorem dX0_does_102 : decode cX0_does 102 = .ok (.aaload, 1) := dk_50 (dk_at dksX0_does_4 10 rfl rfl)
theorem dX0_does_103 : decode cX0_does 103 = .ok (.aload_n 0, 1) := dk_42 (dk_at dksX0_does_4 11 rfl rfl)
theorem dX0_does_104 : decode cX0_does 104 = .ok (.getfield 40, 3) := dk_180 0 40 (dk_at dksX0_does_4 12 rfl rfl)
theorem dX0_does_107 : decode cX0_does 107 = .ok (.getfield 146, 3) := dk_180 0 146 (dk_at dksX0_does_4 15 rfl rfl)
theorem dX0_does_110 : decode cX0_does 110 = .ok (.invokevirtual 219, 3) := dk_182 0 219 (dk_at dksX0_does_4 18 rfl rfl)
theorem dX0_does_113 : decode cX0_does 113 = .ok (.ireturn, 1) := dk_172 (dk_at dksX0_does_4 21 rfl rfl)
abbrev cX0_meet : ByteArray := prog_1_method_22_code
def yX0_meet : MethodName := ⟨RX0, "meet", "(II)I"⟩
def dkwX0_meet_4 : List UInt8 := [29, 172]
abbrev dktX0_meet_4 : List UInt8 := dkwX0_meet_4 ++ []
def dkwX0_meet_3 : List UInt8 := [180, 0, 146, 183, 0, 212, 185, 0, 215, 2, 0, 87, 42, 180, 0, 40, 180, 0, 163, 27, 28, 182, 0, 223]
abbrev dktX0_meet_3 : List UInt8 := dkwX0_meet_3 ++ dktX0_meet_4
def dkwX0_meet_2 : List UInt8 := [3, 167, 0, 4, 4, 62, 42, 180, 0, 40, 180, 0, 201, 187, 0, 210, 89, 27, 28, 7, 42, 180, 0, 40]
abbrev dktX0_meet_2 : List UInt8 := dkwX0_meet_2 ++ dktX0_meet_3
def dkwX0_meet_1 : List UInt8 := [17, 2, 88, 160, 0, 6, 16, 253, 172, 42, 180, 0, 40, 180, 0, 163, 27, 28, 182, 0, 167, 153, 0, 7]
abbrev dktX0_meet_1 : List UInt8 := dkwX0_meet_1 ++ dktX0_meet_2
def dkwX0_meet_0 : List UInt8 := [42, 27, 28, 182, 0, 194, 154, 0, 6, 16, 254, 172, 42, 180, 0, 40, 180, 0, 201, 185, 0, 205, 1, 0]
abbrev dktX0_meet_0 : List UInt8 := dkwX0_meet_0 ++ dktX0_meet_1
theorem dksX0_meet_0 : cX0_meet.data.toList.drop 0 = dktX0_meet_0 := by decide +kernel
theorem dksX0_meet_1 : cX0_meet.data.toList.drop 24 = dktX0_meet_1 := dk_seg dksX0_meet_0 24 rfl rfl
theorem dksX0_meet_2 : cX0_meet.data.toList.drop 48 = dktX0_meet_2 := dk_seg dksX0_meet_1 24 rfl rfl
theorem dksX0_meet_3 : cX0_meet.data.toList.drop 72 = dktX0_meet_3 := dk_seg dksX0_meet_2 24 rfl rfl
theorem dksX0_meet_4 : cX0_meet.data.toList.drop 96 = dktX0_meet_4 := dk_seg dksX0_meet_3 24 rfl rfl
theorem dX0_meet_0 : decode cX0_meet 0 = .ok (.aload_n 0, 1) := dk_42 (dk_at dksX0_meet_0 0 rfl rfl)
theorem dX0_meet_1 : decode cX0_meet 1 = .ok (.iload_n 1, 1) := dk_27 (dk_at dksX0_meet_0 1 rfl rfl)
theorem dX0_meet_2 : decode cX0_meet 2 = .ok (.iload_n 2, 1) := dk_28 (dk_at dksX0_meet_0 2 rfl rfl)
theorem dX0_meet_3 : decode cX0_meet 3 = .ok (.invokevirtual 194, 3) := dk_182 0 194 (dk_at dksX0_meet_0 3 rfl rfl)
theorem dX0_meet_6 : decode cX0_meet 6 = .ok (.ifCond .ne 6, 3) := dk_154 0 6 (dk_at dksX0_meet_0 6 rfl rfl)
theorem dX0_meet_9 : decode cX0_meet 9 = .ok (.bipush (-2), 2) := dk_16 254 (dk_at dksX0_meet_0 9 rfl rfl)
theorem dX0_meet_11 : decode cX0_meet 11 = .ok (.ireturn, 1) := dk_172 (dk_at dksX0_meet_0 11 rfl rfl)
theorem dX0_meet_12 : decode cX0_meet 12 = .ok (.aload_n 0, 1) := dk_42 (dk_at dksX0_meet_0 12 rfl rfl)
theorem dX0_meet_13 : decode cX0_meet 13 = .ok (.getfield 40, 3) := dk_180 0 40 (dk_at dksX0_meet_0 13 rfl rfl)
theorem dX0_meet_16 : decode cX0_meet 16 = .ok (.getfield 201, 3) := dk_180 0 201 (dk_at dksX0_meet_0 16 rfl rfl)
theorem dX0_meet_19 : decode cX0_meet 19 = .ok (.invokeinterface 205 1, 5) := by decide +kernel
theorem dX0_meet_24 : decode cX0_meet 24 = .ok (.sipush 600, 3) := dk_17 2 88 (dk_at dksX0_meet_1 0 rfl rfl)
theorem dX0_meet_27 : decode cX0_meet 27 = .ok (.if_icmp .ne 6, 3) := dk_160 0 6 (dk_at dksX0_meet_1 3 rfl rfl)
theorem dX0_meet_30 : decode cX0_meet 30 = .ok (.bipush (-3), 2) := dk_16 253 (dk_at dksX0_meet_1 6 rfl rfl)
theorem dX0_meet_32 : decode cX0_meet 32 = .ok (.ireturn, 1) := dk_172 (dk_at dksX0_meet_1 8 rfl rfl)
theorem dX0_meet_33 : decode cX0_meet 33 = .ok (.aload_n 0, 1) := dk_42 (dk_at dksX0_meet_1 9 rfl rfl)
theorem dX0_meet_34 : decode cX0_meet 34 = .ok (.getfield 40, 3) := dk_180 0 40 (dk_at dksX0_meet_1 10 rfl rfl)
theorem dX0_meet_37 : decode cX0_meet 37 = .ok (.getfield 163, 3) := dk_180 0 163 (dk_at dksX0_meet_1 13 rfl rfl)
theorem dX0_meet_40 : decode cX0_meet 40 = .ok (.iload_n 1, 1) := dk_27 (dk_at dksX0_meet_1 16 rfl rfl)
theorem dX0_meet_41 : decode cX0_meet 41 = .ok (.iload_n 2, 1) := dk_28 (dk_at dksX0_meet_1 17 rfl rfl)
theorem dX0_meet_42 : decode cX0_meet 42 = .ok (.invokevirtual 167, 3) := dk_182 0 167 (dk_at dksX0_meet_1 18 rfl rfl)
theorem dX0_meet_45 : decode cX0_meet 45 = .ok (.ifCond .eq 7, 3) := dk_153 0 7 (dk_at dksX0_meet_1 21 rfl rfl)
theorem dX0_meet_48 : decode cX0_meet 48 = .ok (.iconst 0, 1) := dk_3 (dk_at dksX0_meet_2 0 rfl rfl)
theorem dX0_meet_49 : decode cX0_meet 49 = .ok (.goto 4, 3) := dk_167 0 4 (dk_at dksX0_meet_2 1 rfl rfl)
theorem dX0_meet_52 : decode cX0_meet 52 = .ok (.iconst 1, 1) := dk_4 (dk_at dksX0_meet_2 4 rfl rfl)
theorem dX0_meet_53 : decode cX0_meet 53 = .ok (.istore_n 3, 1) := dk_62 (dk_at dksX0_meet_2 5 rfl rfl)
theorem dX0_meet_54 : decode cX0_meet 54 = .ok (.aload_n 0, 1) := dk_42 (dk_at dksX0_meet_2 6 rfl rfl)
theorem dX0_meet_55 : decode cX0_meet 55 = .ok (.getfield 40, 3) := dk_180 0 40 (dk_at dksX0_meet_2 7 rfl rfl)
theorem dX0_meet_58 : decode cX0_meet 58 = .ok (.getfield 201, 3) := dk_180 0 201 (dk_at dksX0_meet_2 10 rfl rfl)
theorem dX0_meet_61 : decode cX0_meet 61 = .ok (.new 210, 3) := dk_187 0 210 (dk_at dksX0_meet_2 13 rfl rfl)
theorem dX0_meet_64 : decode cX0_meet 64 = .ok (.dup, 1) := dk_89 (dk_at dksX0_meet_2 16 rfl rfl)
theorem dX0_meet_65 : decode cX0_meet 65 = .ok (.iload_n 1, 1) := dk_27 (dk_at dksX0_meet_2 17 rfl rfl)
theorem dX0_meet_66 : decode cX0_meet 66 = .ok (.iload_n 2, 1) := dk_28 (dk_at dksX0_meet_2 18 rfl rfl)
theorem dX0_meet_67 : decode cX0_meet 67 = .ok (.iconst 4, 1) := dk_7 (dk_at dksX0_meet_2 19 rfl rfl)
theorem dX0_meet_68 : decode cX0_meet 68 = .ok (.aload_n 0, 1) := dk_42 (dk_at dksX0_meet_2 20 rfl rfl)
theorem dX0_meet_69 : decode cX0_meet 69 = .ok (.getfield 40, 3) := dk_180 0 40 (dk_at dksX0_meet_2 21 rfl rfl)
theorem dX0_meet_72 : decode cX0_meet 72 = .ok (.getfield 146, 3) := dk_180 0 146 (dk_at dksX0_meet_3 0 rfl rfl)
theorem dX0_meet_75 : decode cX0_meet 75 = .ok (.invokespecial 212, 3) := dk_183 0 212 (dk_at dksX0_meet_3 3 rfl rfl)
theorem dX0_meet_78 : decode cX0_meet 78 = .ok (.invokeinterface 215 2, 5) := by decide +kernel
theorem dX0_meet_83 : decode cX0_meet 83 = .ok (.pop, 1) := dk_87 (dk_at dksX0_meet_3 11 rfl rfl)
theorem dX0_meet_84 : decode cX0_meet 84 = .ok (.aload_n 0, 1) := dk_42 (dk_at dksX0_meet_3 12 rfl rfl)
theorem dX0_meet_85 : decode cX0_meet 85 = .ok (.getfield 40, 3) := dk_180 0 40 (dk_at dksX0_meet_3 13 rfl rfl)
theorem dX0_meet_88 : decode cX0_meet 88 = .ok (.getfield 163, 3) := dk_180 0 163 (dk_at dksX0_meet_3 16 rfl rfl)
theorem dX0_meet_91 : decode cX0_meet 91 = .ok (.iload_n 1, 1) := dk_27 (dk_at dksX0_meet_3 19 rfl rfl)
theorem dX0_meet_92 : decode cX0_meet 92 = .ok (.iload_n 2, 1) := dk_28 (dk_at dksX0_meet_3 20 rfl rfl)
theorem dX0_meet_93 : decode cX0_meet 93 = .ok (.invokevirtual 223, 3) := dk_182 0 223 (dk_at dksX0_meet_3 21 rfl rfl)
theorem dX0_meet_96 : decode cX0_meet 96 = .ok (.iload_n 3, 1) := dk_29 (dk_at dksX0_meet_4 0 rfl rfl)
theorem dX0_meet_97 : decode cX0_meet 97 = .ok (.ireturn, 1) := dk_172 (dk_at dksX0_meet_4 1 rfl rfl)
abbrev cX0_done : ByteArray := prog_1_method_23_code
def yX0_done : MethodName := ⟨RX0, "done", "(I)I"⟩
def dkwX0_done_8 : List UInt8 := [96, 62, 132, 4, 3, 167, 255, 97, 29, 172]
abbrev dktX0_done_8 : List UInt8 := dkwX0_done_8 ++ []
def dkwX0_done_7 : List UInt8 := [21, 4, 5, 96, 182, 0, 232, 136, 182, 0, 244, 54, 8, 29, 21, 8, 155, 0, 7, 4, 167, 0, 4, 3]
abbrev dktX0_done_7 : List UInt8 := dkwX0_done_7 ++ dktX0_done_8
def dkwX0_done_6 : List UInt8 := [20, 0, 238, 148, 154, 0, 14, 42, 21, 6, 21, 7, 182, 0, 240, 167, 0, 20, 42, 21, 6, 21, 7, 44]
abbrev dktX0_done_6 : List UInt8 := dkwX0_done_6 ++ dktX0_done_7
def dkwX0_done_5 : List UInt8 := [136, 54, 6, 44, 21, 4, 4, 96, 182, 0, 232, 136, 54, 7, 44, 21, 4, 5, 96, 182, 0, 232]
abbrev dktX0_done_5 : List UInt8 := dkwX0_done_5 ++ dktX0_done_6
def dkwX0_done_4 : List UInt8 := [153, 0, 7, 4, 167, 0, 4, 3, 54, 5, 21, 5, 154, 0, 6, 167, 0, 81, 44, 21, 4, 182, 0, 232]
abbrev dktX0_done_4 : List UInt8 := dkwX0_done_4 ++ dktX0_done_5
def dkwX0_done_3 : List UInt8 := [20, 0, 236, 184, 0, 5, 153, 0, 25, 44, 21, 4, 5, 96, 182, 0, 232, 9, 20, 0, 238, 184, 0, 5]
abbrev dktX0_done_3 : List UInt8 := dkwX0_done_3 ++ dktX0_done_4
def dkwX0_done_2 : List UInt8 := [182, 0, 232, 9, 20, 0, 236, 184, 0, 5, 153, 0, 43, 44, 21, 4, 4, 96, 182, 0, 232, 9]
abbrev dktX0_done_2 : List UInt8 := dkwX0_done_2 ++ dktX0_done_3
def dkwX0_done_1 : List UInt8 := [16, 250, 172, 3, 62, 3, 54, 4, 21, 4, 5, 96, 44, 182, 0, 231, 162, 0, 154, 44, 21, 4]
abbrev dktX0_done_1 : List UInt8 := dkwX0_done_1 ++ dktX0_done_2
def dkwX0_done_0 : List UInt8 := [27, 184, 0, 9, 154, 0, 6, 16, 254, 172, 42, 180, 0, 13, 27, 50, 77, 44, 180, 0, 227, 199, 0, 6]
abbrev dktX0_done_0 : List UInt8 := dkwX0_done_0 ++ dktX0_done_1
theorem dksX0_done_0 : cX0_done.data.toList.drop 0 = dktX0_done_0 := by decide +kernel
theorem dksX0_done_1 : cX0_done.data.toList.drop 24 = dktX0_done_1 := dk_seg dksX0_done_0 24 rfl rfl
theorem dksX0_done_2 : cX0_done.data.toList.drop 46 = dktX0_done_2 := dk_seg dksX0_done_1 22 rfl rfl
theorem dksX0_done_3 : cX0_done.data.toList.drop 68 = dktX0_done_3 := dk_seg dksX0_done_2 22 rfl rfl
theorem dksX0_done_4 : cX0_done.data.toList.drop 92 = dktX0_done_4 := dk_seg dksX0_done_3 24 rfl rfl
theorem dksX0_done_5 : cX0_done.data.toList.drop 116 = dktX0_done_5 := dk_seg dksX0_done_4 24 rfl rfl
theorem dksX0_done_6 : cX0_done.data.toList.drop 138 = dktX0_done_6 := dk_seg dksX0_done_5 22 rfl rfl
theorem dksX0_done_7 : cX0_done.data.toList.drop 162 = dktX0_done_7 := dk_seg dksX0_done_6 24 rfl rfl
theorem dksX0_done_8 : cX0_done.data.toList.drop 186 = dktX0_done_8 := dk_seg dksX0_done_7 24 rfl rfl
theorem dX0_done_0 : decode cX0_done 0 = .ok (.iload_n 1, 1) := dk_27 (dk_at dksX0_done_0 0 rfl rfl)
theorem dX0_done_1 : decode cX0_done 1 = .ok (.invokestatic 9, 3) := dk_184 0 9 (dk_at dksX0_done_0 1 rfl rfl)
theorem dX0_done_4 : decode cX0_done 4 = .ok (.ifCond .ne 6, 3) := dk_154 0 6 (dk_at dksX0_done_0 4 rfl rfl)
theorem dX0_done_7 : decode cX0_done 7 = .ok (.bipush (-2), 2) := dk_16 254 (dk_at dksX0_done_0 7 rfl rfl)
theorem dX0_done_9 : decode cX0_done 9 = .ok (.ireturn, 1) := dk_172 (dk_at dksX0_done_0 9 rfl rfl)
theorem dX0_done_10 : decode cX0_done 10 = .ok (.aload_n 0, 1) := dk_42 (dk_at dksX0_done_0 10 rfl rfl)
theorem dX0_done_11 : decode cX0_done 11 = .ok (.getfield 13, 3) := dk_180 0 13 (dk_at dksX0_done_0 11 rfl rfl)
theorem dX0_done_14 : decode cX0_done 14 = .ok (.iload_n 1, 1) := dk_27 (dk_at dksX0_done_0 14 rfl rfl)
theorem dX0_done_15 : decode cX0_done 15 = .ok (.aaload, 1) := dk_50 (dk_at dksX0_done_0 15 rfl rfl)
theorem dX0_done_16 : decode cX0_done 16 = .ok (.astore_n 2, 1) := dk_77 (dk_at dksX0_done_0 16 rfl rfl)
theorem dX0_done_17 : decode cX0_done 17 = .ok (.aload_n 2, 1) := dk_44 (dk_at dksX0_done_0 17 rfl rfl)
theorem dX0_done_18 : decode cX0_done 18 = .ok (.getfield 227, 3) := dk_180 0 227 (dk_at dksX0_done_0 18 rfl rfl)
theorem dX0_done_21 : decode cX0_done 21 = .ok (.ifnonnull 6, 3) := dk_199 0 6 (dk_at dksX0_done_0 21 rfl rfl)
theorem dX0_done_24 : decode cX0_done 24 = .ok (.bipush (-6), 2) := dk_16 250 (dk_at dksX0_done_1 0 rfl rfl)
theorem dX0_done_26 : decode cX0_done 26 = .ok (.ireturn, 1) := dk_172 (dk_at dksX0_done_1 2 rfl rfl)
theorem dX0_done_27 : decode cX0_done 27 = .ok (.iconst 0, 1) := dk_3 (dk_at dksX0_done_1 3 rfl rfl)
theorem dX0_done_28 : decode cX0_done 28 = .ok (.istore_n 3, 1) := dk_62 (dk_at dksX0_done_1 4 rfl rfl)
theorem dX0_done_29 : decode cX0_done 29 = .ok (.iconst 0, 1) := dk_3 (dk_at dksX0_done_1 5 rfl rfl)
theorem dX0_done_30 : decode cX0_done 30 = .ok (.istore 4, 2) := dk_54 4 (dk_at dksX0_done_1 6 rfl rfl)
theorem dX0_done_32 : decode cX0_done 32 = .ok (.iload 4, 2) := dk_21 4 (dk_at dksX0_done_1 8 rfl rfl)
theorem dX0_done_34 : decode cX0_done 34 = .ok (.iconst 2, 1) := dk_5 (dk_at dksX0_done_1 10 rfl rfl)
theorem dX0_done_35 : decode cX0_done 35 = .ok (.iadd, 1) := dk_96 (dk_at dksX0_done_1 11 rfl rfl)
theorem dX0_done_36 : decode cX0_done 36 = .ok (.aload_n 2, 1) := dk_44 (dk_at dksX0_done_1 12 rfl rfl)
theorem dX0_done_37 : decode cX0_done 37 = .ok (.invokevirtual 231, 3) := dk_182 0 231 (dk_at dksX0_done_1 13 rfl rfl)
theorem dX0_done_40 : decode cX0_done 40 = .ok (.if_icmp .ge 154, 3) := dk_162 0 154 (dk_at dksX0_done_1 16 rfl rfl)
theorem dX0_done_43 : decode cX0_done 43 = .ok (.aload_n 2, 1) := dk_44 (dk_at dksX0_done_1 19 rfl rfl)
theorem dX0_done_44 : decode cX0_done 44 = .ok (.iload 4, 2) := dk_21 4 (dk_at dksX0_done_1 20 rfl rfl)
theorem dX0_done_46 : decode cX0_done 46 = .ok (.invokevirtual 232, 3) := dk_182 0 232 (dk_at dksX0_done_2 0 rfl rfl)
theorem dX0_done_49 : decode cX0_done 49 = .ok (.lconst 0, 1) := dk_9 (dk_at dksX0_done_2 3 rfl rfl)
theorem dX0_done_50 : decode cX0_done 50 = .ok (.ldc2_w 236, 3) := dk_20 0 236 (dk_at dksX0_done_2 4 rfl rfl)
theorem dX0_done_53 : decode cX0_done 53 = .ok (.invokestatic 5, 3) := dk_184 0 5 (dk_at dksX0_done_2 7 rfl rfl)
theorem dX0_done_56 : decode cX0_done 56 = .ok (.ifCond .eq 43, 3) := dk_153 0 43 (dk_at dksX0_done_2 10 rfl rfl)
theorem dX0_done_59 : decode cX0_done 59 = .ok (.aload_n 2, 1) := dk_44 (dk_at dksX0_done_2 13 rfl rfl)
theorem dX0_done_60 : decode cX0_done 60 = .ok (.iload 4, 2) := dk_21 4 (dk_at dksX0_done_2 14 rfl rfl)
theorem dX0_done_62 : decode cX0_done 62 = .ok (.iconst 1, 1) := dk_4 (dk_at dksX0_done_2 16 rfl rfl)
theorem dX0_done_63 : decode cX0_done 63 = .ok (.iadd, 1) := dk_96 (dk_at dksX0_done_2 17 rfl rfl)
theorem dX0_done_64 : decode cX0_done 64 = .ok (.invokevirtual 232, 3) := dk_182 0 232 (dk_at dksX0_done_2 18 rfl rfl)
theorem dX0_done_67 : decode cX0_done 67 = .ok (.lconst 0, 1) := dk_9 (dk_at dksX0_done_2 21 rfl rfl)
theorem dX0_done_68 : decode cX0_done 68 = .ok (.ldc2_w 236, 3) := dk_20 0 236 (dk_at dksX0_done_3 0 rfl rfl)
theorem dX0_done_71 : decode cX0_done 71 = .ok (.invokestatic 5, 3) := dk_184 0 5 (dk_at dksX0_done_3 3 rfl rfl)
theorem dX0_done_74 : decode cX0_done 74 = .ok (.ifCond .eq 25, 3) := dk_153 0 25 (dk_at dksX0_done_3 6 rfl rfl)
theorem dX0_done_77 : decode cX0_done 77 = .ok (.aload_n 2, 1) := dk_44 (dk_at dksX0_done_3 9 rfl rfl)
theorem dX0_done_78 : decode cX0_done 78 = .ok (.iload 4, 2) := dk_21 4 (dk_at dksX0_done_3 10 rfl rfl)
theorem dX0_done_80 : decode cX0_done 80 = .ok (.iconst 2, 1) := dk_5 (dk_at dksX0_done_3 12 rfl rfl)
theorem dX0_done_81 : decode cX0_done 81 = .ok (.iadd, 1) := dk_96 (dk_at dksX0_done_3 13 rfl rfl)
theorem dX0_done_82 : decode cX0_done 82 = .ok (.invokevirtual 232, 3) := dk_182 0 232 (dk_at dksX0_done_3 14 rfl rfl)
theorem dX0_done_85 : decode cX0_done 85 = .ok (.lconst 0, 1) := dk_9 (dk_at dksX0_done_3 17 rfl rfl)
theorem dX0_done_86 : decode cX0_done 86 = .ok (.ldc2_w 238, 3) := dk_20 0 238 (dk_at dksX0_done_3 18 rfl rfl)
theorem dX0_done_89 : decode cX0_done 89 = .ok (.invokestatic 5, 3) := dk_184 0 5 (dk_at dksX0_done_3 21 rfl rfl)
theorem dX0_done_92 : decode cX0_done 92 = .ok (.ifCond .eq 7, 3) := dk_153 0 7 (dk_at dksX0_done_4 0 rfl rfl)
theorem dX0_done_95 : decode cX0_done 95 = .ok (.iconst 1, 1) := dk_4 (dk_at dksX0_done_4 3 rfl rfl)
theorem dX0_done_96 : decode cX0_done 96 = .ok (.goto 4, 3) := dk_167 0 4 (dk_at dksX0_done_4 4 rfl rfl)
theorem dX0_done_99 : decode cX0_done 99 = .ok (.iconst 0, 1) := dk_3 (dk_at dksX0_done_4 7 rfl rfl)
theorem dX0_done_100 : decode cX0_done 100 = .ok (.istore 5, 2) := dk_54 5 (dk_at dksX0_done_4 8 rfl rfl)
theorem dX0_done_102 : decode cX0_done 102 = .ok (.iload 5, 2) := dk_21 5 (dk_at dksX0_done_4 10 rfl rfl)
theorem dX0_done_104 : decode cX0_done 104 = .ok (.ifCond .ne 6, 3) := dk_154 0 6 (dk_at dksX0_done_4 12 rfl rfl)
theorem dX0_done_107 : decode cX0_done 107 = .ok (.goto 81, 3) := dk_167 0 81 (dk_at dksX0_done_4 15 rfl rfl)
theorem dX0_done_110 : decode cX0_done 110 = .ok (.aload_n 2, 1) := dk_44 (dk_at dksX0_done_4 18 rfl rfl)
theorem dX0_done_111 : decode cX0_done 111 = .ok (.iload 4, 2) := dk_21 4 (dk_at dksX0_done_4 19 rfl rfl)
theorem dX0_done_113 : decode cX0_done 113 = .ok (.invokevirtual 232, 3) := dk_182 0 232 (dk_at dksX0_done_4 21 rfl rfl)
theorem dX0_done_116 : decode cX0_done 116 = .ok (.l2i, 1) := dk_136 (dk_at dksX0_done_5 0 rfl rfl)
theorem dX0_done_117 : decode cX0_done 117 = .ok (.istore 6, 2) := dk_54 6 (dk_at dksX0_done_5 1 rfl rfl)
theorem dX0_done_119 : decode cX0_done 119 = .ok (.aload_n 2, 1) := dk_44 (dk_at dksX0_done_5 3 rfl rfl)
theorem dX0_done_120 : decode cX0_done 120 = .ok (.iload 4, 2) := dk_21 4 (dk_at dksX0_done_5 4 rfl rfl)
theorem dX0_done_122 : decode cX0_done 122 = .ok (.iconst 1, 1) := dk_4 (dk_at dksX0_done_5 6 rfl rfl)
theorem dX0_done_123 : decode cX0_done 123 = .ok (.iadd, 1) := dk_96 (dk_at dksX0_done_5 7 rfl rfl)
theorem dX0_done_124 : decode cX0_done 124 = .ok (.invokevirtual 232, 3) := dk_182 0 232 (dk_at dksX0_done_5 8 rfl rfl)
theorem dX0_done_127 : decode cX0_done 127 = .ok (.l2i, 1) := dk_136 (dk_at dksX0_done_5 11 rfl rfl)
theorem dX0_done_128 : decode cX0_done 128 = .ok (.istore 7, 2) := dk_54 7 (dk_at dksX0_done_5 12 rfl rfl)
theorem dX0_done_130 : decode cX0_done 130 = .ok (.aload_n 2, 1) := dk_44 (dk_at dksX0_done_5 14 rfl rfl)
theorem dX0_done_131 : decode cX0_done 131 = .ok (.iload 4, 2) := dk_21 4 (dk_at dksX0_done_5 15 rfl rfl)
theorem dX0_done_133 : decode cX0_done 133 = .ok (.iconst 2, 1) := dk_5 (dk_at dksX0_done_5 17 rfl rfl)
theorem dX0_done_134 : decode cX0_done 134 = .ok (.iadd, 1) := dk_96 (dk_at dksX0_done_5 18 rfl rfl)
theorem dX0_done_135 : decode cX0_done 135 = .ok (.invokevirtual 232, 3) := dk_182 0 232 (dk_at dksX0_done_5 19 rfl rfl)
theorem dX0_done_138 : decode cX0_done 138 = .ok (.ldc2_w 238, 3) := dk_20 0 238 (dk_at dksX0_done_6 0 rfl rfl)
theorem dX0_done_141 : decode cX0_done 141 = .ok (.lcmp, 1) := dk_148 (dk_at dksX0_done_6 3 rfl rfl)
theorem dX0_done_142 : decode cX0_done 142 = .ok (.ifCond .ne 14, 3) := dk_154 0 14 (dk_at dksX0_done_6 4 rfl rfl)
theorem dX0_done_145 : decode cX0_done 145 = .ok (.aload_n 0, 1) := dk_42 (dk_at dksX0_done_6 7 rfl rfl)
theorem dX0_done_146 : decode cX0_done 146 = .ok (.iload 6, 2) := dk_21 6 (dk_at dksX0_done_6 8 rfl rfl)
theorem dX0_done_148 : decode cX0_done 148 = .ok (.iload 7, 2) := dk_21 7 (dk_at dksX0_done_6 10 rfl rfl)
theorem dX0_done_150 : decode cX0_done 150 = .ok (.invokevirtual 240, 3) := dk_182 0 240 (dk_at dksX0_done_6 12 rfl rfl)
theorem dX0_done_153 : decode cX0_done 153 = .ok (.goto 20, 3) := dk_167 0 20 (dk_at dksX0_done_6 15 rfl rfl)
theorem dX0_done_156 : decode cX0_done 156 = .ok (.aload_n 0, 1) := dk_42 (dk_at dksX0_done_6 18 rfl rfl)
theorem dX0_done_157 : decode cX0_done 157 = .ok (.iload 6, 2) := dk_21 6 (dk_at dksX0_done_6 19 rfl rfl)
theorem dX0_done_159 : decode cX0_done 159 = .ok (.iload 7, 2) := dk_21 7 (dk_at dksX0_done_6 21 rfl rfl)
theorem dX0_done_161 : decode cX0_done 161 = .ok (.aload_n 2, 1) := dk_44 (dk_at dksX0_done_6 23 rfl rfl)
theorem dX0_done_162 : decode cX0_done 162 = .ok (.iload 4, 2) := dk_21 4 (dk_at dksX0_done_7 0 rfl rfl)
theorem dX0_done_164 : decode cX0_done 164 = .ok (.iconst 2, 1) := dk_5 (dk_at dksX0_done_7 2 rfl rfl)
theorem dX0_done_165 : decode cX0_done 165 = .ok (.iadd, 1) := dk_96 (dk_at dksX0_done_7 3 rfl rfl)
theorem dX0_done_166 : decode cX0_done 166 = .ok (.invokevirtual 232, 3) := dk_182 0 232 (dk_at dksX0_done_7 4 rfl rfl)
theorem dX0_done_169 : decode cX0_done 169 = .ok (.l2i, 1) := dk_136 (dk_at dksX0_done_7 7 rfl rfl)
theorem dX0_done_170 : decode cX0_done 170 = .ok (.invokevirtual 244, 3) := dk_182 0 244 (dk_at dksX0_done_7 8 rfl rfl)
theorem dX0_done_173 : decode cX0_done 173 = .ok (.istore 8, 2) := dk_54 8 (dk_at dksX0_done_7 11 rfl rfl)
theorem dX0_done_175 : decode cX0_done 175 = .ok (.iload_n 3, 1) := dk_29 (dk_at dksX0_done_7 13 rfl rfl)
theorem dX0_done_176 : decode cX0_done 176 = .ok (.iload 8, 2) := dk_21 8 (dk_at dksX0_done_7 14 rfl rfl)
theorem dX0_done_178 : decode cX0_done 178 = .ok (.ifCond .lt 7, 3) := dk_155 0 7 (dk_at dksX0_done_7 16 rfl rfl)
theorem dX0_done_181 : decode cX0_done 181 = .ok (.iconst 1, 1) := dk_4 (dk_at dksX0_done_7 19 rfl rfl)
theorem dX0_done_182 : decode cX0_done 182 = .ok (.goto 4, 3) := dk_167 0 4 (dk_at dksX0_done_7 20 rfl rfl)
theorem dX0_done_185 : decode cX0_done 185 = .ok (.iconst 0, 1) := dk_3 (dk_at dksX0_done_7 23 rfl rfl)
theorem dX0_done_186 : decode cX0_done 186 = .ok (.iadd, 1) := dk_96 (dk_at dksX0_done_8 0 rfl rfl)
theorem dX0_done_187 : decode cX0_done 187 = .ok (.istore_n 3, 1) := dk_62 (dk_at dksX0_done_8 1 rfl rfl)
theorem dX0_done_188 : decode cX0_done 188 = .ok (.iinc 4 3, 3) := dk_132 4 3 (dk_at dksX0_done_8 2 rfl rfl)
theorem dX0_done_191 : decode cX0_done 191 = .ok (.goto (-159), 3) := dk_167 255 97 (dk_at dksX0_done_8 5 rfl rfl)
theorem dX0_done_194 : decode cX0_done 194 = .ok (.iload_n 3, 1) := dk_29 (dk_at dksX0_done_8 8 rfl rfl)
theorem dX0_done_195 : decode cX0_done 195 = .ok (.ireturn, 1) := dk_172 (dk_at dksX0_done_8 9 rfl rfl)
abbrev cX0_known : ByteArray := prog_1_method_24_code
def yX0_known : MethodName := ⟨RX0, "known", "(II)I"⟩
def dkwX0_known_1 : List UInt8 := [182, 0, 167, 153, 0, 7, 4, 167, 0, 4, 3, 172]
abbrev dktX0_known_1 : List UInt8 := dkwX0_known_1 ++ []
def dkwX0_known_0 : List UInt8 := [42, 27, 28, 182, 0, 194, 154, 0, 8, 16, 254, 167, 0, 23, 42, 180, 0, 40, 180, 0, 163, 27, 28]
abbrev dktX0_known_0 : List UInt8 := dkwX0_known_0 ++ dktX0_known_1
theorem dksX0_known_0 : cX0_known.data.toList.drop 0 = dktX0_known_0 := by decide +kernel
theorem dksX0_known_1 : cX0_known.data.toList.drop 23 = dktX0_known_1 := dk_seg dksX0_known_0 23 rfl rfl
theorem dX0_known_0 : decode cX0_known 0 = .ok (.aload_n 0, 1) := dk_42 (dk_at dksX0_known_0 0 rfl rfl)
theorem dX0_known_1 : decode cX0_known 1 = .ok (.iload_n 1, 1) := dk_27 (dk_at dksX0_known_0 1 rfl rfl)
theorem dX0_known_2 : decode cX0_known 2 = .ok (.iload_n 2, 1) := dk_28 (dk_at dksX0_known_0 2 rfl rfl)
theorem dX0_known_3 : decode cX0_known 3 = .ok (.invokevirtual 194, 3) := dk_182 0 194 (dk_at dksX0_known_0 3 rfl rfl)
theorem dX0_known_6 : decode cX0_known 6 = .ok (.ifCond .ne 8, 3) := dk_154 0 8 (dk_at dksX0_known_0 6 rfl rfl)
theorem dX0_known_9 : decode cX0_known 9 = .ok (.bipush (-2), 2) := dk_16 254 (dk_at dksX0_known_0 9 rfl rfl)
theorem dX0_known_11 : decode cX0_known 11 = .ok (.goto 23, 3) := dk_167 0 23 (dk_at dksX0_known_0 11 rfl rfl)
theorem dX0_known_14 : decode cX0_known 14 = .ok (.aload_n 0, 1) := dk_42 (dk_at dksX0_known_0 14 rfl rfl)
theorem dX0_known_15 : decode cX0_known 15 = .ok (.getfield 40, 3) := dk_180 0 40 (dk_at dksX0_known_0 15 rfl rfl)
theorem dX0_known_18 : decode cX0_known 18 = .ok (.getfield 163, 3) := dk_180 0 163 (dk_at dksX0_known_0 18 rfl rfl)
theorem dX0_known_21 : decode cX0_known 21 = .ok (.iload_n 1, 1) := dk_27 (dk_at dksX0_known_0 21 rfl rfl)
theorem dX0_known_22 : decode cX0_known 22 = .ok (.iload_n 2, 1) := dk_28 (dk_at dksX0_known_0 22 rfl rfl)
theorem dX0_known_23 : decode cX0_known 23 = .ok (.invokevirtual 167, 3) := dk_182 0 167 (dk_at dksX0_known_1 0 rfl rfl)
theorem dX0_known_26 : decode cX0_known 26 = .ok (.ifCond .eq 7, 3) := dk_153 0 7 (dk_at dksX0_known_1 3 rfl rfl)
theorem dX0_known_29 : decode cX0_known 29 = .ok (.iconst 1, 1) := dk_4 (dk_at dksX0_known_1 6 rfl rfl)
theorem dX0_known_30 : decode cX0_known 30 = .ok (.goto 4, 3) := dk_167 0 4 (dk_at dksX0_known_1 7 rfl rfl)
theorem dX0_known_33 : decode cX0_known 33 = .ok (.iconst 0, 1) := dk_3 (dk_at dksX0_known_1 10 rfl rfl)
theorem dX0_known_34 : decode cX0_known 34 = .ok (.ireturn, 1) := dk_172 (dk_at dksX0_known_1 11 rfl rfl)
abbrev cX0_debts : ByteArray := prog_1_method_25_code
def yX0_debts : MethodName := ⟨RX0, "debts", "(I)I"⟩
def dkwX0_debts_1 : List UInt8 := [172]
abbrev dktX0_debts_1 : List UInt8 := dkwX0_debts_1 ++ []
def dkwX0_debts_0 : List UInt8 := [42, 27, 182, 0, 137, 153, 0, 17, 42, 180, 0, 40, 180, 0, 163, 27, 182, 0, 246, 167, 0, 5, 16, 254]
abbrev dktX0_debts_0 : List UInt8 := dkwX0_debts_0 ++ dktX0_debts_1
theorem dksX0_debts_0 : cX0_debts.data.toList.drop 0 = dktX0_debts_0 := by decide +kernel
theorem dksX0_debts_1 : cX0_debts.data.toList.drop 24 = dktX0_debts_1 := dk_seg dksX0_debts_0 24 rfl rfl
theorem dX0_debts_0 : decode cX0_debts 0 = .ok (.aload_n 0, 1) := dk_42 (dk_at dksX0_debts_0 0 rfl rfl)
theorem dX0_debts_1 : decode cX0_debts 1 = .ok (.iload_n 1, 1) := dk_27 (dk_at dksX0_debts_0 1 rfl rfl)
theorem dX0_debts_2 : decode cX0_debts 2 = .ok (.invokevirtual 137, 3) := dk_182 0 137 (dk_at dksX0_debts_0 2 rfl rfl)
theorem dX0_debts_5 : decode cX0_debts 5 = .ok (.ifCond .eq 17, 3) := dk_153 0 17 (dk_at dksX0_debts_0 5 rfl rfl)
theorem dX0_debts_8 : decode cX0_debts 8 = .ok (.aload_n 0, 1) := dk_42 (dk_at dksX0_debts_0 8 rfl rfl)
theorem dX0_debts_9 : decode cX0_debts 9 = .ok (.getfield 40, 3) := dk_180 0 40 (dk_at dksX0_debts_0 9 rfl rfl)
theorem dX0_debts_12 : decode cX0_debts 12 = .ok (.getfield 163, 3) := dk_180 0 163 (dk_at dksX0_debts_0 12 rfl rfl)
theorem dX0_debts_15 : decode cX0_debts 15 = .ok (.iload_n 1, 1) := dk_27 (dk_at dksX0_debts_0 15 rfl rfl)
theorem dX0_debts_16 : decode cX0_debts 16 = .ok (.invokevirtual 246, 3) := dk_182 0 246 (dk_at dksX0_debts_0 16 rfl rfl)
theorem dX0_debts_19 : decode cX0_debts 19 = .ok (.goto 5, 3) := dk_167 0 5 (dk_at dksX0_debts_0 19 rfl rfl)
theorem dX0_debts_22 : decode cX0_debts 22 = .ok (.bipush (-2), 2) := dk_16 254 (dk_at dksX0_debts_0 22 rfl rfl)
theorem dX0_debts_24 : decode cX0_debts 24 = .ok (.ireturn, 1) := dk_172 (dk_at dksX0_debts_1 0 rfl rfl)
abbrev cX0_debt : ByteArray := prog_1_method_26_code
def yX0_debt : MethodName := ⟨RX0, "debt", "(III)I"⟩
def dkwX0_debt_4 : List UInt8 := [2, 172]
abbrev dktX0_debt_4 : List UInt8 := dkwX0_debt_4 ++ []
def dkwX0_debt_3 : List UInt8 := [25, 4, 180, 0, 253, 172, 25, 4, 180, 1, 2, 172, 25, 4, 180, 1, 3, 172, 25, 4, 180, 1, 6, 172]
abbrev dktX0_debt_3 : List UInt8 := dkwX0_debt_3 ++ dktX0_debt_4
def dkwX0_debt_2 : List UInt8 := [170, 0, 0, 0, 0, 54, 0, 0, 0, 0, 0, 0, 0, 3, 0, 0, 0, 30, 0, 0, 0, 36, 0, 0, 0, 42, 0, 0, 0, 48]
abbrev dktX0_debt_2 : List UInt8 := dkwX0_debt_2 ++ dktX0_debt_3
def dkwX0_debt_1 : List UInt8 := [167, 0, 4, 1, 58, 4, 25, 4, 199, 0, 5, 2, 172, 29]
abbrev dktX0_debt_1 : List UInt8 := dkwX0_debt_1 ++ dktX0_debt_2
def dkwX0_debt_0 : List UInt8 := [42, 27, 182, 0, 137, 153, 0, 22, 28, 155, 0, 18, 42, 180, 0, 40, 180, 0, 163, 27, 28, 182, 0, 249]
abbrev dktX0_debt_0 : List UInt8 := dkwX0_debt_0 ++ dktX0_debt_1
theorem dksX0_debt_0 : cX0_debt.data.toList.drop 0 = dktX0_debt_0 := by decide +kernel
theorem dksX0_debt_1 : cX0_debt.data.toList.drop 24 = dktX0_debt_1 := dk_seg dksX0_debt_0 24 rfl rfl
theorem dksX0_debt_2 : cX0_debt.data.toList.drop 38 = dktX0_debt_2 := dk_seg dksX0_debt_1 14 rfl rfl
theorem dksX0_debt_3 : cX0_debt.data.toList.drop 68 = dktX0_debt_3 := dk_seg dksX0_debt_2 30 rfl rfl
theorem dksX0_debt_4 : cX0_debt.data.toList.drop 92 = dktX0_debt_4 := dk_seg dksX0_debt_3 24 rfl rfl
theorem dX0_debt_0 : decode cX0_debt 0 = .ok (.aload_n 0, 1) := dk_42 (dk_at dksX0_debt_0 0 rfl rfl)
theorem dX0_debt_1 : decode cX0_debt 1 = .ok (.iload_n 1, 1) := dk_27 (dk_at dksX0_debt_0 1 rfl rfl)
theorem dX0_debt_2 : decode cX0_debt 2 = .ok (.invokevirtual 137, 3) := dk_182 0 137 (dk_at dksX0_debt_0 2 rfl rfl)
theorem dX0_debt_5 : decode cX0_debt 5 = .ok (.ifCond .eq 22, 3) := dk_153 0 22 (dk_at dksX0_debt_0 5 rfl rfl)
theorem dX0_debt_8 : decode cX0_debt 8 = .ok (.iload_n 2, 1) := dk_28 (dk_at dksX0_debt_0 8 rfl rfl)
theorem dX0_debt_9 : decode cX0_debt 9 = .ok (.ifCond .lt 18, 3) := dk_155 0 18 (dk_at dksX0_debt_0 9 rfl rfl)
theorem dX0_debt_12 : decode cX0_debt 12 = .ok (.aload_n 0, 1) := dk_42 (dk_at dksX0_debt_0 12 rfl rfl)
theorem dX0_debt_13 : decode cX0_debt 13 = .ok (.getfield 40, 3) := dk_180 0 40 (dk_at dksX0_debt_0 13 rfl rfl)
theorem dX0_debt_16 : decode cX0_debt 16 = .ok (.getfield 163, 3) := dk_180 0 163 (dk_at dksX0_debt_0 16 rfl rfl)
theorem dX0_debt_19 : decode cX0_debt 19 = .ok (.iload_n 1, 1) := dk_27 (dk_at dksX0_debt_0 19 rfl rfl)
theorem dX0_debt_20 : decode cX0_debt 20 = .ok (.iload_n 2, 1) := dk_28 (dk_at dksX0_debt_0 20 rfl rfl)
theorem dX0_debt_21 : decode cX0_debt 21 = .ok (.invokevirtual 249, 3) := dk_182 0 249 (dk_at dksX0_debt_0 21 rfl rfl)
theorem dX0_debt_24 : decode cX0_debt 24 = .ok (.goto 4, 3) := dk_167 0 4 (dk_at dksX0_debt_1 0 rfl rfl)
theorem dX0_debt_27 : decode cX0_debt 27 = .ok (.aconst_null, 1) := dk_1 (dk_at dksX0_debt_1 3 rfl rfl)
theorem dX0_debt_28 : decode cX0_debt 28 = .ok (.astore 4, 2) := dk_58 4 (dk_at dksX0_debt_1 4 rfl rfl)
theorem dX0_debt_30 : decode cX0_debt 30 = .ok (.aload 4, 2) := dk_25 4 (dk_at dksX0_debt_1 6 rfl rfl)
theorem dX0_debt_32 : decode cX0_debt 32 = .ok (.ifnonnull 5, 3) := dk_199 0 5 (dk_at dksX0_debt_1 8 rfl rfl)
theorem dX0_debt_35 : decode cX0_debt 35 = .ok (.iconst (-1), 1) := dk_2 (dk_at dksX0_debt_1 11 rfl rfl)
theorem dX0_debt_36 : decode cX0_debt 36 = .ok (.ireturn, 1) := dk_172 (dk_at dksX0_debt_1 12 rfl rfl)
theorem dX0_debt_37 : decode cX0_debt 37 = .ok (.iload_n 3, 1) := dk_29 (dk_at dksX0_debt_1 13 rfl rfl)
theorem dX0_debt_38 : decode cX0_debt 38 = .ok (.tableswitch 54 0 3 #[30, 36, 42, 48], 30) := by decide +kernel
theorem dX0_debt_68 : decode cX0_debt 68 = .ok (.aload 4, 2) := dk_25 4 (dk_at dksX0_debt_3 0 rfl rfl)
theorem dX0_debt_70 : decode cX0_debt 70 = .ok (.getfield 253, 3) := dk_180 0 253 (dk_at dksX0_debt_3 2 rfl rfl)
theorem dX0_debt_73 : decode cX0_debt 73 = .ok (.ireturn, 1) := dk_172 (dk_at dksX0_debt_3 5 rfl rfl)
theorem dX0_debt_74 : decode cX0_debt 74 = .ok (.aload 4, 2) := dk_25 4 (dk_at dksX0_debt_3 6 rfl rfl)
theorem dX0_debt_76 : decode cX0_debt 76 = .ok (.getfield 258, 3) := dk_180 1 2 (dk_at dksX0_debt_3 8 rfl rfl)
theorem dX0_debt_79 : decode cX0_debt 79 = .ok (.ireturn, 1) := dk_172 (dk_at dksX0_debt_3 11 rfl rfl)
theorem dX0_debt_80 : decode cX0_debt 80 = .ok (.aload 4, 2) := dk_25 4 (dk_at dksX0_debt_3 12 rfl rfl)
theorem dX0_debt_82 : decode cX0_debt 82 = .ok (.getfield 259, 3) := dk_180 1 3 (dk_at dksX0_debt_3 14 rfl rfl)
theorem dX0_debt_85 : decode cX0_debt 85 = .ok (.ireturn, 1) := dk_172 (dk_at dksX0_debt_3 17 rfl rfl)
theorem dX0_debt_86 : decode cX0_debt 86 = .ok (.aload 4, 2) := dk_25 4 (dk_at dksX0_debt_3 18 rfl rfl)
theorem dX0_debt_88 : decode cX0_debt 88 = .ok (.getfield 262, 3) := dk_180 1 6 (dk_at dksX0_debt_3 20 rfl rfl)
theorem dX0_debt_91 : decode cX0_debt 91 = .ok (.ireturn, 1) := dk_172 (dk_at dksX0_debt_3 23 rfl rfl)
theorem dX0_debt_92 : decode cX0_debt 92 = .ok (.iconst (-1), 1) := dk_2 (dk_at dksX0_debt_4 0 rfl rfl)
theorem dX0_debt_93 : decode cX0_debt 93 = .ok (.ireturn, 1) := dk_172 (dk_at dksX0_debt_4 1 rfl rfl)
abbrev cX0_slights : ByteArray := prog_1_method_28_code
def yX0_slights : MethodName := ⟨RX0, "slights", "(I)I"⟩
def dkwX0_slights_0 : List UInt8 := [42, 27, 182, 0, 137, 153, 0, 11, 42, 27, 182, 1, 14, 167, 0, 5, 16, 254, 172]
abbrev dktX0_slights_0 : List UInt8 := dkwX0_slights_0 ++ []
theorem dksX0_slights_0 : cX0_slights.data.toList.drop 0 = dktX0_slights_0 := by decide +kernel
theorem dX0_slights_0 : decode cX0_slights 0 = .ok (.aload_n 0, 1) := dk_42 (dk_at dksX0_slights_0 0 rfl rfl)
theorem dX0_slights_1 : decode cX0_slights 1 = .ok (.iload_n 1, 1) := dk_27 (dk_at dksX0_slights_0 1 rfl rfl)
theorem dX0_slights_2 : decode cX0_slights 2 = .ok (.invokevirtual 137, 3) := dk_182 0 137 (dk_at dksX0_slights_0 2 rfl rfl)
theorem dX0_slights_5 : decode cX0_slights 5 = .ok (.ifCond .eq 11, 3) := dk_153 0 11 (dk_at dksX0_slights_0 5 rfl rfl)
theorem dX0_slights_8 : decode cX0_slights 8 = .ok (.aload_n 0, 1) := dk_42 (dk_at dksX0_slights_0 8 rfl rfl)
theorem dX0_slights_9 : decode cX0_slights 9 = .ok (.iload_n 1, 1) := dk_27 (dk_at dksX0_slights_0 9 rfl rfl)
theorem dX0_slights_10 : decode cX0_slights 10 = .ok (.invokevirtual 270, 3) := dk_182 1 14 (dk_at dksX0_slights_0 10 rfl rfl)
theorem dX0_slights_13 : decode cX0_slights 13 = .ok (.goto 5, 3) := dk_167 0 5 (dk_at dksX0_slights_0 13 rfl rfl)
theorem dX0_slights_16 : decode cX0_slights 16 = .ok (.bipush (-2), 2) := dk_16 254 (dk_at dksX0_slights_0 16 rfl rfl)
theorem dX0_slights_18 : decode cX0_slights 18 = .ok (.ireturn, 1) := dk_172 (dk_at dksX0_slights_0 18 rfl rfl)
abbrev cX0_slightsOf : ByteArray := prog_1_method_27_code
def yX0_slightsOf : MethodName := ⟨RX0, "slightsOf", "(I)I"⟩
def dkwX0_slightsOf_4 : List UInt8 := [132, 3, 1, 167, 255, 163, 28, 172]
abbrev dktX0_slightsOf_4 : List UInt8 := dkwX0_slightsOf_4 ++ []
def dkwX0_slightsOf_3 : List UInt8 := [192, 0, 254, 180, 1, 3, 42, 180, 0, 40, 180, 0, 146, 162, 0, 7, 4, 167, 0, 4, 3, 96, 61]
abbrev dktX0_slightsOf_3 : List UInt8 := dkwX0_slightsOf_3 ++ dktX0_slightsOf_4
def dkwX0_slightsOf_2 : List UInt8 := [180, 0, 253, 27, 160, 0, 39, 42, 180, 0, 40, 180, 0, 163, 180, 1, 7, 29, 185, 1, 10, 2, 0]
abbrev dktX0_slightsOf_2 : List UInt8 := dkwX0_slightsOf_2 ++ dktX0_slightsOf_3
def dkwX0_slightsOf_1 : List UInt8 := [27, 2, 159, 0, 29, 42, 180, 0, 40, 180, 0, 163, 180, 1, 7, 29, 185, 1, 10, 2, 0, 192, 0, 254]
abbrev dktX0_slightsOf_1 : List UInt8 := dkwX0_slightsOf_1 ++ dktX0_slightsOf_2
def dkwX0_slightsOf_0 : List UInt8 := [3, 61, 3, 62, 29, 42, 180, 0, 40, 180, 0, 163, 180, 1, 7, 185, 0, 205, 1, 0, 162, 0, 80, 28]
abbrev dktX0_slightsOf_0 : List UInt8 := dkwX0_slightsOf_0 ++ dktX0_slightsOf_1
theorem dksX0_slightsOf_0 : cX0_slightsOf.data.toList.drop 0 = dktX0_slightsOf_0 := by decide +kernel
theorem dksX0_slightsOf_1 : cX0_slightsOf.data.toList.drop 24 = dktX0_slightsOf_1 := dk_seg dksX0_slightsOf_0 24 rfl rfl
theorem dksX0_slightsOf_2 : cX0_slightsOf.data.toList.drop 48 = dktX0_slightsOf_2 := dk_seg dksX0_slightsOf_1 24 rfl rfl
theorem dksX0_slightsOf_3 : cX0_slightsOf.data.toList.drop 71 = dktX0_slightsOf_3 := dk_seg dksX0_slightsOf_2 23 rfl rfl
theorem dksX0_slightsOf_4 : cX0_slightsOf.data.toList.drop 94 = dktX0_slightsOf_4 := dk_seg dksX0_slightsOf_3 23 rfl rfl
theorem dX0_slightsOf_0 : decode cX0_slightsOf 0 = .ok (.iconst 0, 1) := dk_3 (dk_at dksX0_slightsOf_0 0 rfl rfl)
theorem dX0_slightsOf_1 : decode cX0_slightsOf 1 = .ok (.istore_n 2, 1) := dk_61 (dk_at dksX0_slightsOf_0 1 rfl rfl)
theorem dX0_slightsOf_2 : decode cX0_slightsOf 2 = .ok (.iconst 0, 1) := dk_3 (dk_at dksX0_slightsOf_0 2 rfl rfl)
theorem dX0_slightsOf_3 : decode cX0_slightsOf 3 = .ok (.istore_n 3, 1) := dk_62 (dk_at dksX0_slightsOf_0 3 rfl rfl)
theorem dX0_slightsOf_4 : decode cX0_slightsOf 4 = .ok (.iload_n 3, 1) := dk_29 (dk_at dksX0_slightsOf_0 4 rfl rfl)
theorem dX0_slightsOf_5 : decode cX0_slightsOf 5 = .ok (.aload_n 0, 1) := dk_42 (dk_at dksX0_slightsOf_0 5 rfl rfl)
theorem dX0_slightsOf_6 : decode cX0_slightsOf 6 = .ok (.getfield 40, 3) := dk_180 0 40 (dk_at dksX0_slightsOf_0 6 rfl rfl)
theorem dX0_slightsOf_9 : decode cX0_slightsOf 9 = .ok (.getfield 163, 3) := dk_180 0 163 (dk_at dksX0_slightsOf_0 9 rfl rfl)
theorem dX0_slightsOf_12 : decode cX0_slightsOf 12 = .ok (.getfield 263, 3) := dk_180 1 7 (dk_at dksX0_slightsOf_0 12 rfl rfl)
theorem dX0_slightsOf_15 : decode cX0_slightsOf 15 = .ok (.invokeinterface 205 1, 5) := by decide +kernel
theorem dX0_slightsOf_20 : decode cX0_slightsOf 20 = .ok (.if_icmp .ge 80, 3) := dk_162 0 80 (dk_at dksX0_slightsOf_0 20 rfl rfl)
theorem dX0_slightsOf_23 : decode cX0_slightsOf 23 = .ok (.iload_n 2, 1) := dk_28 (dk_at dksX0_slightsOf_0 23 rfl rfl)
theorem dX0_slightsOf_24 : decode cX0_slightsOf 24 = .ok (.iload_n 1, 1) := dk_27 (dk_at dksX0_slightsOf_1 0 rfl rfl)
theorem dX0_slightsOf_25 : decode cX0_slightsOf 25 = .ok (.iconst (-1), 1) := dk_2 (dk_at dksX0_slightsOf_1 1 rfl rfl)
theorem dX0_slightsOf_26 : decode cX0_slightsOf 26 = .ok (.if_icmp .eq 29, 3) := dk_159 0 29 (dk_at dksX0_slightsOf_1 2 rfl rfl)
theorem dX0_slightsOf_29 : decode cX0_slightsOf 29 = .ok (.aload_n 0, 1) := dk_42 (dk_at dksX0_slightsOf_1 5 rfl rfl)
theorem dX0_slightsOf_30 : decode cX0_slightsOf 30 = .ok (.getfield 40, 3) := dk_180 0 40 (dk_at dksX0_slightsOf_1 6 rfl rfl)
theorem dX0_slightsOf_33 : decode cX0_slightsOf 33 = .ok (.getfield 163, 3) := dk_180 0 163 (dk_at dksX0_slightsOf_1 9 rfl rfl)
theorem dX0_slightsOf_36 : decode cX0_slightsOf 36 = .ok (.getfield 263, 3) := dk_180 1 7 (dk_at dksX0_slightsOf_1 12 rfl rfl)
theorem dX0_slightsOf_39 : decode cX0_slightsOf 39 = .ok (.iload_n 3, 1) := dk_29 (dk_at dksX0_slightsOf_1 15 rfl rfl)
theorem dX0_slightsOf_40 : decode cX0_slightsOf 40 = .ok (.invokeinterface 266 2, 5) := by decide +kernel
theorem dX0_slightsOf_45 : decode cX0_slightsOf 45 = .ok (.checkcast 254, 3) := dk_192 0 254 (dk_at dksX0_slightsOf_1 21 rfl rfl)
theorem dX0_slightsOf_48 : decode cX0_slightsOf 48 = .ok (.getfield 253, 3) := dk_180 0 253 (dk_at dksX0_slightsOf_2 0 rfl rfl)
theorem dX0_slightsOf_51 : decode cX0_slightsOf 51 = .ok (.iload_n 1, 1) := dk_27 (dk_at dksX0_slightsOf_2 3 rfl rfl)
theorem dX0_slightsOf_52 : decode cX0_slightsOf 52 = .ok (.if_icmp .ne 39, 3) := dk_160 0 39 (dk_at dksX0_slightsOf_2 4 rfl rfl)
theorem dX0_slightsOf_55 : decode cX0_slightsOf 55 = .ok (.aload_n 0, 1) := dk_42 (dk_at dksX0_slightsOf_2 7 rfl rfl)
theorem dX0_slightsOf_56 : decode cX0_slightsOf 56 = .ok (.getfield 40, 3) := dk_180 0 40 (dk_at dksX0_slightsOf_2 8 rfl rfl)
theorem dX0_slightsOf_59 : decode cX0_slightsOf 59 = .ok (.getfield 163, 3) := dk_180 0 163 (dk_at dksX0_slightsOf_2 11 rfl rfl)
theorem dX0_slightsOf_62 : decode cX0_slightsOf 62 = .ok (.getfield 263, 3) := dk_180 1 7 (dk_at dksX0_slightsOf_2 14 rfl rfl)
theorem dX0_slightsOf_65 : decode cX0_slightsOf 65 = .ok (.iload_n 3, 1) := dk_29 (dk_at dksX0_slightsOf_2 17 rfl rfl)
theorem dX0_slightsOf_66 : decode cX0_slightsOf 66 = .ok (.invokeinterface 266 2, 5) := by decide +kernel
theorem dX0_slightsOf_71 : decode cX0_slightsOf 71 = .ok (.checkcast 254, 3) := dk_192 0 254 (dk_at dksX0_slightsOf_3 0 rfl rfl)
theorem dX0_slightsOf_74 : decode cX0_slightsOf 74 = .ok (.getfield 259, 3) := dk_180 1 3 (dk_at dksX0_slightsOf_3 3 rfl rfl)
theorem dX0_slightsOf_77 : decode cX0_slightsOf 77 = .ok (.aload_n 0, 1) := dk_42 (dk_at dksX0_slightsOf_3 6 rfl rfl)
theorem dX0_slightsOf_78 : decode cX0_slightsOf 78 = .ok (.getfield 40, 3) := dk_180 0 40 (dk_at dksX0_slightsOf_3 7 rfl rfl)
theorem dX0_slightsOf_81 : decode cX0_slightsOf 81 = .ok (.getfield 146, 3) := dk_180 0 146 (dk_at dksX0_slightsOf_3 10 rfl rfl)
theorem dX0_slightsOf_84 : decode cX0_slightsOf 84 = .ok (.if_icmp .ge 7, 3) := dk_162 0 7 (dk_at dksX0_slightsOf_3 13 rfl rfl)
theorem dX0_slightsOf_87 : decode cX0_slightsOf 87 = .ok (.iconst 1, 1) := dk_4 (dk_at dksX0_slightsOf_3 16 rfl rfl)
theorem dX0_slightsOf_88 : decode cX0_slightsOf 88 = .ok (.goto 4, 3) := dk_167 0 4 (dk_at dksX0_slightsOf_3 17 rfl rfl)
theorem dX0_slightsOf_91 : decode cX0_slightsOf 91 = .ok (.iconst 0, 1) := dk_3 (dk_at dksX0_slightsOf_3 20 rfl rfl)
theorem dX0_slightsOf_92 : decode cX0_slightsOf 92 = .ok (.iadd, 1) := dk_96 (dk_at dksX0_slightsOf_3 21 rfl rfl)
theorem dX0_slightsOf_93 : decode cX0_slightsOf 93 = .ok (.istore_n 2, 1) := dk_61 (dk_at dksX0_slightsOf_3 22 rfl rfl)
theorem dX0_slightsOf_94 : decode cX0_slightsOf 94 = .ok (.iinc 3 1, 3) := dk_132 3 1 (dk_at dksX0_slightsOf_4 0 rfl rfl)
theorem dX0_slightsOf_97 : decode cX0_slightsOf 97 = .ok (.goto (-93), 3) := dk_167 255 163 (dk_at dksX0_slightsOf_4 3 rfl rfl)
theorem dX0_slightsOf_100 : decode cX0_slightsOf 100 = .ok (.iload_n 2, 1) := dk_28 (dk_at dksX0_slightsOf_4 6 rfl rfl)
theorem dX0_slightsOf_101 : decode cX0_slightsOf 101 = .ok (.ireturn, 1) := dk_172 (dk_at dksX0_slightsOf_4 7 rfl rfl)
abbrev cX0_first : ByteArray := prog_1_method_29_code
def yX0_first : MethodName := ⟨RX0, "first", "()I"⟩
def dkwX0_first_3 : List UInt8 := [61, 132, 3, 1, 167, 255, 188, 27, 172]
abbrev dktX0_first_3 : List UInt8 := dkwX0_first_3 ++ []
def dkwX0_first_2 : List UInt8 := [182, 0, 149, 180, 1, 17, 42, 27, 182, 0, 149, 180, 1, 17, 163, 0, 6, 167, 0, 8, 29, 60, 21, 4]
abbrev dktX0_first_2 : List UInt8 := dkwX0_first_2 ++ dktX0_first_3
def dkwX0_first_1 : List UInt8 := [182, 1, 14, 54, 4, 21, 4, 153, 0, 42, 21, 4, 28, 161, 0, 36, 21, 4, 28, 160, 0, 25, 42, 29]
abbrev dktX0_first_1 : List UInt8 := dkwX0_first_1 ++ dktX0_first_2
def dkwX0_first_0 : List UInt8 := [2, 60, 3, 61, 3, 62, 29, 42, 180, 0, 40, 180, 0, 116, 182, 0, 120, 162, 0, 60, 42, 29]
abbrev dktX0_first_0 : List UInt8 := dkwX0_first_0 ++ dktX0_first_1
theorem dksX0_first_0 : cX0_first.data.toList.drop 0 = dktX0_first_0 := by decide +kernel
theorem dksX0_first_1 : cX0_first.data.toList.drop 22 = dktX0_first_1 := dk_seg dksX0_first_0 22 rfl rfl
theorem dksX0_first_2 : cX0_first.data.toList.drop 46 = dktX0_first_2 := dk_seg dksX0_first_1 24 rfl rfl
theorem dksX0_first_3 : cX0_first.data.toList.drop 70 = dktX0_first_3 := dk_seg dksX0_first_2 24 rfl rfl
theorem dX0_first_0 : decode cX0_first 0 = .ok (.iconst (-1), 1) := dk_2 (dk_at dksX0_first_0 0 rfl rfl)
theorem dX0_first_1 : decode cX0_first 1 = .ok (.istore_n 1, 1) := dk_60 (dk_at dksX0_first_0 1 rfl rfl)
theorem dX0_first_2 : decode cX0_first 2 = .ok (.iconst 0, 1) := dk_3 (dk_at dksX0_first_0 2 rfl rfl)
theorem dX0_first_3 : decode cX0_first 3 = .ok (.istore_n 2, 1) := dk_61 (dk_at dksX0_first_0 3 rfl rfl)
theorem dX0_first_4 : decode cX0_first 4 = .ok (.iconst 0, 1) := dk_3 (dk_at dksX0_first_0 4 rfl rfl)
theorem dX0_first_5 : decode cX0_first 5 = .ok (.istore_n 3, 1) := dk_62 (dk_at dksX0_first_0 5 rfl rfl)
theorem dX0_first_6 : decode cX0_first 6 = .ok (.iload_n 3, 1) := dk_29 (dk_at dksX0_first_0 6 rfl rfl)
theorem dX0_first_7 : decode cX0_first 7 = .ok (.aload_n 0, 1) := dk_42 (dk_at dksX0_first_0 7 rfl rfl)
theorem dX0_first_8 : decode cX0_first 8 = .ok (.getfield 40, 3) := dk_180 0 40 (dk_at dksX0_first_0 8 rfl rfl)
theorem dX0_first_11 : decode cX0_first 11 = .ok (.getfield 116, 3) := dk_180 0 116 (dk_at dksX0_first_0 11 rfl rfl)
theorem dX0_first_14 : decode cX0_first 14 = .ok (.invokevirtual 120, 3) := dk_182 0 120 (dk_at dksX0_first_0 14 rfl rfl)
theorem dX0_first_17 : decode cX0_first 17 = .ok (.if_icmp .ge 60, 3) := dk_162 0 60 (dk_at dksX0_first_0 17 rfl rfl)
theorem dX0_first_20 : decode cX0_first 20 = .ok (.aload_n 0, 1) := dk_42 (dk_at dksX0_first_0 20 rfl rfl)
theorem dX0_first_21 : decode cX0_first 21 = .ok (.iload_n 3, 1) := dk_29 (dk_at dksX0_first_0 21 rfl rfl)
theorem dX0_first_22 : decode cX0_first 22 = .ok (.invokevirtual 270, 3) := dk_182 1 14 (dk_at dksX0_first_1 0 rfl rfl)
theorem dX0_first_25 : decode cX0_first 25 = .ok (.istore 4, 2) := dk_54 4 (dk_at dksX0_first_1 3 rfl rfl)
theorem dX0_first_27 : decode cX0_first 27 = .ok (.iload 4, 2) := dk_21 4 (dk_at dksX0_first_1 5 rfl rfl)
theorem dX0_first_29 : decode cX0_first 29 = .ok (.ifCond .eq 42, 3) := dk_153 0 42 (dk_at dksX0_first_1 7 rfl rfl)
theorem dX0_first_32 : decode cX0_first 32 = .ok (.iload 4, 2) := dk_21 4 (dk_at dksX0_first_1 10 rfl rfl)
theorem dX0_first_34 : decode cX0_first 34 = .ok (.iload_n 2, 1) := dk_28 (dk_at dksX0_first_1 12 rfl rfl)
theorem dX0_first_35 : decode cX0_first 35 = .ok (.if_icmp .lt 36, 3) := dk_161 0 36 (dk_at dksX0_first_1 13 rfl rfl)
theorem dX0_first_38 : decode cX0_first 38 = .ok (.iload 4, 2) := dk_21 4 (dk_at dksX0_first_1 16 rfl rfl)
theorem dX0_first_40 : decode cX0_first 40 = .ok (.iload_n 2, 1) := dk_28 (dk_at dksX0_first_1 18 rfl rfl)
theorem dX0_first_41 : decode cX0_first 41 = .ok (.if_icmp .ne 25, 3) := dk_160 0 25 (dk_at dksX0_first_1 19 rfl rfl)
theorem dX0_first_44 : decode cX0_first 44 = .ok (.aload_n 0, 1) := dk_42 (dk_at dksX0_first_1 22 rfl rfl)
theorem dX0_first_45 : decode cX0_first 45 = .ok (.iload_n 3, 1) := dk_29 (dk_at dksX0_first_1 23 rfl rfl)
theorem dX0_first_46 : decode cX0_first 46 = .ok (.invokevirtual 149, 3) := dk_182 0 149 (dk_at dksX0_first_2 0 rfl rfl)
theorem dX0_first_49 : decode cX0_first 49 = .ok (.getfield 273, 3) := dk_180 1 17 (dk_at dksX0_first_2 3 rfl rfl)
theorem dX0_first_52 : decode cX0_first 52 = .ok (.aload_n 0, 1) := dk_42 (dk_at dksX0_first_2 6 rfl rfl)
theorem dX0_first_53 : decode cX0_first 53 = .ok (.iload_n 1, 1) := dk_27 (dk_at dksX0_first_2 7 rfl rfl)
theorem dX0_first_54 : decode cX0_first 54 = .ok (.invokevirtual 149, 3) := dk_182 0 149 (dk_at dksX0_first_2 8 rfl rfl)
theorem dX0_first_57 : decode cX0_first 57 = .ok (.getfield 273, 3) := dk_180 1 17 (dk_at dksX0_first_2 11 rfl rfl)
theorem dX0_first_60 : decode cX0_first 60 = .ok (.if_icmp .gt 6, 3) := dk_163 0 6 (dk_at dksX0_first_2 14 rfl rfl)
theorem dX0_first_63 : decode cX0_first 63 = .ok (.goto 8, 3) := dk_167 0 8 (dk_at dksX0_first_2 17 rfl rfl)
theorem dX0_first_66 : decode cX0_first 66 = .ok (.iload_n 3, 1) := dk_29 (dk_at dksX0_first_2 20 rfl rfl)
theorem dX0_first_67 : decode cX0_first 67 = .ok (.istore_n 1, 1) := dk_60 (dk_at dksX0_first_2 21 rfl rfl)
theorem dX0_first_68 : decode cX0_first 68 = .ok (.iload 4, 2) := dk_21 4 (dk_at dksX0_first_2 22 rfl rfl)
theorem dX0_first_70 : decode cX0_first 70 = .ok (.istore_n 2, 1) := dk_61 (dk_at dksX0_first_3 0 rfl rfl)
theorem dX0_first_71 : decode cX0_first 71 = .ok (.iinc 3 1, 3) := dk_132 3 1 (dk_at dksX0_first_3 1 rfl rfl)
theorem dX0_first_74 : decode cX0_first 74 = .ok (.goto (-68), 3) := dk_167 255 188 (dk_at dksX0_first_3 4 rfl rfl)
theorem dX0_first_77 : decode cX0_first 77 = .ok (.iload_n 1, 1) := dk_27 (dk_at dksX0_first_3 7 rfl rfl)
theorem dX0_first_78 : decode cX0_first 78 = .ok (.ireturn, 1) := dk_172 (dk_at dksX0_first_3 8 rfl rfl)
abbrev cX0_owes : ByteArray := prog_1_method_30_code
def yX0_owes : MethodName := ⟨RX0, "owes", "(III)I"⟩
def dkwX0_owes_3 : List UInt8 := [167, 0, 8, 25, 4, 180, 1, 24, 172]
abbrev dktX0_owes_3 : List UInt8 := dkwX0_owes_3 ++ []
def dkwX0_owes_2 : List UInt8 := [198, 0, 23, 42, 180, 0, 40, 180, 0, 163, 28, 27, 25, 4, 180, 1, 24, 182, 1, 29, 153, 0, 7, 2]
abbrev dktX0_owes_2 : List UInt8 := dkwX0_owes_2 ++ dktX0_owes_3
def dkwX0_owes_1 : List UInt8 := [42, 180, 0, 40, 180, 0, 163, 27, 28, 29, 42, 180, 0, 40, 180, 0, 146, 182, 1, 20, 58, 4, 25, 4]
abbrev dktX0_owes_1 : List UInt8 := dkwX0_owes_1 ++ dktX0_owes_2
def dkwX0_owes_0 : List UInt8 := [42, 27, 28, 182, 0, 194, 153, 0, 15, 29, 133, 9, 20, 0, 3, 184, 0, 5, 154, 0, 6, 16, 254, 172]
abbrev dktX0_owes_0 : List UInt8 := dkwX0_owes_0 ++ dktX0_owes_1
theorem dksX0_owes_0 : cX0_owes.data.toList.drop 0 = dktX0_owes_0 := by decide +kernel
theorem dksX0_owes_1 : cX0_owes.data.toList.drop 24 = dktX0_owes_1 := dk_seg dksX0_owes_0 24 rfl rfl
theorem dksX0_owes_2 : cX0_owes.data.toList.drop 48 = dktX0_owes_2 := dk_seg dksX0_owes_1 24 rfl rfl
theorem dksX0_owes_3 : cX0_owes.data.toList.drop 72 = dktX0_owes_3 := dk_seg dksX0_owes_2 24 rfl rfl
theorem dX0_owes_0 : decode cX0_owes 0 = .ok (.aload_n 0, 1) := dk_42 (dk_at dksX0_owes_0 0 rfl rfl)
theorem dX0_owes_1 : decode cX0_owes 1 = .ok (.iload_n 1, 1) := dk_27 (dk_at dksX0_owes_0 1 rfl rfl)
theorem dX0_owes_2 : decode cX0_owes 2 = .ok (.iload_n 2, 1) := dk_28 (dk_at dksX0_owes_0 2 rfl rfl)
theorem dX0_owes_3 : decode cX0_owes 3 = .ok (.invokevirtual 194, 3) := dk_182 0 194 (dk_at dksX0_owes_0 3 rfl rfl)
theorem dX0_owes_6 : decode cX0_owes 6 = .ok (.ifCond .eq 15, 3) := dk_153 0 15 (dk_at dksX0_owes_0 6 rfl rfl)
theorem dX0_owes_9 : decode cX0_owes 9 = .ok (.iload_n 3, 1) := dk_29 (dk_at dksX0_owes_0 9 rfl rfl)
theorem dX0_owes_10 : decode cX0_owes 10 = .ok (.i2l, 1) := dk_133 (dk_at dksX0_owes_0 10 rfl rfl)
theorem dX0_owes_11 : decode cX0_owes 11 = .ok (.lconst 0, 1) := dk_9 (dk_at dksX0_owes_0 11 rfl rfl)
theorem dX0_owes_12 : decode cX0_owes 12 = .ok (.ldc2_w 3, 3) := dk_20 0 3 (dk_at dksX0_owes_0 12 rfl rfl)
theorem dX0_owes_15 : decode cX0_owes 15 = .ok (.invokestatic 5, 3) := dk_184 0 5 (dk_at dksX0_owes_0 15 rfl rfl)
theorem dX0_owes_18 : decode cX0_owes 18 = .ok (.ifCond .ne 6, 3) := dk_154 0 6 (dk_at dksX0_owes_0 18 rfl rfl)
theorem dX0_owes_21 : decode cX0_owes 21 = .ok (.bipush (-2), 2) := dk_16 254 (dk_at dksX0_owes_0 21 rfl rfl)
theorem dX0_owes_23 : decode cX0_owes 23 = .ok (.ireturn, 1) := dk_172 (dk_at dksX0_owes_0 23 rfl rfl)
theorem dX0_owes_24 : decode cX0_owes 24 = .ok (.aload_n 0, 1) := dk_42 (dk_at dksX0_owes_1 0 rfl rfl)
theorem dX0_owes_25 : decode cX0_owes 25 = .ok (.getfield 40, 3) := dk_180 0 40 (dk_at dksX0_owes_1 1 rfl rfl)
theorem dX0_owes_28 : decode cX0_owes 28 = .ok (.getfield 163, 3) := dk_180 0 163 (dk_at dksX0_owes_1 4 rfl rfl)
theorem dX0_owes_31 : decode cX0_owes 31 = .ok (.iload_n 1, 1) := dk_27 (dk_at dksX0_owes_1 7 rfl rfl)
theorem dX0_owes_32 : decode cX0_owes 32 = .ok (.iload_n 2, 1) := dk_28 (dk_at dksX0_owes_1 8 rfl rfl)
theorem dX0_owes_33 : decode cX0_owes 33 = .ok (.iload_n 3, 1) := dk_29 (dk_at dksX0_owes_1 9 rfl rfl)
theorem dX0_owes_34 : decode cX0_owes 34 = .ok (.aload_n 0, 1) := dk_42 (dk_at dksX0_owes_1 10 rfl rfl)
theorem dX0_owes_35 : decode cX0_owes 35 = .ok (.getfield 40, 3) := dk_180 0 40 (dk_at dksX0_owes_1 11 rfl rfl)
theorem dX0_owes_38 : decode cX0_owes 38 = .ok (.getfield 146, 3) := dk_180 0 146 (dk_at dksX0_owes_1 14 rfl rfl)
theorem dX0_owes_41 : decode cX0_owes 41 = .ok (.invokevirtual 276, 3) := dk_182 1 20 (dk_at dksX0_owes_1 17 rfl rfl)
theorem dX0_owes_44 : decode cX0_owes 44 = .ok (.astore 4, 2) := dk_58 4 (dk_at dksX0_owes_1 20 rfl rfl)
theorem dX0_owes_46 : decode cX0_owes 46 = .ok (.aload 4, 2) := dk_25 4 (dk_at dksX0_owes_1 22 rfl rfl)
theorem dX0_owes_48 : decode cX0_owes 48 = .ok (.ifnull 23, 3) := dk_198 0 23 (dk_at dksX0_owes_2 0 rfl rfl)
theorem dX0_owes_51 : decode cX0_owes 51 = .ok (.aload_n 0, 1) := dk_42 (dk_at dksX0_owes_2 3 rfl rfl)
theorem dX0_owes_52 : decode cX0_owes 52 = .ok (.getfield 40, 3) := dk_180 0 40 (dk_at dksX0_owes_2 4 rfl rfl)
theorem dX0_owes_55 : decode cX0_owes 55 = .ok (.getfield 163, 3) := dk_180 0 163 (dk_at dksX0_owes_2 7 rfl rfl)
theorem dX0_owes_58 : decode cX0_owes 58 = .ok (.iload_n 2, 1) := dk_28 (dk_at dksX0_owes_2 10 rfl rfl)
theorem dX0_owes_59 : decode cX0_owes 59 = .ok (.iload_n 1, 1) := dk_27 (dk_at dksX0_owes_2 11 rfl rfl)
theorem dX0_owes_60 : decode cX0_owes 60 = .ok (.aload 4, 2) := dk_25 4 (dk_at dksX0_owes_2 12 rfl rfl)
theorem dX0_owes_62 : decode cX0_owes 62 = .ok (.getfield 280, 3) := dk_180 1 24 (dk_at dksX0_owes_2 14 rfl rfl)
theorem dX0_owes_65 : decode cX0_owes 65 = .ok (.invokevirtual 285, 3) := dk_182 1 29 (dk_at dksX0_owes_2 17 rfl rfl)
theorem dX0_owes_68 : decode cX0_owes 68 = .ok (.ifCond .eq 7, 3) := dk_153 0 7 (dk_at dksX0_owes_2 20 rfl rfl)
theorem dX0_owes_71 : decode cX0_owes 71 = .ok (.iconst (-1), 1) := dk_2 (dk_at dksX0_owes_2 23 rfl rfl)
theorem dX0_owes_72 : decode cX0_owes 72 = .ok (.goto 8, 3) := dk_167 0 8 (dk_at dksX0_owes_3 0 rfl rfl)
theorem dX0_owes_75 : decode cX0_owes 75 = .ok (.aload 4, 2) := dk_25 4 (dk_at dksX0_owes_3 3 rfl rfl)
theorem dX0_owes_77 : decode cX0_owes 77 = .ok (.getfield 280, 3) := dk_180 1 24 (dk_at dksX0_owes_3 5 rfl rfl)
theorem dX0_owes_80 : decode cX0_owes 80 = .ok (.ireturn, 1) := dk_172 (dk_at dksX0_owes_3 8 rfl rfl)
abbrev cX0_worth : ByteArray := prog_1_method_33_code
def yX0_worth : MethodName := ⟨RX0, "worth", "(II)I"⟩
def dkwX0_worth_0 : List UInt8 := [42, 27, 28, 182, 1, 49, 153, 0, 13, 42, 180, 0, 71, 180, 1, 52, 167, 0, 5, 16, 254, 172]
abbrev dktX0_worth_0 : List UInt8 := dkwX0_worth_0 ++ []
theorem dksX0_worth_0 : cX0_worth.data.toList.drop 0 = dktX0_worth_0 := by decide +kernel
theorem dX0_worth_0 : decode cX0_worth 0 = .ok (.aload_n 0, 1) := dk_42 (dk_at dksX0_worth_0 0 rfl rfl)
theorem dX0_worth_1 : decode cX0_worth 1 = .ok (.iload_n 1, 1) := dk_27 (dk_at dksX0_worth_0 1 rfl rfl)
theorem dX0_worth_2 : decode cX0_worth 2 = .ok (.iload_n 2, 1) := dk_28 (dk_at dksX0_worth_0 2 rfl rfl)
theorem dX0_worth_3 : decode cX0_worth 3 = .ok (.invokevirtual 305, 3) := dk_182 1 49 (dk_at dksX0_worth_0 3 rfl rfl)
theorem dX0_worth_6 : decode cX0_worth 6 = .ok (.ifCond .eq 13, 3) := dk_153 0 13 (dk_at dksX0_worth_0 6 rfl rfl)
theorem dX0_worth_9 : decode cX0_worth 9 = .ok (.aload_n 0, 1) := dk_42 (dk_at dksX0_worth_0 9 rfl rfl)
theorem dX0_worth_10 : decode cX0_worth 10 = .ok (.getfield 71, 3) := dk_180 0 71 (dk_at dksX0_worth_0 10 rfl rfl)
theorem dX0_worth_13 : decode cX0_worth 13 = .ok (.getfield 308, 3) := dk_180 1 52 (dk_at dksX0_worth_0 13 rfl rfl)
theorem dX0_worth_16 : decode cX0_worth 16 = .ok (.goto 5, 3) := dk_167 0 5 (dk_at dksX0_worth_0 16 rfl rfl)
theorem dX0_worth_19 : decode cX0_worth 19 = .ok (.bipush (-2), 2) := dk_16 254 (dk_at dksX0_worth_0 19 rfl rfl)
theorem dX0_worth_21 : decode cX0_worth 21 = .ok (.ireturn, 1) := dk_172 (dk_at dksX0_worth_0 21 rfl rfl)
abbrev cX0_isRound : ByteArray := prog_1_method_32_code
def yX0_isRound : MethodName := ⟨RX0, "isRound", "(II)Z"⟩
def dkwX0_isRound_2 : List UInt8 := [4, 172]
abbrev dktX0_isRound_2 : List UInt8 := dkwX0_isRound_2 ++ []
def dkwX0_isRound_1 : List UInt8 := [182, 1, 38, 42, 180, 0, 71, 182, 1, 40, 42, 180, 0, 71, 182, 1, 43, 42, 180, 0, 71, 182, 1, 46]
abbrev dktX0_isRound_1 : List UInt8 := dkwX0_isRound_1 ++ dktX0_isRound_2
def dkwX0_isRound_0 : List UInt8 := [42, 27, 182, 0, 137, 153, 0, 11, 42, 28, 182, 1, 35, 154, 0, 5, 3, 172, 42, 180, 0, 71, 27, 28]
abbrev dktX0_isRound_0 : List UInt8 := dkwX0_isRound_0 ++ dktX0_isRound_1
theorem dksX0_isRound_0 : cX0_isRound.data.toList.drop 0 = dktX0_isRound_0 := by decide +kernel
theorem dksX0_isRound_1 : cX0_isRound.data.toList.drop 24 = dktX0_isRound_1 := dk_seg dksX0_isRound_0 24 rfl rfl
theorem dksX0_isRound_2 : cX0_isRound.data.toList.drop 48 = dktX0_isRound_2 := dk_seg dksX0_isRound_1 24 rfl rfl
theorem dX0_isRound_0 : decode cX0_isRound 0 = .ok (.aload_n 0, 1) := dk_42 (dk_at dksX0_isRound_0 0 rfl rfl)
theorem dX0_isRound_1 : decode cX0_isRound 1 = .ok (.iload_n 1, 1) := dk_27 (dk_at dksX0_isRound_0 1 rfl rfl)
theorem dX0_isRound_2 : decode cX0_isRound 2 = .ok (.invokevirtual 137, 3) := dk_182 0 137 (dk_at dksX0_isRound_0 2 rfl rfl)
theorem dX0_isRound_5 : decode cX0_isRound 5 = .ok (.ifCond .eq 11, 3) := dk_153 0 11 (dk_at dksX0_isRound_0 5 rfl rfl)
theorem dX0_isRound_8 : decode cX0_isRound 8 = .ok (.aload_n 0, 1) := dk_42 (dk_at dksX0_isRound_0 8 rfl rfl)
theorem dX0_isRound_9 : decode cX0_isRound 9 = .ok (.iload_n 2, 1) := dk_28 (dk_at dksX0_isRound_0 9 rfl rfl)
theorem dX0_isRound_10 : decode cX0_isRound 10 = .ok (.invokevirtual 291, 3) := dk_182 1 35 (dk_at dksX0_isRound_0 10 rfl rfl)
theorem dX0_isRound_13 : decode cX0_isRound 13 = .ok (.ifCond .ne 5, 3) := dk_154 0 5 (dk_at dksX0_isRound_0 13 rfl rfl)
theorem dX0_isRound_16 : decode cX0_isRound 16 = .ok (.iconst 0, 1) := dk_3 (dk_at dksX0_isRound_0 16 rfl rfl)
theorem dX0_isRound_17 : decode cX0_isRound 17 = .ok (.ireturn, 1) := dk_172 (dk_at dksX0_isRound_0 17 rfl rfl)
theorem dX0_isRound_18 : decode cX0_isRound 18 = .ok (.aload_n 0, 1) := dk_42 (dk_at dksX0_isRound_0 18 rfl rfl)
theorem dX0_isRound_19 : decode cX0_isRound 19 = .ok (.getfield 71, 3) := dk_180 0 71 (dk_at dksX0_isRound_0 19 rfl rfl)
theorem dX0_isRound_22 : decode cX0_isRound 22 = .ok (.iload_n 1, 1) := dk_27 (dk_at dksX0_isRound_0 22 rfl rfl)
theorem dX0_isRound_23 : decode cX0_isRound 23 = .ok (.iload_n 2, 1) := dk_28 (dk_at dksX0_isRound_0 23 rfl rfl)
theorem dX0_isRound_24 : decode cX0_isRound 24 = .ok (.invokevirtual 294, 3) := dk_182 1 38 (dk_at dksX0_isRound_1 0 rfl rfl)
theorem dX0_isRound_27 : decode cX0_isRound 27 = .ok (.aload_n 0, 1) := dk_42 (dk_at dksX0_isRound_1 3 rfl rfl)
theorem dX0_isRound_28 : decode cX0_isRound 28 = .ok (.getfield 71, 3) := dk_180 0 71 (dk_at dksX0_isRound_1 4 rfl rfl)
theorem dX0_isRound_31 : decode cX0_isRound 31 = .ok (.invokevirtual 296, 3) := dk_182 1 40 (dk_at dksX0_isRound_1 7 rfl rfl)
theorem dX0_isRound_34 : decode cX0_isRound 34 = .ok (.aload_n 0, 1) := dk_42 (dk_at dksX0_isRound_1 10 rfl rfl)
theorem dX0_isRound_35 : decode cX0_isRound 35 = .ok (.getfield 71, 3) := dk_180 0 71 (dk_at dksX0_isRound_1 11 rfl rfl)
theorem dX0_isRound_38 : decode cX0_isRound 38 = .ok (.invokevirtual 299, 3) := dk_182 1 43 (dk_at dksX0_isRound_1 14 rfl rfl)
theorem dX0_isRound_41 : decode cX0_isRound 41 = .ok (.aload_n 0, 1) := dk_42 (dk_at dksX0_isRound_1 17 rfl rfl)
theorem dX0_isRound_42 : decode cX0_isRound 42 = .ok (.getfield 71, 3) := dk_180 0 71 (dk_at dksX0_isRound_1 18 rfl rfl)
theorem dX0_isRound_45 : decode cX0_isRound 45 = .ok (.invokevirtual 302, 3) := dk_182 1 46 (dk_at dksX0_isRound_1 21 rfl rfl)
theorem dX0_isRound_48 : decode cX0_isRound 48 = .ok (.iconst 1, 1) := dk_4 (dk_at dksX0_isRound_2 0 rfl rfl)
theorem dX0_isRound_49 : decode cX0_isRound 49 = .ok (.ireturn, 1) := dk_172 (dk_at dksX0_isRound_2 1 rfl rfl)
abbrev cX0_isDay : ByteArray := prog_1_method_31_code
def yX0_isDay : MethodName := ⟨RX0, "isDay", "(I)Z"⟩
def dkwX0_isDay_0 : List UInt8 := [27, 133, 42, 180, 0, 40, 180, 0, 146, 133, 20, 1, 33, 184, 0, 5, 172]
abbrev dktX0_isDay_0 : List UInt8 := dkwX0_isDay_0 ++ []
theorem dksX0_isDay_0 : cX0_isDay.data.toList.drop 0 = dktX0_isDay_0 := by decide +kernel
theorem dX0_isDay_0 : decode cX0_isDay 0 = .ok (.iload_n 1, 1) := dk_27 (dk_at dksX0_isDay_0 0 rfl rfl)
theorem dX0_isDay_1 : decode cX0_isDay 1 = .ok (.i2l, 1) := dk_133 (dk_at dksX0_isDay_0 1 rfl rfl)
theorem dX0_isDay_2 : decode cX0_isDay 2 = .ok (.aload_n 0, 1) := dk_42 (dk_at dksX0_isDay_0 2 rfl rfl)
theorem dX0_isDay_3 : decode cX0_isDay 3 = .ok (.getfield 40, 3) := dk_180 0 40 (dk_at dksX0_isDay_0 3 rfl rfl)
theorem dX0_isDay_6 : decode cX0_isDay 6 = .ok (.getfield 146, 3) := dk_180 0 146 (dk_at dksX0_isDay_0 6 rfl rfl)
theorem dX0_isDay_9 : decode cX0_isDay 9 = .ok (.i2l, 1) := dk_133 (dk_at dksX0_isDay_0 9 rfl rfl)
theorem dX0_isDay_10 : decode cX0_isDay 10 = .ok (.ldc2_w 289, 3) := dk_20 1 33 (dk_at dksX0_isDay_0 10 rfl rfl)
theorem dX0_isDay_13 : decode cX0_isDay 13 = .ok (.invokestatic 5, 3) := dk_184 0 5 (dk_at dksX0_isDay_0 13 rfl rfl)
theorem dX0_isDay_16 : decode cX0_isDay 16 = .ok (.ireturn, 1) := dk_172 (dk_at dksX0_isDay_0 16 rfl rfl)
abbrev cX0_over : ByteArray := prog_1_method_34_code
def yX0_over : MethodName := ⟨RX0, "over", "(II)I"⟩
def dkwX0_over_0 : List UInt8 := [42, 27, 28, 182, 1, 49, 153, 0, 13, 42, 180, 0, 71, 180, 1, 55, 167, 0, 5, 16, 254, 172]
abbrev dktX0_over_0 : List UInt8 := dkwX0_over_0 ++ []
theorem dksX0_over_0 : cX0_over.data.toList.drop 0 = dktX0_over_0 := by decide +kernel
theorem dX0_over_0 : decode cX0_over 0 = .ok (.aload_n 0, 1) := dk_42 (dk_at dksX0_over_0 0 rfl rfl)
theorem dX0_over_1 : decode cX0_over 1 = .ok (.iload_n 1, 1) := dk_27 (dk_at dksX0_over_0 1 rfl rfl)
theorem dX0_over_2 : decode cX0_over 2 = .ok (.iload_n 2, 1) := dk_28 (dk_at dksX0_over_0 2 rfl rfl)
theorem dX0_over_3 : decode cX0_over 3 = .ok (.invokevirtual 305, 3) := dk_182 1 49 (dk_at dksX0_over_0 3 rfl rfl)
theorem dX0_over_6 : decode cX0_over 6 = .ok (.ifCond .eq 13, 3) := dk_153 0 13 (dk_at dksX0_over_0 6 rfl rfl)
theorem dX0_over_9 : decode cX0_over 9 = .ok (.aload_n 0, 1) := dk_42 (dk_at dksX0_over_0 9 rfl rfl)
theorem dX0_over_10 : decode cX0_over 10 = .ok (.getfield 71, 3) := dk_180 0 71 (dk_at dksX0_over_0 10 rfl rfl)
theorem dX0_over_13 : decode cX0_over 13 = .ok (.getfield 311, 3) := dk_180 1 55 (dk_at dksX0_over_0 13 rfl rfl)
theorem dX0_over_16 : decode cX0_over 16 = .ok (.goto 5, 3) := dk_167 0 5 (dk_at dksX0_over_0 16 rfl rfl)
theorem dX0_over_19 : decode cX0_over 19 = .ok (.bipush (-2), 2) := dk_16 254 (dk_at dksX0_over_0 19 rfl rfl)
theorem dX0_over_21 : decode cX0_over 21 = .ok (.ireturn, 1) := dk_172 (dk_at dksX0_over_0 21 rfl rfl)
abbrev cX0_round : ByteArray := prog_1_method_35_code
def yX0_round : MethodName := ⟨RX0, "round", "(III)I"⟩
def dkwX0_round_2 : List UInt8 := [180, 0, 71, 180, 1, 64, 29, 46, 172]
abbrev dktX0_round_2 : List UInt8 := dkwX0_round_2 ++ []
def dkwX0_round_1 : List UInt8 := [184, 0, 178, 4, 100, 133, 184, 0, 5, 154, 0, 5, 2, 172, 42, 180, 0, 71, 182, 1, 61, 42]
abbrev dktX0_round_1 : List UInt8 := dkwX0_round_1 ++ dktX0_round_2
def dkwX0_round_0 : List UInt8 := [42, 27, 28, 182, 1, 49, 154, 0, 6, 16, 254, 172, 29, 133, 9, 42, 180, 0, 71, 180, 1, 58]
abbrev dktX0_round_0 : List UInt8 := dkwX0_round_0 ++ dktX0_round_1
theorem dksX0_round_0 : cX0_round.data.toList.drop 0 = dktX0_round_0 := by decide +kernel
theorem dksX0_round_1 : cX0_round.data.toList.drop 22 = dktX0_round_1 := dk_seg dksX0_round_0 22 rfl rfl
theorem dksX0_round_2 : cX0_round.data.toList.drop 44 = dktX0_round_2 := dk_seg dksX0_round_1 22 rfl rfl
theorem dX0_round_0 : decode cX0_round 0 = .ok (.aload_n 0, 1) := dk_42 (dk_at dksX0_round_0 0 rfl rfl)
theorem dX0_round_1 : decode cX0_round 1 = .ok (.iload_n 1, 1) := dk_27 (dk_at dksX0_round_0 1 rfl rfl)
theorem dX0_round_2 : decode cX0_round 2 = .ok (.iload_n 2, 1) := dk_28 (dk_at dksX0_round_0 2 rfl rfl)
theorem dX0_round_3 : decode cX0_round 3 = .ok (.invokevirtual 305, 3) := dk_182 1 49 (dk_at dksX0_round_0 3 rfl rfl)
theorem dX0_round_6 : decode cX0_round 6 = .ok (.ifCond .ne 6, 3) := dk_154 0 6 (dk_at dksX0_round_0 6 rfl rfl)
theorem dX0_round_9 : decode cX0_round 9 = .ok (.bipush (-2), 2) := dk_16 254 (dk_at dksX0_round_0 9 rfl rfl)
theorem dX0_round_11 : decode cX0_round 11 = .ok (.ireturn, 1) := dk_172 (dk_at dksX0_round_0 11 rfl rfl)
theorem dX0_round_12 : decode cX0_round 12 = .ok (.iload_n 3, 1) := dk_29 (dk_at dksX0_round_0 12 rfl rfl)
theorem dX0_round_13 : decode cX0_round 13 = .ok (.i2l, 1) := dk_133 (dk_at dksX0_round_0 13 rfl rfl)
theorem dX0_round_14 : decode cX0_round 14 = .ok (.lconst 0, 1) := dk_9 (dk_at dksX0_round_0 14 rfl rfl)
theorem dX0_round_15 : decode cX0_round 15 = .ok (.aload_n 0, 1) := dk_42 (dk_at dksX0_round_0 15 rfl rfl)
theorem dX0_round_16 : decode cX0_round 16 = .ok (.getfield 71, 3) := dk_180 0 71 (dk_at dksX0_round_0 16 rfl rfl)
theorem dX0_round_19 : decode cX0_round 19 = .ok (.getfield 314, 3) := dk_180 1 58 (dk_at dksX0_round_0 19 rfl rfl)
theorem dX0_round_22 : decode cX0_round 22 = .ok (.invokestatic 178, 3) := dk_184 0 178 (dk_at dksX0_round_1 0 rfl rfl)
theorem dX0_round_25 : decode cX0_round 25 = .ok (.iconst 1, 1) := dk_4 (dk_at dksX0_round_1 3 rfl rfl)
theorem dX0_round_26 : decode cX0_round 26 = .ok (.isub, 1) := dk_100 (dk_at dksX0_round_1 4 rfl rfl)
theorem dX0_round_27 : decode cX0_round 27 = .ok (.i2l, 1) := dk_133 (dk_at dksX0_round_1 5 rfl rfl)
theorem dX0_round_28 : decode cX0_round 28 = .ok (.invokestatic 5, 3) := dk_184 0 5 (dk_at dksX0_round_1 6 rfl rfl)
theorem dX0_round_31 : decode cX0_round 31 = .ok (.ifCond .ne 5, 3) := dk_154 0 5 (dk_at dksX0_round_1 9 rfl rfl)
theorem dX0_round_34 : decode cX0_round 34 = .ok (.iconst (-1), 1) := dk_2 (dk_at dksX0_round_1 12 rfl rfl)
theorem dX0_round_35 : decode cX0_round 35 = .ok (.ireturn, 1) := dk_172 (dk_at dksX0_round_1 13 rfl rfl)
theorem dX0_round_36 : decode cX0_round 36 = .ok (.aload_n 0, 1) := dk_42 (dk_at dksX0_round_1 14 rfl rfl)
theorem dX0_round_37 : decode cX0_round 37 = .ok (.getfield 71, 3) := dk_180 0 71 (dk_at dksX0_round_1 15 rfl rfl)
theorem dX0_round_40 : decode cX0_round 40 = .ok (.invokevirtual 317, 3) := dk_182 1 61 (dk_at dksX0_round_1 18 rfl rfl)
theorem dX0_round_43 : decode cX0_round 43 = .ok (.aload_n 0, 1) := dk_42 (dk_at dksX0_round_1 21 rfl rfl)
theorem dX0_round_44 : decode cX0_round 44 = .ok (.getfield 71, 3) := dk_180 0 71 (dk_at dksX0_round_2 0 rfl rfl)
theorem dX0_round_47 : decode cX0_round 47 = .ok (.getfield 320, 3) := dk_180 1 64 (dk_at dksX0_round_2 3 rfl rfl)
theorem dX0_round_50 : decode cX0_round 50 = .ok (.iload_n 3, 1) := dk_29 (dk_at dksX0_round_2 6 rfl rfl)
theorem dX0_round_51 : decode cX0_round 51 = .ok (.iaload, 1) := dk_46 (dk_at dksX0_round_2 7 rfl rfl)
theorem dX0_round_52 : decode cX0_round 52 = .ok (.ireturn, 1) := dk_172 (dk_at dksX0_round_2 8 rfl rfl)
abbrev cX0_may : ByteArray := prog_1_method_36_code
def yX0_may : MethodName := ⟨RX0, "may", "(III)I"⟩
def dkwX0_may_8 : List UInt8 := [21, 9, 120, 128, 54, 6, 42, 21, 9, 182, 0, 149, 58, 7, 132, 8, 1, 167, 255, 124, 4, 172]
abbrev dktX0_may_8 : List UInt8 := dkwX0_may_8 ++ []
def dkwX0_may_7 : List UInt8 := [182, 1, 72, 21, 9, 182, 1, 76, 54, 5, 21, 5, 19, 1, 79, 160, 0, 5, 3, 172, 21, 6, 4]
abbrev dktX0_may_7 : List UInt8 := dkwX0_may_7 ++ dktX0_may_8
def dkwX0_may_6 : List UInt8 := [182, 1, 69, 2, 160, 0, 5, 3, 172, 42, 180, 0, 71, 21, 5, 25, 7, 42, 21, 9, 182, 0, 149]
abbrev dktX0_may_6 : List UInt8 := dkwX0_may_6 ++ dktX0_may_7
def dkwX0_may_5 : List UInt8 := [136, 54, 9, 21, 6, 21, 9, 184, 1, 67, 154, 0, 20, 42, 180, 0, 40, 180, 0, 163, 28, 21, 9]
abbrev dktX0_may_5 : List UInt8 := dkwX0_may_5 ++ dktX0_may_6
def dkwX0_may_4 : List UInt8 := [180, 0, 116, 182, 0, 120, 4, 100, 133, 184, 0, 5, 154, 0, 5, 3, 172, 25, 4, 21, 8, 182, 0, 232]
abbrev dktX0_may_4 : List UInt8 := dkwX0_may_4 ++ dktX0_may_5
def dkwX0_may_3 : List UInt8 := [21, 8, 25, 4, 182, 0, 231, 162, 0, 128, 25, 4, 21, 8, 182, 0, 232, 9, 42, 180, 0, 40]
abbrev dktX0_may_3 : List UInt8 := dkwX0_may_3 ++ dktX0_may_4
def dkwX0_may_2 : List UInt8 := [180, 0, 71, 28, 29, 182, 1, 38, 3, 54, 5, 3, 54, 6, 42, 28, 182, 0, 149, 58, 7, 3, 54, 8]
abbrev dktX0_may_2 : List UInt8 := dkwX0_may_2 ++ dktX0_may_3
def dkwX0_may_1 : List UInt8 := [16, 254, 172, 42, 180, 0, 13, 27, 50, 58, 4, 25, 4, 180, 0, 227, 199, 0, 6, 16, 250, 172, 42]
abbrev dktX0_may_1 : List UInt8 := dkwX0_may_1 ++ dktX0_may_2
def dkwX0_may_0 : List UInt8 := [27, 184, 0, 9, 153, 0, 19, 42, 28, 182, 0, 137, 153, 0, 11, 42, 29, 182, 1, 35, 154, 0, 6]
abbrev dktX0_may_0 : List UInt8 := dkwX0_may_0 ++ dktX0_may_1
theorem dksX0_may_0 : cX0_may.data.toList.drop 0 = dktX0_may_0 := by decide +kernel
theorem dksX0_may_1 : cX0_may.data.toList.drop 23 = dktX0_may_1 := dk_seg dksX0_may_0 23 rfl rfl
theorem dksX0_may_2 : cX0_may.data.toList.drop 46 = dktX0_may_2 := dk_seg dksX0_may_1 23 rfl rfl
theorem dksX0_may_3 : cX0_may.data.toList.drop 70 = dktX0_may_3 := dk_seg dksX0_may_2 24 rfl rfl
theorem dksX0_may_4 : cX0_may.data.toList.drop 92 = dktX0_may_4 := dk_seg dksX0_may_3 22 rfl rfl
theorem dksX0_may_5 : cX0_may.data.toList.drop 116 = dktX0_may_5 := dk_seg dksX0_may_4 24 rfl rfl
theorem dksX0_may_6 : cX0_may.data.toList.drop 139 = dktX0_may_6 := dk_seg dksX0_may_5 23 rfl rfl
theorem dksX0_may_7 : cX0_may.data.toList.drop 162 = dktX0_may_7 := dk_seg dksX0_may_6 23 rfl rfl
theorem dksX0_may_8 : cX0_may.data.toList.drop 185 = dktX0_may_8 := dk_seg dksX0_may_7 23 rfl rfl
theorem dX0_may_0 : decode cX0_may 0 = .ok (.iload_n 1, 1) := dk_27 (dk_at dksX0_may_0 0 rfl rfl)
theorem dX0_may_1 : decode cX0_may 1 = .ok (.invokestatic 9, 3) := dk_184 0 9 (dk_at dksX0_may_0 1 rfl rfl)
theorem dX0_may_4 : decode cX0_may 4 = .ok (.ifCond .eq 19, 3) := dk_153 0 19 (dk_at dksX0_may_0 4 rfl rfl)
theorem dX0_may_7 : decode cX0_may 7 = .ok (.aload_n 0, 1) := dk_42 (dk_at dksX0_may_0 7 rfl rfl)
theorem dX0_may_8 : decode cX0_may 8 = .ok (.iload_n 2, 1) := dk_28 (dk_at dksX0_may_0 8 rfl rfl)
theorem dX0_may_9 : decode cX0_may 9 = .ok (.invokevirtual 137, 3) := dk_182 0 137 (dk_at dksX0_may_0 9 rfl rfl)
theorem dX0_may_12 : decode cX0_may 12 = .ok (.ifCond .eq 11, 3) := dk_153 0 11 (dk_at dksX0_may_0 12 rfl rfl)
theorem dX0_may_15 : decode cX0_may 15 = .ok (.aload_n 0, 1) := dk_42 (dk_at dksX0_may_0 15 rfl rfl)
theorem dX0_may_16 : decode cX0_may 16 = .ok (.iload_n 3, 1) := dk_29 (dk_at dksX0_may_0 16 rfl rfl)
theorem dX0_may_17 : decode cX0_may 17 = .ok (.invokevirtual 291, 3) := dk_182 1 35 (dk_at dksX0_may_0 17 rfl rfl)
theorem dX0_may_20 : decode cX0_may 20 = .ok (.ifCond .ne 6, 3) := dk_154 0 6 (dk_at dksX0_may_0 20 rfl rfl)
theorem dX0_may_23 : decode cX0_may 23 = .ok (.bipush (-2), 2) := dk_16 254 (dk_at dksX0_may_1 0 rfl rfl)
theorem dX0_may_25 : decode cX0_may 25 = .ok (.ireturn, 1) := dk_172 (dk_at dksX0_may_1 2 rfl rfl)
theorem dX0_may_26 : decode cX0_may 26 = .ok (.aload_n 0, 1) := dk_42 (dk_at dksX0_may_1 3 rfl rfl)
theorem dX0_may_27 : decode cX0_may 27 = .ok (.getfield 13, 3) := dk_180 0 13 (dk_at dksX0_may_1 4 rfl rfl)
theorem dX0_may_30 : decode cX0_may 30 = .ok (.iload_n 1, 1) := dk_27 (dk_at dksX0_may_1 7 rfl rfl)
theorem dX0_may_31 : decode cX0_may 31 = .ok (.aaload, 1) := dk_50 (dk_at dksX0_may_1 8 rfl rfl)
theorem dX0_may_32 : decode cX0_may 32 = .ok (.astore 4, 2) := dk_58 4 (dk_at dksX0_may_1 9 rfl rfl)
theorem dX0_may_34 : decode cX0_may 34 = .ok (.aload 4, 2) := dk_25 4 (dk_at dksX0_may_1 11 rfl rfl)
theorem dX0_may_36 : decode cX0_may 36 = .ok (.getfield 227, 3) := dk_180 0 227 (dk_at dksX0_may_1 13 rfl rfl)
theorem dX0_may_39 : decode cX0_may 39 = .ok (.ifnonnull 6, 3) := dk_199 0 6 (dk_at dksX0_may_1 16 rfl rfl)
theorem dX0_may_42 : decode cX0_may 42 = .ok (.bipush (-6), 2) := dk_16 250 (dk_at dksX0_may_1 19 rfl rfl)
theorem dX0_may_44 : decode cX0_may 44 = .ok (.ireturn, 1) := dk_172 (dk_at dksX0_may_1 21 rfl rfl)
theorem dX0_may_45 : decode cX0_may 45 = .ok (.aload_n 0, 1) := dk_42 (dk_at dksX0_may_1 22 rfl rfl)
theorem dX0_may_46 : decode cX0_may 46 = .ok (.getfield 71, 3) := dk_180 0 71 (dk_at dksX0_may_2 0 rfl rfl)
theorem dX0_may_49 : decode cX0_may 49 = .ok (.iload_n 2, 1) := dk_28 (dk_at dksX0_may_2 3 rfl rfl)
theorem dX0_may_50 : decode cX0_may 50 = .ok (.iload_n 3, 1) := dk_29 (dk_at dksX0_may_2 4 rfl rfl)
theorem dX0_may_51 : decode cX0_may 51 = .ok (.invokevirtual 294, 3) := dk_182 1 38 (dk_at dksX0_may_2 5 rfl rfl)
theorem dX0_may_54 : decode cX0_may 54 = .ok (.iconst 0, 1) := dk_3 (dk_at dksX0_may_2 8 rfl rfl)
theorem dX0_may_55 : decode cX0_may 55 = .ok (.istore 5, 2) := dk_54 5 (dk_at dksX0_may_2 9 rfl rfl)
theorem dX0_may_57 : decode cX0_may 57 = .ok (.iconst 0, 1) := dk_3 (dk_at dksX0_may_2 11 rfl rfl)
theorem dX0_may_58 : decode cX0_may 58 = .ok (.istore 6, 2) := dk_54 6 (dk_at dksX0_may_2 12 rfl rfl)
theorem dX0_may_60 : decode cX0_may 60 = .ok (.aload_n 0, 1) := dk_42 (dk_at dksX0_may_2 14 rfl rfl)
theorem dX0_may_61 : decode cX0_may 61 = .ok (.iload_n 2, 1) := dk_28 (dk_at dksX0_may_2 15 rfl rfl)
theorem dX0_may_62 : decode cX0_may 62 = .ok (.invokevirtual 149, 3) := dk_182 0 149 (dk_at dksX0_may_2 16 rfl rfl)
theorem dX0_may_65 : decode cX0_may 65 = .ok (.astore 7, 2) := dk_58 7 (dk_at dksX0_may_2 19 rfl rfl)
theorem dX0_may_67 : decode cX0_may 67 = .ok (.iconst 0, 1) := dk_3 (dk_at dksX0_may_2 21 rfl rfl)
theorem dX0_may_68 : decode cX0_may 68 = .ok (.istore 8, 2) := dk_54 8 (dk_at dksX0_may_2 22 rfl rfl)
theorem dX0_may_70 : decode cX0_may 70 = .ok (.iload 8, 2) := dk_21 8 (dk_at dksX0_may_3 0 rfl rfl)
theorem dX0_may_72 : decode cX0_may 72 = .ok (.aload 4, 2) := dk_25 4 (dk_at dksX0_may_3 2 rfl rfl)
theorem dX0_may_74 : decode cX0_may 74 = .ok (.invokevirtual 231, 3) := dk_182 0 231 (dk_at dksX0_may_3 4 rfl rfl)
theorem dX0_may_77 : decode cX0_may 77 = .ok (.if_icmp .ge 128, 3) := dk_162 0 128 (dk_at dksX0_may_3 7 rfl rfl)
theorem dX0_may_80 : decode cX0_may 80 = .ok (.aload 4, 2) := dk_25 4 (dk_at dksX0_may_3 10 rfl rfl)
theorem dX0_may_82 : decode cX0_may 82 = .ok (.iload 8, 2) := dk_21 8 (dk_at dksX0_may_3 12 rfl rfl)
theorem dX0_may_84 : decode cX0_may 84 = .ok (.invokevirtual 232, 3) := dk_182 0 232 (dk_at dksX0_may_3 14 rfl rfl)
theorem dX0_may_87 : decode cX0_may 87 = .ok (.lconst 0, 1) := dk_9 (dk_at dksX0_may_3 17 rfl rfl)
theorem dX0_may_88 : decode cX0_may 88 = .ok (.aload_n 0, 1) := dk_42 (dk_at dksX0_may_3 18 rfl rfl)
theorem dX0_may_89 : decode cX0_may 89 = .ok (.getfield 40, 3) := dk_180 0 40 (dk_at dksX0_may_3 19 rfl rfl)
theorem dX0_may_92 : decode cX0_may 92 = .ok (.getfield 116, 3) := dk_180 0 116 (dk_at dksX0_may_4 0 rfl rfl)
theorem dX0_may_95 : decode cX0_may 95 = .ok (.invokevirtual 120, 3) := dk_182 0 120 (dk_at dksX0_may_4 3 rfl rfl)
theorem dX0_may_98 : decode cX0_may 98 = .ok (.iconst 1, 1) := dk_4 (dk_at dksX0_may_4 6 rfl rfl)
theorem dX0_may_99 : decode cX0_may 99 = .ok (.isub, 1) := dk_100 (dk_at dksX0_may_4 7 rfl rfl)
theorem dX0_may_100 : decode cX0_may 100 = .ok (.i2l, 1) := dk_133 (dk_at dksX0_may_4 8 rfl rfl)
theorem dX0_may_101 : decode cX0_may 101 = .ok (.invokestatic 5, 3) := dk_184 0 5 (dk_at dksX0_may_4 9 rfl rfl)
theorem dX0_may_104 : decode cX0_may 104 = .ok (.ifCond .ne 5, 3) := dk_154 0 5 (dk_at dksX0_may_4 12 rfl rfl)
theorem dX0_may_107 : decode cX0_may 107 = .ok (.iconst 0, 1) := dk_3 (dk_at dksX0_may_4 15 rfl rfl)
theorem dX0_may_108 : decode cX0_may 108 = .ok (.ireturn, 1) := dk_172 (dk_at dksX0_may_4 16 rfl rfl)
theorem dX0_may_109 : decode cX0_may 109 = .ok (.aload 4, 2) := dk_25 4 (dk_at dksX0_may_4 17 rfl rfl)
theorem dX0_may_111 : decode cX0_may 111 = .ok (.iload 8, 2) := dk_21 8 (dk_at dksX0_may_4 19 rfl rfl)
theorem dX0_may_113 : decode cX0_may 113 = .ok (.invokevirtual 232, 3) := dk_182 0 232 (dk_at dksX0_may_4 21 rfl rfl)
theorem dX0_may_116 : decode cX0_may 116 = .ok (.l2i, 1) := dk_136 (dk_at dksX0_may_5 0 rfl rfl)
theorem dX0_may_117 : decode cX0_may 117 = .ok (.istore 9, 2) := dk_54 9 (dk_at dksX0_may_5 1 rfl rfl)
theorem dX0_may_119 : decode cX0_may 119 = .ok (.iload 6, 2) := dk_21 6 (dk_at dksX0_may_5 3 rfl rfl)
theorem dX0_may_121 : decode cX0_may 121 = .ok (.iload 9, 2) := dk_21 9 (dk_at dksX0_may_5 5 rfl rfl)
theorem dX0_may_123 : decode cX0_may 123 = .ok (.invokestatic 323, 3) := dk_184 1 67 (dk_at dksX0_may_5 7 rfl rfl)
theorem dX0_may_126 : decode cX0_may 126 = .ok (.ifCond .ne 20, 3) := dk_154 0 20 (dk_at dksX0_may_5 10 rfl rfl)
theorem dX0_may_129 : decode cX0_may 129 = .ok (.aload_n 0, 1) := dk_42 (dk_at dksX0_may_5 13 rfl rfl)
theorem dX0_may_130 : decode cX0_may 130 = .ok (.getfield 40, 3) := dk_180 0 40 (dk_at dksX0_may_5 14 rfl rfl)
theorem dX0_may_133 : decode cX0_may 133 = .ok (.getfield 163, 3) := dk_180 0 163 (dk_at dksX0_may_5 17 rfl rfl)
theorem dX0_may_136 : decode cX0_may 136 = .ok (.iload_n 2, 1) := dk_28 (dk_at dksX0_may_5 20 rfl rfl)
theorem dX0_may_137 : decode cX0_may 137 = .ok (.iload 9, 2) := dk_21 9 (dk_at dksX0_may_5 21 rfl rfl)
theorem dX0_may_139 : decode cX0_may 139 = .ok (.invokevirtual 325, 3) := dk_182 1 69 (dk_at dksX0_may_6 0 rfl rfl)
theorem dX0_may_142 : decode cX0_may 142 = .ok (.iconst (-1), 1) := dk_2 (dk_at dksX0_may_6 3 rfl rfl)
theorem dX0_may_143 : decode cX0_may 143 = .ok (.if_icmp .ne 5, 3) := dk_160 0 5 (dk_at dksX0_may_6 4 rfl rfl)
theorem dX0_may_146 : decode cX0_may 146 = .ok (.iconst 0, 1) := dk_3 (dk_at dksX0_may_6 7 rfl rfl)
theorem dX0_may_147 : decode cX0_may 147 = .ok (.ireturn, 1) := dk_172 (dk_at dksX0_may_6 8 rfl rfl)
theorem dX0_may_148 : decode cX0_may 148 = .ok (.aload_n 0, 1) := dk_42 (dk_at dksX0_may_6 9 rfl rfl)
theorem dX0_may_149 : decode cX0_may 149 = .ok (.getfield 71, 3) := dk_180 0 71 (dk_at dksX0_may_6 10 rfl rfl)
theorem dX0_may_152 : decode cX0_may 152 = .ok (.iload 5, 2) := dk_21 5 (dk_at dksX0_may_6 13 rfl rfl)
theorem dX0_may_154 : decode cX0_may 154 = .ok (.aload 7, 2) := dk_25 7 (dk_at dksX0_may_6 15 rfl rfl)
theorem dX0_may_156 : decode cX0_may 156 = .ok (.aload_n 0, 1) := dk_42 (dk_at dksX0_may_6 17 rfl rfl)
theorem dX0_may_157 : decode cX0_may 157 = .ok (.iload 9, 2) := dk_21 9 (dk_at dksX0_may_6 18 rfl rfl)
theorem dX0_may_159 : decode cX0_may 159 = .ok (.invokevirtual 149, 3) := dk_182 0 149 (dk_at dksX0_may_6 20 rfl rfl)
theorem dX0_may_162 : decode cX0_may 162 = .ok (.invokevirtual 328, 3) := dk_182 1 72 (dk_at dksX0_may_7 0 rfl rfl)
theorem dX0_may_165 : decode cX0_may 165 = .ok (.iload 9, 2) := dk_21 9 (dk_at dksX0_may_7 3 rfl rfl)
theorem dX0_may_167 : decode cX0_may 167 = .ok (.invokevirtual 332, 3) := dk_182 1 76 (dk_at dksX0_may_7 5 rfl rfl)
theorem dX0_may_170 : decode cX0_may 170 = .ok (.istore 5, 2) := dk_54 5 (dk_at dksX0_may_7 8 rfl rfl)
theorem dX0_may_172 : decode cX0_may 172 = .ok (.iload 5, 2) := dk_21 5 (dk_at dksX0_may_7 10 rfl rfl)
theorem dX0_may_174 : decode cX0_may 174 = .ok (.ldc_w 335, 3) := dk_19 1 79 (dk_at dksX0_may_7 12 rfl rfl)
theorem dX0_may_177 : decode cX0_may 177 = .ok (.if_icmp .ne 5, 3) := dk_160 0 5 (dk_at dksX0_may_7 15 rfl rfl)
theorem dX0_may_180 : decode cX0_may 180 = .ok (.iconst 0, 1) := dk_3 (dk_at dksX0_may_7 18 rfl rfl)
theorem dX0_may_181 : decode cX0_may 181 = .ok (.ireturn, 1) := dk_172 (dk_at dksX0_may_7 19 rfl rfl)
theorem dX0_may_182 : decode cX0_may 182 = .ok (.iload 6, 2) := dk_21 6 (dk_at dksX0_may_7 20 rfl rfl)
theorem dX0_may_184 : decode cX0_may 184 = .ok (.iconst 1, 1) := dk_4 (dk_at dksX0_may_7 22 rfl rfl)
theorem dX0_may_185 : decode cX0_may 185 = .ok (.iload 9, 2) := dk_21 9 (dk_at dksX0_may_8 0 rfl rfl)
theorem dX0_may_187 : decode cX0_may 187 = .ok (.ishl, 1) := dk_120 (dk_at dksX0_may_8 2 rfl rfl)
theorem dX0_may_188 : decode cX0_may 188 = .ok (.ior, 1) := dk_128 (dk_at dksX0_may_8 3 rfl rfl)
theorem dX0_may_189 : decode cX0_may 189 = .ok (.istore 6, 2) := dk_54 6 (dk_at dksX0_may_8 4 rfl rfl)
theorem dX0_may_191 : decode cX0_may 191 = .ok (.aload_n 0, 1) := dk_42 (dk_at dksX0_may_8 6 rfl rfl)
theorem dX0_may_192 : decode cX0_may 192 = .ok (.iload 9, 2) := dk_21 9 (dk_at dksX0_may_8 7 rfl rfl)
theorem dX0_may_194 : decode cX0_may 194 = .ok (.invokevirtual 149, 3) := dk_182 0 149 (dk_at dksX0_may_8 9 rfl rfl)
theorem dX0_may_197 : decode cX0_may 197 = .ok (.astore 7, 2) := dk_58 7 (dk_at dksX0_may_8 12 rfl rfl)
theorem dX0_may_199 : decode cX0_may 199 = .ok (.iinc 8 1, 3) := dk_132 8 1 (dk_at dksX0_may_8 14 rfl rfl)
theorem dX0_may_202 : decode cX0_may 202 = .ok (.goto (-132), 3) := dk_167 255 124 (dk_at dksX0_may_8 17 rfl rfl)
theorem dX0_may_205 : decode cX0_may 205 = .ok (.iconst 1, 1) := dk_4 (dk_at dksX0_may_8 20 rfl rfl)
theorem dX0_may_206 : decode cX0_may 206 = .ok (.ireturn, 1) := dk_172 (dk_at dksX0_may_8 21 rfl rfl)
abbrev cX0_fewest : ByteArray := prog_1_method_39_code
def yX0_fewest : MethodName := ⟨RX0, "fewest", "(I)I"⟩
def dkwX0_fewest_11 : List UInt8 := [167, 0, 9, 42, 180, 0, 83, 29, 46, 172]
abbrev dktX0_fewest_11 : List UInt8 := dkwX0_fewest_11 ++ []
def dkwX0_fewest_10 : List UInt8 := [184, 1, 94, 132, 4, 1, 167, 255, 82, 42, 180, 0, 83, 29, 46, 19, 1, 79, 161, 0, 7, 2]
abbrev dktX0_fewest_10 : List UInt8 := dkwX0_fewest_10 ++ dktX0_fewest_11
def dkwX0_fewest_9 : List UInt8 := [167, 255, 215, 132, 5, 1, 167, 255, 162, 42, 180, 0, 87, 3, 42, 180, 0, 83, 3, 29, 4, 96]
abbrev dktX0_fewest_9 : List UInt8 := dkwX0_fewest_9 ++ dktX0_fewest_10
def dkwX0_fewest_8 : List UInt8 := [21, 7, 21, 6, 128, 46, 42, 180, 0, 83, 21, 7, 46, 4, 96, 184, 1, 80, 79, 132, 7, 1]
abbrev dktX0_fewest_8 : List UInt8 := dkwX0_fewest_8 ++ dktX0_fewest_9
def dkwX0_fewest_7 : List UInt8 := [54, 6, 3, 54, 7, 21, 7, 29, 163, 0, 41, 42, 180, 0, 87, 21, 7, 21, 6, 128, 42, 180, 0, 87]
abbrev dktX0_fewest_7 : List UInt8 := dkwX0_fewest_7 ++ dktX0_fewest_8
def dkwX0_fewest_6 : List UInt8 := [21, 5, 182, 1, 100, 19, 1, 79, 160, 0, 6, 167, 0, 62, 42, 27, 28, 21, 5, 21, 4, 182, 1, 103]
abbrev dktX0_fewest_6 : List UInt8 := dkwX0_fewest_6 ++ dktX0_fewest_7
def dkwX0_fewest_5 : List UInt8 := [184, 1, 94, 4, 54, 5, 21, 5, 4, 42, 180, 0, 71, 180, 1, 88, 120, 162, 0, 86, 42, 180, 0, 71]
abbrev dktX0_fewest_5 : List UInt8 := dkwX0_fewest_5 ++ dktX0_fewest_6
def dkwX0_fewest_4 : List UInt8 := [181, 1, 93, 42, 180, 0, 71, 182, 1, 43, 42, 180, 0, 83, 3, 42, 180, 0, 87, 3, 29, 4, 96]
abbrev dktX0_fewest_4 : List UInt8 := dkwX0_fewest_4 ++ dktX0_fewest_5
def dkwX0_fewest_3 : List UInt8 := [180, 0, 146, 16, 7, 96, 162, 0, 165, 21, 4, 17, 1, 143, 163, 0, 157, 42, 180, 0, 71, 21, 4]
abbrev dktX0_fewest_3 : List UInt8 := dkwX0_fewest_3 ++ dktX0_fewest_4
def dkwX0_fewest_2 : List UInt8 := [42, 180, 0, 83, 3, 3, 79, 42, 180, 0, 40, 180, 0, 146, 54, 4, 21, 4, 42, 180, 0, 40]
abbrev dktX0_fewest_2 : List UInt8 := dkwX0_fewest_2 ++ dktX0_fewest_3
def dkwX0_fewest_1 : List UInt8 := [54, 4, 21, 4, 29, 163, 0, 19, 42, 180, 0, 83, 21, 4, 19, 1, 79, 79, 132, 4, 1, 167, 255, 237]
abbrev dktX0_fewest_1 : List UInt8 := dkwX0_fewest_1 ++ dktX0_fewest_2
def dkwX0_fewest_0 : List UInt8 := [42, 27, 182, 0, 137, 154, 0, 6, 16, 254, 172, 42, 27, 182, 1, 90, 61, 4, 28, 120, 4, 100, 62, 3]
abbrev dktX0_fewest_0 : List UInt8 := dkwX0_fewest_0 ++ dktX0_fewest_1
theorem dksX0_fewest_0 : cX0_fewest.data.toList.drop 0 = dktX0_fewest_0 := by decide +kernel
theorem dksX0_fewest_1 : cX0_fewest.data.toList.drop 24 = dktX0_fewest_1 := dk_seg dksX0_fewest_0 24 rfl rfl
theorem dksX0_fewest_2 : cX0_fewest.data.toList.drop 48 = dktX0_fewest_2 := dk_seg dksX0_fewest_1 24 rfl rfl
theorem dksX0_fewest_3 : cX0_fewest.data.toList.drop 70 = dktX0_fewest_3 := dk_seg dksX0_fewest_2 22 rfl rfl
theorem dksX0_fewest_4 : cX0_fewest.data.toList.drop 93 = dktX0_fewest_4 := dk_seg dksX0_fewest_3 23 rfl rfl
theorem dksX0_fewest_5 : cX0_fewest.data.toList.drop 116 = dktX0_fewest_5 := dk_seg dksX0_fewest_4 23 rfl rfl
theorem dksX0_fewest_6 : cX0_fewest.data.toList.drop 140 = dktX0_fewest_6 := dk_seg dksX0_fewest_5 24 rfl rfl
theorem dksX0_fewest_7 : cX0_fewest.data.toList.drop 164 = dktX0_fewest_7 := dk_seg dksX0_fewest_6 24 rfl rfl
theorem dksX0_fewest_8 : cX0_fewest.data.toList.drop 188 = dktX0_fewest_8 := dk_seg dksX0_fewest_7 24 rfl rfl
theorem dksX0_fewest_9 : cX0_fewest.data.toList.drop 210 = dktX0_fewest_9 := dk_seg dksX0_fewest_8 22 rfl rfl
theorem dksX0_fewest_10 : cX0_fewest.data.toList.drop 232 = dktX0_fewest_10 := dk_seg dksX0_fewest_9 22 rfl rfl
theorem dksX0_fewest_11 : cX0_fewest.data.toList.drop 254 = dktX0_fewest_11 := dk_seg dksX0_fewest_10 22 rfl rfl
theorem dX0_fewest_0 : decode cX0_fewest 0 = .ok (.aload_n 0, 1) := dk_42 (dk_at dksX0_fewest_0 0 rfl rfl)
theorem dX0_fewest_1 : decode cX0_fewest 1 = .ok (.iload_n 1, 1) := dk_27 (dk_at dksX0_fewest_0 1 rfl rfl)
theorem dX0_fewest_2 : decode cX0_fewest 2 = .ok (.invokevirtual 137, 3) := dk_182 0 137 (dk_at dksX0_fewest_0 2 rfl rfl)
theorem dX0_fewest_5 : decode cX0_fewest 5 = .ok (.ifCond .ne 6, 3) := dk_154 0 6 (dk_at dksX0_fewest_0 5 rfl rfl)
theorem dX0_fewest_8 : decode cX0_fewest 8 = .ok (.bipush (-2), 2) := dk_16 254 (dk_at dksX0_fewest_0 8 rfl rfl)
theorem dX0_fewest_10 : decode cX0_fewest 10 = .ok (.ireturn, 1) := dk_172 (dk_at dksX0_fewest_0 10 rfl rfl)
theorem dX0_fewest_11 : decode cX0_fewest 11 = .ok (.aload_n 0, 1) := dk_42 (dk_at dksX0_fewest_0 11 rfl rfl)
theorem dX0_fewest_12 : decode cX0_fewest 12 = .ok (.iload_n 1, 1) := dk_27 (dk_at dksX0_fewest_0 12 rfl rfl)
theorem dX0_fewest_13 : decode cX0_fewest 13 = .ok (.invokevirtual 346, 3) := dk_182 1 90 (dk_at dksX0_fewest_0 13 rfl rfl)
theorem dX0_fewest_16 : decode cX0_fewest 16 = .ok (.istore_n 2, 1) := dk_61 (dk_at dksX0_fewest_0 16 rfl rfl)
theorem dX0_fewest_17 : decode cX0_fewest 17 = .ok (.iconst 1, 1) := dk_4 (dk_at dksX0_fewest_0 17 rfl rfl)
theorem dX0_fewest_18 : decode cX0_fewest 18 = .ok (.iload_n 2, 1) := dk_28 (dk_at dksX0_fewest_0 18 rfl rfl)
theorem dX0_fewest_19 : decode cX0_fewest 19 = .ok (.ishl, 1) := dk_120 (dk_at dksX0_fewest_0 19 rfl rfl)
theorem dX0_fewest_20 : decode cX0_fewest 20 = .ok (.iconst 1, 1) := dk_4 (dk_at dksX0_fewest_0 20 rfl rfl)
theorem dX0_fewest_21 : decode cX0_fewest 21 = .ok (.isub, 1) := dk_100 (dk_at dksX0_fewest_0 21 rfl rfl)
theorem dX0_fewest_22 : decode cX0_fewest 22 = .ok (.istore_n 3, 1) := dk_62 (dk_at dksX0_fewest_0 22 rfl rfl)
theorem dX0_fewest_23 : decode cX0_fewest 23 = .ok (.iconst 0, 1) := dk_3 (dk_at dksX0_fewest_0 23 rfl rfl)
theorem dX0_fewest_24 : decode cX0_fewest 24 = .ok (.istore 4, 2) := dk_54 4 (dk_at dksX0_fewest_1 0 rfl rfl)
theorem dX0_fewest_26 : decode cX0_fewest 26 = .ok (.iload 4, 2) := dk_21 4 (dk_at dksX0_fewest_1 2 rfl rfl)
theorem dX0_fewest_28 : decode cX0_fewest 28 = .ok (.iload_n 3, 1) := dk_29 (dk_at dksX0_fewest_1 4 rfl rfl)
theorem dX0_fewest_29 : decode cX0_fewest 29 = .ok (.if_icmp .gt 19, 3) := dk_163 0 19 (dk_at dksX0_fewest_1 5 rfl rfl)
theorem dX0_fewest_32 : decode cX0_fewest 32 = .ok (.aload_n 0, 1) := dk_42 (dk_at dksX0_fewest_1 8 rfl rfl)
theorem dX0_fewest_33 : decode cX0_fewest 33 = .ok (.getfield 83, 3) := dk_180 0 83 (dk_at dksX0_fewest_1 9 rfl rfl)
theorem dX0_fewest_36 : decode cX0_fewest 36 = .ok (.iload 4, 2) := dk_21 4 (dk_at dksX0_fewest_1 12 rfl rfl)
theorem dX0_fewest_38 : decode cX0_fewest 38 = .ok (.ldc_w 335, 3) := dk_19 1 79 (dk_at dksX0_fewest_1 14 rfl rfl)
theorem dX0_fewest_41 : decode cX0_fewest 41 = .ok (.iastore, 1) := dk_79 (dk_at dksX0_fewest_1 17 rfl rfl)
theorem dX0_fewest_42 : decode cX0_fewest 42 = .ok (.iinc 4 1, 3) := dk_132 4 1 (dk_at dksX0_fewest_1 18 rfl rfl)
theorem dX0_fewest_45 : decode cX0_fewest 45 = .ok (.goto (-19), 3) := dk_167 255 237 (dk_at dksX0_fewest_1 21 rfl rfl)
theorem dX0_fewest_48 : decode cX0_fewest 48 = .ok (.aload_n 0, 1) := dk_42 (dk_at dksX0_fewest_2 0 rfl rfl)
theorem dX0_fewest_49 : decode cX0_fewest 49 = .ok (.getfield 83, 3) := dk_180 0 83 (dk_at dksX0_fewest_2 1 rfl rfl)
theorem dX0_fewest_52 : decode cX0_fewest 52 = .ok (.iconst 0, 1) := dk_3 (dk_at dksX0_fewest_2 4 rfl rfl)
theorem dX0_fewest_53 : decode cX0_fewest 53 = .ok (.iconst 0, 1) := dk_3 (dk_at dksX0_fewest_2 5 rfl rfl)
theorem dX0_fewest_54 : decode cX0_fewest 54 = .ok (.iastore, 1) := dk_79 (dk_at dksX0_fewest_2 6 rfl rfl)
theorem dX0_fewest_55 : decode cX0_fewest 55 = .ok (.aload_n 0, 1) := dk_42 (dk_at dksX0_fewest_2 7 rfl rfl)
theorem dX0_fewest_56 : decode cX0_fewest 56 = .ok (.getfield 40, 3) := dk_180 0 40 (dk_at dksX0_fewest_2 8 rfl rfl)
theorem dX0_fewest_59 : decode cX0_fewest 59 = .ok (.getfield 146, 3) := dk_180 0 146 (dk_at dksX0_fewest_2 11 rfl rfl)
theorem dX0_fewest_62 : decode cX0_fewest 62 = .ok (.istore 4, 2) := dk_54 4 (dk_at dksX0_fewest_2 14 rfl rfl)
theorem dX0_fewest_64 : decode cX0_fewest 64 = .ok (.iload 4, 2) := dk_21 4 (dk_at dksX0_fewest_2 16 rfl rfl)
theorem dX0_fewest_66 : decode cX0_fewest 66 = .ok (.aload_n 0, 1) := dk_42 (dk_at dksX0_fewest_2 18 rfl rfl)
theorem dX0_fewest_67 : decode cX0_fewest 67 = .ok (.getfield 40, 3) := dk_180 0 40 (dk_at dksX0_fewest_2 19 rfl rfl)
theorem dX0_fewest_70 : decode cX0_fewest 70 = .ok (.getfield 146, 3) := dk_180 0 146 (dk_at dksX0_fewest_3 0 rfl rfl)
theorem dX0_fewest_73 : decode cX0_fewest 73 = .ok (.bipush 7, 2) := dk_16 7 (dk_at dksX0_fewest_3 3 rfl rfl)
theorem dX0_fewest_75 : decode cX0_fewest 75 = .ok (.iadd, 1) := dk_96 (dk_at dksX0_fewest_3 5 rfl rfl)
theorem dX0_fewest_76 : decode cX0_fewest 76 = .ok (.if_icmp .ge 165, 3) := dk_162 0 165 (dk_at dksX0_fewest_3 6 rfl rfl)
theorem dX0_fewest_79 : decode cX0_fewest 79 = .ok (.iload 4, 2) := dk_21 4 (dk_at dksX0_fewest_3 9 rfl rfl)
theorem dX0_fewest_81 : decode cX0_fewest 81 = .ok (.sipush 399, 3) := dk_17 1 143 (dk_at dksX0_fewest_3 11 rfl rfl)
theorem dX0_fewest_84 : decode cX0_fewest 84 = .ok (.if_icmp .gt 157, 3) := dk_163 0 157 (dk_at dksX0_fewest_3 14 rfl rfl)
theorem dX0_fewest_87 : decode cX0_fewest 87 = .ok (.aload_n 0, 1) := dk_42 (dk_at dksX0_fewest_3 17 rfl rfl)
theorem dX0_fewest_88 : decode cX0_fewest 88 = .ok (.getfield 71, 3) := dk_180 0 71 (dk_at dksX0_fewest_3 18 rfl rfl)
theorem dX0_fewest_91 : decode cX0_fewest 91 = .ok (.iload 4, 2) := dk_21 4 (dk_at dksX0_fewest_3 21 rfl rfl)
theorem dX0_fewest_93 : decode cX0_fewest 93 = .ok (.putfield 349, 3) := dk_181 1 93 (dk_at dksX0_fewest_4 0 rfl rfl)
theorem dX0_fewest_96 : decode cX0_fewest 96 = .ok (.aload_n 0, 1) := dk_42 (dk_at dksX0_fewest_4 3 rfl rfl)
theorem dX0_fewest_97 : decode cX0_fewest 97 = .ok (.getfield 71, 3) := dk_180 0 71 (dk_at dksX0_fewest_4 4 rfl rfl)
theorem dX0_fewest_100 : decode cX0_fewest 100 = .ok (.invokevirtual 299, 3) := dk_182 1 43 (dk_at dksX0_fewest_4 7 rfl rfl)
theorem dX0_fewest_103 : decode cX0_fewest 103 = .ok (.aload_n 0, 1) := dk_42 (dk_at dksX0_fewest_4 10 rfl rfl)
theorem dX0_fewest_104 : decode cX0_fewest 104 = .ok (.getfield 83, 3) := dk_180 0 83 (dk_at dksX0_fewest_4 11 rfl rfl)
theorem dX0_fewest_107 : decode cX0_fewest 107 = .ok (.iconst 0, 1) := dk_3 (dk_at dksX0_fewest_4 14 rfl rfl)
theorem dX0_fewest_108 : decode cX0_fewest 108 = .ok (.aload_n 0, 1) := dk_42 (dk_at dksX0_fewest_4 15 rfl rfl)
theorem dX0_fewest_109 : decode cX0_fewest 109 = .ok (.getfield 87, 3) := dk_180 0 87 (dk_at dksX0_fewest_4 16 rfl rfl)
theorem dX0_fewest_112 : decode cX0_fewest 112 = .ok (.iconst 0, 1) := dk_3 (dk_at dksX0_fewest_4 19 rfl rfl)
theorem dX0_fewest_113 : decode cX0_fewest 113 = .ok (.iload_n 3, 1) := dk_29 (dk_at dksX0_fewest_4 20 rfl rfl)
theorem dX0_fewest_114 : decode cX0_fewest 114 = .ok (.iconst 1, 1) := dk_4 (dk_at dksX0_fewest_4 21 rfl rfl)
theorem dX0_fewest_115 : decode cX0_fewest 115 = .ok (.iadd, 1) := dk_96 (dk_at dksX0_fewest_4 22 rfl rfl)
theorem dX0_fewest_116 : decode cX0_fewest 116 = .ok (.invokestatic 350, 3) := dk_184 1 94 (dk_at dksX0_fewest_5 0 rfl rfl)
theorem dX0_fewest_119 : decode cX0_fewest 119 = .ok (.iconst 1, 1) := dk_4 (dk_at dksX0_fewest_5 3 rfl rfl)
theorem dX0_fewest_120 : decode cX0_fewest 120 = .ok (.istore 5, 2) := dk_54 5 (dk_at dksX0_fewest_5 4 rfl rfl)
theorem dX0_fewest_122 : decode cX0_fewest 122 = .ok (.iload 5, 2) := dk_21 5 (dk_at dksX0_fewest_5 6 rfl rfl)
theorem dX0_fewest_124 : decode cX0_fewest 124 = .ok (.iconst 1, 1) := dk_4 (dk_at dksX0_fewest_5 8 rfl rfl)
theorem dX0_fewest_125 : decode cX0_fewest 125 = .ok (.aload_n 0, 1) := dk_42 (dk_at dksX0_fewest_5 9 rfl rfl)
theorem dX0_fewest_126 : decode cX0_fewest 126 = .ok (.getfield 71, 3) := dk_180 0 71 (dk_at dksX0_fewest_5 10 rfl rfl)
theorem dX0_fewest_129 : decode cX0_fewest 129 = .ok (.getfield 344, 3) := dk_180 1 88 (dk_at dksX0_fewest_5 13 rfl rfl)
theorem dX0_fewest_132 : decode cX0_fewest 132 = .ok (.ishl, 1) := dk_120 (dk_at dksX0_fewest_5 16 rfl rfl)
theorem dX0_fewest_133 : decode cX0_fewest 133 = .ok (.if_icmp .ge 86, 3) := dk_162 0 86 (dk_at dksX0_fewest_5 17 rfl rfl)
theorem dX0_fewest_136 : decode cX0_fewest 136 = .ok (.aload_n 0, 1) := dk_42 (dk_at dksX0_fewest_5 20 rfl rfl)
theorem dX0_fewest_137 : decode cX0_fewest 137 = .ok (.getfield 71, 3) := dk_180 0 71 (dk_at dksX0_fewest_5 21 rfl rfl)
theorem dX0_fewest_140 : decode cX0_fewest 140 = .ok (.iload 5, 2) := dk_21 5 (dk_at dksX0_fewest_6 0 rfl rfl)
theorem dX0_fewest_142 : decode cX0_fewest 142 = .ok (.invokevirtual 356, 3) := dk_182 1 100 (dk_at dksX0_fewest_6 2 rfl rfl)
theorem dX0_fewest_145 : decode cX0_fewest 145 = .ok (.ldc_w 335, 3) := dk_19 1 79 (dk_at dksX0_fewest_6 5 rfl rfl)
theorem dX0_fewest_148 : decode cX0_fewest 148 = .ok (.if_icmp .ne 6, 3) := dk_160 0 6 (dk_at dksX0_fewest_6 8 rfl rfl)
theorem dX0_fewest_151 : decode cX0_fewest 151 = .ok (.goto 62, 3) := dk_167 0 62 (dk_at dksX0_fewest_6 11 rfl rfl)
theorem dX0_fewest_154 : decode cX0_fewest 154 = .ok (.aload_n 0, 1) := dk_42 (dk_at dksX0_fewest_6 14 rfl rfl)
theorem dX0_fewest_155 : decode cX0_fewest 155 = .ok (.iload_n 1, 1) := dk_27 (dk_at dksX0_fewest_6 15 rfl rfl)
theorem dX0_fewest_156 : decode cX0_fewest 156 = .ok (.iload_n 2, 1) := dk_28 (dk_at dksX0_fewest_6 16 rfl rfl)
theorem dX0_fewest_157 : decode cX0_fewest 157 = .ok (.iload 5, 2) := dk_21 5 (dk_at dksX0_fewest_6 17 rfl rfl)
theorem dX0_fewest_159 : decode cX0_fewest 159 = .ok (.iload 4, 2) := dk_21 4 (dk_at dksX0_fewest_6 19 rfl rfl)
theorem dX0_fewest_161 : decode cX0_fewest 161 = .ok (.invokevirtual 359, 3) := dk_182 1 103 (dk_at dksX0_fewest_6 21 rfl rfl)
theorem dX0_fewest_164 : decode cX0_fewest 164 = .ok (.istore 6, 2) := dk_54 6 (dk_at dksX0_fewest_7 0 rfl rfl)
theorem dX0_fewest_166 : decode cX0_fewest 166 = .ok (.iconst 0, 1) := dk_3 (dk_at dksX0_fewest_7 2 rfl rfl)
theorem dX0_fewest_167 : decode cX0_fewest 167 = .ok (.istore 7, 2) := dk_54 7 (dk_at dksX0_fewest_7 3 rfl rfl)
theorem dX0_fewest_169 : decode cX0_fewest 169 = .ok (.iload 7, 2) := dk_21 7 (dk_at dksX0_fewest_7 5 rfl rfl)
theorem dX0_fewest_171 : decode cX0_fewest 171 = .ok (.iload_n 3, 1) := dk_29 (dk_at dksX0_fewest_7 7 rfl rfl)
theorem dX0_fewest_172 : decode cX0_fewest 172 = .ok (.if_icmp .gt 41, 3) := dk_163 0 41 (dk_at dksX0_fewest_7 8 rfl rfl)
theorem dX0_fewest_175 : decode cX0_fewest 175 = .ok (.aload_n 0, 1) := dk_42 (dk_at dksX0_fewest_7 11 rfl rfl)
theorem dX0_fewest_176 : decode cX0_fewest 176 = .ok (.getfield 87, 3) := dk_180 0 87 (dk_at dksX0_fewest_7 12 rfl rfl)
theorem dX0_fewest_179 : decode cX0_fewest 179 = .ok (.iload 7, 2) := dk_21 7 (dk_at dksX0_fewest_7 15 rfl rfl)
theorem dX0_fewest_181 : decode cX0_fewest 181 = .ok (.iload 6, 2) := dk_21 6 (dk_at dksX0_fewest_7 17 rfl rfl)
theorem dX0_fewest_183 : decode cX0_fewest 183 = .ok (.ior, 1) := dk_128 (dk_at dksX0_fewest_7 19 rfl rfl)
theorem dX0_fewest_184 : decode cX0_fewest 184 = .ok (.aload_n 0, 1) := dk_42 (dk_at dksX0_fewest_7 20 rfl rfl)
theorem dX0_fewest_185 : decode cX0_fewest 185 = .ok (.getfield 87, 3) := dk_180 0 87 (dk_at dksX0_fewest_7 21 rfl rfl)
theorem dX0_fewest_188 : decode cX0_fewest 188 = .ok (.iload 7, 2) := dk_21 7 (dk_at dksX0_fewest_8 0 rfl rfl)
theorem dX0_fewest_190 : decode cX0_fewest 190 = .ok (.iload 6, 2) := dk_21 6 (dk_at dksX0_fewest_8 2 rfl rfl)
theorem dX0_fewest_192 : decode cX0_fewest 192 = .ok (.ior, 1) := dk_128 (dk_at dksX0_fewest_8 4 rfl rfl)
theorem dX0_fewest_193 : decode cX0_fewest 193 = .ok (.iaload, 1) := dk_46 (dk_at dksX0_fewest_8 5 rfl rfl)
theorem dX0_fewest_194 : decode cX0_fewest 194 = .ok (.aload_n 0, 1) := dk_42 (dk_at dksX0_fewest_8 6 rfl rfl)
theorem dX0_fewest_195 : decode cX0_fewest 195 = .ok (.getfield 83, 3) := dk_180 0 83 (dk_at dksX0_fewest_8 7 rfl rfl)
theorem dX0_fewest_198 : decode cX0_fewest 198 = .ok (.iload 7, 2) := dk_21 7 (dk_at dksX0_fewest_8 10 rfl rfl)
theorem dX0_fewest_200 : decode cX0_fewest 200 = .ok (.iaload, 1) := dk_46 (dk_at dksX0_fewest_8 12 rfl rfl)
theorem dX0_fewest_201 : decode cX0_fewest 201 = .ok (.iconst 1, 1) := dk_4 (dk_at dksX0_fewest_8 13 rfl rfl)
theorem dX0_fewest_202 : decode cX0_fewest 202 = .ok (.iadd, 1) := dk_96 (dk_at dksX0_fewest_8 14 rfl rfl)
theorem dX0_fewest_203 : decode cX0_fewest 203 = .ok (.invokestatic 336, 3) := dk_184 1 80 (dk_at dksX0_fewest_8 15 rfl rfl)
theorem dX0_fewest_206 : decode cX0_fewest 206 = .ok (.iastore, 1) := dk_79 (dk_at dksX0_fewest_8 18 rfl rfl)
theorem dX0_fewest_207 : decode cX0_fewest 207 = .ok (.iinc 7 1, 3) := dk_132 7 1 (dk_at dksX0_fewest_8 19 rfl rfl)
theorem dX0_fewest_210 : decode cX0_fewest 210 = .ok (.goto (-41), 3) := dk_167 255 215 (dk_at dksX0_fewest_9 0 rfl rfl)
theorem dX0_fewest_213 : decode cX0_fewest 213 = .ok (.iinc 5 1, 3) := dk_132 5 1 (dk_at dksX0_fewest_9 3 rfl rfl)
theorem dX0_fewest_216 : decode cX0_fewest 216 = .ok (.goto (-94), 3) := dk_167 255 162 (dk_at dksX0_fewest_9 6 rfl rfl)
theorem dX0_fewest_219 : decode cX0_fewest 219 = .ok (.aload_n 0, 1) := dk_42 (dk_at dksX0_fewest_9 9 rfl rfl)
theorem dX0_fewest_220 : decode cX0_fewest 220 = .ok (.getfield 87, 3) := dk_180 0 87 (dk_at dksX0_fewest_9 10 rfl rfl)
theorem dX0_fewest_223 : decode cX0_fewest 223 = .ok (.iconst 0, 1) := dk_3 (dk_at dksX0_fewest_9 13 rfl rfl)
theorem dX0_fewest_224 : decode cX0_fewest 224 = .ok (.aload_n 0, 1) := dk_42 (dk_at dksX0_fewest_9 14 rfl rfl)
theorem dX0_fewest_225 : decode cX0_fewest 225 = .ok (.getfield 83, 3) := dk_180 0 83 (dk_at dksX0_fewest_9 15 rfl rfl)
theorem dX0_fewest_228 : decode cX0_fewest 228 = .ok (.iconst 0, 1) := dk_3 (dk_at dksX0_fewest_9 18 rfl rfl)
theorem dX0_fewest_229 : decode cX0_fewest 229 = .ok (.iload_n 3, 1) := dk_29 (dk_at dksX0_fewest_9 19 rfl rfl)
theorem dX0_fewest_230 : decode cX0_fewest 230 = .ok (.iconst 1, 1) := dk_4 (dk_at dksX0_fewest_9 20 rfl rfl)
theorem dX0_fewest_231 : decode cX0_fewest 231 = .ok (.iadd, 1) := dk_96 (dk_at dksX0_fewest_9 21 rfl rfl)
theorem dX0_fewest_232 : decode cX0_fewest 232 = .ok (.invokestatic 350, 3) := dk_184 1 94 (dk_at dksX0_fewest_10 0 rfl rfl)
theorem dX0_fewest_235 : decode cX0_fewest 235 = .ok (.iinc 4 1, 3) := dk_132 4 1 (dk_at dksX0_fewest_10 3 rfl rfl)
theorem dX0_fewest_238 : decode cX0_fewest 238 = .ok (.goto (-174), 3) := dk_167 255 82 (dk_at dksX0_fewest_10 6 rfl rfl)
theorem dX0_fewest_241 : decode cX0_fewest 241 = .ok (.aload_n 0, 1) := dk_42 (dk_at dksX0_fewest_10 9 rfl rfl)
theorem dX0_fewest_242 : decode cX0_fewest 242 = .ok (.getfield 83, 3) := dk_180 0 83 (dk_at dksX0_fewest_10 10 rfl rfl)
theorem dX0_fewest_245 : decode cX0_fewest 245 = .ok (.iload_n 3, 1) := dk_29 (dk_at dksX0_fewest_10 13 rfl rfl)
theorem dX0_fewest_246 : decode cX0_fewest 246 = .ok (.iaload, 1) := dk_46 (dk_at dksX0_fewest_10 14 rfl rfl)
theorem dX0_fewest_247 : decode cX0_fewest 247 = .ok (.ldc_w 335, 3) := dk_19 1 79 (dk_at dksX0_fewest_10 15 rfl rfl)
theorem dX0_fewest_250 : decode cX0_fewest 250 = .ok (.if_icmp .lt 7, 3) := dk_161 0 7 (dk_at dksX0_fewest_10 18 rfl rfl)
theorem dX0_fewest_253 : decode cX0_fewest 253 = .ok (.iconst (-1), 1) := dk_2 (dk_at dksX0_fewest_10 21 rfl rfl)
theorem dX0_fewest_254 : decode cX0_fewest 254 = .ok (.goto 9, 3) := dk_167 0 9 (dk_at dksX0_fewest_11 0 rfl rfl)
theorem dX0_fewest_257 : decode cX0_fewest 257 = .ok (.aload_n 0, 1) := dk_42 (dk_at dksX0_fewest_11 3 rfl rfl)
theorem dX0_fewest_258 : decode cX0_fewest 258 = .ok (.getfield 83, 3) := dk_180 0 83 (dk_at dksX0_fewest_11 4 rfl rfl)
theorem dX0_fewest_261 : decode cX0_fewest 261 = .ok (.iload_n 3, 1) := dk_29 (dk_at dksX0_fewest_11 7 rfl rfl)
theorem dX0_fewest_262 : decode cX0_fewest 262 = .ok (.iaload, 1) := dk_46 (dk_at dksX0_fewest_11 8 rfl rfl)
theorem dX0_fewest_263 : decode cX0_fewest 263 = .ok (.ireturn, 1) := dk_172 (dk_at dksX0_fewest_11 9 rfl rfl)
abbrev cX0_tenOf : ByteArray := prog_1_method_37_code
def yX0_tenOf : MethodName := ⟨RX0, "tenOf", "(I)I"⟩
def dkwX0_tenOf_5 : List UInt8 := [4, 96, 181, 1, 88, 132, 4, 1, 167, 255, 204, 28, 172]
abbrev dktX0_tenOf_5 : List UInt8 := dkwX0_tenOf_5 ++ []
def dkwX0_tenOf_4 : List UInt8 := [180, 0, 71, 180, 1, 85, 42, 180, 0, 71, 180, 1, 88, 21, 4, 79, 42, 180, 0, 71, 89, 180, 1, 88]
abbrev dktX0_tenOf_4 : List UInt8 := dkwX0_tenOf_4 ++ dktX0_tenOf_5
def dkwX0_tenOf_3 : List UInt8 := [54, 4, 21, 4, 16, 16, 162, 0, 51, 29, 21, 4, 184, 1, 67, 154, 0, 6, 167, 0, 33, 42]
abbrev dktX0_tenOf_3 : List UInt8 := dkwX0_tenOf_3 ++ dktX0_tenOf_4
def dkwX0_tenOf_2 : List UInt8 := [62, 132, 4, 1, 167, 255, 226, 42, 180, 0, 71, 27, 42, 180, 0, 40, 180, 0, 146, 182, 1, 38, 3]
abbrev dktX0_tenOf_2 : List UInt8 := dkwX0_tenOf_2 ++ dktX0_tenOf_3
def dkwX0_tenOf_1 : List UInt8 := [28, 162, 0, 30, 29, 4, 42, 180, 0, 40, 180, 0, 163, 27, 21, 4, 182, 0, 249, 180, 0, 253, 120, 128]
abbrev dktX0_tenOf_1 : List UInt8 := dkwX0_tenOf_1 ++ dktX0_tenOf_2
def dkwX0_tenOf_0 : List UInt8 := [16, 10, 42, 180, 0, 40, 180, 0, 163, 27, 182, 0, 246, 184, 1, 80, 61, 3, 62, 3, 54, 4, 21, 4]
abbrev dktX0_tenOf_0 : List UInt8 := dkwX0_tenOf_0 ++ dktX0_tenOf_1
theorem dksX0_tenOf_0 : cX0_tenOf.data.toList.drop 0 = dktX0_tenOf_0 := by decide +kernel
theorem dksX0_tenOf_1 : cX0_tenOf.data.toList.drop 24 = dktX0_tenOf_1 := dk_seg dksX0_tenOf_0 24 rfl rfl
theorem dksX0_tenOf_2 : cX0_tenOf.data.toList.drop 48 = dktX0_tenOf_2 := dk_seg dksX0_tenOf_1 24 rfl rfl
theorem dksX0_tenOf_3 : cX0_tenOf.data.toList.drop 71 = dktX0_tenOf_3 := dk_seg dksX0_tenOf_2 23 rfl rfl
theorem dksX0_tenOf_4 : cX0_tenOf.data.toList.drop 93 = dktX0_tenOf_4 := dk_seg dksX0_tenOf_3 22 rfl rfl
theorem dksX0_tenOf_5 : cX0_tenOf.data.toList.drop 117 = dktX0_tenOf_5 := dk_seg dksX0_tenOf_4 24 rfl rfl
theorem dX0_tenOf_0 : decode cX0_tenOf 0 = .ok (.bipush 10, 2) := dk_16 10 (dk_at dksX0_tenOf_0 0 rfl rfl)
theorem dX0_tenOf_2 : decode cX0_tenOf 2 = .ok (.aload_n 0, 1) := dk_42 (dk_at dksX0_tenOf_0 2 rfl rfl)
theorem dX0_tenOf_3 : decode cX0_tenOf 3 = .ok (.getfield 40, 3) := dk_180 0 40 (dk_at dksX0_tenOf_0 3 rfl rfl)
theorem dX0_tenOf_6 : decode cX0_tenOf 6 = .ok (.getfield 163, 3) := dk_180 0 163 (dk_at dksX0_tenOf_0 6 rfl rfl)
theorem dX0_tenOf_9 : decode cX0_tenOf 9 = .ok (.iload_n 1, 1) := dk_27 (dk_at dksX0_tenOf_0 9 rfl rfl)
theorem dX0_tenOf_10 : decode cX0_tenOf 10 = .ok (.invokevirtual 246, 3) := dk_182 0 246 (dk_at dksX0_tenOf_0 10 rfl rfl)
theorem dX0_tenOf_13 : decode cX0_tenOf 13 = .ok (.invokestatic 336, 3) := dk_184 1 80 (dk_at dksX0_tenOf_0 13 rfl rfl)
theorem dX0_tenOf_16 : decode cX0_tenOf 16 = .ok (.istore_n 2, 1) := dk_61 (dk_at dksX0_tenOf_0 16 rfl rfl)
theorem dX0_tenOf_17 : decode cX0_tenOf 17 = .ok (.iconst 0, 1) := dk_3 (dk_at dksX0_tenOf_0 17 rfl rfl)
theorem dX0_tenOf_18 : decode cX0_tenOf 18 = .ok (.istore_n 3, 1) := dk_62 (dk_at dksX0_tenOf_0 18 rfl rfl)
theorem dX0_tenOf_19 : decode cX0_tenOf 19 = .ok (.iconst 0, 1) := dk_3 (dk_at dksX0_tenOf_0 19 rfl rfl)
theorem dX0_tenOf_20 : decode cX0_tenOf 20 = .ok (.istore 4, 2) := dk_54 4 (dk_at dksX0_tenOf_0 20 rfl rfl)
theorem dX0_tenOf_22 : decode cX0_tenOf 22 = .ok (.iload 4, 2) := dk_21 4 (dk_at dksX0_tenOf_0 22 rfl rfl)
theorem dX0_tenOf_24 : decode cX0_tenOf 24 = .ok (.iload_n 2, 1) := dk_28 (dk_at dksX0_tenOf_1 0 rfl rfl)
theorem dX0_tenOf_25 : decode cX0_tenOf 25 = .ok (.if_icmp .ge 30, 3) := dk_162 0 30 (dk_at dksX0_tenOf_1 1 rfl rfl)
theorem dX0_tenOf_28 : decode cX0_tenOf 28 = .ok (.iload_n 3, 1) := dk_29 (dk_at dksX0_tenOf_1 4 rfl rfl)
theorem dX0_tenOf_29 : decode cX0_tenOf 29 = .ok (.iconst 1, 1) := dk_4 (dk_at dksX0_tenOf_1 5 rfl rfl)
theorem dX0_tenOf_30 : decode cX0_tenOf 30 = .ok (.aload_n 0, 1) := dk_42 (dk_at dksX0_tenOf_1 6 rfl rfl)
theorem dX0_tenOf_31 : decode cX0_tenOf 31 = .ok (.getfield 40, 3) := dk_180 0 40 (dk_at dksX0_tenOf_1 7 rfl rfl)
theorem dX0_tenOf_34 : decode cX0_tenOf 34 = .ok (.getfield 163, 3) := dk_180 0 163 (dk_at dksX0_tenOf_1 10 rfl rfl)
theorem dX0_tenOf_37 : decode cX0_tenOf 37 = .ok (.iload_n 1, 1) := dk_27 (dk_at dksX0_tenOf_1 13 rfl rfl)
theorem dX0_tenOf_38 : decode cX0_tenOf 38 = .ok (.iload 4, 2) := dk_21 4 (dk_at dksX0_tenOf_1 14 rfl rfl)
theorem dX0_tenOf_40 : decode cX0_tenOf 40 = .ok (.invokevirtual 249, 3) := dk_182 0 249 (dk_at dksX0_tenOf_1 16 rfl rfl)
theorem dX0_tenOf_43 : decode cX0_tenOf 43 = .ok (.getfield 253, 3) := dk_180 0 253 (dk_at dksX0_tenOf_1 19 rfl rfl)
theorem dX0_tenOf_46 : decode cX0_tenOf 46 = .ok (.ishl, 1) := dk_120 (dk_at dksX0_tenOf_1 22 rfl rfl)
theorem dX0_tenOf_47 : decode cX0_tenOf 47 = .ok (.ior, 1) := dk_128 (dk_at dksX0_tenOf_1 23 rfl rfl)
theorem dX0_tenOf_48 : decode cX0_tenOf 48 = .ok (.istore_n 3, 1) := dk_62 (dk_at dksX0_tenOf_2 0 rfl rfl)
theorem dX0_tenOf_49 : decode cX0_tenOf 49 = .ok (.iinc 4 1, 3) := dk_132 4 1 (dk_at dksX0_tenOf_2 1 rfl rfl)
theorem dX0_tenOf_52 : decode cX0_tenOf 52 = .ok (.goto (-30), 3) := dk_167 255 226 (dk_at dksX0_tenOf_2 4 rfl rfl)
theorem dX0_tenOf_55 : decode cX0_tenOf 55 = .ok (.aload_n 0, 1) := dk_42 (dk_at dksX0_tenOf_2 7 rfl rfl)
theorem dX0_tenOf_56 : decode cX0_tenOf 56 = .ok (.getfield 71, 3) := dk_180 0 71 (dk_at dksX0_tenOf_2 8 rfl rfl)
theorem dX0_tenOf_59 : decode cX0_tenOf 59 = .ok (.iload_n 1, 1) := dk_27 (dk_at dksX0_tenOf_2 11 rfl rfl)
theorem dX0_tenOf_60 : decode cX0_tenOf 60 = .ok (.aload_n 0, 1) := dk_42 (dk_at dksX0_tenOf_2 12 rfl rfl)
theorem dX0_tenOf_61 : decode cX0_tenOf 61 = .ok (.getfield 40, 3) := dk_180 0 40 (dk_at dksX0_tenOf_2 13 rfl rfl)
theorem dX0_tenOf_64 : decode cX0_tenOf 64 = .ok (.getfield 146, 3) := dk_180 0 146 (dk_at dksX0_tenOf_2 16 rfl rfl)
theorem dX0_tenOf_67 : decode cX0_tenOf 67 = .ok (.invokevirtual 294, 3) := dk_182 1 38 (dk_at dksX0_tenOf_2 19 rfl rfl)
theorem dX0_tenOf_70 : decode cX0_tenOf 70 = .ok (.iconst 0, 1) := dk_3 (dk_at dksX0_tenOf_2 22 rfl rfl)
theorem dX0_tenOf_71 : decode cX0_tenOf 71 = .ok (.istore 4, 2) := dk_54 4 (dk_at dksX0_tenOf_3 0 rfl rfl)
theorem dX0_tenOf_73 : decode cX0_tenOf 73 = .ok (.iload 4, 2) := dk_21 4 (dk_at dksX0_tenOf_3 2 rfl rfl)
theorem dX0_tenOf_75 : decode cX0_tenOf 75 = .ok (.bipush 16, 2) := dk_16 16 (dk_at dksX0_tenOf_3 4 rfl rfl)
theorem dX0_tenOf_77 : decode cX0_tenOf 77 = .ok (.if_icmp .ge 51, 3) := dk_162 0 51 (dk_at dksX0_tenOf_3 6 rfl rfl)
theorem dX0_tenOf_80 : decode cX0_tenOf 80 = .ok (.iload_n 3, 1) := dk_29 (dk_at dksX0_tenOf_3 9 rfl rfl)
theorem dX0_tenOf_81 : decode cX0_tenOf 81 = .ok (.iload 4, 2) := dk_21 4 (dk_at dksX0_tenOf_3 10 rfl rfl)
theorem dX0_tenOf_83 : decode cX0_tenOf 83 = .ok (.invokestatic 323, 3) := dk_184 1 67 (dk_at dksX0_tenOf_3 12 rfl rfl)
theorem dX0_tenOf_86 : decode cX0_tenOf 86 = .ok (.ifCond .ne 6, 3) := dk_154 0 6 (dk_at dksX0_tenOf_3 15 rfl rfl)
theorem dX0_tenOf_89 : decode cX0_tenOf 89 = .ok (.goto 33, 3) := dk_167 0 33 (dk_at dksX0_tenOf_3 18 rfl rfl)
theorem dX0_tenOf_92 : decode cX0_tenOf 92 = .ok (.aload_n 0, 1) := dk_42 (dk_at dksX0_tenOf_3 21 rfl rfl)
theorem dX0_tenOf_93 : decode cX0_tenOf 93 = .ok (.getfield 71, 3) := dk_180 0 71 (dk_at dksX0_tenOf_4 0 rfl rfl)
theorem dX0_tenOf_96 : decode cX0_tenOf 96 = .ok (.getfield 341, 3) := dk_180 1 85 (dk_at dksX0_tenOf_4 3 rfl rfl)
theorem dX0_tenOf_99 : decode cX0_tenOf 99 = .ok (.aload_n 0, 1) := dk_42 (dk_at dksX0_tenOf_4 6 rfl rfl)
theorem dX0_tenOf_100 : decode cX0_tenOf 100 = .ok (.getfield 71, 3) := dk_180 0 71 (dk_at dksX0_tenOf_4 7 rfl rfl)
theorem dX0_tenOf_103 : decode cX0_tenOf 103 = .ok (.getfield 344, 3) := dk_180 1 88 (dk_at dksX0_tenOf_4 10 rfl rfl)
theorem dX0_tenOf_106 : decode cX0_tenOf 106 = .ok (.iload 4, 2) := dk_21 4 (dk_at dksX0_tenOf_4 13 rfl rfl)
theorem dX0_tenOf_108 : decode cX0_tenOf 108 = .ok (.iastore, 1) := dk_79 (dk_at dksX0_tenOf_4 15 rfl rfl)
theorem dX0_tenOf_109 : decode cX0_tenOf 109 = .ok (.aload_n 0, 1) := dk_42 (dk_at dksX0_tenOf_4 16 rfl rfl)
theorem dX0_tenOf_110 : decode cX0_tenOf 110 = .ok (.getfield 71, 3) := dk_180 0 71 (dk_at dksX0_tenOf_4 17 rfl rfl)
theorem dX0_tenOf_113 : decode cX0_tenOf 113 = .ok (.dup, 1) := dk_89 (dk_at dksX0_tenOf_4 20 rfl rfl)
theorem dX0_tenOf_114 : decode cX0_tenOf 114 = .ok (.getfield 344, 3) := dk_180 1 88 (dk_at dksX0_tenOf_4 21 rfl rfl)
theorem dX0_tenOf_117 : decode cX0_tenOf 117 = .ok (.iconst 1, 1) := dk_4 (dk_at dksX0_tenOf_5 0 rfl rfl)
theorem dX0_tenOf_118 : decode cX0_tenOf 118 = .ok (.iadd, 1) := dk_96 (dk_at dksX0_tenOf_5 1 rfl rfl)
theorem dX0_tenOf_119 : decode cX0_tenOf 119 = .ok (.putfield 344, 3) := dk_181 1 88 (dk_at dksX0_tenOf_5 2 rfl rfl)
theorem dX0_tenOf_122 : decode cX0_tenOf 122 = .ok (.iinc 4 1, 3) := dk_132 4 1 (dk_at dksX0_tenOf_5 5 rfl rfl)
theorem dX0_tenOf_125 : decode cX0_tenOf 125 = .ok (.goto (-52), 3) := dk_167 255 204 (dk_at dksX0_tenOf_5 8 rfl rfl)
theorem dX0_tenOf_128 : decode cX0_tenOf 128 = .ok (.iload_n 2, 1) := dk_28 (dk_at dksX0_tenOf_5 11 rfl rfl)
theorem dX0_tenOf_129 : decode cX0_tenOf 129 = .ok (.ireturn, 1) := dk_172 (dk_at dksX0_tenOf_5 12 rfl rfl)
abbrev cX0_covers : ByteArray := prog_1_method_38_code
def yX0_covers : MethodName := ⟨RX0, "covers", "(IIII)I"⟩
def dkwX0_covers_4 : List UInt8 := [167, 255, 195, 132, 6, 1, 167, 255, 165, 21, 5, 172]
abbrev dktX0_covers_4 : List UInt8 := dkwX0_covers_4 ++ []
def dkwX0_covers_3 : List UInt8 := [25, 7, 180, 1, 3, 21, 4, 161, 0, 12, 21, 5, 4, 21, 6, 120, 128, 54, 5, 132, 8, 1]
abbrev dktX0_covers_3 : List UInt8 := dkwX0_covers_3 ++ dktX0_covers_4
def dkwX0_covers_2 : List UInt8 := [184, 1, 67, 153, 0, 40, 42, 180, 0, 71, 180, 1, 85, 21, 8, 46, 25, 7, 180, 0, 253, 160, 0, 22]
abbrev dktX0_covers_2 : List UInt8 := dkwX0_covers_2 ++ dktX0_covers_3
def dkwX0_covers_1 : List UInt8 := [182, 0, 249, 58, 7, 3, 54, 8, 21, 8, 42, 180, 0, 71, 180, 1, 88, 162, 0, 55, 29, 21, 8]
abbrev dktX0_covers_1 : List UInt8 := dkwX0_covers_1 ++ dktX0_covers_2
def dkwX0_covers_0 : List UInt8 := [3, 54, 5, 3, 54, 6, 21, 6, 28, 162, 0, 91, 42, 180, 0, 40, 180, 0, 163, 27, 21, 6]
abbrev dktX0_covers_0 : List UInt8 := dkwX0_covers_0 ++ dktX0_covers_1
theorem dksX0_covers_0 : cX0_covers.data.toList.drop 0 = dktX0_covers_0 := by decide +kernel
theorem dksX0_covers_1 : cX0_covers.data.toList.drop 22 = dktX0_covers_1 := dk_seg dksX0_covers_0 22 rfl rfl
theorem dksX0_covers_2 : cX0_covers.data.toList.drop 45 = dktX0_covers_2 := dk_seg dksX0_covers_1 23 rfl rfl
theorem dksX0_covers_3 : cX0_covers.data.toList.drop 69 = dktX0_covers_3 := dk_seg dksX0_covers_2 24 rfl rfl
theorem dksX0_covers_4 : cX0_covers.data.toList.drop 91 = dktX0_covers_4 := dk_seg dksX0_covers_3 22 rfl rfl
theorem dX0_covers_0 : decode cX0_covers 0 = .ok (.iconst 0, 1) := dk_3 (dk_at dksX0_covers_0 0 rfl rfl)
theorem dX0_covers_1 : decode cX0_covers 1 = .ok (.istore 5, 2) := dk_54 5 (dk_at dksX0_covers_0 1 rfl rfl)
theorem dX0_covers_3 : decode cX0_covers 3 = .ok (.iconst 0, 1) := dk_3 (dk_at dksX0_covers_0 3 rfl rfl)
theorem dX0_covers_4 : decode cX0_covers 4 = .ok (.istore 6, 2) := dk_54 6 (dk_at dksX0_covers_0 4 rfl rfl)
theorem dX0_covers_6 : decode cX0_covers 6 = .ok (.iload 6, 2) := dk_21 6 (dk_at dksX0_covers_0 6 rfl rfl)
theorem dX0_covers_8 : decode cX0_covers 8 = .ok (.iload_n 2, 1) := dk_28 (dk_at dksX0_covers_0 8 rfl rfl)
theorem dX0_covers_9 : decode cX0_covers 9 = .ok (.if_icmp .ge 91, 3) := dk_162 0 91 (dk_at dksX0_covers_0 9 rfl rfl)
theorem dX0_covers_12 : decode cX0_covers 12 = .ok (.aload_n 0, 1) := dk_42 (dk_at dksX0_covers_0 12 rfl rfl)
theorem dX0_covers_13 : decode cX0_covers 13 = .ok (.getfield 40, 3) := dk_180 0 40 (dk_at dksX0_covers_0 13 rfl rfl)
theorem dX0_covers_16 : decode cX0_covers 16 = .ok (.getfield 163, 3) := dk_180 0 163 (dk_at dksX0_covers_0 16 rfl rfl)
theorem dX0_covers_19 : decode cX0_covers 19 = .ok (.iload_n 1, 1) := dk_27 (dk_at dksX0_covers_0 19 rfl rfl)
theorem dX0_covers_20 : decode cX0_covers 20 = .ok (.iload 6, 2) := dk_21 6 (dk_at dksX0_covers_0 20 rfl rfl)
theorem dX0_covers_22 : decode cX0_covers 22 = .ok (.invokevirtual 249, 3) := dk_182 0 249 (dk_at dksX0_covers_1 0 rfl rfl)
theorem dX0_covers_25 : decode cX0_covers 25 = .ok (.astore 7, 2) := dk_58 7 (dk_at dksX0_covers_1 3 rfl rfl)
theorem dX0_covers_27 : decode cX0_covers 27 = .ok (.iconst 0, 1) := dk_3 (dk_at dksX0_covers_1 5 rfl rfl)
theorem dX0_covers_28 : decode cX0_covers 28 = .ok (.istore 8, 2) := dk_54 8 (dk_at dksX0_covers_1 6 rfl rfl)
theorem dX0_covers_30 : decode cX0_covers 30 = .ok (.iload 8, 2) := dk_21 8 (dk_at dksX0_covers_1 8 rfl rfl)
theorem dX0_covers_32 : decode cX0_covers 32 = .ok (.aload_n 0, 1) := dk_42 (dk_at dksX0_covers_1 10 rfl rfl)
theorem dX0_covers_33 : decode cX0_covers 33 = .ok (.getfield 71, 3) := dk_180 0 71 (dk_at dksX0_covers_1 11 rfl rfl)
theorem dX0_covers_36 : decode cX0_covers 36 = .ok (.getfield 344, 3) := dk_180 1 88 (dk_at dksX0_covers_1 14 rfl rfl)
theorem dX0_covers_39 : decode cX0_covers 39 = .ok (.if_icmp .ge 55, 3) := dk_162 0 55 (dk_at dksX0_covers_1 17 rfl rfl)
theorem dX0_covers_42 : decode cX0_covers 42 = .ok (.iload_n 3, 1) := dk_29 (dk_at dksX0_covers_1 20 rfl rfl)
theorem dX0_covers_43 : decode cX0_covers 43 = .ok (.iload 8, 2) := dk_21 8 (dk_at dksX0_covers_1 21 rfl rfl)
theorem dX0_covers_45 : decode cX0_covers 45 = .ok (.invokestatic 323, 3) := dk_184 1 67 (dk_at dksX0_covers_2 0 rfl rfl)
theorem dX0_covers_48 : decode cX0_covers 48 = .ok (.ifCond .eq 40, 3) := dk_153 0 40 (dk_at dksX0_covers_2 3 rfl rfl)
theorem dX0_covers_51 : decode cX0_covers 51 = .ok (.aload_n 0, 1) := dk_42 (dk_at dksX0_covers_2 6 rfl rfl)
theorem dX0_covers_52 : decode cX0_covers 52 = .ok (.getfield 71, 3) := dk_180 0 71 (dk_at dksX0_covers_2 7 rfl rfl)
theorem dX0_covers_55 : decode cX0_covers 55 = .ok (.getfield 341, 3) := dk_180 1 85 (dk_at dksX0_covers_2 10 rfl rfl)
theorem dX0_covers_58 : decode cX0_covers 58 = .ok (.iload 8, 2) := dk_21 8 (dk_at dksX0_covers_2 13 rfl rfl)
theorem dX0_covers_60 : decode cX0_covers 60 = .ok (.iaload, 1) := dk_46 (dk_at dksX0_covers_2 15 rfl rfl)
theorem dX0_covers_61 : decode cX0_covers 61 = .ok (.aload 7, 2) := dk_25 7 (dk_at dksX0_covers_2 16 rfl rfl)
theorem dX0_covers_63 : decode cX0_covers 63 = .ok (.getfield 253, 3) := dk_180 0 253 (dk_at dksX0_covers_2 18 rfl rfl)
theorem dX0_covers_66 : decode cX0_covers 66 = .ok (.if_icmp .ne 22, 3) := dk_160 0 22 (dk_at dksX0_covers_2 21 rfl rfl)
theorem dX0_covers_69 : decode cX0_covers 69 = .ok (.aload 7, 2) := dk_25 7 (dk_at dksX0_covers_3 0 rfl rfl)
theorem dX0_covers_71 : decode cX0_covers 71 = .ok (.getfield 259, 3) := dk_180 1 3 (dk_at dksX0_covers_3 2 rfl rfl)
theorem dX0_covers_74 : decode cX0_covers 74 = .ok (.iload 4, 2) := dk_21 4 (dk_at dksX0_covers_3 5 rfl rfl)
theorem dX0_covers_76 : decode cX0_covers 76 = .ok (.if_icmp .lt 12, 3) := dk_161 0 12 (dk_at dksX0_covers_3 7 rfl rfl)
theorem dX0_covers_79 : decode cX0_covers 79 = .ok (.iload 5, 2) := dk_21 5 (dk_at dksX0_covers_3 10 rfl rfl)
theorem dX0_covers_81 : decode cX0_covers 81 = .ok (.iconst 1, 1) := dk_4 (dk_at dksX0_covers_3 12 rfl rfl)
theorem dX0_covers_82 : decode cX0_covers 82 = .ok (.iload 6, 2) := dk_21 6 (dk_at dksX0_covers_3 13 rfl rfl)
theorem dX0_covers_84 : decode cX0_covers 84 = .ok (.ishl, 1) := dk_120 (dk_at dksX0_covers_3 15 rfl rfl)
theorem dX0_covers_85 : decode cX0_covers 85 = .ok (.ior, 1) := dk_128 (dk_at dksX0_covers_3 16 rfl rfl)
theorem dX0_covers_86 : decode cX0_covers 86 = .ok (.istore 5, 2) := dk_54 5 (dk_at dksX0_covers_3 17 rfl rfl)
theorem dX0_covers_88 : decode cX0_covers 88 = .ok (.iinc 8 1, 3) := dk_132 8 1 (dk_at dksX0_covers_3 19 rfl rfl)
theorem dX0_covers_91 : decode cX0_covers 91 = .ok (.goto (-61), 3) := dk_167 255 195 (dk_at dksX0_covers_4 0 rfl rfl)
theorem dX0_covers_94 : decode cX0_covers 94 = .ok (.iinc 6 1, 3) := dk_132 6 1 (dk_at dksX0_covers_4 3 rfl rfl)
theorem dX0_covers_97 : decode cX0_covers 97 = .ok (.goto (-91), 3) := dk_167 255 165 (dk_at dksX0_covers_4 6 rfl rfl)
theorem dX0_covers_100 : decode cX0_covers 100 = .ok (.iload 5, 2) := dk_21 5 (dk_at dksX0_covers_4 9 rfl rfl)
theorem dX0_covers_102 : decode cX0_covers 102 = .ok (.ireturn, 1) := dk_172 (dk_at dksX0_covers_4 11 rfl rfl)
abbrev cX0_lost : ByteArray := prog_1_method_40_code
def yX0_lost : MethodName := ⟨RX0, "lost", "(I)I"⟩
def dkwX0_lost_6 : List UInt8 := [126, 62, 132, 5, 1, 167, 255, 177, 132, 4, 1, 167, 255, 136, 29, 172]
abbrev dktX0_lost_6 : List UInt8 := dkwX0_lost_6 ++ []
def dkwX0_lost_5 : List UInt8 := [182, 1, 72, 25, 6, 180, 0, 253, 182, 1, 76, 19, 1, 79, 159, 0, 12, 29, 4, 21, 5, 120, 2, 130]
abbrev dktX0_lost_5 : List UInt8 := dkwX0_lost_5 ++ dktX0_lost_6
def dkwX0_lost_4 : List UInt8 := [21, 4, 161, 0, 48, 42, 180, 0, 71, 3, 42, 27, 182, 0, 149, 42, 25, 6, 180, 0, 253, 182, 0, 149]
abbrev dktX0_lost_4 : List UInt8 := dkwX0_lost_4 ++ dktX0_lost_5
def dkwX0_lost_3 : List UInt8 := [162, 0, 79, 42, 180, 0, 40, 180, 0, 163, 27, 21, 5, 182, 0, 249, 58, 6, 25, 6, 180, 1, 3]
abbrev dktX0_lost_3 : List UInt8 := dkwX0_lost_3 ++ dktX0_lost_4
def dkwX0_lost_2 : List UInt8 := [21, 4, 17, 1, 143, 163, 0, 103, 42, 180, 0, 71, 21, 4, 181, 1, 93, 3, 54, 5, 21, 5, 28]
abbrev dktX0_lost_2 : List UInt8 := dkwX0_lost_2 ++ dktX0_lost_3
def dkwX0_lost_1 : List UInt8 := [180, 0, 40, 180, 0, 146, 54, 4, 21, 4, 42, 180, 0, 40, 180, 0, 146, 16, 7, 96, 162, 0, 111]
abbrev dktX0_lost_1 : List UInt8 := dkwX0_lost_1 ++ dktX0_lost_2
def dkwX0_lost_0 : List UInt8 := [42, 27, 182, 0, 137, 154, 0, 6, 16, 254, 172, 42, 27, 182, 1, 90, 61, 4, 28, 120, 4, 100, 62, 42]
abbrev dktX0_lost_0 : List UInt8 := dkwX0_lost_0 ++ dktX0_lost_1
theorem dksX0_lost_0 : cX0_lost.data.toList.drop 0 = dktX0_lost_0 := by decide +kernel
theorem dksX0_lost_1 : cX0_lost.data.toList.drop 24 = dktX0_lost_1 := dk_seg dksX0_lost_0 24 rfl rfl
theorem dksX0_lost_2 : cX0_lost.data.toList.drop 47 = dktX0_lost_2 := dk_seg dksX0_lost_1 23 rfl rfl
theorem dksX0_lost_3 : cX0_lost.data.toList.drop 70 = dktX0_lost_3 := dk_seg dksX0_lost_2 23 rfl rfl
theorem dksX0_lost_4 : cX0_lost.data.toList.drop 93 = dktX0_lost_4 := dk_seg dksX0_lost_3 23 rfl rfl
theorem dksX0_lost_5 : cX0_lost.data.toList.drop 117 = dktX0_lost_5 := dk_seg dksX0_lost_4 24 rfl rfl
theorem dksX0_lost_6 : cX0_lost.data.toList.drop 141 = dktX0_lost_6 := dk_seg dksX0_lost_5 24 rfl rfl
theorem dX0_lost_0 : decode cX0_lost 0 = .ok (.aload_n 0, 1) := dk_42 (dk_at dksX0_lost_0 0 rfl rfl)
theorem dX0_lost_1 : decode cX0_lost 1 = .ok (.iload_n 1, 1) := dk_27 (dk_at dksX0_lost_0 1 rfl rfl)
theorem dX0_lost_2 : decode cX0_lost 2 = .ok (.invokevirtual 137, 3) := dk_182 0 137 (dk_at dksX0_lost_0 2 rfl rfl)
theorem dX0_lost_5 : decode cX0_lost 5 = .ok (.ifCond .ne 6, 3) := dk_154 0 6 (dk_at dksX0_lost_0 5 rfl rfl)
theorem dX0_lost_8 : decode cX0_lost 8 = .ok (.bipush (-2), 2) := dk_16 254 (dk_at dksX0_lost_0 8 rfl rfl)
theorem dX0_lost_10 : decode cX0_lost 10 = .ok (.ireturn, 1) := dk_172 (dk_at dksX0_lost_0 10 rfl rfl)
theorem dX0_lost_11 : decode cX0_lost 11 = .ok (.aload_n 0, 1) := dk_42 (dk_at dksX0_lost_0 11 rfl rfl)
theorem dX0_lost_12 : decode cX0_lost 12 = .ok (.iload_n 1, 1) := dk_27 (dk_at dksX0_lost_0 12 rfl rfl)
theorem dX0_lost_13 : decode cX0_lost 13 = .ok (.invokevirtual 346, 3) := dk_182 1 90 (dk_at dksX0_lost_0 13 rfl rfl)
theorem dX0_lost_16 : decode cX0_lost 16 = .ok (.istore_n 2, 1) := dk_61 (dk_at dksX0_lost_0 16 rfl rfl)
theorem dX0_lost_17 : decode cX0_lost 17 = .ok (.iconst 1, 1) := dk_4 (dk_at dksX0_lost_0 17 rfl rfl)
theorem dX0_lost_18 : decode cX0_lost 18 = .ok (.iload_n 2, 1) := dk_28 (dk_at dksX0_lost_0 18 rfl rfl)
theorem dX0_lost_19 : decode cX0_lost 19 = .ok (.ishl, 1) := dk_120 (dk_at dksX0_lost_0 19 rfl rfl)
theorem dX0_lost_20 : decode cX0_lost 20 = .ok (.iconst 1, 1) := dk_4 (dk_at dksX0_lost_0 20 rfl rfl)
theorem dX0_lost_21 : decode cX0_lost 21 = .ok (.isub, 1) := dk_100 (dk_at dksX0_lost_0 21 rfl rfl)
theorem dX0_lost_22 : decode cX0_lost 22 = .ok (.istore_n 3, 1) := dk_62 (dk_at dksX0_lost_0 22 rfl rfl)
theorem dX0_lost_23 : decode cX0_lost 23 = .ok (.aload_n 0, 1) := dk_42 (dk_at dksX0_lost_0 23 rfl rfl)
theorem dX0_lost_24 : decode cX0_lost 24 = .ok (.getfield 40, 3) := dk_180 0 40 (dk_at dksX0_lost_1 0 rfl rfl)
theorem dX0_lost_27 : decode cX0_lost 27 = .ok (.getfield 146, 3) := dk_180 0 146 (dk_at dksX0_lost_1 3 rfl rfl)
theorem dX0_lost_30 : decode cX0_lost 30 = .ok (.istore 4, 2) := dk_54 4 (dk_at dksX0_lost_1 6 rfl rfl)
theorem dX0_lost_32 : decode cX0_lost 32 = .ok (.iload 4, 2) := dk_21 4 (dk_at dksX0_lost_1 8 rfl rfl)
theorem dX0_lost_34 : decode cX0_lost 34 = .ok (.aload_n 0, 1) := dk_42 (dk_at dksX0_lost_1 10 rfl rfl)
theorem dX0_lost_35 : decode cX0_lost 35 = .ok (.getfield 40, 3) := dk_180 0 40 (dk_at dksX0_lost_1 11 rfl rfl)
theorem dX0_lost_38 : decode cX0_lost 38 = .ok (.getfield 146, 3) := dk_180 0 146 (dk_at dksX0_lost_1 14 rfl rfl)
theorem dX0_lost_41 : decode cX0_lost 41 = .ok (.bipush 7, 2) := dk_16 7 (dk_at dksX0_lost_1 17 rfl rfl)
theorem dX0_lost_43 : decode cX0_lost 43 = .ok (.iadd, 1) := dk_96 (dk_at dksX0_lost_1 19 rfl rfl)
theorem dX0_lost_44 : decode cX0_lost 44 = .ok (.if_icmp .ge 111, 3) := dk_162 0 111 (dk_at dksX0_lost_1 20 rfl rfl)
theorem dX0_lost_47 : decode cX0_lost 47 = .ok (.iload 4, 2) := dk_21 4 (dk_at dksX0_lost_2 0 rfl rfl)
theorem dX0_lost_49 : decode cX0_lost 49 = .ok (.sipush 399, 3) := dk_17 1 143 (dk_at dksX0_lost_2 2 rfl rfl)
theorem dX0_lost_52 : decode cX0_lost 52 = .ok (.if_icmp .gt 103, 3) := dk_163 0 103 (dk_at dksX0_lost_2 5 rfl rfl)
theorem dX0_lost_55 : decode cX0_lost 55 = .ok (.aload_n 0, 1) := dk_42 (dk_at dksX0_lost_2 8 rfl rfl)
theorem dX0_lost_56 : decode cX0_lost 56 = .ok (.getfield 71, 3) := dk_180 0 71 (dk_at dksX0_lost_2 9 rfl rfl)
theorem dX0_lost_59 : decode cX0_lost 59 = .ok (.iload 4, 2) := dk_21 4 (dk_at dksX0_lost_2 12 rfl rfl)
theorem dX0_lost_61 : decode cX0_lost 61 = .ok (.putfield 349, 3) := dk_181 1 93 (dk_at dksX0_lost_2 14 rfl rfl)
theorem dX0_lost_64 : decode cX0_lost 64 = .ok (.iconst 0, 1) := dk_3 (dk_at dksX0_lost_2 17 rfl rfl)
theorem dX0_lost_65 : decode cX0_lost 65 = .ok (.istore 5, 2) := dk_54 5 (dk_at dksX0_lost_2 18 rfl rfl)
theorem dX0_lost_67 : decode cX0_lost 67 = .ok (.iload 5, 2) := dk_21 5 (dk_at dksX0_lost_2 20 rfl rfl)
theorem dX0_lost_69 : decode cX0_lost 69 = .ok (.iload_n 2, 1) := dk_28 (dk_at dksX0_lost_2 22 rfl rfl)
theorem dX0_lost_70 : decode cX0_lost 70 = .ok (.if_icmp .ge 79, 3) := dk_162 0 79 (dk_at dksX0_lost_3 0 rfl rfl)
theorem dX0_lost_73 : decode cX0_lost 73 = .ok (.aload_n 0, 1) := dk_42 (dk_at dksX0_lost_3 3 rfl rfl)
theorem dX0_lost_74 : decode cX0_lost 74 = .ok (.getfield 40, 3) := dk_180 0 40 (dk_at dksX0_lost_3 4 rfl rfl)
theorem dX0_lost_77 : decode cX0_lost 77 = .ok (.getfield 163, 3) := dk_180 0 163 (dk_at dksX0_lost_3 7 rfl rfl)
theorem dX0_lost_80 : decode cX0_lost 80 = .ok (.iload_n 1, 1) := dk_27 (dk_at dksX0_lost_3 10 rfl rfl)
theorem dX0_lost_81 : decode cX0_lost 81 = .ok (.iload 5, 2) := dk_21 5 (dk_at dksX0_lost_3 11 rfl rfl)
theorem dX0_lost_83 : decode cX0_lost 83 = .ok (.invokevirtual 249, 3) := dk_182 0 249 (dk_at dksX0_lost_3 13 rfl rfl)
theorem dX0_lost_86 : decode cX0_lost 86 = .ok (.astore 6, 2) := dk_58 6 (dk_at dksX0_lost_3 16 rfl rfl)
theorem dX0_lost_88 : decode cX0_lost 88 = .ok (.aload 6, 2) := dk_25 6 (dk_at dksX0_lost_3 18 rfl rfl)
theorem dX0_lost_90 : decode cX0_lost 90 = .ok (.getfield 259, 3) := dk_180 1 3 (dk_at dksX0_lost_3 20 rfl rfl)
theorem dX0_lost_93 : decode cX0_lost 93 = .ok (.iload 4, 2) := dk_21 4 (dk_at dksX0_lost_4 0 rfl rfl)
theorem dX0_lost_95 : decode cX0_lost 95 = .ok (.if_icmp .lt 48, 3) := dk_161 0 48 (dk_at dksX0_lost_4 2 rfl rfl)
theorem dX0_lost_98 : decode cX0_lost 98 = .ok (.aload_n 0, 1) := dk_42 (dk_at dksX0_lost_4 5 rfl rfl)
theorem dX0_lost_99 : decode cX0_lost 99 = .ok (.getfield 71, 3) := dk_180 0 71 (dk_at dksX0_lost_4 6 rfl rfl)
theorem dX0_lost_102 : decode cX0_lost 102 = .ok (.iconst 0, 1) := dk_3 (dk_at dksX0_lost_4 9 rfl rfl)
theorem dX0_lost_103 : decode cX0_lost 103 = .ok (.aload_n 0, 1) := dk_42 (dk_at dksX0_lost_4 10 rfl rfl)
theorem dX0_lost_104 : decode cX0_lost 104 = .ok (.iload_n 1, 1) := dk_27 (dk_at dksX0_lost_4 11 rfl rfl)
theorem dX0_lost_105 : decode cX0_lost 105 = .ok (.invokevirtual 149, 3) := dk_182 0 149 (dk_at dksX0_lost_4 12 rfl rfl)
theorem dX0_lost_108 : decode cX0_lost 108 = .ok (.aload_n 0, 1) := dk_42 (dk_at dksX0_lost_4 15 rfl rfl)
theorem dX0_lost_109 : decode cX0_lost 109 = .ok (.aload 6, 2) := dk_25 6 (dk_at dksX0_lost_4 16 rfl rfl)
theorem dX0_lost_111 : decode cX0_lost 111 = .ok (.getfield 253, 3) := dk_180 0 253 (dk_at dksX0_lost_4 18 rfl rfl)
theorem dX0_lost_114 : decode cX0_lost 114 = .ok (.invokevirtual 149, 3) := dk_182 0 149 (dk_at dksX0_lost_4 21 rfl rfl)
theorem dX0_lost_117 : decode cX0_lost 117 = .ok (.invokevirtual 328, 3) := dk_182 1 72 (dk_at dksX0_lost_5 0 rfl rfl)
theorem dX0_lost_120 : decode cX0_lost 120 = .ok (.aload 6, 2) := dk_25 6 (dk_at dksX0_lost_5 3 rfl rfl)
theorem dX0_lost_122 : decode cX0_lost 122 = .ok (.getfield 253, 3) := dk_180 0 253 (dk_at dksX0_lost_5 5 rfl rfl)
theorem dX0_lost_125 : decode cX0_lost 125 = .ok (.invokevirtual 332, 3) := dk_182 1 76 (dk_at dksX0_lost_5 8 rfl rfl)
theorem dX0_lost_128 : decode cX0_lost 128 = .ok (.ldc_w 335, 3) := dk_19 1 79 (dk_at dksX0_lost_5 11 rfl rfl)
theorem dX0_lost_131 : decode cX0_lost 131 = .ok (.if_icmp .eq 12, 3) := dk_159 0 12 (dk_at dksX0_lost_5 14 rfl rfl)
theorem dX0_lost_134 : decode cX0_lost 134 = .ok (.iload_n 3, 1) := dk_29 (dk_at dksX0_lost_5 17 rfl rfl)
theorem dX0_lost_135 : decode cX0_lost 135 = .ok (.iconst 1, 1) := dk_4 (dk_at dksX0_lost_5 18 rfl rfl)
theorem dX0_lost_136 : decode cX0_lost 136 = .ok (.iload 5, 2) := dk_21 5 (dk_at dksX0_lost_5 19 rfl rfl)
theorem dX0_lost_138 : decode cX0_lost 138 = .ok (.ishl, 1) := dk_120 (dk_at dksX0_lost_5 21 rfl rfl)
theorem dX0_lost_139 : decode cX0_lost 139 = .ok (.iconst (-1), 1) := dk_2 (dk_at dksX0_lost_5 22 rfl rfl)
theorem dX0_lost_140 : decode cX0_lost 140 = .ok (.ixor, 1) := dk_130 (dk_at dksX0_lost_5 23 rfl rfl)
theorem dX0_lost_141 : decode cX0_lost 141 = .ok (.iand, 1) := dk_126 (dk_at dksX0_lost_6 0 rfl rfl)
theorem dX0_lost_142 : decode cX0_lost 142 = .ok (.istore_n 3, 1) := dk_62 (dk_at dksX0_lost_6 1 rfl rfl)
theorem dX0_lost_143 : decode cX0_lost 143 = .ok (.iinc 5 1, 3) := dk_132 5 1 (dk_at dksX0_lost_6 2 rfl rfl)
theorem dX0_lost_146 : decode cX0_lost 146 = .ok (.goto (-79), 3) := dk_167 255 177 (dk_at dksX0_lost_6 5 rfl rfl)
theorem dX0_lost_149 : decode cX0_lost 149 = .ok (.iinc 4 1, 3) := dk_132 4 1 (dk_at dksX0_lost_6 8 rfl rfl)
theorem dX0_lost_152 : decode cX0_lost 152 = .ok (.goto (-120), 3) := dk_167 255 136 (dk_at dksX0_lost_6 11 rfl rfl)
theorem dX0_lost_155 : decode cX0_lost 155 = .ok (.iload_n 3, 1) := dk_29 (dk_at dksX0_lost_6 14 rfl rfl)
theorem dX0_lost_156 : decode cX0_lost 156 = .ok (.ireturn, 1) := dk_172 (dk_at dksX0_lost_6 15 rfl rfl)
abbrev cX0_soon : ByteArray := prog_1_method_44_code
def yX0_soon : MethodName := ⟨RX0, "soon", "(II)I"⟩
def dkwX0_soon_1 : List UInt8 := [160, 0, 7, 2, 167, 0, 4, 29, 172]
abbrev dktX0_soon_1 : List UInt8 := dkwX0_soon_1 ++ []
def dkwX0_soon_0 : List UInt8 := [42, 27, 28, 182, 0, 194, 154, 0, 6, 16, 254, 172, 42, 27, 28, 182, 1, 113, 62, 29, 19, 1, 79]
abbrev dktX0_soon_0 : List UInt8 := dkwX0_soon_0 ++ dktX0_soon_1
theorem dksX0_soon_0 : cX0_soon.data.toList.drop 0 = dktX0_soon_0 := by decide +kernel
theorem dksX0_soon_1 : cX0_soon.data.toList.drop 23 = dktX0_soon_1 := dk_seg dksX0_soon_0 23 rfl rfl
theorem dX0_soon_0 : decode cX0_soon 0 = .ok (.aload_n 0, 1) := dk_42 (dk_at dksX0_soon_0 0 rfl rfl)
theorem dX0_soon_1 : decode cX0_soon 1 = .ok (.iload_n 1, 1) := dk_27 (dk_at dksX0_soon_0 1 rfl rfl)
theorem dX0_soon_2 : decode cX0_soon 2 = .ok (.iload_n 2, 1) := dk_28 (dk_at dksX0_soon_0 2 rfl rfl)
theorem dX0_soon_3 : decode cX0_soon 3 = .ok (.invokevirtual 194, 3) := dk_182 0 194 (dk_at dksX0_soon_0 3 rfl rfl)
theorem dX0_soon_6 : decode cX0_soon 6 = .ok (.ifCond .ne 6, 3) := dk_154 0 6 (dk_at dksX0_soon_0 6 rfl rfl)
theorem dX0_soon_9 : decode cX0_soon 9 = .ok (.bipush (-2), 2) := dk_16 254 (dk_at dksX0_soon_0 9 rfl rfl)
theorem dX0_soon_11 : decode cX0_soon 11 = .ok (.ireturn, 1) := dk_172 (dk_at dksX0_soon_0 11 rfl rfl)
theorem dX0_soon_12 : decode cX0_soon 12 = .ok (.aload_n 0, 1) := dk_42 (dk_at dksX0_soon_0 12 rfl rfl)
theorem dX0_soon_13 : decode cX0_soon 13 = .ok (.iload_n 1, 1) := dk_27 (dk_at dksX0_soon_0 13 rfl rfl)
theorem dX0_soon_14 : decode cX0_soon 14 = .ok (.iload_n 2, 1) := dk_28 (dk_at dksX0_soon_0 14 rfl rfl)
theorem dX0_soon_15 : decode cX0_soon 15 = .ok (.invokevirtual 369, 3) := dk_182 1 113 (dk_at dksX0_soon_0 15 rfl rfl)
theorem dX0_soon_18 : decode cX0_soon 18 = .ok (.istore_n 3, 1) := dk_62 (dk_at dksX0_soon_0 18 rfl rfl)
theorem dX0_soon_19 : decode cX0_soon 19 = .ok (.iload_n 3, 1) := dk_29 (dk_at dksX0_soon_0 19 rfl rfl)
theorem dX0_soon_20 : decode cX0_soon 20 = .ok (.ldc_w 335, 3) := dk_19 1 79 (dk_at dksX0_soon_0 20 rfl rfl)
theorem dX0_soon_23 : decode cX0_soon 23 = .ok (.if_icmp .ne 7, 3) := dk_160 0 7 (dk_at dksX0_soon_1 0 rfl rfl)
theorem dX0_soon_26 : decode cX0_soon 26 = .ok (.iconst (-1), 1) := dk_2 (dk_at dksX0_soon_1 3 rfl rfl)
theorem dX0_soon_27 : decode cX0_soon 27 = .ok (.goto 4, 3) := dk_167 0 4 (dk_at dksX0_soon_1 4 rfl rfl)
theorem dX0_soon_30 : decode cX0_soon 30 = .ok (.iload_n 3, 1) := dk_29 (dk_at dksX0_soon_1 7 rfl rfl)
theorem dX0_soon_31 : decode cX0_soon 31 = .ok (.ireturn, 1) := dk_172 (dk_at dksX0_soon_1 8 rfl rfl)
abbrev cX0_soonest : ByteArray := prog_1_method_43_code
def yX0_soonest : MethodName := ⟨RX0, "soonest", "(II)I"⟩
def dkwX0_soonest_1 : List UInt8 := [42, 27, 28, 42, 180, 0, 40, 180, 0, 163, 180, 0, 175, 27, 46, 182, 1, 110, 172]
abbrev dktX0_soonest_1 : List UInt8 := dkwX0_soonest_1 ++ []
def dkwX0_soonest_0 : List UInt8 := [3, 62, 29, 42, 180, 0, 91, 190, 162, 0, 16, 42, 180, 0, 91, 29, 2, 79, 132, 3, 1, 167, 255, 237]
abbrev dktX0_soonest_0 : List UInt8 := dkwX0_soonest_0 ++ dktX0_soonest_1
theorem dksX0_soonest_0 : cX0_soonest.data.toList.drop 0 = dktX0_soonest_0 := by decide +kernel
theorem dksX0_soonest_1 : cX0_soonest.data.toList.drop 24 = dktX0_soonest_1 := dk_seg dksX0_soonest_0 24 rfl rfl
theorem dX0_soonest_0 : decode cX0_soonest 0 = .ok (.iconst 0, 1) := dk_3 (dk_at dksX0_soonest_0 0 rfl rfl)
theorem dX0_soonest_1 : decode cX0_soonest 1 = .ok (.istore_n 3, 1) := dk_62 (dk_at dksX0_soonest_0 1 rfl rfl)
theorem dX0_soonest_2 : decode cX0_soonest 2 = .ok (.iload_n 3, 1) := dk_29 (dk_at dksX0_soonest_0 2 rfl rfl)
theorem dX0_soonest_3 : decode cX0_soonest 3 = .ok (.aload_n 0, 1) := dk_42 (dk_at dksX0_soonest_0 3 rfl rfl)
theorem dX0_soonest_4 : decode cX0_soonest 4 = .ok (.getfield 91, 3) := dk_180 0 91 (dk_at dksX0_soonest_0 4 rfl rfl)
theorem dX0_soonest_7 : decode cX0_soonest 7 = .ok (.arraylength, 1) := dk_190 (dk_at dksX0_soonest_0 7 rfl rfl)
theorem dX0_soonest_8 : decode cX0_soonest 8 = .ok (.if_icmp .ge 16, 3) := dk_162 0 16 (dk_at dksX0_soonest_0 8 rfl rfl)
theorem dX0_soonest_11 : decode cX0_soonest 11 = .ok (.aload_n 0, 1) := dk_42 (dk_at dksX0_soonest_0 11 rfl rfl)
theorem dX0_soonest_12 : decode cX0_soonest 12 = .ok (.getfield 91, 3) := dk_180 0 91 (dk_at dksX0_soonest_0 12 rfl rfl)
theorem dX0_soonest_15 : decode cX0_soonest 15 = .ok (.iload_n 3, 1) := dk_29 (dk_at dksX0_soonest_0 15 rfl rfl)
theorem dX0_soonest_16 : decode cX0_soonest 16 = .ok (.iconst (-1), 1) := dk_2 (dk_at dksX0_soonest_0 16 rfl rfl)
theorem dX0_soonest_17 : decode cX0_soonest 17 = .ok (.iastore, 1) := dk_79 (dk_at dksX0_soonest_0 17 rfl rfl)
theorem dX0_soonest_18 : decode cX0_soonest 18 = .ok (.iinc 3 1, 3) := dk_132 3 1 (dk_at dksX0_soonest_0 18 rfl rfl)
theorem dX0_soonest_21 : decode cX0_soonest 21 = .ok (.goto (-19), 3) := dk_167 255 237 (dk_at dksX0_soonest_0 21 rfl rfl)
theorem dX0_soonest_24 : decode cX0_soonest 24 = .ok (.aload_n 0, 1) := dk_42 (dk_at dksX0_soonest_1 0 rfl rfl)
theorem dX0_soonest_25 : decode cX0_soonest 25 = .ok (.iload_n 1, 1) := dk_27 (dk_at dksX0_soonest_1 1 rfl rfl)
theorem dX0_soonest_26 : decode cX0_soonest 26 = .ok (.iload_n 2, 1) := dk_28 (dk_at dksX0_soonest_1 2 rfl rfl)
theorem dX0_soonest_27 : decode cX0_soonest 27 = .ok (.aload_n 0, 1) := dk_42 (dk_at dksX0_soonest_1 3 rfl rfl)
theorem dX0_soonest_28 : decode cX0_soonest 28 = .ok (.getfield 40, 3) := dk_180 0 40 (dk_at dksX0_soonest_1 4 rfl rfl)
theorem dX0_soonest_31 : decode cX0_soonest 31 = .ok (.getfield 163, 3) := dk_180 0 163 (dk_at dksX0_soonest_1 7 rfl rfl)
theorem dX0_soonest_34 : decode cX0_soonest 34 = .ok (.getfield 175, 3) := dk_180 0 175 (dk_at dksX0_soonest_1 10 rfl rfl)
theorem dX0_soonest_37 : decode cX0_soonest 37 = .ok (.iload_n 1, 1) := dk_27 (dk_at dksX0_soonest_1 13 rfl rfl)
theorem dX0_soonest_38 : decode cX0_soonest 38 = .ok (.iaload, 1) := dk_46 (dk_at dksX0_soonest_1 14 rfl rfl)
theorem dX0_soonest_39 : decode cX0_soonest 39 = .ok (.invokevirtual 366, 3) := dk_182 1 110 (dk_at dksX0_soonest_1 15 rfl rfl)
theorem dX0_soonest_42 : decode cX0_soonest 42 = .ok (.ireturn, 1) := dk_172 (dk_at dksX0_soonest_1 18 rfl rfl)
abbrev cX0_callsFrom : ByteArray := prog_1_method_41_code
def yX0_callsFrom : MethodName := ⟨RX0, "callsFrom", "(III)I"⟩
def dkwX0_callsFrom_4 : List UInt8 := [19, 1, 79, 21, 4, 184, 1, 80, 79, 42, 180, 0, 91, 29, 46, 172]
abbrev dktX0_callsFrom_4 : List UInt8 := dkwX0_callsFrom_4 ++ []
def dkwX0_callsFrom_3 : List UInt8 := [120, 128, 182, 1, 110, 96, 184, 1, 80, 54, 4, 132, 5, 1, 167, 255, 206, 42, 180, 0, 91, 29]
abbrev dktX0_callsFrom_3 : List UInt8 := dkwX0_callsFrom_3 ++ dktX0_callsFrom_4
def dkwX0_callsFrom_2 : List UInt8 := [162, 0, 41, 42, 27, 21, 5, 29, 182, 1, 107, 153, 0, 24, 21, 4, 4, 42, 27, 28, 29, 4, 21, 5]
abbrev dktX0_callsFrom_2 : List UInt8 := dkwX0_callsFrom_2 ++ dktX0_callsFrom_3
def dkwX0_callsFrom_1 : List UInt8 := [29, 46, 172, 19, 1, 79, 54, 4, 3, 54, 5, 21, 5, 42, 180, 0, 40, 180, 0, 116, 182, 0, 120]
abbrev dktX0_callsFrom_1 : List UInt8 := dkwX0_callsFrom_1 ++ dktX0_callsFrom_2
def dkwX0_callsFrom_0 : List UInt8 := [29, 28, 184, 1, 67, 153, 0, 5, 3, 172, 42, 180, 0, 91, 29, 46, 2, 159, 0, 10, 42, 180, 0, 91]
abbrev dktX0_callsFrom_0 : List UInt8 := dkwX0_callsFrom_0 ++ dktX0_callsFrom_1
theorem dksX0_callsFrom_0 : cX0_callsFrom.data.toList.drop 0 = dktX0_callsFrom_0 := by decide +kernel
theorem dksX0_callsFrom_1 : cX0_callsFrom.data.toList.drop 24 = dktX0_callsFrom_1 := dk_seg dksX0_callsFrom_0 24 rfl rfl
theorem dksX0_callsFrom_2 : cX0_callsFrom.data.toList.drop 47 = dktX0_callsFrom_2 := dk_seg dksX0_callsFrom_1 23 rfl rfl
theorem dksX0_callsFrom_3 : cX0_callsFrom.data.toList.drop 71 = dktX0_callsFrom_3 := dk_seg dksX0_callsFrom_2 24 rfl rfl
theorem dksX0_callsFrom_4 : cX0_callsFrom.data.toList.drop 93 = dktX0_callsFrom_4 := dk_seg dksX0_callsFrom_3 22 rfl rfl
theorem dX0_callsFrom_0 : decode cX0_callsFrom 0 = .ok (.iload_n 3, 1) := dk_29 (dk_at dksX0_callsFrom_0 0 rfl rfl)
theorem dX0_callsFrom_1 : decode cX0_callsFrom 1 = .ok (.iload_n 2, 1) := dk_28 (dk_at dksX0_callsFrom_0 1 rfl rfl)
theorem dX0_callsFrom_2 : decode cX0_callsFrom 2 = .ok (.invokestatic 323, 3) := dk_184 1 67 (dk_at dksX0_callsFrom_0 2 rfl rfl)
theorem dX0_callsFrom_5 : decode cX0_callsFrom 5 = .ok (.ifCond .eq 5, 3) := dk_153 0 5 (dk_at dksX0_callsFrom_0 5 rfl rfl)
theorem dX0_callsFrom_8 : decode cX0_callsFrom 8 = .ok (.iconst 0, 1) := dk_3 (dk_at dksX0_callsFrom_0 8 rfl rfl)
theorem dX0_callsFrom_9 : decode cX0_callsFrom 9 = .ok (.ireturn, 1) := dk_172 (dk_at dksX0_callsFrom_0 9 rfl rfl)
theorem dX0_callsFrom_10 : decode cX0_callsFrom 10 = .ok (.aload_n 0, 1) := dk_42 (dk_at dksX0_callsFrom_0 10 rfl rfl)
theorem dX0_callsFrom_11 : decode cX0_callsFrom 11 = .ok (.getfield 91, 3) := dk_180 0 91 (dk_at dksX0_callsFrom_0 11 rfl rfl)
theorem dX0_callsFrom_14 : decode cX0_callsFrom 14 = .ok (.iload_n 3, 1) := dk_29 (dk_at dksX0_callsFrom_0 14 rfl rfl)
theorem dX0_callsFrom_15 : decode cX0_callsFrom 15 = .ok (.iaload, 1) := dk_46 (dk_at dksX0_callsFrom_0 15 rfl rfl)
theorem dX0_callsFrom_16 : decode cX0_callsFrom 16 = .ok (.iconst (-1), 1) := dk_2 (dk_at dksX0_callsFrom_0 16 rfl rfl)
theorem dX0_callsFrom_17 : decode cX0_callsFrom 17 = .ok (.if_icmp .eq 10, 3) := dk_159 0 10 (dk_at dksX0_callsFrom_0 17 rfl rfl)
theorem dX0_callsFrom_20 : decode cX0_callsFrom 20 = .ok (.aload_n 0, 1) := dk_42 (dk_at dksX0_callsFrom_0 20 rfl rfl)
theorem dX0_callsFrom_21 : decode cX0_callsFrom 21 = .ok (.getfield 91, 3) := dk_180 0 91 (dk_at dksX0_callsFrom_0 21 rfl rfl)
theorem dX0_callsFrom_24 : decode cX0_callsFrom 24 = .ok (.iload_n 3, 1) := dk_29 (dk_at dksX0_callsFrom_1 0 rfl rfl)
theorem dX0_callsFrom_25 : decode cX0_callsFrom 25 = .ok (.iaload, 1) := dk_46 (dk_at dksX0_callsFrom_1 1 rfl rfl)
theorem dX0_callsFrom_26 : decode cX0_callsFrom 26 = .ok (.ireturn, 1) := dk_172 (dk_at dksX0_callsFrom_1 2 rfl rfl)
theorem dX0_callsFrom_27 : decode cX0_callsFrom 27 = .ok (.ldc_w 335, 3) := dk_19 1 79 (dk_at dksX0_callsFrom_1 3 rfl rfl)
theorem dX0_callsFrom_30 : decode cX0_callsFrom 30 = .ok (.istore 4, 2) := dk_54 4 (dk_at dksX0_callsFrom_1 6 rfl rfl)
theorem dX0_callsFrom_32 : decode cX0_callsFrom 32 = .ok (.iconst 0, 1) := dk_3 (dk_at dksX0_callsFrom_1 8 rfl rfl)
theorem dX0_callsFrom_33 : decode cX0_callsFrom 33 = .ok (.istore 5, 2) := dk_54 5 (dk_at dksX0_callsFrom_1 9 rfl rfl)
theorem dX0_callsFrom_35 : decode cX0_callsFrom 35 = .ok (.iload 5, 2) := dk_21 5 (dk_at dksX0_callsFrom_1 11 rfl rfl)
theorem dX0_callsFrom_37 : decode cX0_callsFrom 37 = .ok (.aload_n 0, 1) := dk_42 (dk_at dksX0_callsFrom_1 13 rfl rfl)
theorem dX0_callsFrom_38 : decode cX0_callsFrom 38 = .ok (.getfield 40, 3) := dk_180 0 40 (dk_at dksX0_callsFrom_1 14 rfl rfl)
theorem dX0_callsFrom_41 : decode cX0_callsFrom 41 = .ok (.getfield 116, 3) := dk_180 0 116 (dk_at dksX0_callsFrom_1 17 rfl rfl)
theorem dX0_callsFrom_44 : decode cX0_callsFrom 44 = .ok (.invokevirtual 120, 3) := dk_182 0 120 (dk_at dksX0_callsFrom_1 20 rfl rfl)
theorem dX0_callsFrom_47 : decode cX0_callsFrom 47 = .ok (.if_icmp .ge 41, 3) := dk_162 0 41 (dk_at dksX0_callsFrom_2 0 rfl rfl)
theorem dX0_callsFrom_50 : decode cX0_callsFrom 50 = .ok (.aload_n 0, 1) := dk_42 (dk_at dksX0_callsFrom_2 3 rfl rfl)
theorem dX0_callsFrom_51 : decode cX0_callsFrom 51 = .ok (.iload_n 1, 1) := dk_27 (dk_at dksX0_callsFrom_2 4 rfl rfl)
theorem dX0_callsFrom_52 : decode cX0_callsFrom 52 = .ok (.iload 5, 2) := dk_21 5 (dk_at dksX0_callsFrom_2 5 rfl rfl)
theorem dX0_callsFrom_54 : decode cX0_callsFrom 54 = .ok (.iload_n 3, 1) := dk_29 (dk_at dksX0_callsFrom_2 7 rfl rfl)
theorem dX0_callsFrom_55 : decode cX0_callsFrom 55 = .ok (.invokevirtual 363, 3) := dk_182 1 107 (dk_at dksX0_callsFrom_2 8 rfl rfl)
theorem dX0_callsFrom_58 : decode cX0_callsFrom 58 = .ok (.ifCond .eq 24, 3) := dk_153 0 24 (dk_at dksX0_callsFrom_2 11 rfl rfl)
theorem dX0_callsFrom_61 : decode cX0_callsFrom 61 = .ok (.iload 4, 2) := dk_21 4 (dk_at dksX0_callsFrom_2 14 rfl rfl)
theorem dX0_callsFrom_63 : decode cX0_callsFrom 63 = .ok (.iconst 1, 1) := dk_4 (dk_at dksX0_callsFrom_2 16 rfl rfl)
theorem dX0_callsFrom_64 : decode cX0_callsFrom 64 = .ok (.aload_n 0, 1) := dk_42 (dk_at dksX0_callsFrom_2 17 rfl rfl)
theorem dX0_callsFrom_65 : decode cX0_callsFrom 65 = .ok (.iload_n 1, 1) := dk_27 (dk_at dksX0_callsFrom_2 18 rfl rfl)
theorem dX0_callsFrom_66 : decode cX0_callsFrom 66 = .ok (.iload_n 2, 1) := dk_28 (dk_at dksX0_callsFrom_2 19 rfl rfl)
theorem dX0_callsFrom_67 : decode cX0_callsFrom 67 = .ok (.iload_n 3, 1) := dk_29 (dk_at dksX0_callsFrom_2 20 rfl rfl)
theorem dX0_callsFrom_68 : decode cX0_callsFrom 68 = .ok (.iconst 1, 1) := dk_4 (dk_at dksX0_callsFrom_2 21 rfl rfl)
theorem dX0_callsFrom_69 : decode cX0_callsFrom 69 = .ok (.iload 5, 2) := dk_21 5 (dk_at dksX0_callsFrom_2 22 rfl rfl)
theorem dX0_callsFrom_71 : decode cX0_callsFrom 71 = .ok (.ishl, 1) := dk_120 (dk_at dksX0_callsFrom_3 0 rfl rfl)
theorem dX0_callsFrom_72 : decode cX0_callsFrom 72 = .ok (.ior, 1) := dk_128 (dk_at dksX0_callsFrom_3 1 rfl rfl)
theorem dX0_callsFrom_73 : decode cX0_callsFrom 73 = .ok (.invokevirtual 366, 3) := dk_182 1 110 (dk_at dksX0_callsFrom_3 2 rfl rfl)
theorem dX0_callsFrom_76 : decode cX0_callsFrom 76 = .ok (.iadd, 1) := dk_96 (dk_at dksX0_callsFrom_3 5 rfl rfl)
theorem dX0_callsFrom_77 : decode cX0_callsFrom 77 = .ok (.invokestatic 336, 3) := dk_184 1 80 (dk_at dksX0_callsFrom_3 6 rfl rfl)
theorem dX0_callsFrom_80 : decode cX0_callsFrom 80 = .ok (.istore 4, 2) := dk_54 4 (dk_at dksX0_callsFrom_3 9 rfl rfl)
theorem dX0_callsFrom_82 : decode cX0_callsFrom 82 = .ok (.iinc 5 1, 3) := dk_132 5 1 (dk_at dksX0_callsFrom_3 11 rfl rfl)
theorem dX0_callsFrom_85 : decode cX0_callsFrom 85 = .ok (.goto (-50), 3) := dk_167 255 206 (dk_at dksX0_callsFrom_3 14 rfl rfl)
theorem dX0_callsFrom_88 : decode cX0_callsFrom 88 = .ok (.aload_n 0, 1) := dk_42 (dk_at dksX0_callsFrom_3 17 rfl rfl)
theorem dX0_callsFrom_89 : decode cX0_callsFrom 89 = .ok (.getfield 91, 3) := dk_180 0 91 (dk_at dksX0_callsFrom_3 18 rfl rfl)
theorem dX0_callsFrom_92 : decode cX0_callsFrom 92 = .ok (.iload_n 3, 1) := dk_29 (dk_at dksX0_callsFrom_3 21 rfl rfl)
theorem dX0_callsFrom_93 : decode cX0_callsFrom 93 = .ok (.ldc_w 335, 3) := dk_19 1 79 (dk_at dksX0_callsFrom_4 0 rfl rfl)
theorem dX0_callsFrom_96 : decode cX0_callsFrom 96 = .ok (.iload 4, 2) := dk_21 4 (dk_at dksX0_callsFrom_4 3 rfl rfl)
theorem dX0_callsFrom_98 : decode cX0_callsFrom 98 = .ok (.invokestatic 336, 3) := dk_184 1 80 (dk_at dksX0_callsFrom_4 5 rfl rfl)
theorem dX0_callsFrom_101 : decode cX0_callsFrom 101 = .ok (.iastore, 1) := dk_79 (dk_at dksX0_callsFrom_4 8 rfl rfl)
theorem dX0_callsFrom_102 : decode cX0_callsFrom 102 = .ok (.aload_n 0, 1) := dk_42 (dk_at dksX0_callsFrom_4 9 rfl rfl)
theorem dX0_callsFrom_103 : decode cX0_callsFrom 103 = .ok (.getfield 91, 3) := dk_180 0 91 (dk_at dksX0_callsFrom_4 10 rfl rfl)
theorem dX0_callsFrom_106 : decode cX0_callsFrom 106 = .ok (.iload_n 3, 1) := dk_29 (dk_at dksX0_callsFrom_4 13 rfl rfl)
theorem dX0_callsFrom_107 : decode cX0_callsFrom 107 = .ok (.iaload, 1) := dk_46 (dk_at dksX0_callsFrom_4 14 rfl rfl)
theorem dX0_callsFrom_108 : decode cX0_callsFrom 108 = .ok (.ireturn, 1) := dk_172 (dk_at dksX0_callsFrom_4 15 rfl rfl)
abbrev cX0_mayCall : ByteArray := prog_1_method_42_code
def yX0_mayCall : MethodName := ⟨RX0, "mayCall", "(III)Z"⟩
def dkwX0_mayCall_2 : List UInt8 := [184, 0, 178, 42, 180, 0, 40, 180, 0, 116, 180, 0, 184, 161, 0, 7, 4, 167, 0, 4, 3, 172]
abbrev dktX0_mayCall_2 : List UInt8 := dkwX0_mayCall_2 ++ []
def dkwX0_mayCall_1 : List UInt8 := [180, 0, 146, 182, 0, 160, 153, 0, 37, 42, 180, 0, 40, 180, 0, 163, 180, 0, 175, 28, 46, 29, 126]
abbrev dktX0_mayCall_1 : List UInt8 := dkwX0_mayCall_1 ++ dktX0_mayCall_2
def dkwX0_mayCall_0 : List UInt8 := [28, 27, 159, 0, 63, 29, 28, 184, 1, 67, 154, 0, 55, 42, 28, 182, 0, 149, 42, 180, 0, 40]
abbrev dktX0_mayCall_0 : List UInt8 := dkwX0_mayCall_0 ++ dktX0_mayCall_1
theorem dksX0_mayCall_0 : cX0_mayCall.data.toList.drop 0 = dktX0_mayCall_0 := by decide +kernel
theorem dksX0_mayCall_1 : cX0_mayCall.data.toList.drop 22 = dktX0_mayCall_1 := dk_seg dksX0_mayCall_0 22 rfl rfl
theorem dksX0_mayCall_2 : cX0_mayCall.data.toList.drop 45 = dktX0_mayCall_2 := dk_seg dksX0_mayCall_1 23 rfl rfl
theorem dX0_mayCall_0 : decode cX0_mayCall 0 = .ok (.iload_n 2, 1) := dk_28 (dk_at dksX0_mayCall_0 0 rfl rfl)
theorem dX0_mayCall_1 : decode cX0_mayCall 1 = .ok (.iload_n 1, 1) := dk_27 (dk_at dksX0_mayCall_0 1 rfl rfl)
theorem dX0_mayCall_2 : decode cX0_mayCall 2 = .ok (.if_icmp .eq 63, 3) := dk_159 0 63 (dk_at dksX0_mayCall_0 2 rfl rfl)
theorem dX0_mayCall_5 : decode cX0_mayCall 5 = .ok (.iload_n 3, 1) := dk_29 (dk_at dksX0_mayCall_0 5 rfl rfl)
theorem dX0_mayCall_6 : decode cX0_mayCall 6 = .ok (.iload_n 2, 1) := dk_28 (dk_at dksX0_mayCall_0 6 rfl rfl)
theorem dX0_mayCall_7 : decode cX0_mayCall 7 = .ok (.invokestatic 323, 3) := dk_184 1 67 (dk_at dksX0_mayCall_0 7 rfl rfl)
theorem dX0_mayCall_10 : decode cX0_mayCall 10 = .ok (.ifCond .ne 55, 3) := dk_154 0 55 (dk_at dksX0_mayCall_0 10 rfl rfl)
theorem dX0_mayCall_13 : decode cX0_mayCall 13 = .ok (.aload_n 0, 1) := dk_42 (dk_at dksX0_mayCall_0 13 rfl rfl)
theorem dX0_mayCall_14 : decode cX0_mayCall 14 = .ok (.iload_n 2, 1) := dk_28 (dk_at dksX0_mayCall_0 14 rfl rfl)
theorem dX0_mayCall_15 : decode cX0_mayCall 15 = .ok (.invokevirtual 149, 3) := dk_182 0 149 (dk_at dksX0_mayCall_0 15 rfl rfl)
theorem dX0_mayCall_18 : decode cX0_mayCall 18 = .ok (.aload_n 0, 1) := dk_42 (dk_at dksX0_mayCall_0 18 rfl rfl)
theorem dX0_mayCall_19 : decode cX0_mayCall 19 = .ok (.getfield 40, 3) := dk_180 0 40 (dk_at dksX0_mayCall_0 19 rfl rfl)
theorem dX0_mayCall_22 : decode cX0_mayCall 22 = .ok (.getfield 146, 3) := dk_180 0 146 (dk_at dksX0_mayCall_1 0 rfl rfl)
theorem dX0_mayCall_25 : decode cX0_mayCall 25 = .ok (.invokevirtual 160, 3) := dk_182 0 160 (dk_at dksX0_mayCall_1 3 rfl rfl)
theorem dX0_mayCall_28 : decode cX0_mayCall 28 = .ok (.ifCond .eq 37, 3) := dk_153 0 37 (dk_at dksX0_mayCall_1 6 rfl rfl)
theorem dX0_mayCall_31 : decode cX0_mayCall 31 = .ok (.aload_n 0, 1) := dk_42 (dk_at dksX0_mayCall_1 9 rfl rfl)
theorem dX0_mayCall_32 : decode cX0_mayCall 32 = .ok (.getfield 40, 3) := dk_180 0 40 (dk_at dksX0_mayCall_1 10 rfl rfl)
theorem dX0_mayCall_35 : decode cX0_mayCall 35 = .ok (.getfield 163, 3) := dk_180 0 163 (dk_at dksX0_mayCall_1 13 rfl rfl)
theorem dX0_mayCall_38 : decode cX0_mayCall 38 = .ok (.getfield 175, 3) := dk_180 0 175 (dk_at dksX0_mayCall_1 16 rfl rfl)
theorem dX0_mayCall_41 : decode cX0_mayCall 41 = .ok (.iload_n 2, 1) := dk_28 (dk_at dksX0_mayCall_1 19 rfl rfl)
theorem dX0_mayCall_42 : decode cX0_mayCall 42 = .ok (.iaload, 1) := dk_46 (dk_at dksX0_mayCall_1 20 rfl rfl)
theorem dX0_mayCall_43 : decode cX0_mayCall 43 = .ok (.iload_n 3, 1) := dk_29 (dk_at dksX0_mayCall_1 21 rfl rfl)
theorem dX0_mayCall_44 : decode cX0_mayCall 44 = .ok (.iand, 1) := dk_126 (dk_at dksX0_mayCall_1 22 rfl rfl)
theorem dX0_mayCall_45 : decode cX0_mayCall 45 = .ok (.invokestatic 178, 3) := dk_184 0 178 (dk_at dksX0_mayCall_2 0 rfl rfl)
theorem dX0_mayCall_48 : decode cX0_mayCall 48 = .ok (.aload_n 0, 1) := dk_42 (dk_at dksX0_mayCall_2 3 rfl rfl)
theorem dX0_mayCall_49 : decode cX0_mayCall 49 = .ok (.getfield 40, 3) := dk_180 0 40 (dk_at dksX0_mayCall_2 4 rfl rfl)
theorem dX0_mayCall_52 : decode cX0_mayCall 52 = .ok (.getfield 116, 3) := dk_180 0 116 (dk_at dksX0_mayCall_2 7 rfl rfl)
theorem dX0_mayCall_55 : decode cX0_mayCall 55 = .ok (.getfield 184, 3) := dk_180 0 184 (dk_at dksX0_mayCall_2 10 rfl rfl)
theorem dX0_mayCall_58 : decode cX0_mayCall 58 = .ok (.if_icmp .lt 7, 3) := dk_161 0 7 (dk_at dksX0_mayCall_2 13 rfl rfl)
theorem dX0_mayCall_61 : decode cX0_mayCall 61 = .ok (.iconst 1, 1) := dk_4 (dk_at dksX0_mayCall_2 16 rfl rfl)
theorem dX0_mayCall_62 : decode cX0_mayCall 62 = .ok (.goto 4, 3) := dk_167 0 4 (dk_at dksX0_mayCall_2 17 rfl rfl)
theorem dX0_mayCall_65 : decode cX0_mayCall 65 = .ok (.iconst 0, 1) := dk_3 (dk_at dksX0_mayCall_2 20 rfl rfl)
theorem dX0_mayCall_66 : decode cX0_mayCall 66 = .ok (.ireturn, 1) := dk_172 (dk_at dksX0_mayCall_2 21 rfl rfl)
abbrev cX0_path : ByteArray := prog_1_method_45_code
def yX0_path : MethodName := ⟨RX0, "path", "(III)I"⟩
def dkwX0_path_5 : List UInt8 := [21, 5, 4, 21, 6, 120, 128, 54, 5, 132, 7, 1, 167, 255, 194, 21, 6, 172]
abbrev dktX0_path_5 : List UInt8 := dkwX0_path_5 ++ []
def dkwX0_path_4 : List UInt8 := [21, 6, 120, 128, 182, 1, 110, 21, 4, 21, 7, 100, 4, 100, 159, 0, 9, 132, 6, 1, 167, 255, 218]
abbrev dktX0_path_4 : List UInt8 := dkwX0_path_4 ++ dktX0_path_5
def dkwX0_path_3 : List UInt8 := [163, 0, 62, 3, 54, 6, 42, 27, 21, 6, 21, 5, 182, 1, 107, 153, 0, 26, 42, 27, 28, 21, 5, 4]
abbrev dktX0_path_3 : List UInt8 := dkwX0_path_3 ++ dktX0_path_4
def dkwX0_path_2 : List UInt8 := [180, 0, 40, 180, 0, 163, 180, 0, 175, 27, 46, 54, 5, 2, 54, 6, 3, 54, 7, 21, 7, 29]
abbrev dktX0_path_2 : List UInt8 := dkwX0_path_2 ++ dktX0_path_3
def dkwX0_path_1 : List UInt8 := [19, 1, 79, 159, 0, 17, 29, 133, 9, 21, 4, 4, 100, 133, 184, 0, 5, 154, 0, 5, 2, 172, 42]
abbrev dktX0_path_1 : List UInt8 := dkwX0_path_1 ++ dktX0_path_2
def dkwX0_path_0 : List UInt8 := [42, 27, 28, 182, 0, 194, 154, 0, 6, 16, 254, 172, 42, 27, 28, 182, 1, 113, 54, 4, 21, 4]
abbrev dktX0_path_0 : List UInt8 := dkwX0_path_0 ++ dktX0_path_1
theorem dksX0_path_0 : cX0_path.data.toList.drop 0 = dktX0_path_0 := by decide +kernel
theorem dksX0_path_1 : cX0_path.data.toList.drop 22 = dktX0_path_1 := dk_seg dksX0_path_0 22 rfl rfl
theorem dksX0_path_2 : cX0_path.data.toList.drop 45 = dktX0_path_2 := dk_seg dksX0_path_1 23 rfl rfl
theorem dksX0_path_3 : cX0_path.data.toList.drop 67 = dktX0_path_3 := dk_seg dksX0_path_2 22 rfl rfl
theorem dksX0_path_4 : cX0_path.data.toList.drop 91 = dktX0_path_4 := dk_seg dksX0_path_3 24 rfl rfl
theorem dksX0_path_5 : cX0_path.data.toList.drop 114 = dktX0_path_5 := dk_seg dksX0_path_4 23 rfl rfl
theorem dX0_path_0 : decode cX0_path 0 = .ok (.aload_n 0, 1) := dk_42 (dk_at dksX0_path_0 0 rfl rfl)
theorem dX0_path_1 : decode cX0_path 1 = .ok (.iload_n 1, 1) := dk_27 (dk_at dksX0_path_0 1 rfl rfl)
theorem dX0_path_2 : decode cX0_path 2 = .ok (.iload_n 2, 1) := dk_28 (dk_at dksX0_path_0 2 rfl rfl)
theorem dX0_path_3 : decode cX0_path 3 = .ok (.invokevirtual 194, 3) := dk_182 0 194 (dk_at dksX0_path_0 3 rfl rfl)
theorem dX0_path_6 : decode cX0_path 6 = .ok (.ifCond .ne 6, 3) := dk_154 0 6 (dk_at dksX0_path_0 6 rfl rfl)
theorem dX0_path_9 : decode cX0_path 9 = .ok (.bipush (-2), 2) := dk_16 254 (dk_at dksX0_path_0 9 rfl rfl)
theorem dX0_path_11 : decode cX0_path 11 = .ok (.ireturn, 1) := dk_172 (dk_at dksX0_path_0 11 rfl rfl)
theorem dX0_path_12 : decode cX0_path 12 = .ok (.aload_n 0, 1) := dk_42 (dk_at dksX0_path_0 12 rfl rfl)
theorem dX0_path_13 : decode cX0_path 13 = .ok (.iload_n 1, 1) := dk_27 (dk_at dksX0_path_0 13 rfl rfl)
theorem dX0_path_14 : decode cX0_path 14 = .ok (.iload_n 2, 1) := dk_28 (dk_at dksX0_path_0 14 rfl rfl)
theorem dX0_path_15 : decode cX0_path 15 = .ok (.invokevirtual 369, 3) := dk_182 1 113 (dk_at dksX0_path_0 15 rfl rfl)
theorem dX0_path_18 : decode cX0_path 18 = .ok (.istore 4, 2) := dk_54 4 (dk_at dksX0_path_0 18 rfl rfl)
theorem dX0_path_20 : decode cX0_path 20 = .ok (.iload 4, 2) := dk_21 4 (dk_at dksX0_path_0 20 rfl rfl)
theorem dX0_path_22 : decode cX0_path 22 = .ok (.ldc_w 335, 3) := dk_19 1 79 (dk_at dksX0_path_1 0 rfl rfl)
theorem dX0_path_25 : decode cX0_path 25 = .ok (.if_icmp .eq 17, 3) := dk_159 0 17 (dk_at dksX0_path_1 3 rfl rfl)
theorem dX0_path_28 : decode cX0_path 28 = .ok (.iload_n 3, 1) := dk_29 (dk_at dksX0_path_1 6 rfl rfl)
theorem dX0_path_29 : decode cX0_path 29 = .ok (.i2l, 1) := dk_133 (dk_at dksX0_path_1 7 rfl rfl)
theorem dX0_path_30 : decode cX0_path 30 = .ok (.lconst 0, 1) := dk_9 (dk_at dksX0_path_1 8 rfl rfl)
theorem dX0_path_31 : decode cX0_path 31 = .ok (.iload 4, 2) := dk_21 4 (dk_at dksX0_path_1 9 rfl rfl)
theorem dX0_path_33 : decode cX0_path 33 = .ok (.iconst 1, 1) := dk_4 (dk_at dksX0_path_1 11 rfl rfl)
theorem dX0_path_34 : decode cX0_path 34 = .ok (.isub, 1) := dk_100 (dk_at dksX0_path_1 12 rfl rfl)
theorem dX0_path_35 : decode cX0_path 35 = .ok (.i2l, 1) := dk_133 (dk_at dksX0_path_1 13 rfl rfl)
theorem dX0_path_36 : decode cX0_path 36 = .ok (.invokestatic 5, 3) := dk_184 0 5 (dk_at dksX0_path_1 14 rfl rfl)
theorem dX0_path_39 : decode cX0_path 39 = .ok (.ifCond .ne 5, 3) := dk_154 0 5 (dk_at dksX0_path_1 17 rfl rfl)
theorem dX0_path_42 : decode cX0_path 42 = .ok (.iconst (-1), 1) := dk_2 (dk_at dksX0_path_1 20 rfl rfl)
theorem dX0_path_43 : decode cX0_path 43 = .ok (.ireturn, 1) := dk_172 (dk_at dksX0_path_1 21 rfl rfl)
theorem dX0_path_44 : decode cX0_path 44 = .ok (.aload_n 0, 1) := dk_42 (dk_at dksX0_path_1 22 rfl rfl)
theorem dX0_path_45 : decode cX0_path 45 = .ok (.getfield 40, 3) := dk_180 0 40 (dk_at dksX0_path_2 0 rfl rfl)
theorem dX0_path_48 : decode cX0_path 48 = .ok (.getfield 163, 3) := dk_180 0 163 (dk_at dksX0_path_2 3 rfl rfl)
theorem dX0_path_51 : decode cX0_path 51 = .ok (.getfield 175, 3) := dk_180 0 175 (dk_at dksX0_path_2 6 rfl rfl)
theorem dX0_path_54 : decode cX0_path 54 = .ok (.iload_n 1, 1) := dk_27 (dk_at dksX0_path_2 9 rfl rfl)
theorem dX0_path_55 : decode cX0_path 55 = .ok (.iaload, 1) := dk_46 (dk_at dksX0_path_2 10 rfl rfl)
theorem dX0_path_56 : decode cX0_path 56 = .ok (.istore 5, 2) := dk_54 5 (dk_at dksX0_path_2 11 rfl rfl)
theorem dX0_path_58 : decode cX0_path 58 = .ok (.iconst (-1), 1) := dk_2 (dk_at dksX0_path_2 13 rfl rfl)
theorem dX0_path_59 : decode cX0_path 59 = .ok (.istore 6, 2) := dk_54 6 (dk_at dksX0_path_2 14 rfl rfl)
theorem dX0_path_61 : decode cX0_path 61 = .ok (.iconst 0, 1) := dk_3 (dk_at dksX0_path_2 16 rfl rfl)
theorem dX0_path_62 : decode cX0_path 62 = .ok (.istore 7, 2) := dk_54 7 (dk_at dksX0_path_2 17 rfl rfl)
theorem dX0_path_64 : decode cX0_path 64 = .ok (.iload 7, 2) := dk_21 7 (dk_at dksX0_path_2 19 rfl rfl)
theorem dX0_path_66 : decode cX0_path 66 = .ok (.iload_n 3, 1) := dk_29 (dk_at dksX0_path_2 21 rfl rfl)
theorem dX0_path_67 : decode cX0_path 67 = .ok (.if_icmp .gt 62, 3) := dk_163 0 62 (dk_at dksX0_path_3 0 rfl rfl)
theorem dX0_path_70 : decode cX0_path 70 = .ok (.iconst 0, 1) := dk_3 (dk_at dksX0_path_3 3 rfl rfl)
theorem dX0_path_71 : decode cX0_path 71 = .ok (.istore 6, 2) := dk_54 6 (dk_at dksX0_path_3 4 rfl rfl)
theorem dX0_path_73 : decode cX0_path 73 = .ok (.aload_n 0, 1) := dk_42 (dk_at dksX0_path_3 6 rfl rfl)
theorem dX0_path_74 : decode cX0_path 74 = .ok (.iload_n 1, 1) := dk_27 (dk_at dksX0_path_3 7 rfl rfl)
theorem dX0_path_75 : decode cX0_path 75 = .ok (.iload 6, 2) := dk_21 6 (dk_at dksX0_path_3 8 rfl rfl)
theorem dX0_path_77 : decode cX0_path 77 = .ok (.iload 5, 2) := dk_21 5 (dk_at dksX0_path_3 10 rfl rfl)
theorem dX0_path_79 : decode cX0_path 79 = .ok (.invokevirtual 363, 3) := dk_182 1 107 (dk_at dksX0_path_3 12 rfl rfl)
theorem dX0_path_82 : decode cX0_path 82 = .ok (.ifCond .eq 26, 3) := dk_153 0 26 (dk_at dksX0_path_3 15 rfl rfl)
theorem dX0_path_85 : decode cX0_path 85 = .ok (.aload_n 0, 1) := dk_42 (dk_at dksX0_path_3 18 rfl rfl)
theorem dX0_path_86 : decode cX0_path 86 = .ok (.iload_n 1, 1) := dk_27 (dk_at dksX0_path_3 19 rfl rfl)
theorem dX0_path_87 : decode cX0_path 87 = .ok (.iload_n 2, 1) := dk_28 (dk_at dksX0_path_3 20 rfl rfl)
theorem dX0_path_88 : decode cX0_path 88 = .ok (.iload 5, 2) := dk_21 5 (dk_at dksX0_path_3 21 rfl rfl)
theorem dX0_path_90 : decode cX0_path 90 = .ok (.iconst 1, 1) := dk_4 (dk_at dksX0_path_3 23 rfl rfl)
theorem dX0_path_91 : decode cX0_path 91 = .ok (.iload 6, 2) := dk_21 6 (dk_at dksX0_path_4 0 rfl rfl)
theorem dX0_path_93 : decode cX0_path 93 = .ok (.ishl, 1) := dk_120 (dk_at dksX0_path_4 2 rfl rfl)
theorem dX0_path_94 : decode cX0_path 94 = .ok (.ior, 1) := dk_128 (dk_at dksX0_path_4 3 rfl rfl)
theorem dX0_path_95 : decode cX0_path 95 = .ok (.invokevirtual 366, 3) := dk_182 1 110 (dk_at dksX0_path_4 4 rfl rfl)
theorem dX0_path_98 : decode cX0_path 98 = .ok (.iload 4, 2) := dk_21 4 (dk_at dksX0_path_4 7 rfl rfl)
theorem dX0_path_100 : decode cX0_path 100 = .ok (.iload 7, 2) := dk_21 7 (dk_at dksX0_path_4 9 rfl rfl)
theorem dX0_path_102 : decode cX0_path 102 = .ok (.isub, 1) := dk_100 (dk_at dksX0_path_4 11 rfl rfl)
theorem dX0_path_103 : decode cX0_path 103 = .ok (.iconst 1, 1) := dk_4 (dk_at dksX0_path_4 12 rfl rfl)
theorem dX0_path_104 : decode cX0_path 104 = .ok (.isub, 1) := dk_100 (dk_at dksX0_path_4 13 rfl rfl)
theorem dX0_path_105 : decode cX0_path 105 = .ok (.if_icmp .eq 9, 3) := dk_159 0 9 (dk_at dksX0_path_4 14 rfl rfl)
theorem dX0_path_108 : decode cX0_path 108 = .ok (.iinc 6 1, 3) := dk_132 6 1 (dk_at dksX0_path_4 17 rfl rfl)
theorem dX0_path_111 : decode cX0_path 111 = .ok (.goto (-38), 3) := dk_167 255 218 (dk_at dksX0_path_4 20 rfl rfl)
theorem dX0_path_114 : decode cX0_path 114 = .ok (.iload 5, 2) := dk_21 5 (dk_at dksX0_path_5 0 rfl rfl)
theorem dX0_path_116 : decode cX0_path 116 = .ok (.iconst 1, 1) := dk_4 (dk_at dksX0_path_5 2 rfl rfl)
theorem dX0_path_117 : decode cX0_path 117 = .ok (.iload 6, 2) := dk_21 6 (dk_at dksX0_path_5 3 rfl rfl)
theorem dX0_path_119 : decode cX0_path 119 = .ok (.ishl, 1) := dk_120 (dk_at dksX0_path_5 5 rfl rfl)
theorem dX0_path_120 : decode cX0_path 120 = .ok (.ior, 1) := dk_128 (dk_at dksX0_path_5 6 rfl rfl)
theorem dX0_path_121 : decode cX0_path 121 = .ok (.istore 5, 2) := dk_54 5 (dk_at dksX0_path_5 7 rfl rfl)
theorem dX0_path_123 : decode cX0_path 123 = .ok (.iinc 7 1, 3) := dk_132 7 1 (dk_at dksX0_path_5 9 rfl rfl)
theorem dX0_path_126 : decode cX0_path 126 = .ok (.goto (-62), 3) := dk_167 255 194 (dk_at dksX0_path_5 12 rfl rfl)
theorem dX0_path_129 : decode cX0_path 129 = .ok (.iload 6, 2) := dk_21 6 (dk_at dksX0_path_5 15 rfl rfl)
theorem dX0_path_131 : decode cX0_path 131 = .ok (.ireturn, 1) := dk_172 (dk_at dksX0_path_5 17 rfl rfl)
abbrev cX0_reach : ByteArray := prog_1_method_46_code
def yX0_reach : MethodName := ⟨RX0, "reach", "(I)I"⟩
def dkwX0_reach_1 : List UInt8 := [16, 254, 172]
abbrev dktX0_reach_1 : List UInt8 := dkwX0_reach_1 ++ []
def dkwX0_reach_0 : List UInt8 := [42, 27, 182, 0, 137, 153, 0, 19, 42, 180, 0, 40, 180, 0, 163, 27, 2, 2, 182, 1, 116, 167, 0, 5]
abbrev dktX0_reach_0 : List UInt8 := dkwX0_reach_0 ++ dktX0_reach_1
theorem dksX0_reach_0 : cX0_reach.data.toList.drop 0 = dktX0_reach_0 := by decide +kernel
theorem dksX0_reach_1 : cX0_reach.data.toList.drop 24 = dktX0_reach_1 := dk_seg dksX0_reach_0 24 rfl rfl
theorem dX0_reach_0 : decode cX0_reach 0 = .ok (.aload_n 0, 1) := dk_42 (dk_at dksX0_reach_0 0 rfl rfl)
theorem dX0_reach_1 : decode cX0_reach 1 = .ok (.iload_n 1, 1) := dk_27 (dk_at dksX0_reach_0 1 rfl rfl)
theorem dX0_reach_2 : decode cX0_reach 2 = .ok (.invokevirtual 137, 3) := dk_182 0 137 (dk_at dksX0_reach_0 2 rfl rfl)
theorem dX0_reach_5 : decode cX0_reach 5 = .ok (.ifCond .eq 19, 3) := dk_153 0 19 (dk_at dksX0_reach_0 5 rfl rfl)
theorem dX0_reach_8 : decode cX0_reach 8 = .ok (.aload_n 0, 1) := dk_42 (dk_at dksX0_reach_0 8 rfl rfl)
theorem dX0_reach_9 : decode cX0_reach 9 = .ok (.getfield 40, 3) := dk_180 0 40 (dk_at dksX0_reach_0 9 rfl rfl)
theorem dX0_reach_12 : decode cX0_reach 12 = .ok (.getfield 163, 3) := dk_180 0 163 (dk_at dksX0_reach_0 12 rfl rfl)
theorem dX0_reach_15 : decode cX0_reach 15 = .ok (.iload_n 1, 1) := dk_27 (dk_at dksX0_reach_0 15 rfl rfl)
theorem dX0_reach_16 : decode cX0_reach 16 = .ok (.iconst (-1), 1) := dk_2 (dk_at dksX0_reach_0 16 rfl rfl)
theorem dX0_reach_17 : decode cX0_reach 17 = .ok (.iconst (-1), 1) := dk_2 (dk_at dksX0_reach_0 17 rfl rfl)
theorem dX0_reach_18 : decode cX0_reach 18 = .ok (.invokevirtual 372, 3) := dk_182 1 116 (dk_at dksX0_reach_0 18 rfl rfl)
theorem dX0_reach_21 : decode cX0_reach 21 = .ok (.goto 5, 3) := dk_167 0 5 (dk_at dksX0_reach_0 21 rfl rfl)
theorem dX0_reach_24 : decode cX0_reach 24 = .ok (.bipush (-2), 2) := dk_16 254 (dk_at dksX0_reach_1 0 rfl rfl)
theorem dX0_reach_26 : decode cX0_reach 26 = .ok (.ireturn, 1) := dk_172 (dk_at dksX0_reach_1 2 rfl rfl)
abbrev cX0_drop : ByteArray := prog_1_method_47_code
def yX0_drop : MethodName := ⟨RX0, "drop", "(I)I"⟩
def dkwX0_drop_5 : List UInt8 := [42, 29, 182, 0, 149, 180, 1, 17, 162, 0, 6, 21, 4, 62, 132, 4, 1, 167, 255, 153, 29, 172]
abbrev dktX0_drop_5 : List UInt8 := dkwX0_drop_5 ++ []
def dkwX0_drop_4 : List UInt8 := [184, 0, 178, 28, 159, 0, 6, 167, 0, 31, 29, 2, 159, 0, 23, 42, 21, 4, 182, 0, 149, 180, 1, 17]
abbrev dktX0_drop_4 : List UInt8 := dkwX0_drop_4 ++ dktX0_drop_5
def dkwX0_drop_3 : List UInt8 := [21, 4, 182, 1, 69, 2, 160, 0, 55, 42, 180, 0, 40, 180, 0, 163, 27, 27, 21, 4, 182, 1, 116]
abbrev dktX0_drop_3 : List UInt8 := dkwX0_drop_3 ++ dktX0_drop_4
def dkwX0_drop_2 : List UInt8 := [42, 180, 0, 40, 180, 0, 163, 27, 21, 4, 182, 0, 167, 153, 0, 72, 42, 180, 0, 40, 180, 0, 163, 27]
abbrev dktX0_drop_2 : List UInt8 := dkwX0_drop_2 ++ dktX0_drop_3
def dkwX0_drop_1 : List UInt8 := [184, 0, 178, 61, 2, 62, 3, 54, 4, 21, 4, 42, 180, 0, 40, 180, 0, 116, 182, 0, 120, 162, 0, 94]
abbrev dktX0_drop_1 : List UInt8 := dkwX0_drop_1 ++ dktX0_drop_2
def dkwX0_drop_0 : List UInt8 := [42, 27, 182, 0, 137, 154, 0, 6, 16, 254, 172, 42, 180, 0, 40, 180, 0, 163, 27, 2, 2, 182, 1, 116]
abbrev dktX0_drop_0 : List UInt8 := dkwX0_drop_0 ++ dktX0_drop_1
theorem dksX0_drop_0 : cX0_drop.data.toList.drop 0 = dktX0_drop_0 := by decide +kernel
theorem dksX0_drop_1 : cX0_drop.data.toList.drop 24 = dktX0_drop_1 := dk_seg dksX0_drop_0 24 rfl rfl
theorem dksX0_drop_2 : cX0_drop.data.toList.drop 48 = dktX0_drop_2 := dk_seg dksX0_drop_1 24 rfl rfl
theorem dksX0_drop_3 : cX0_drop.data.toList.drop 72 = dktX0_drop_3 := dk_seg dksX0_drop_2 24 rfl rfl
theorem dksX0_drop_4 : cX0_drop.data.toList.drop 95 = dktX0_drop_4 := dk_seg dksX0_drop_3 23 rfl rfl
theorem dksX0_drop_5 : cX0_drop.data.toList.drop 119 = dktX0_drop_5 := dk_seg dksX0_drop_4 24 rfl rfl
theorem dX0_drop_0 : decode cX0_drop 0 = .ok (.aload_n 0, 1) := dk_42 (dk_at dksX0_drop_0 0 rfl rfl)
theorem dX0_drop_1 : decode cX0_drop 1 = .ok (.iload_n 1, 1) := dk_27 (dk_at dksX0_drop_0 1 rfl rfl)
theorem dX0_drop_2 : decode cX0_drop 2 = .ok (.invokevirtual 137, 3) := dk_182 0 137 (dk_at dksX0_drop_0 2 rfl rfl)
theorem dX0_drop_5 : decode cX0_drop 5 = .ok (.ifCond .ne 6, 3) := dk_154 0 6 (dk_at dksX0_drop_0 5 rfl rfl)
theorem dX0_drop_8 : decode cX0_drop 8 = .ok (.bipush (-2), 2) := dk_16 254 (dk_at dksX0_drop_0 8 rfl rfl)
theorem dX0_drop_10 : decode cX0_drop 10 = .ok (.ireturn, 1) := dk_172 (dk_at dksX0_drop_0 10 rfl rfl)
theorem dX0_drop_11 : decode cX0_drop 11 = .ok (.aload_n 0, 1) := dk_42 (dk_at dksX0_drop_0 11 rfl rfl)
theorem dX0_drop_12 : decode cX0_drop 12 = .ok (.getfield 40, 3) := dk_180 0 40 (dk_at dksX0_drop_0 12 rfl rfl)
theorem dX0_drop_15 : decode cX0_drop 15 = .ok (.getfield 163, 3) := dk_180 0 163 (dk_at dksX0_drop_0 15 rfl rfl)
theorem dX0_drop_18 : decode cX0_drop 18 = .ok (.iload_n 1, 1) := dk_27 (dk_at dksX0_drop_0 18 rfl rfl)
theorem dX0_drop_19 : decode cX0_drop 19 = .ok (.iconst (-1), 1) := dk_2 (dk_at dksX0_drop_0 19 rfl rfl)
theorem dX0_drop_20 : decode cX0_drop 20 = .ok (.iconst (-1), 1) := dk_2 (dk_at dksX0_drop_0 20 rfl rfl)
theorem dX0_drop_21 : decode cX0_drop 21 = .ok (.invokevirtual 372, 3) := dk_182 1 116 (dk_at dksX0_drop_0 21 rfl rfl)
theorem dX0_drop_24 : decode cX0_drop 24 = .ok (.invokestatic 178, 3) := dk_184 0 178 (dk_at dksX0_drop_1 0 rfl rfl)
theorem dX0_drop_27 : decode cX0_drop 27 = .ok (.istore_n 2, 1) := dk_61 (dk_at dksX0_drop_1 3 rfl rfl)
theorem dX0_drop_28 : decode cX0_drop 28 = .ok (.iconst (-1), 1) := dk_2 (dk_at dksX0_drop_1 4 rfl rfl)
theorem dX0_drop_29 : decode cX0_drop 29 = .ok (.istore_n 3, 1) := dk_62 (dk_at dksX0_drop_1 5 rfl rfl)
theorem dX0_drop_30 : decode cX0_drop 30 = .ok (.iconst 0, 1) := dk_3 (dk_at dksX0_drop_1 6 rfl rfl)
theorem dX0_drop_31 : decode cX0_drop 31 = .ok (.istore 4, 2) := dk_54 4 (dk_at dksX0_drop_1 7 rfl rfl)
theorem dX0_drop_33 : decode cX0_drop 33 = .ok (.iload 4, 2) := dk_21 4 (dk_at dksX0_drop_1 9 rfl rfl)
theorem dX0_drop_35 : decode cX0_drop 35 = .ok (.aload_n 0, 1) := dk_42 (dk_at dksX0_drop_1 11 rfl rfl)
theorem dX0_drop_36 : decode cX0_drop 36 = .ok (.getfield 40, 3) := dk_180 0 40 (dk_at dksX0_drop_1 12 rfl rfl)
theorem dX0_drop_39 : decode cX0_drop 39 = .ok (.getfield 116, 3) := dk_180 0 116 (dk_at dksX0_drop_1 15 rfl rfl)
theorem dX0_drop_42 : decode cX0_drop 42 = .ok (.invokevirtual 120, 3) := dk_182 0 120 (dk_at dksX0_drop_1 18 rfl rfl)
theorem dX0_drop_45 : decode cX0_drop 45 = .ok (.if_icmp .ge 94, 3) := dk_162 0 94 (dk_at dksX0_drop_1 21 rfl rfl)
theorem dX0_drop_48 : decode cX0_drop 48 = .ok (.aload_n 0, 1) := dk_42 (dk_at dksX0_drop_2 0 rfl rfl)
theorem dX0_drop_49 : decode cX0_drop 49 = .ok (.getfield 40, 3) := dk_180 0 40 (dk_at dksX0_drop_2 1 rfl rfl)
theorem dX0_drop_52 : decode cX0_drop 52 = .ok (.getfield 163, 3) := dk_180 0 163 (dk_at dksX0_drop_2 4 rfl rfl)
theorem dX0_drop_55 : decode cX0_drop 55 = .ok (.iload_n 1, 1) := dk_27 (dk_at dksX0_drop_2 7 rfl rfl)
theorem dX0_drop_56 : decode cX0_drop 56 = .ok (.iload 4, 2) := dk_21 4 (dk_at dksX0_drop_2 8 rfl rfl)
theorem dX0_drop_58 : decode cX0_drop 58 = .ok (.invokevirtual 167, 3) := dk_182 0 167 (dk_at dksX0_drop_2 10 rfl rfl)
theorem dX0_drop_61 : decode cX0_drop 61 = .ok (.ifCond .eq 72, 3) := dk_153 0 72 (dk_at dksX0_drop_2 13 rfl rfl)
theorem dX0_drop_64 : decode cX0_drop 64 = .ok (.aload_n 0, 1) := dk_42 (dk_at dksX0_drop_2 16 rfl rfl)
theorem dX0_drop_65 : decode cX0_drop 65 = .ok (.getfield 40, 3) := dk_180 0 40 (dk_at dksX0_drop_2 17 rfl rfl)
theorem dX0_drop_68 : decode cX0_drop 68 = .ok (.getfield 163, 3) := dk_180 0 163 (dk_at dksX0_drop_2 20 rfl rfl)
theorem dX0_drop_71 : decode cX0_drop 71 = .ok (.iload_n 1, 1) := dk_27 (dk_at dksX0_drop_2 23 rfl rfl)
theorem dX0_drop_72 : decode cX0_drop 72 = .ok (.iload 4, 2) := dk_21 4 (dk_at dksX0_drop_3 0 rfl rfl)
theorem dX0_drop_74 : decode cX0_drop 74 = .ok (.invokevirtual 325, 3) := dk_182 1 69 (dk_at dksX0_drop_3 2 rfl rfl)
theorem dX0_drop_77 : decode cX0_drop 77 = .ok (.iconst (-1), 1) := dk_2 (dk_at dksX0_drop_3 5 rfl rfl)
theorem dX0_drop_78 : decode cX0_drop 78 = .ok (.if_icmp .ne 55, 3) := dk_160 0 55 (dk_at dksX0_drop_3 6 rfl rfl)
theorem dX0_drop_81 : decode cX0_drop 81 = .ok (.aload_n 0, 1) := dk_42 (dk_at dksX0_drop_3 9 rfl rfl)
theorem dX0_drop_82 : decode cX0_drop 82 = .ok (.getfield 40, 3) := dk_180 0 40 (dk_at dksX0_drop_3 10 rfl rfl)
theorem dX0_drop_85 : decode cX0_drop 85 = .ok (.getfield 163, 3) := dk_180 0 163 (dk_at dksX0_drop_3 13 rfl rfl)
theorem dX0_drop_88 : decode cX0_drop 88 = .ok (.iload_n 1, 1) := dk_27 (dk_at dksX0_drop_3 16 rfl rfl)
theorem dX0_drop_89 : decode cX0_drop 89 = .ok (.iload_n 1, 1) := dk_27 (dk_at dksX0_drop_3 17 rfl rfl)
theorem dX0_drop_90 : decode cX0_drop 90 = .ok (.iload 4, 2) := dk_21 4 (dk_at dksX0_drop_3 18 rfl rfl)
theorem dX0_drop_92 : decode cX0_drop 92 = .ok (.invokevirtual 372, 3) := dk_182 1 116 (dk_at dksX0_drop_3 20 rfl rfl)
theorem dX0_drop_95 : decode cX0_drop 95 = .ok (.invokestatic 178, 3) := dk_184 0 178 (dk_at dksX0_drop_4 0 rfl rfl)
theorem dX0_drop_98 : decode cX0_drop 98 = .ok (.iload_n 2, 1) := dk_28 (dk_at dksX0_drop_4 3 rfl rfl)
theorem dX0_drop_99 : decode cX0_drop 99 = .ok (.if_icmp .eq 6, 3) := dk_159 0 6 (dk_at dksX0_drop_4 4 rfl rfl)
theorem dX0_drop_102 : decode cX0_drop 102 = .ok (.goto 31, 3) := dk_167 0 31 (dk_at dksX0_drop_4 7 rfl rfl)
theorem dX0_drop_105 : decode cX0_drop 105 = .ok (.iload_n 3, 1) := dk_29 (dk_at dksX0_drop_4 10 rfl rfl)
theorem dX0_drop_106 : decode cX0_drop 106 = .ok (.iconst (-1), 1) := dk_2 (dk_at dksX0_drop_4 11 rfl rfl)
theorem dX0_drop_107 : decode cX0_drop 107 = .ok (.if_icmp .eq 23, 3) := dk_159 0 23 (dk_at dksX0_drop_4 12 rfl rfl)
theorem dX0_drop_110 : decode cX0_drop 110 = .ok (.aload_n 0, 1) := dk_42 (dk_at dksX0_drop_4 15 rfl rfl)
theorem dX0_drop_111 : decode cX0_drop 111 = .ok (.iload 4, 2) := dk_21 4 (dk_at dksX0_drop_4 16 rfl rfl)
theorem dX0_drop_113 : decode cX0_drop 113 = .ok (.invokevirtual 149, 3) := dk_182 0 149 (dk_at dksX0_drop_4 18 rfl rfl)
theorem dX0_drop_116 : decode cX0_drop 116 = .ok (.getfield 273, 3) := dk_180 1 17 (dk_at dksX0_drop_4 21 rfl rfl)
theorem dX0_drop_119 : decode cX0_drop 119 = .ok (.aload_n 0, 1) := dk_42 (dk_at dksX0_drop_5 0 rfl rfl)
theorem dX0_drop_120 : decode cX0_drop 120 = .ok (.iload_n 3, 1) := dk_29 (dk_at dksX0_drop_5 1 rfl rfl)
theorem dX0_drop_121 : decode cX0_drop 121 = .ok (.invokevirtual 149, 3) := dk_182 0 149 (dk_at dksX0_drop_5 2 rfl rfl)
theorem dX0_drop_124 : decode cX0_drop 124 = .ok (.getfield 273, 3) := dk_180 1 17 (dk_at dksX0_drop_5 5 rfl rfl)
theorem dX0_drop_127 : decode cX0_drop 127 = .ok (.if_icmp .ge 6, 3) := dk_162 0 6 (dk_at dksX0_drop_5 8 rfl rfl)
theorem dX0_drop_130 : decode cX0_drop 130 = .ok (.iload 4, 2) := dk_21 4 (dk_at dksX0_drop_5 11 rfl rfl)
theorem dX0_drop_132 : decode cX0_drop 132 = .ok (.istore_n 3, 1) := dk_62 (dk_at dksX0_drop_5 13 rfl rfl)
theorem dX0_drop_133 : decode cX0_drop 133 = .ok (.iinc 4 1, 3) := dk_132 4 1 (dk_at dksX0_drop_5 14 rfl rfl)
theorem dX0_drop_136 : decode cX0_drop 136 = .ok (.goto (-103), 3) := dk_167 255 153 (dk_at dksX0_drop_5 17 rfl rfl)
theorem dX0_drop_139 : decode cX0_drop 139 = .ok (.iload_n 3, 1) := dk_29 (dk_at dksX0_drop_5 20 rfl rfl)
theorem dX0_drop_140 : decode cX0_drop 140 = .ok (.ireturn, 1) := dk_172 (dk_at dksX0_drop_5 21 rfl rfl)
abbrev cX0_tie : ByteArray := prog_1_method_48_code
def yX0_tie : MethodName := ⟨RX0, "tie", "(II)I"⟩
def dkwX0_tie_2 : List UInt8 := [153, 0, 7, 3, 167, 0, 4, 4, 172]
abbrev dktX0_tie_2 : List UInt8 := dkwX0_tie_2 ++ []
def dkwX0_tie_1 : List UInt8 := [154, 0, 5, 2, 172, 42, 180, 0, 40, 180, 0, 163, 27, 27, 28, 182, 1, 116, 28, 184, 1, 67]
abbrev dktX0_tie_1 : List UInt8 := dkwX0_tie_1 ++ dktX0_tie_2
def dkwX0_tie_0 : List UInt8 := [42, 27, 28, 182, 0, 194, 154, 0, 6, 16, 254, 172, 42, 180, 0, 40, 180, 0, 163, 27, 28, 182, 0, 167]
abbrev dktX0_tie_0 : List UInt8 := dkwX0_tie_0 ++ dktX0_tie_1
theorem dksX0_tie_0 : cX0_tie.data.toList.drop 0 = dktX0_tie_0 := by decide +kernel
theorem dksX0_tie_1 : cX0_tie.data.toList.drop 24 = dktX0_tie_1 := dk_seg dksX0_tie_0 24 rfl rfl
theorem dksX0_tie_2 : cX0_tie.data.toList.drop 46 = dktX0_tie_2 := dk_seg dksX0_tie_1 22 rfl rfl
theorem dX0_tie_0 : decode cX0_tie 0 = .ok (.aload_n 0, 1) := dk_42 (dk_at dksX0_tie_0 0 rfl rfl)
theorem dX0_tie_1 : decode cX0_tie 1 = .ok (.iload_n 1, 1) := dk_27 (dk_at dksX0_tie_0 1 rfl rfl)
theorem dX0_tie_2 : decode cX0_tie 2 = .ok (.iload_n 2, 1) := dk_28 (dk_at dksX0_tie_0 2 rfl rfl)
theorem dX0_tie_3 : decode cX0_tie 3 = .ok (.invokevirtual 194, 3) := dk_182 0 194 (dk_at dksX0_tie_0 3 rfl rfl)
theorem dX0_tie_6 : decode cX0_tie 6 = .ok (.ifCond .ne 6, 3) := dk_154 0 6 (dk_at dksX0_tie_0 6 rfl rfl)
theorem dX0_tie_9 : decode cX0_tie 9 = .ok (.bipush (-2), 2) := dk_16 254 (dk_at dksX0_tie_0 9 rfl rfl)
theorem dX0_tie_11 : decode cX0_tie 11 = .ok (.ireturn, 1) := dk_172 (dk_at dksX0_tie_0 11 rfl rfl)
theorem dX0_tie_12 : decode cX0_tie 12 = .ok (.aload_n 0, 1) := dk_42 (dk_at dksX0_tie_0 12 rfl rfl)
theorem dX0_tie_13 : decode cX0_tie 13 = .ok (.getfield 40, 3) := dk_180 0 40 (dk_at dksX0_tie_0 13 rfl rfl)
theorem dX0_tie_16 : decode cX0_tie 16 = .ok (.getfield 163, 3) := dk_180 0 163 (dk_at dksX0_tie_0 16 rfl rfl)
theorem dX0_tie_19 : decode cX0_tie 19 = .ok (.iload_n 1, 1) := dk_27 (dk_at dksX0_tie_0 19 rfl rfl)
theorem dX0_tie_20 : decode cX0_tie 20 = .ok (.iload_n 2, 1) := dk_28 (dk_at dksX0_tie_0 20 rfl rfl)
theorem dX0_tie_21 : decode cX0_tie 21 = .ok (.invokevirtual 167, 3) := dk_182 0 167 (dk_at dksX0_tie_0 21 rfl rfl)
theorem dX0_tie_24 : decode cX0_tie 24 = .ok (.ifCond .ne 5, 3) := dk_154 0 5 (dk_at dksX0_tie_1 0 rfl rfl)
theorem dX0_tie_27 : decode cX0_tie 27 = .ok (.iconst (-1), 1) := dk_2 (dk_at dksX0_tie_1 3 rfl rfl)
theorem dX0_tie_28 : decode cX0_tie 28 = .ok (.ireturn, 1) := dk_172 (dk_at dksX0_tie_1 4 rfl rfl)
theorem dX0_tie_29 : decode cX0_tie 29 = .ok (.aload_n 0, 1) := dk_42 (dk_at dksX0_tie_1 5 rfl rfl)
theorem dX0_tie_30 : decode cX0_tie 30 = .ok (.getfield 40, 3) := dk_180 0 40 (dk_at dksX0_tie_1 6 rfl rfl)
theorem dX0_tie_33 : decode cX0_tie 33 = .ok (.getfield 163, 3) := dk_180 0 163 (dk_at dksX0_tie_1 9 rfl rfl)
theorem dX0_tie_36 : decode cX0_tie 36 = .ok (.iload_n 1, 1) := dk_27 (dk_at dksX0_tie_1 12 rfl rfl)
theorem dX0_tie_37 : decode cX0_tie 37 = .ok (.iload_n 1, 1) := dk_27 (dk_at dksX0_tie_1 13 rfl rfl)
theorem dX0_tie_38 : decode cX0_tie 38 = .ok (.iload_n 2, 1) := dk_28 (dk_at dksX0_tie_1 14 rfl rfl)
theorem dX0_tie_39 : decode cX0_tie 39 = .ok (.invokevirtual 372, 3) := dk_182 1 116 (dk_at dksX0_tie_1 15 rfl rfl)
theorem dX0_tie_42 : decode cX0_tie 42 = .ok (.iload_n 2, 1) := dk_28 (dk_at dksX0_tie_1 18 rfl rfl)
theorem dX0_tie_43 : decode cX0_tie 43 = .ok (.invokestatic 323, 3) := dk_184 1 67 (dk_at dksX0_tie_1 19 rfl rfl)
theorem dX0_tie_46 : decode cX0_tie 46 = .ok (.ifCond .eq 7, 3) := dk_153 0 7 (dk_at dksX0_tie_2 0 rfl rfl)
theorem dX0_tie_49 : decode cX0_tie 49 = .ok (.iconst 0, 1) := dk_3 (dk_at dksX0_tie_2 3 rfl rfl)
theorem dX0_tie_50 : decode cX0_tie 50 = .ok (.goto 4, 3) := dk_167 0 4 (dk_at dksX0_tie_2 4 rfl rfl)
theorem dX0_tie_53 : decode cX0_tie 53 = .ok (.iconst 1, 1) := dk_4 (dk_at dksX0_tie_2 7 rfl rfl)
theorem dX0_tie_54 : decode cX0_tie 54 = .ok (.ireturn, 1) := dk_172 (dk_at dksX0_tie_2 8 rfl rfl)
abbrev cX0_rings : ByteArray := prog_1_method_53_code
def yX0_rings : MethodName := ⟨RX0, "rings", "()I"⟩
def dkwX0_rings_2 : List UInt8 := [167, 255, 213, 27, 172]
abbrev dktX0_rings_2 : List UInt8 := dkwX0_rings_2 ++ []
def dkwX0_rings_1 : List UInt8 := [27, 29, 153, 0, 15, 29, 184, 1, 141, 28, 160, 0, 7, 4, 167, 0, 4, 3, 96, 60, 132, 2, 1]
abbrev dktX0_rings_1 : List UInt8 := dkwX0_rings_1 ++ dktX0_rings_2
def dkwX0_rings_0 : List UInt8 := [3, 60, 3, 61, 28, 42, 180, 0, 40, 180, 0, 116, 182, 0, 120, 162, 0, 35, 42, 28, 182, 1, 138, 62]
abbrev dktX0_rings_0 : List UInt8 := dkwX0_rings_0 ++ dktX0_rings_1
theorem dksX0_rings_0 : cX0_rings.data.toList.drop 0 = dktX0_rings_0 := by decide +kernel
theorem dksX0_rings_1 : cX0_rings.data.toList.drop 24 = dktX0_rings_1 := dk_seg dksX0_rings_0 24 rfl rfl
theorem dksX0_rings_2 : cX0_rings.data.toList.drop 47 = dktX0_rings_2 := dk_seg dksX0_rings_1 23 rfl rfl
theorem dX0_rings_0 : decode cX0_rings 0 = .ok (.iconst 0, 1) := dk_3 (dk_at dksX0_rings_0 0 rfl rfl)
theorem dX0_rings_1 : decode cX0_rings 1 = .ok (.istore_n 1, 1) := dk_60 (dk_at dksX0_rings_0 1 rfl rfl)
theorem dX0_rings_2 : decode cX0_rings 2 = .ok (.iconst 0, 1) := dk_3 (dk_at dksX0_rings_0 2 rfl rfl)
theorem dX0_rings_3 : decode cX0_rings 3 = .ok (.istore_n 2, 1) := dk_61 (dk_at dksX0_rings_0 3 rfl rfl)
theorem dX0_rings_4 : decode cX0_rings 4 = .ok (.iload_n 2, 1) := dk_28 (dk_at dksX0_rings_0 4 rfl rfl)
theorem dX0_rings_5 : decode cX0_rings 5 = .ok (.aload_n 0, 1) := dk_42 (dk_at dksX0_rings_0 5 rfl rfl)
theorem dX0_rings_6 : decode cX0_rings 6 = .ok (.getfield 40, 3) := dk_180 0 40 (dk_at dksX0_rings_0 6 rfl rfl)
theorem dX0_rings_9 : decode cX0_rings 9 = .ok (.getfield 116, 3) := dk_180 0 116 (dk_at dksX0_rings_0 9 rfl rfl)
theorem dX0_rings_12 : decode cX0_rings 12 = .ok (.invokevirtual 120, 3) := dk_182 0 120 (dk_at dksX0_rings_0 12 rfl rfl)
theorem dX0_rings_15 : decode cX0_rings 15 = .ok (.if_icmp .ge 35, 3) := dk_162 0 35 (dk_at dksX0_rings_0 15 rfl rfl)
theorem dX0_rings_18 : decode cX0_rings 18 = .ok (.aload_n 0, 1) := dk_42 (dk_at dksX0_rings_0 18 rfl rfl)
theorem dX0_rings_19 : decode cX0_rings 19 = .ok (.iload_n 2, 1) := dk_28 (dk_at dksX0_rings_0 19 rfl rfl)
theorem dX0_rings_20 : decode cX0_rings 20 = .ok (.invokevirtual 394, 3) := dk_182 1 138 (dk_at dksX0_rings_0 20 rfl rfl)
theorem dX0_rings_23 : decode cX0_rings 23 = .ok (.istore_n 3, 1) := dk_62 (dk_at dksX0_rings_0 23 rfl rfl)
theorem dX0_rings_24 : decode cX0_rings 24 = .ok (.iload_n 1, 1) := dk_27 (dk_at dksX0_rings_1 0 rfl rfl)
theorem dX0_rings_25 : decode cX0_rings 25 = .ok (.iload_n 3, 1) := dk_29 (dk_at dksX0_rings_1 1 rfl rfl)
theorem dX0_rings_26 : decode cX0_rings 26 = .ok (.ifCond .eq 15, 3) := dk_153 0 15 (dk_at dksX0_rings_1 2 rfl rfl)
theorem dX0_rings_29 : decode cX0_rings 29 = .ok (.iload_n 3, 1) := dk_29 (dk_at dksX0_rings_1 5 rfl rfl)
theorem dX0_rings_30 : decode cX0_rings 30 = .ok (.invokestatic 397, 3) := dk_184 1 141 (dk_at dksX0_rings_1 6 rfl rfl)
theorem dX0_rings_33 : decode cX0_rings 33 = .ok (.iload_n 2, 1) := dk_28 (dk_at dksX0_rings_1 9 rfl rfl)
theorem dX0_rings_34 : decode cX0_rings 34 = .ok (.if_icmp .ne 7, 3) := dk_160 0 7 (dk_at dksX0_rings_1 10 rfl rfl)
theorem dX0_rings_37 : decode cX0_rings 37 = .ok (.iconst 1, 1) := dk_4 (dk_at dksX0_rings_1 13 rfl rfl)
theorem dX0_rings_38 : decode cX0_rings 38 = .ok (.goto 4, 3) := dk_167 0 4 (dk_at dksX0_rings_1 14 rfl rfl)
theorem dX0_rings_41 : decode cX0_rings 41 = .ok (.iconst 0, 1) := dk_3 (dk_at dksX0_rings_1 17 rfl rfl)
theorem dX0_rings_42 : decode cX0_rings 42 = .ok (.iadd, 1) := dk_96 (dk_at dksX0_rings_1 18 rfl rfl)
theorem dX0_rings_43 : decode cX0_rings 43 = .ok (.istore_n 1, 1) := dk_60 (dk_at dksX0_rings_1 19 rfl rfl)
theorem dX0_rings_44 : decode cX0_rings 44 = .ok (.iinc 2 1, 3) := dk_132 2 1 (dk_at dksX0_rings_1 20 rfl rfl)
theorem dX0_rings_47 : decode cX0_rings 47 = .ok (.goto (-43), 3) := dk_167 255 213 (dk_at dksX0_rings_2 0 rfl rfl)
theorem dX0_rings_50 : decode cX0_rings 50 = .ok (.iload_n 1, 1) := dk_27 (dk_at dksX0_rings_2 3 rfl rfl)
theorem dX0_rings_51 : decode cX0_rings 51 = .ok (.ireturn, 1) := dk_172 (dk_at dksX0_rings_2 4 rfl rfl)
abbrev cX0_ringOf : ByteArray := prog_1_method_52_code
def yX0_ringOf : MethodName := ⟨RX0, "ringOf", "(I)I"⟩
def dkwX0_ringOf_2 : List UInt8 := [159, 0, 5, 3, 172, 132, 3, 1, 167, 255, 220, 28, 172]
abbrev dktX0_ringOf_2 : List UInt8 := dkwX0_ringOf_2 ++ []
def dkwX0_ringOf_1 : List UInt8 := [180, 0, 116, 182, 0, 120, 162, 0, 28, 28, 29, 184, 1, 67, 153, 0, 14, 42, 29, 182, 1, 135, 28]
abbrev dktX0_ringOf_1 : List UInt8 := dkwX0_ringOf_1 ++ dktX0_ringOf_2
def dkwX0_ringOf_0 : List UInt8 := [42, 27, 182, 1, 135, 61, 28, 184, 0, 178, 5, 162, 0, 5, 3, 172, 3, 62, 29, 42, 180, 0, 40]
abbrev dktX0_ringOf_0 : List UInt8 := dkwX0_ringOf_0 ++ dktX0_ringOf_1
theorem dksX0_ringOf_0 : cX0_ringOf.data.toList.drop 0 = dktX0_ringOf_0 := by decide +kernel
theorem dksX0_ringOf_1 : cX0_ringOf.data.toList.drop 23 = dktX0_ringOf_1 := dk_seg dksX0_ringOf_0 23 rfl rfl
theorem dksX0_ringOf_2 : cX0_ringOf.data.toList.drop 46 = dktX0_ringOf_2 := dk_seg dksX0_ringOf_1 23 rfl rfl
theorem dX0_ringOf_0 : decode cX0_ringOf 0 = .ok (.aload_n 0, 1) := dk_42 (dk_at dksX0_ringOf_0 0 rfl rfl)
theorem dX0_ringOf_1 : decode cX0_ringOf 1 = .ok (.iload_n 1, 1) := dk_27 (dk_at dksX0_ringOf_0 1 rfl rfl)
theorem dX0_ringOf_2 : decode cX0_ringOf 2 = .ok (.invokevirtual 391, 3) := dk_182 1 135 (dk_at dksX0_ringOf_0 2 rfl rfl)
theorem dX0_ringOf_5 : decode cX0_ringOf 5 = .ok (.istore_n 2, 1) := dk_61 (dk_at dksX0_ringOf_0 5 rfl rfl)
theorem dX0_ringOf_6 : decode cX0_ringOf 6 = .ok (.iload_n 2, 1) := dk_28 (dk_at dksX0_ringOf_0 6 rfl rfl)
theorem dX0_ringOf_7 : decode cX0_ringOf 7 = .ok (.invokestatic 178, 3) := dk_184 0 178 (dk_at dksX0_ringOf_0 7 rfl rfl)
theorem dX0_ringOf_10 : decode cX0_ringOf 10 = .ok (.iconst 2, 1) := dk_5 (dk_at dksX0_ringOf_0 10 rfl rfl)
theorem dX0_ringOf_11 : decode cX0_ringOf 11 = .ok (.if_icmp .ge 5, 3) := dk_162 0 5 (dk_at dksX0_ringOf_0 11 rfl rfl)
theorem dX0_ringOf_14 : decode cX0_ringOf 14 = .ok (.iconst 0, 1) := dk_3 (dk_at dksX0_ringOf_0 14 rfl rfl)
theorem dX0_ringOf_15 : decode cX0_ringOf 15 = .ok (.ireturn, 1) := dk_172 (dk_at dksX0_ringOf_0 15 rfl rfl)
theorem dX0_ringOf_16 : decode cX0_ringOf 16 = .ok (.iconst 0, 1) := dk_3 (dk_at dksX0_ringOf_0 16 rfl rfl)
theorem dX0_ringOf_17 : decode cX0_ringOf 17 = .ok (.istore_n 3, 1) := dk_62 (dk_at dksX0_ringOf_0 17 rfl rfl)
theorem dX0_ringOf_18 : decode cX0_ringOf 18 = .ok (.iload_n 3, 1) := dk_29 (dk_at dksX0_ringOf_0 18 rfl rfl)
theorem dX0_ringOf_19 : decode cX0_ringOf 19 = .ok (.aload_n 0, 1) := dk_42 (dk_at dksX0_ringOf_0 19 rfl rfl)
theorem dX0_ringOf_20 : decode cX0_ringOf 20 = .ok (.getfield 40, 3) := dk_180 0 40 (dk_at dksX0_ringOf_0 20 rfl rfl)
theorem dX0_ringOf_23 : decode cX0_ringOf 23 = .ok (.getfield 116, 3) := dk_180 0 116 (dk_at dksX0_ringOf_1 0 rfl rfl)
theorem dX0_ringOf_26 : decode cX0_ringOf 26 = .ok (.invokevirtual 120, 3) := dk_182 0 120 (dk_at dksX0_ringOf_1 3 rfl rfl)
theorem dX0_ringOf_29 : decode cX0_ringOf 29 = .ok (.if_icmp .ge 28, 3) := dk_162 0 28 (dk_at dksX0_ringOf_1 6 rfl rfl)
theorem dX0_ringOf_32 : decode cX0_ringOf 32 = .ok (.iload_n 2, 1) := dk_28 (dk_at dksX0_ringOf_1 9 rfl rfl)
theorem dX0_ringOf_33 : decode cX0_ringOf 33 = .ok (.iload_n 3, 1) := dk_29 (dk_at dksX0_ringOf_1 10 rfl rfl)
theorem dX0_ringOf_34 : decode cX0_ringOf 34 = .ok (.invokestatic 323, 3) := dk_184 1 67 (dk_at dksX0_ringOf_1 11 rfl rfl)
theorem dX0_ringOf_37 : decode cX0_ringOf 37 = .ok (.ifCond .eq 14, 3) := dk_153 0 14 (dk_at dksX0_ringOf_1 14 rfl rfl)
theorem dX0_ringOf_40 : decode cX0_ringOf 40 = .ok (.aload_n 0, 1) := dk_42 (dk_at dksX0_ringOf_1 17 rfl rfl)
theorem dX0_ringOf_41 : decode cX0_ringOf 41 = .ok (.iload_n 3, 1) := dk_29 (dk_at dksX0_ringOf_1 18 rfl rfl)
theorem dX0_ringOf_42 : decode cX0_ringOf 42 = .ok (.invokevirtual 391, 3) := dk_182 1 135 (dk_at dksX0_ringOf_1 19 rfl rfl)
theorem dX0_ringOf_45 : decode cX0_ringOf 45 = .ok (.iload_n 2, 1) := dk_28 (dk_at dksX0_ringOf_1 22 rfl rfl)
theorem dX0_ringOf_46 : decode cX0_ringOf 46 = .ok (.if_icmp .eq 5, 3) := dk_159 0 5 (dk_at dksX0_ringOf_2 0 rfl rfl)
theorem dX0_ringOf_49 : decode cX0_ringOf 49 = .ok (.iconst 0, 1) := dk_3 (dk_at dksX0_ringOf_2 3 rfl rfl)
theorem dX0_ringOf_50 : decode cX0_ringOf 50 = .ok (.ireturn, 1) := dk_172 (dk_at dksX0_ringOf_2 4 rfl rfl)
theorem dX0_ringOf_51 : decode cX0_ringOf 51 = .ok (.iinc 3 1, 3) := dk_132 3 1 (dk_at dksX0_ringOf_2 5 rfl rfl)
theorem dX0_ringOf_54 : decode cX0_ringOf 54 = .ok (.goto (-36), 3) := dk_167 255 220 (dk_at dksX0_ringOf_2 8 rfl rfl)
theorem dX0_ringOf_57 : decode cX0_ringOf 57 = .ok (.iload_n 2, 1) := dk_28 (dk_at dksX0_ringOf_2 11 rfl rfl)
theorem dX0_ringOf_58 : decode cX0_ringOf 58 = .ok (.ireturn, 1) := dk_172 (dk_at dksX0_ringOf_2 12 rfl rfl)
abbrev cX0_comesTo : ByteArray := prog_1_method_51_code
def yX0_comesTo : MethodName := ⟨RX0, "comesTo", "(I)I"⟩
def dkwX0_comesTo_2 : List UInt8 := [182, 1, 132, 128, 61, 132, 4, 1, 167, 255, 220, 167, 255, 207, 28, 172]
abbrev dktX0_comesTo_2 : List UInt8 := dkwX0_comesTo_2 ++ []
def dkwX0_comesTo_1 : List UInt8 := [180, 0, 116, 182, 0, 120, 162, 0, 27, 29, 21, 4, 184, 1, 67, 153, 0, 12, 28, 42, 21, 4]
abbrev dktX0_comesTo_1 : List UInt8 := dkwX0_comesTo_1 ++ dktX0_comesTo_2
def dkwX0_comesTo_0 : List UInt8 := [4, 27, 120, 61, 3, 62, 29, 28, 159, 0, 50, 28, 62, 3, 54, 4, 21, 4, 42, 180, 0, 40]
abbrev dktX0_comesTo_0 : List UInt8 := dkwX0_comesTo_0 ++ dktX0_comesTo_1
theorem dksX0_comesTo_0 : cX0_comesTo.data.toList.drop 0 = dktX0_comesTo_0 := by decide +kernel
theorem dksX0_comesTo_1 : cX0_comesTo.data.toList.drop 22 = dktX0_comesTo_1 := dk_seg dksX0_comesTo_0 22 rfl rfl
theorem dksX0_comesTo_2 : cX0_comesTo.data.toList.drop 44 = dktX0_comesTo_2 := dk_seg dksX0_comesTo_1 22 rfl rfl
theorem dX0_comesTo_0 : decode cX0_comesTo 0 = .ok (.iconst 1, 1) := dk_4 (dk_at dksX0_comesTo_0 0 rfl rfl)
theorem dX0_comesTo_1 : decode cX0_comesTo 1 = .ok (.iload_n 1, 1) := dk_27 (dk_at dksX0_comesTo_0 1 rfl rfl)
theorem dX0_comesTo_2 : decode cX0_comesTo 2 = .ok (.ishl, 1) := dk_120 (dk_at dksX0_comesTo_0 2 rfl rfl)
theorem dX0_comesTo_3 : decode cX0_comesTo 3 = .ok (.istore_n 2, 1) := dk_61 (dk_at dksX0_comesTo_0 3 rfl rfl)
theorem dX0_comesTo_4 : decode cX0_comesTo 4 = .ok (.iconst 0, 1) := dk_3 (dk_at dksX0_comesTo_0 4 rfl rfl)
theorem dX0_comesTo_5 : decode cX0_comesTo 5 = .ok (.istore_n 3, 1) := dk_62 (dk_at dksX0_comesTo_0 5 rfl rfl)
theorem dX0_comesTo_6 : decode cX0_comesTo 6 = .ok (.iload_n 3, 1) := dk_29 (dk_at dksX0_comesTo_0 6 rfl rfl)
theorem dX0_comesTo_7 : decode cX0_comesTo 7 = .ok (.iload_n 2, 1) := dk_28 (dk_at dksX0_comesTo_0 7 rfl rfl)
theorem dX0_comesTo_8 : decode cX0_comesTo 8 = .ok (.if_icmp .eq 50, 3) := dk_159 0 50 (dk_at dksX0_comesTo_0 8 rfl rfl)
theorem dX0_comesTo_11 : decode cX0_comesTo 11 = .ok (.iload_n 2, 1) := dk_28 (dk_at dksX0_comesTo_0 11 rfl rfl)
theorem dX0_comesTo_12 : decode cX0_comesTo 12 = .ok (.istore_n 3, 1) := dk_62 (dk_at dksX0_comesTo_0 12 rfl rfl)
theorem dX0_comesTo_13 : decode cX0_comesTo 13 = .ok (.iconst 0, 1) := dk_3 (dk_at dksX0_comesTo_0 13 rfl rfl)
theorem dX0_comesTo_14 : decode cX0_comesTo 14 = .ok (.istore 4, 2) := dk_54 4 (dk_at dksX0_comesTo_0 14 rfl rfl)
theorem dX0_comesTo_16 : decode cX0_comesTo 16 = .ok (.iload 4, 2) := dk_21 4 (dk_at dksX0_comesTo_0 16 rfl rfl)
theorem dX0_comesTo_18 : decode cX0_comesTo 18 = .ok (.aload_n 0, 1) := dk_42 (dk_at dksX0_comesTo_0 18 rfl rfl)
theorem dX0_comesTo_19 : decode cX0_comesTo 19 = .ok (.getfield 40, 3) := dk_180 0 40 (dk_at dksX0_comesTo_0 19 rfl rfl)
theorem dX0_comesTo_22 : decode cX0_comesTo 22 = .ok (.getfield 116, 3) := dk_180 0 116 (dk_at dksX0_comesTo_1 0 rfl rfl)
theorem dX0_comesTo_25 : decode cX0_comesTo 25 = .ok (.invokevirtual 120, 3) := dk_182 0 120 (dk_at dksX0_comesTo_1 3 rfl rfl)
theorem dX0_comesTo_28 : decode cX0_comesTo 28 = .ok (.if_icmp .ge 27, 3) := dk_162 0 27 (dk_at dksX0_comesTo_1 6 rfl rfl)
theorem dX0_comesTo_31 : decode cX0_comesTo 31 = .ok (.iload_n 3, 1) := dk_29 (dk_at dksX0_comesTo_1 9 rfl rfl)
theorem dX0_comesTo_32 : decode cX0_comesTo 32 = .ok (.iload 4, 2) := dk_21 4 (dk_at dksX0_comesTo_1 10 rfl rfl)
theorem dX0_comesTo_34 : decode cX0_comesTo 34 = .ok (.invokestatic 323, 3) := dk_184 1 67 (dk_at dksX0_comesTo_1 12 rfl rfl)
theorem dX0_comesTo_37 : decode cX0_comesTo 37 = .ok (.ifCond .eq 12, 3) := dk_153 0 12 (dk_at dksX0_comesTo_1 15 rfl rfl)
theorem dX0_comesTo_40 : decode cX0_comesTo 40 = .ok (.iload_n 2, 1) := dk_28 (dk_at dksX0_comesTo_1 18 rfl rfl)
theorem dX0_comesTo_41 : decode cX0_comesTo 41 = .ok (.aload_n 0, 1) := dk_42 (dk_at dksX0_comesTo_1 19 rfl rfl)
theorem dX0_comesTo_42 : decode cX0_comesTo 42 = .ok (.iload 4, 2) := dk_21 4 (dk_at dksX0_comesTo_1 20 rfl rfl)
theorem dX0_comesTo_44 : decode cX0_comesTo 44 = .ok (.invokevirtual 388, 3) := dk_182 1 132 (dk_at dksX0_comesTo_2 0 rfl rfl)
theorem dX0_comesTo_47 : decode cX0_comesTo 47 = .ok (.ior, 1) := dk_128 (dk_at dksX0_comesTo_2 3 rfl rfl)
theorem dX0_comesTo_48 : decode cX0_comesTo 48 = .ok (.istore_n 2, 1) := dk_61 (dk_at dksX0_comesTo_2 4 rfl rfl)
theorem dX0_comesTo_49 : decode cX0_comesTo 49 = .ok (.iinc 4 1, 3) := dk_132 4 1 (dk_at dksX0_comesTo_2 5 rfl rfl)
theorem dX0_comesTo_52 : decode cX0_comesTo 52 = .ok (.goto (-36), 3) := dk_167 255 220 (dk_at dksX0_comesTo_2 8 rfl rfl)
theorem dX0_comesTo_55 : decode cX0_comesTo 55 = .ok (.goto (-49), 3) := dk_167 255 207 (dk_at dksX0_comesTo_2 11 rfl rfl)
theorem dX0_comesTo_58 : decode cX0_comesTo 58 = .ok (.iload_n 2, 1) := dk_28 (dk_at dksX0_comesTo_2 14 rfl rfl)
theorem dX0_comesTo_59 : decode cX0_comesTo 59 = .ok (.ireturn, 1) := dk_172 (dk_at dksX0_comesTo_2 15 rfl rfl)
abbrev cX0_calledBy : ByteArray := prog_1_method_49_code
def yX0_calledBy : MethodName := ⟨RX0, "calledBy", "(I)I"⟩
def dkwX0_calledBy_4 : List UInt8 := [28, 172]
abbrev dktX0_calledBy_4 : List UInt8 := dkwX0_calledBy_4 ++ []
def dkwX0_calledBy_3 : List UInt8 := [180, 0, 201, 29, 185, 1, 10, 2, 0, 192, 0, 210, 180, 1, 126, 120, 128, 61, 132, 3, 1, 167, 255, 168]
abbrev dktX0_calledBy_3 : List UInt8 := dkwX0_calledBy_3 ++ dktX0_calledBy_4
def dkwX0_calledBy_2 : List UInt8 := [180, 0, 201, 29, 185, 1, 10, 2, 0, 192, 0, 210, 184, 1, 122, 153, 0, 27, 28, 4, 42, 180, 0, 40]
abbrev dktX0_calledBy_2 : List UInt8 := dkwX0_calledBy_2 ++ dktX0_calledBy_3
def dkwX0_calledBy_1 : List UInt8 := [180, 0, 201, 29, 185, 1, 10, 2, 0, 192, 0, 210, 180, 1, 119, 27, 160, 0, 49, 42, 180, 0, 40]
abbrev dktX0_calledBy_1 : List UInt8 := dkwX0_calledBy_1 ++ dktX0_calledBy_2
def dkwX0_calledBy_0 : List UInt8 := [3, 61, 3, 62, 29, 42, 180, 0, 40, 180, 0, 201, 185, 0, 205, 1, 0, 162, 0, 78, 42, 180, 0, 40]
abbrev dktX0_calledBy_0 : List UInt8 := dkwX0_calledBy_0 ++ dktX0_calledBy_1
theorem dksX0_calledBy_0 : cX0_calledBy.data.toList.drop 0 = dktX0_calledBy_0 := by decide +kernel
theorem dksX0_calledBy_1 : cX0_calledBy.data.toList.drop 24 = dktX0_calledBy_1 := dk_seg dksX0_calledBy_0 24 rfl rfl
theorem dksX0_calledBy_2 : cX0_calledBy.data.toList.drop 47 = dktX0_calledBy_2 := dk_seg dksX0_calledBy_1 23 rfl rfl
theorem dksX0_calledBy_3 : cX0_calledBy.data.toList.drop 71 = dktX0_calledBy_3 := dk_seg dksX0_calledBy_2 24 rfl rfl
theorem dksX0_calledBy_4 : cX0_calledBy.data.toList.drop 95 = dktX0_calledBy_4 := dk_seg dksX0_calledBy_3 24 rfl rfl
theorem dX0_calledBy_0 : decode cX0_calledBy 0 = .ok (.iconst 0, 1) := dk_3 (dk_at dksX0_calledBy_0 0 rfl rfl)
theorem dX0_calledBy_1 : decode cX0_calledBy 1 = .ok (.istore_n 2, 1) := dk_61 (dk_at dksX0_calledBy_0 1 rfl rfl)
theorem dX0_calledBy_2 : decode cX0_calledBy 2 = .ok (.iconst 0, 1) := dk_3 (dk_at dksX0_calledBy_0 2 rfl rfl)
theorem dX0_calledBy_3 : decode cX0_calledBy 3 = .ok (.istore_n 3, 1) := dk_62 (dk_at dksX0_calledBy_0 3 rfl rfl)
theorem dX0_calledBy_4 : decode cX0_calledBy 4 = .ok (.iload_n 3, 1) := dk_29 (dk_at dksX0_calledBy_0 4 rfl rfl)
theorem dX0_calledBy_5 : decode cX0_calledBy 5 = .ok (.aload_n 0, 1) := dk_42 (dk_at dksX0_calledBy_0 5 rfl rfl)
theorem dX0_calledBy_6 : decode cX0_calledBy 6 = .ok (.getfield 40, 3) := dk_180 0 40 (dk_at dksX0_calledBy_0 6 rfl rfl)
theorem dX0_calledBy_9 : decode cX0_calledBy 9 = .ok (.getfield 201, 3) := dk_180 0 201 (dk_at dksX0_calledBy_0 9 rfl rfl)
theorem dX0_calledBy_12 : decode cX0_calledBy 12 = .ok (.invokeinterface 205 1, 5) := by decide +kernel
theorem dX0_calledBy_17 : decode cX0_calledBy 17 = .ok (.if_icmp .ge 78, 3) := dk_162 0 78 (dk_at dksX0_calledBy_0 17 rfl rfl)
theorem dX0_calledBy_20 : decode cX0_calledBy 20 = .ok (.aload_n 0, 1) := dk_42 (dk_at dksX0_calledBy_0 20 rfl rfl)
theorem dX0_calledBy_21 : decode cX0_calledBy 21 = .ok (.getfield 40, 3) := dk_180 0 40 (dk_at dksX0_calledBy_0 21 rfl rfl)
theorem dX0_calledBy_24 : decode cX0_calledBy 24 = .ok (.getfield 201, 3) := dk_180 0 201 (dk_at dksX0_calledBy_1 0 rfl rfl)
theorem dX0_calledBy_27 : decode cX0_calledBy 27 = .ok (.iload_n 3, 1) := dk_29 (dk_at dksX0_calledBy_1 3 rfl rfl)
theorem dX0_calledBy_28 : decode cX0_calledBy 28 = .ok (.invokeinterface 266 2, 5) := by decide +kernel
theorem dX0_calledBy_33 : decode cX0_calledBy 33 = .ok (.checkcast 210, 3) := dk_192 0 210 (dk_at dksX0_calledBy_1 9 rfl rfl)
theorem dX0_calledBy_36 : decode cX0_calledBy 36 = .ok (.getfield 375, 3) := dk_180 1 119 (dk_at dksX0_calledBy_1 12 rfl rfl)
theorem dX0_calledBy_39 : decode cX0_calledBy 39 = .ok (.iload_n 1, 1) := dk_27 (dk_at dksX0_calledBy_1 15 rfl rfl)
theorem dX0_calledBy_40 : decode cX0_calledBy 40 = .ok (.if_icmp .ne 49, 3) := dk_160 0 49 (dk_at dksX0_calledBy_1 16 rfl rfl)
theorem dX0_calledBy_43 : decode cX0_calledBy 43 = .ok (.aload_n 0, 1) := dk_42 (dk_at dksX0_calledBy_1 19 rfl rfl)
theorem dX0_calledBy_44 : decode cX0_calledBy 44 = .ok (.getfield 40, 3) := dk_180 0 40 (dk_at dksX0_calledBy_1 20 rfl rfl)
theorem dX0_calledBy_47 : decode cX0_calledBy 47 = .ok (.getfield 201, 3) := dk_180 0 201 (dk_at dksX0_calledBy_2 0 rfl rfl)
theorem dX0_calledBy_50 : decode cX0_calledBy 50 = .ok (.iload_n 3, 1) := dk_29 (dk_at dksX0_calledBy_2 3 rfl rfl)
theorem dX0_calledBy_51 : decode cX0_calledBy 51 = .ok (.invokeinterface 266 2, 5) := by decide +kernel
theorem dX0_calledBy_56 : decode cX0_calledBy 56 = .ok (.checkcast 210, 3) := dk_192 0 210 (dk_at dksX0_calledBy_2 9 rfl rfl)
theorem dX0_calledBy_59 : decode cX0_calledBy 59 = .ok (.invokestatic 378, 3) := dk_184 1 122 (dk_at dksX0_calledBy_2 12 rfl rfl)
theorem dX0_calledBy_62 : decode cX0_calledBy 62 = .ok (.ifCond .eq 27, 3) := dk_153 0 27 (dk_at dksX0_calledBy_2 15 rfl rfl)
theorem dX0_calledBy_65 : decode cX0_calledBy 65 = .ok (.iload_n 2, 1) := dk_28 (dk_at dksX0_calledBy_2 18 rfl rfl)
theorem dX0_calledBy_66 : decode cX0_calledBy 66 = .ok (.iconst 1, 1) := dk_4 (dk_at dksX0_calledBy_2 19 rfl rfl)
theorem dX0_calledBy_67 : decode cX0_calledBy 67 = .ok (.aload_n 0, 1) := dk_42 (dk_at dksX0_calledBy_2 20 rfl rfl)
theorem dX0_calledBy_68 : decode cX0_calledBy 68 = .ok (.getfield 40, 3) := dk_180 0 40 (dk_at dksX0_calledBy_2 21 rfl rfl)
theorem dX0_calledBy_71 : decode cX0_calledBy 71 = .ok (.getfield 201, 3) := dk_180 0 201 (dk_at dksX0_calledBy_3 0 rfl rfl)
theorem dX0_calledBy_74 : decode cX0_calledBy 74 = .ok (.iload_n 3, 1) := dk_29 (dk_at dksX0_calledBy_3 3 rfl rfl)
theorem dX0_calledBy_75 : decode cX0_calledBy 75 = .ok (.invokeinterface 266 2, 5) := by decide +kernel
theorem dX0_calledBy_80 : decode cX0_calledBy 80 = .ok (.checkcast 210, 3) := dk_192 0 210 (dk_at dksX0_calledBy_3 9 rfl rfl)
theorem dX0_calledBy_83 : decode cX0_calledBy 83 = .ok (.getfield 382, 3) := dk_180 1 126 (dk_at dksX0_calledBy_3 12 rfl rfl)
theorem dX0_calledBy_86 : decode cX0_calledBy 86 = .ok (.ishl, 1) := dk_120 (dk_at dksX0_calledBy_3 15 rfl rfl)
theorem dX0_calledBy_87 : decode cX0_calledBy 87 = .ok (.ior, 1) := dk_128 (dk_at dksX0_calledBy_3 16 rfl rfl)
theorem dX0_calledBy_88 : decode cX0_calledBy 88 = .ok (.istore_n 2, 1) := dk_61 (dk_at dksX0_calledBy_3 17 rfl rfl)
theorem dX0_calledBy_89 : decode cX0_calledBy 89 = .ok (.iinc 3 1, 3) := dk_132 3 1 (dk_at dksX0_calledBy_3 18 rfl rfl)
theorem dX0_calledBy_92 : decode cX0_calledBy 92 = .ok (.goto (-88), 3) := dk_167 255 168 (dk_at dksX0_calledBy_3 21 rfl rfl)
theorem dX0_calledBy_95 : decode cX0_calledBy 95 = .ok (.iload_n 2, 1) := dk_28 (dk_at dksX0_calledBy_4 0 rfl rfl)
theorem dX0_calledBy_96 : decode cX0_calledBy 96 = .ok (.ireturn, 1) := dk_172 (dk_at dksX0_calledBy_4 1 rfl rfl)
abbrev cX0_isSeeing : ByteArray := prog_1_method_50_code
def yX0_isSeeing : MethodName := ⟨RX0, "isSeeing", "(LCardBowl$Deed;)Z"⟩
def dkwX0_isSeeing_0 : List UInt8 := [42, 180, 1, 129, 5, 159, 0, 11, 42, 180, 1, 129, 6, 160, 0, 7, 4, 167, 0, 4, 3, 172]
abbrev dktX0_isSeeing_0 : List UInt8 := dkwX0_isSeeing_0 ++ []
theorem dksX0_isSeeing_0 : cX0_isSeeing.data.toList.drop 0 = dktX0_isSeeing_0 := by decide +kernel
theorem dX0_isSeeing_0 : decode cX0_isSeeing 0 = .ok (.aload_n 0, 1) := dk_42 (dk_at dksX0_isSeeing_0 0 rfl rfl)
theorem dX0_isSeeing_1 : decode cX0_isSeeing 1 = .ok (.getfield 385, 3) := dk_180 1 129 (dk_at dksX0_isSeeing_0 1 rfl rfl)
theorem dX0_isSeeing_4 : decode cX0_isSeeing 4 = .ok (.iconst 2, 1) := dk_5 (dk_at dksX0_isSeeing_0 4 rfl rfl)
theorem dX0_isSeeing_5 : decode cX0_isSeeing 5 = .ok (.if_icmp .eq 11, 3) := dk_159 0 11 (dk_at dksX0_isSeeing_0 5 rfl rfl)
theorem dX0_isSeeing_8 : decode cX0_isSeeing 8 = .ok (.aload_n 0, 1) := dk_42 (dk_at dksX0_isSeeing_0 8 rfl rfl)
theorem dX0_isSeeing_9 : decode cX0_isSeeing 9 = .ok (.getfield 385, 3) := dk_180 1 129 (dk_at dksX0_isSeeing_0 9 rfl rfl)
theorem dX0_isSeeing_12 : decode cX0_isSeeing 12 = .ok (.iconst 3, 1) := dk_6 (dk_at dksX0_isSeeing_0 12 rfl rfl)
theorem dX0_isSeeing_13 : decode cX0_isSeeing 13 = .ok (.if_icmp .ne 7, 3) := dk_160 0 7 (dk_at dksX0_isSeeing_0 13 rfl rfl)
theorem dX0_isSeeing_16 : decode cX0_isSeeing 16 = .ok (.iconst 1, 1) := dk_4 (dk_at dksX0_isSeeing_0 16 rfl rfl)
theorem dX0_isSeeing_17 : decode cX0_isSeeing 17 = .ok (.goto 4, 3) := dk_167 0 4 (dk_at dksX0_isSeeing_0 17 rfl rfl)
theorem dX0_isSeeing_20 : decode cX0_isSeeing 20 = .ok (.iconst 0, 1) := dk_3 (dk_at dksX0_isSeeing_0 20 rfl rfl)
theorem dX0_isSeeing_21 : decode cX0_isSeeing 21 = .ok (.ireturn, 1) := dk_172 (dk_at dksX0_isSeeing_0 21 rfl rfl)
abbrev cX0_ring : ByteArray := prog_1_method_54_code
def yX0_ring : MethodName := ⟨RX0, "ring", "(I)I"⟩
def dkwX0_ring_0 : List UInt8 := [42, 27, 182, 0, 137, 153, 0, 11, 42, 27, 182, 1, 138, 167, 0, 5, 16, 254, 172]
abbrev dktX0_ring_0 : List UInt8 := dkwX0_ring_0 ++ []
theorem dksX0_ring_0 : cX0_ring.data.toList.drop 0 = dktX0_ring_0 := by decide +kernel
theorem dX0_ring_0 : decode cX0_ring 0 = .ok (.aload_n 0, 1) := dk_42 (dk_at dksX0_ring_0 0 rfl rfl)
theorem dX0_ring_1 : decode cX0_ring 1 = .ok (.iload_n 1, 1) := dk_27 (dk_at dksX0_ring_0 1 rfl rfl)
theorem dX0_ring_2 : decode cX0_ring 2 = .ok (.invokevirtual 137, 3) := dk_182 0 137 (dk_at dksX0_ring_0 2 rfl rfl)
theorem dX0_ring_5 : decode cX0_ring 5 = .ok (.ifCond .eq 11, 3) := dk_153 0 11 (dk_at dksX0_ring_0 5 rfl rfl)
theorem dX0_ring_8 : decode cX0_ring 8 = .ok (.aload_n 0, 1) := dk_42 (dk_at dksX0_ring_0 8 rfl rfl)
theorem dX0_ring_9 : decode cX0_ring 9 = .ok (.iload_n 1, 1) := dk_27 (dk_at dksX0_ring_0 9 rfl rfl)
theorem dX0_ring_10 : decode cX0_ring 10 = .ok (.invokevirtual 394, 3) := dk_182 1 138 (dk_at dksX0_ring_0 10 rfl rfl)
theorem dX0_ring_13 : decode cX0_ring 13 = .ok (.goto 5, 3) := dk_167 0 5 (dk_at dksX0_ring_0 13 rfl rfl)
theorem dX0_ring_16 : decode cX0_ring 16 = .ok (.bipush (-2), 2) := dk_16 254 (dk_at dksX0_ring_0 16 rfl rfl)
theorem dX0_ring_18 : decode cX0_ring 18 = .ok (.ireturn, 1) := dk_172 (dk_at dksX0_ring_0 18 rfl rfl)
abbrev cX0_house : ByteArray := prog_1_method_55_code
def yX0_house : MethodName := ⟨RX0, "house", "(II)I"⟩
def dkwX0_house_8 : List UInt8 := [172, 45, 180, 1, 157, 172, 45, 180, 0, 152, 172, 21, 4, 172, 21, 5, 172, 19, 1, 144, 172]
abbrev dktX0_house_8 : List UInt8 := dkwX0_house_8 ++ []
def dkwX0_house_7 : List UInt8 := [45, 180, 1, 145, 172, 45, 180, 1, 148, 172, 45, 180, 1, 17, 172, 45, 180, 1, 151, 172, 45, 180, 1, 154]
abbrev dktX0_house_7 : List UInt8 := dkwX0_house_7 ++ dktX0_house_8
def dkwX0_house_6 : List UInt8 := [170, 0, 0, 0, 0, 0, 0, 93, 0, 0, 0, 0, 0, 0, 0, 8, 0, 0, 0, 52, 0, 0, 0, 57, 0, 0, 0, 62, 0, 0, 0, 67, 0, 0, 0, 72, 0, 0, 0, 77, 0, 0, 0, 82, 0, 0, 0, 87, 0, 0, 0, 90]
abbrev dktX0_house_6 : List UInt8 := dkwX0_house_6 ++ dktX0_house_7
def dkwX0_house_5 : List UInt8 := [132, 6, 1, 167, 255, 163, 28]
abbrev dktX0_house_5 : List UInt8 := dkwX0_house_5 ++ dktX0_house_6
def dkwX0_house_4 : List UInt8 := [184, 1, 122, 153, 0, 16, 25, 7, 180, 1, 126, 27, 160, 0, 7, 4, 167, 0, 4, 3, 96, 54, 5]
abbrev dktX0_house_4 : List UInt8 := dkwX0_house_4 ++ dktX0_house_5
def dkwX0_house_3 : List UInt8 := [153, 0, 16, 25, 7, 180, 1, 119, 27, 160, 0, 7, 4, 167, 0, 4, 3, 96, 54, 4, 21, 5, 25, 7]
abbrev dktX0_house_3 : List UInt8 := dkwX0_house_3 ++ dktX0_house_4
def dkwX0_house_2 : List UInt8 := [180, 0, 201, 21, 6, 185, 1, 10, 2, 0, 192, 0, 210, 58, 7, 21, 4, 25, 7, 184, 1, 122]
abbrev dktX0_house_2 : List UInt8 := dkwX0_house_2 ++ dktX0_house_3
def dkwX0_house_1 : List UInt8 := [3, 54, 6, 21, 6, 42, 180, 0, 40, 180, 0, 201, 185, 0, 205, 1, 0, 162, 0, 82, 42, 180, 0, 40]
abbrev dktX0_house_1 : List UInt8 := dkwX0_house_1 ++ dktX0_house_2
def dkwX0_house_0 : List UInt8 := [42, 27, 182, 0, 137, 154, 0, 7, 19, 1, 144, 172, 42, 27, 182, 0, 149, 78, 3, 54, 4, 3, 54, 5]
abbrev dktX0_house_0 : List UInt8 := dkwX0_house_0 ++ dktX0_house_1
theorem dksX0_house_0 : cX0_house.data.toList.drop 0 = dktX0_house_0 := by decide +kernel
theorem dksX0_house_1 : cX0_house.data.toList.drop 24 = dktX0_house_1 := dk_seg dksX0_house_0 24 rfl rfl
theorem dksX0_house_2 : cX0_house.data.toList.drop 48 = dktX0_house_2 := dk_seg dksX0_house_1 24 rfl rfl
theorem dksX0_house_3 : cX0_house.data.toList.drop 70 = dktX0_house_3 := dk_seg dksX0_house_2 22 rfl rfl
theorem dksX0_house_4 : cX0_house.data.toList.drop 94 = dktX0_house_4 := dk_seg dksX0_house_3 24 rfl rfl
theorem dksX0_house_5 : cX0_house.data.toList.drop 117 = dktX0_house_5 := dk_seg dksX0_house_4 23 rfl rfl
theorem dksX0_house_6 : cX0_house.data.toList.drop 124 = dktX0_house_6 := dk_seg dksX0_house_5 7 rfl rfl
theorem dksX0_house_7 : cX0_house.data.toList.drop 176 = dktX0_house_7 := dk_seg dksX0_house_6 52 rfl rfl
theorem dksX0_house_8 : cX0_house.data.toList.drop 200 = dktX0_house_8 := dk_seg dksX0_house_7 24 rfl rfl
theorem dX0_house_0 : decode cX0_house 0 = .ok (.aload_n 0, 1) := dk_42 (dk_at dksX0_house_0 0 rfl rfl)
theorem dX0_house_1 : decode cX0_house 1 = .ok (.iload_n 1, 1) := dk_27 (dk_at dksX0_house_0 1 rfl rfl)
theorem dX0_house_2 : decode cX0_house 2 = .ok (.invokevirtual 137, 3) := dk_182 0 137 (dk_at dksX0_house_0 2 rfl rfl)
theorem dX0_house_5 : decode cX0_house 5 = .ok (.ifCond .ne 7, 3) := dk_154 0 7 (dk_at dksX0_house_0 5 rfl rfl)
theorem dX0_house_8 : decode cX0_house 8 = .ok (.ldc_w 400, 3) := dk_19 1 144 (dk_at dksX0_house_0 8 rfl rfl)
theorem dX0_house_11 : decode cX0_house 11 = .ok (.ireturn, 1) := dk_172 (dk_at dksX0_house_0 11 rfl rfl)
theorem dX0_house_12 : decode cX0_house 12 = .ok (.aload_n 0, 1) := dk_42 (dk_at dksX0_house_0 12 rfl rfl)
theorem dX0_house_13 : decode cX0_house 13 = .ok (.iload_n 1, 1) := dk_27 (dk_at dksX0_house_0 13 rfl rfl)
theorem dX0_house_14 : decode cX0_house 14 = .ok (.invokevirtual 149, 3) := dk_182 0 149 (dk_at dksX0_house_0 14 rfl rfl)
theorem dX0_house_17 : decode cX0_house 17 = .ok (.astore_n 3, 1) := dk_78 (dk_at dksX0_house_0 17 rfl rfl)
theorem dX0_house_18 : decode cX0_house 18 = .ok (.iconst 0, 1) := dk_3 (dk_at dksX0_house_0 18 rfl rfl)
theorem dX0_house_19 : decode cX0_house 19 = .ok (.istore 4, 2) := dk_54 4 (dk_at dksX0_house_0 19 rfl rfl)
theorem dX0_house_21 : decode cX0_house 21 = .ok (.iconst 0, 1) := dk_3 (dk_at dksX0_house_0 21 rfl rfl)
theorem dX0_house_22 : decode cX0_house 22 = .ok (.istore 5, 2) := dk_54 5 (dk_at dksX0_house_0 22 rfl rfl)
theorem dX0_house_24 : decode cX0_house 24 = .ok (.iconst 0, 1) := dk_3 (dk_at dksX0_house_1 0 rfl rfl)
theorem dX0_house_25 : decode cX0_house 25 = .ok (.istore 6, 2) := dk_54 6 (dk_at dksX0_house_1 1 rfl rfl)
theorem dX0_house_27 : decode cX0_house 27 = .ok (.iload 6, 2) := dk_21 6 (dk_at dksX0_house_1 3 rfl rfl)
theorem dX0_house_29 : decode cX0_house 29 = .ok (.aload_n 0, 1) := dk_42 (dk_at dksX0_house_1 5 rfl rfl)
theorem dX0_house_30 : decode cX0_house 30 = .ok (.getfield 40, 3) := dk_180 0 40 (dk_at dksX0_house_1 6 rfl rfl)
theorem dX0_house_33 : decode cX0_house 33 = .ok (.getfield 201, 3) := dk_180 0 201 (dk_at dksX0_house_1 9 rfl rfl)
theorem dX0_house_36 : decode cX0_house 36 = .ok (.invokeinterface 205 1, 5) := by decide +kernel
theorem dX0_house_41 : decode cX0_house 41 = .ok (.if_icmp .ge 82, 3) := dk_162 0 82 (dk_at dksX0_house_1 17 rfl rfl)
theorem dX0_house_44 : decode cX0_house 44 = .ok (.aload_n 0, 1) := dk_42 (dk_at dksX0_house_1 20 rfl rfl)
theorem dX0_house_45 : decode cX0_house 45 = .ok (.getfield 40, 3) := dk_180 0 40 (dk_at dksX0_house_1 21 rfl rfl)
theorem dX0_house_48 : decode cX0_house 48 = .ok (.getfield 201, 3) := dk_180 0 201 (dk_at dksX0_house_2 0 rfl rfl)
theorem dX0_house_51 : decode cX0_house 51 = .ok (.iload 6, 2) := dk_21 6 (dk_at dksX0_house_2 3 rfl rfl)
theorem dX0_house_53 : decode cX0_house 53 = .ok (.invokeinterface 266 2, 5) := by decide +kernel
theorem dX0_house_58 : decode cX0_house 58 = .ok (.checkcast 210, 3) := dk_192 0 210 (dk_at dksX0_house_2 10 rfl rfl)
theorem dX0_house_61 : decode cX0_house 61 = .ok (.astore 7, 2) := dk_58 7 (dk_at dksX0_house_2 13 rfl rfl)
theorem dX0_house_63 : decode cX0_house 63 = .ok (.iload 4, 2) := dk_21 4 (dk_at dksX0_house_2 15 rfl rfl)
theorem dX0_house_65 : decode cX0_house 65 = .ok (.aload 7, 2) := dk_25 7 (dk_at dksX0_house_2 17 rfl rfl)
theorem dX0_house_67 : decode cX0_house 67 = .ok (.invokestatic 378, 3) := dk_184 1 122 (dk_at dksX0_house_2 19 rfl rfl)
theorem dX0_house_70 : decode cX0_house 70 = .ok (.ifCond .eq 16, 3) := dk_153 0 16 (dk_at dksX0_house_3 0 rfl rfl)
theorem dX0_house_73 : decode cX0_house 73 = .ok (.aload 7, 2) := dk_25 7 (dk_at dksX0_house_3 3 rfl rfl)
theorem dX0_house_75 : decode cX0_house 75 = .ok (.getfield 375, 3) := dk_180 1 119 (dk_at dksX0_house_3 5 rfl rfl)
theorem dX0_house_78 : decode cX0_house 78 = .ok (.iload_n 1, 1) := dk_27 (dk_at dksX0_house_3 8 rfl rfl)
theorem dX0_house_79 : decode cX0_house 79 = .ok (.if_icmp .ne 7, 3) := dk_160 0 7 (dk_at dksX0_house_3 9 rfl rfl)
theorem dX0_house_82 : decode cX0_house 82 = .ok (.iconst 1, 1) := dk_4 (dk_at dksX0_house_3 12 rfl rfl)
theorem dX0_house_83 : decode cX0_house 83 = .ok (.goto 4, 3) := dk_167 0 4 (dk_at dksX0_house_3 13 rfl rfl)
theorem dX0_house_86 : decode cX0_house 86 = .ok (.iconst 0, 1) := dk_3 (dk_at dksX0_house_3 16 rfl rfl)
theorem dX0_house_87 : decode cX0_house 87 = .ok (.iadd, 1) := dk_96 (dk_at dksX0_house_3 17 rfl rfl)
theorem dX0_house_88 : decode cX0_house 88 = .ok (.istore 4, 2) := dk_54 4 (dk_at dksX0_house_3 18 rfl rfl)
theorem dX0_house_90 : decode cX0_house 90 = .ok (.iload 5, 2) := dk_21 5 (dk_at dksX0_house_3 20 rfl rfl)
theorem dX0_house_92 : decode cX0_house 92 = .ok (.aload 7, 2) := dk_25 7 (dk_at dksX0_house_3 22 rfl rfl)
theorem dX0_house_94 : decode cX0_house 94 = .ok (.invokestatic 378, 3) := dk_184 1 122 (dk_at dksX0_house_4 0 rfl rfl)
theorem dX0_house_97 : decode cX0_house 97 = .ok (.ifCond .eq 16, 3) := dk_153 0 16 (dk_at dksX0_house_4 3 rfl rfl)
theorem dX0_house_100 : decode cX0_house 100 = .ok (.aload 7, 2) := dk_25 7 (dk_at dksX0_house_4 6 rfl rfl)
theorem dX0_house_102 : decode cX0_house 102 = .ok (.getfield 382, 3) := dk_180 1 126 (dk_at dksX0_house_4 8 rfl rfl)
theorem dX0_house_105 : decode cX0_house 105 = .ok (.iload_n 1, 1) := dk_27 (dk_at dksX0_house_4 11 rfl rfl)
theorem dX0_house_106 : decode cX0_house 106 = .ok (.if_icmp .ne 7, 3) := dk_160 0 7 (dk_at dksX0_house_4 12 rfl rfl)
theorem dX0_house_109 : decode cX0_house 109 = .ok (.iconst 1, 1) := dk_4 (dk_at dksX0_house_4 15 rfl rfl)
theorem dX0_house_110 : decode cX0_house 110 = .ok (.goto 4, 3) := dk_167 0 4 (dk_at dksX0_house_4 16 rfl rfl)
theorem dX0_house_113 : decode cX0_house 113 = .ok (.iconst 0, 1) := dk_3 (dk_at dksX0_house_4 19 rfl rfl)
theorem dX0_house_114 : decode cX0_house 114 = .ok (.iadd, 1) := dk_96 (dk_at dksX0_house_4 20 rfl rfl)
theorem dX0_house_115 : decode cX0_house 115 = .ok (.istore 5, 2) := dk_54 5 (dk_at dksX0_house_4 21 rfl rfl)
theorem dX0_house_117 : decode cX0_house 117 = .ok (.iinc 6 1, 3) := dk_132 6 1 (dk_at dksX0_house_5 0 rfl rfl)
theorem dX0_house_120 : decode cX0_house 120 = .ok (.goto (-93), 3) := dk_167 255 163 (dk_at dksX0_house_5 3 rfl rfl)
theorem dX0_house_123 : decode cX0_house 123 = .ok (.iload_n 2, 1) := dk_28 (dk_at dksX0_house_5 6 rfl rfl)
theorem dX0_house_124 : decode cX0_house 124 = .ok (.tableswitch 93 0 8 #[52, 57, 62, 67, 72, 77, 82, 87, 90], 52) := by decide +kernel
theorem dX0_house_176 : decode cX0_house 176 = .ok (.aload_n 3, 1) := dk_45 (dk_at dksX0_house_7 0 rfl rfl)
theorem dX0_house_177 : decode cX0_house 177 = .ok (.getfield 401, 3) := dk_180 1 145 (dk_at dksX0_house_7 1 rfl rfl)
theorem dX0_house_180 : decode cX0_house 180 = .ok (.ireturn, 1) := dk_172 (dk_at dksX0_house_7 4 rfl rfl)
theorem dX0_house_181 : decode cX0_house 181 = .ok (.aload_n 3, 1) := dk_45 (dk_at dksX0_house_7 5 rfl rfl)
theorem dX0_house_182 : decode cX0_house 182 = .ok (.getfield 404, 3) := dk_180 1 148 (dk_at dksX0_house_7 6 rfl rfl)
theorem dX0_house_185 : decode cX0_house 185 = .ok (.ireturn, 1) := dk_172 (dk_at dksX0_house_7 9 rfl rfl)
theorem dX0_house_186 : decode cX0_house 186 = .ok (.aload_n 3, 1) := dk_45 (dk_at dksX0_house_7 10 rfl rfl)
theorem dX0_house_187 : decode cX0_house 187 = .ok (.getfield 273, 3) := dk_180 1 17 (dk_at dksX0_house_7 11 rfl rfl)
theorem dX0_house_190 : decode cX0_house 190 = .ok (.ireturn, 1) := dk_172 (dk_at dksX0_house_7 14 rfl rfl)
theorem dX0_house_191 : decode cX0_house 191 = .ok (.aload_n 3, 1) := dk_45 (dk_at dksX0_house_7 15 rfl rfl)
theorem dX0_house_192 : decode cX0_house 192 = .ok (.getfield 407, 3) := dk_180 1 151 (dk_at dksX0_house_7 16 rfl rfl)
theorem dX0_house_195 : decode cX0_house 195 = .ok (.ireturn, 1) := dk_172 (dk_at dksX0_house_7 19 rfl rfl)
theorem dX0_house_196 : decode cX0_house 196 = .ok (.aload_n 3, 1) := dk_45 (dk_at dksX0_house_7 20 rfl rfl)
theorem dX0_house_197 : decode cX0_house 197 = .ok (.getfield 410, 3) := dk_180 1 154 (dk_at dksX0_house_7 21 rfl rfl)
theorem dX0_house_200 : decode cX0_house 200 = .ok (.ireturn, 1) := dk_172 (dk_at dksX0_house_8 0 rfl rfl)
theorem dX0_house_201 : decode cX0_house 201 = .ok (.aload_n 3, 1) := dk_45 (dk_at dksX0_house_8 1 rfl rfl)
theorem dX0_house_202 : decode cX0_house 202 = .ok (.getfield 413, 3) := dk_180 1 157 (dk_at dksX0_house_8 2 rfl rfl)
theorem dX0_house_205 : decode cX0_house 205 = .ok (.ireturn, 1) := dk_172 (dk_at dksX0_house_8 5 rfl rfl)
theorem dX0_house_206 : decode cX0_house 206 = .ok (.aload_n 3, 1) := dk_45 (dk_at dksX0_house_8 6 rfl rfl)
theorem dX0_house_207 : decode cX0_house 207 = .ok (.getfield 152, 3) := dk_180 0 152 (dk_at dksX0_house_8 7 rfl rfl)
theorem dX0_house_210 : decode cX0_house 210 = .ok (.ireturn, 1) := dk_172 (dk_at dksX0_house_8 10 rfl rfl)
theorem dX0_house_211 : decode cX0_house 211 = .ok (.iload 4, 2) := dk_21 4 (dk_at dksX0_house_8 11 rfl rfl)
theorem dX0_house_213 : decode cX0_house 213 = .ok (.ireturn, 1) := dk_172 (dk_at dksX0_house_8 13 rfl rfl)
theorem dX0_house_214 : decode cX0_house 214 = .ok (.iload 5, 2) := dk_21 5 (dk_at dksX0_house_8 14 rfl rfl)
theorem dX0_house_216 : decode cX0_house 216 = .ok (.ireturn, 1) := dk_172 (dk_at dksX0_house_8 16 rfl rfl)
theorem dX0_house_217 : decode cX0_house 217 = .ok (.ldc_w 400, 3) := dk_19 1 144 (dk_at dksX0_house_8 17 rfl rfl)
theorem dX0_house_220 : decode cX0_house 220 = .ok (.ireturn, 1) := dk_172 (dk_at dksX0_house_8 20 rfl rfl)
abbrev cX0_beside : ByteArray := prog_1_method_56_code
def yX0_beside : MethodName := ⟨RX0, "beside", "(I)I"⟩
def dkwX0_beside_7 : List UInt8 := [185, 0, 205, 1, 0, 172]
abbrev dktX0_beside_7 : List UInt8 := dkwX0_beside_7 ++ []
def dkwX0_beside_6 : List UInt8 := [180, 1, 129, 50, 25, 4, 180, 1, 167, 182, 0, 219, 87, 132, 3, 1, 167, 255, 163, 44, 180, 1, 7]
abbrev dktX0_beside_6 : List UInt8 := dkwX0_beside_6 ++ dktX0_beside_7
def dkwX0_beside_5 : List UInt8 := [182, 0, 223, 167, 0, 33, 44, 25, 4, 180, 1, 119, 25, 4, 180, 1, 126, 42, 180, 0, 62, 25, 4]
abbrev dktX0_beside_5 : List UInt8 := dkwX0_beside_5 ++ dktX0_beside_6
def dkwX0_beside_4 : List UInt8 := [58, 4, 25, 4, 180, 1, 129, 7, 160, 0, 20, 44, 25, 4, 180, 1, 119, 25, 4, 180, 1, 126]
abbrev dktX0_beside_4 : List UInt8 := dkwX0_beside_4 ++ dktX0_beside_5
def dkwX0_beside_3 : List UInt8 := [185, 0, 205, 1, 0, 162, 0, 83, 42, 180, 0, 40, 180, 0, 201, 29, 185, 1, 10, 2, 0, 192, 0, 210]
abbrev dktX0_beside_3 : List UInt8 := dkwX0_beside_3 ++ dktX0_beside_4
def dkwX0_beside_2 : List UInt8 := [50, 180, 0, 116, 180, 1, 161, 182, 1, 164, 3, 62, 29, 42, 180, 0, 40, 180, 0, 201]
abbrev dktX0_beside_2 : List UInt8 := dkwX0_beside_2 ++ dktX0_beside_3
def dkwX0_beside_1 : List UInt8 := [16, 250, 172, 187, 0, 168, 89, 183, 1, 160, 77, 44, 42, 180, 0, 40, 180, 0, 116, 42, 180, 0, 44, 27]
abbrev dktX0_beside_1 : List UInt8 := dkwX0_beside_1 ++ dktX0_beside_2
def dkwX0_beside_0 : List UInt8 := [27, 133, 9, 20, 1, 158, 184, 0, 5, 154, 0, 6, 16, 254, 172, 42, 180, 0, 44, 27, 50, 199, 0, 6]
abbrev dktX0_beside_0 : List UInt8 := dkwX0_beside_0 ++ dktX0_beside_1
theorem dksX0_beside_0 : cX0_beside.data.toList.drop 0 = dktX0_beside_0 := by decide +kernel
theorem dksX0_beside_1 : cX0_beside.data.toList.drop 24 = dktX0_beside_1 := dk_seg dksX0_beside_0 24 rfl rfl
theorem dksX0_beside_2 : cX0_beside.data.toList.drop 48 = dktX0_beside_2 := dk_seg dksX0_beside_1 24 rfl rfl
theorem dksX0_beside_3 : cX0_beside.data.toList.drop 68 = dktX0_beside_3 := dk_seg dksX0_beside_2 20 rfl rfl
theorem dksX0_beside_4 : cX0_beside.data.toList.drop 92 = dktX0_beside_4 := dk_seg dksX0_beside_3 24 rfl rfl
theorem dksX0_beside_5 : cX0_beside.data.toList.drop 114 = dktX0_beside_5 := dk_seg dksX0_beside_4 22 rfl rfl
theorem dksX0_beside_6 : cX0_beside.data.toList.drop 137 = dktX0_beside_6 := dk_seg dksX0_beside_5 23 rfl rfl
theorem dksX0_beside_7 : cX0_beside.data.toList.drop 160 = dktX0_beside_7 := dk_seg dksX0_beside_6 23 rfl rfl
theorem dX0_beside_0 : decode cX0_beside 0 = .ok (.iload_n 1, 1) := dk_27 (dk_at dksX0_beside_0 0 rfl rfl)
theorem dX0_beside_1 : decode cX0_beside 1 = .ok (.i2l, 1) := dk_133 (dk_at dksX0_beside_0 1 rfl rfl)
theorem dX0_beside_2 : decode cX0_beside 2 = .ok (.lconst 0, 1) := dk_9 (dk_at dksX0_beside_0 2 rfl rfl)
theorem dX0_beside_3 : decode cX0_beside 3 = .ok (.ldc2_w 414, 3) := dk_20 1 158 (dk_at dksX0_beside_0 3 rfl rfl)
theorem dX0_beside_6 : decode cX0_beside 6 = .ok (.invokestatic 5, 3) := dk_184 0 5 (dk_at dksX0_beside_0 6 rfl rfl)
theorem dX0_beside_9 : decode cX0_beside 9 = .ok (.ifCond .ne 6, 3) := dk_154 0 6 (dk_at dksX0_beside_0 9 rfl rfl)
theorem dX0_beside_12 : decode cX0_beside 12 = .ok (.bipush (-2), 2) := dk_16 254 (dk_at dksX0_beside_0 12 rfl rfl)
theorem dX0_beside_14 : decode cX0_beside 14 = .ok (.ireturn, 1) := dk_172 (dk_at dksX0_beside_0 14 rfl rfl)
theorem dX0_beside_15 : decode cX0_beside 15 = .ok (.aload_n 0, 1) := dk_42 (dk_at dksX0_beside_0 15 rfl rfl)
theorem dX0_beside_16 : decode cX0_beside 16 = .ok (.getfield 44, 3) := dk_180 0 44 (dk_at dksX0_beside_0 16 rfl rfl)
theorem dX0_beside_19 : decode cX0_beside 19 = .ok (.iload_n 1, 1) := dk_27 (dk_at dksX0_beside_0 19 rfl rfl)
theorem dX0_beside_20 : decode cX0_beside 20 = .ok (.aaload, 1) := dk_50 (dk_at dksX0_beside_0 20 rfl rfl)
theorem dX0_beside_21 : decode cX0_beside 21 = .ok (.ifnonnull 6, 3) := dk_199 0 6 (dk_at dksX0_beside_0 21 rfl rfl)
theorem dX0_beside_24 : decode cX0_beside 24 = .ok (.bipush (-6), 2) := dk_16 250 (dk_at dksX0_beside_1 0 rfl rfl)
theorem dX0_beside_26 : decode cX0_beside 26 = .ok (.ireturn, 1) := dk_172 (dk_at dksX0_beside_1 2 rfl rfl)
theorem dX0_beside_27 : decode cX0_beside 27 = .ok (.new 168, 3) := dk_187 0 168 (dk_at dksX0_beside_1 3 rfl rfl)
theorem dX0_beside_30 : decode cX0_beside 30 = .ok (.dup, 1) := dk_89 (dk_at dksX0_beside_1 6 rfl rfl)
theorem dX0_beside_31 : decode cX0_beside 31 = .ok (.invokespecial 416, 3) := dk_183 1 160 (dk_at dksX0_beside_1 7 rfl rfl)
theorem dX0_beside_34 : decode cX0_beside 34 = .ok (.astore_n 2, 1) := dk_77 (dk_at dksX0_beside_1 10 rfl rfl)
theorem dX0_beside_35 : decode cX0_beside 35 = .ok (.aload_n 2, 1) := dk_44 (dk_at dksX0_beside_1 11 rfl rfl)
theorem dX0_beside_36 : decode cX0_beside 36 = .ok (.aload_n 0, 1) := dk_42 (dk_at dksX0_beside_1 12 rfl rfl)
theorem dX0_beside_37 : decode cX0_beside 37 = .ok (.getfield 40, 3) := dk_180 0 40 (dk_at dksX0_beside_1 13 rfl rfl)
theorem dX0_beside_40 : decode cX0_beside 40 = .ok (.getfield 116, 3) := dk_180 0 116 (dk_at dksX0_beside_1 16 rfl rfl)
theorem dX0_beside_43 : decode cX0_beside 43 = .ok (.aload_n 0, 1) := dk_42 (dk_at dksX0_beside_1 19 rfl rfl)
theorem dX0_beside_44 : decode cX0_beside 44 = .ok (.getfield 44, 3) := dk_180 0 44 (dk_at dksX0_beside_1 20 rfl rfl)
theorem dX0_beside_47 : decode cX0_beside 47 = .ok (.iload_n 1, 1) := dk_27 (dk_at dksX0_beside_1 23 rfl rfl)
theorem dX0_beside_48 : decode cX0_beside 48 = .ok (.aaload, 1) := dk_50 (dk_at dksX0_beside_2 0 rfl rfl)
theorem dX0_beside_49 : decode cX0_beside 49 = .ok (.getfield 116, 3) := dk_180 0 116 (dk_at dksX0_beside_2 1 rfl rfl)
theorem dX0_beside_52 : decode cX0_beside 52 = .ok (.getfield 417, 3) := dk_180 1 161 (dk_at dksX0_beside_2 4 rfl rfl)
theorem dX0_beside_55 : decode cX0_beside 55 = .ok (.invokevirtual 420, 3) := dk_182 1 164 (dk_at dksX0_beside_2 7 rfl rfl)
theorem dX0_beside_58 : decode cX0_beside 58 = .ok (.iconst 0, 1) := dk_3 (dk_at dksX0_beside_2 10 rfl rfl)
theorem dX0_beside_59 : decode cX0_beside 59 = .ok (.istore_n 3, 1) := dk_62 (dk_at dksX0_beside_2 11 rfl rfl)
theorem dX0_beside_60 : decode cX0_beside 60 = .ok (.iload_n 3, 1) := dk_29 (dk_at dksX0_beside_2 12 rfl rfl)
theorem dX0_beside_61 : decode cX0_beside 61 = .ok (.aload_n 0, 1) := dk_42 (dk_at dksX0_beside_2 13 rfl rfl)
theorem dX0_beside_62 : decode cX0_beside 62 = .ok (.getfield 40, 3) := dk_180 0 40 (dk_at dksX0_beside_2 14 rfl rfl)
theorem dX0_beside_65 : decode cX0_beside 65 = .ok (.getfield 201, 3) := dk_180 0 201 (dk_at dksX0_beside_2 17 rfl rfl)
theorem dX0_beside_68 : decode cX0_beside 68 = .ok (.invokeinterface 205 1, 5) := by decide +kernel
theorem dX0_beside_73 : decode cX0_beside 73 = .ok (.if_icmp .ge 83, 3) := dk_162 0 83 (dk_at dksX0_beside_3 5 rfl rfl)
theorem dX0_beside_76 : decode cX0_beside 76 = .ok (.aload_n 0, 1) := dk_42 (dk_at dksX0_beside_3 8 rfl rfl)
theorem dX0_beside_77 : decode cX0_beside 77 = .ok (.getfield 40, 3) := dk_180 0 40 (dk_at dksX0_beside_3 9 rfl rfl)
theorem dX0_beside_80 : decode cX0_beside 80 = .ok (.getfield 201, 3) := dk_180 0 201 (dk_at dksX0_beside_3 12 rfl rfl)
theorem dX0_beside_83 : decode cX0_beside 83 = .ok (.iload_n 3, 1) := dk_29 (dk_at dksX0_beside_3 15 rfl rfl)
theorem dX0_beside_84 : decode cX0_beside 84 = .ok (.invokeinterface 266 2, 5) := by decide +kernel
theorem dX0_beside_89 : decode cX0_beside 89 = .ok (.checkcast 210, 3) := dk_192 0 210 (dk_at dksX0_beside_3 21 rfl rfl)
theorem dX0_beside_92 : decode cX0_beside 92 = .ok (.astore 4, 2) := dk_58 4 (dk_at dksX0_beside_4 0 rfl rfl)
theorem dX0_beside_94 : decode cX0_beside 94 = .ok (.aload 4, 2) := dk_25 4 (dk_at dksX0_beside_4 2 rfl rfl)
theorem dX0_beside_96 : decode cX0_beside 96 = .ok (.getfield 385, 3) := dk_180 1 129 (dk_at dksX0_beside_4 4 rfl rfl)
theorem dX0_beside_99 : decode cX0_beside 99 = .ok (.iconst 4, 1) := dk_7 (dk_at dksX0_beside_4 7 rfl rfl)
theorem dX0_beside_100 : decode cX0_beside 100 = .ok (.if_icmp .ne 20, 3) := dk_160 0 20 (dk_at dksX0_beside_4 8 rfl rfl)
theorem dX0_beside_103 : decode cX0_beside 103 = .ok (.aload_n 2, 1) := dk_44 (dk_at dksX0_beside_4 11 rfl rfl)
theorem dX0_beside_104 : decode cX0_beside 104 = .ok (.aload 4, 2) := dk_25 4 (dk_at dksX0_beside_4 12 rfl rfl)
theorem dX0_beside_106 : decode cX0_beside 106 = .ok (.getfield 375, 3) := dk_180 1 119 (dk_at dksX0_beside_4 14 rfl rfl)
theorem dX0_beside_109 : decode cX0_beside 109 = .ok (.aload 4, 2) := dk_25 4 (dk_at dksX0_beside_4 17 rfl rfl)
theorem dX0_beside_111 : decode cX0_beside 111 = .ok (.getfield 382, 3) := dk_180 1 126 (dk_at dksX0_beside_4 19 rfl rfl)
theorem dX0_beside_114 : decode cX0_beside 114 = .ok (.invokevirtual 223, 3) := dk_182 0 223 (dk_at dksX0_beside_5 0 rfl rfl)
theorem dX0_beside_117 : decode cX0_beside 117 = .ok (.goto 33, 3) := dk_167 0 33 (dk_at dksX0_beside_5 3 rfl rfl)
theorem dX0_beside_120 : decode cX0_beside 120 = .ok (.aload_n 2, 1) := dk_44 (dk_at dksX0_beside_5 6 rfl rfl)
theorem dX0_beside_121 : decode cX0_beside 121 = .ok (.aload 4, 2) := dk_25 4 (dk_at dksX0_beside_5 7 rfl rfl)
theorem dX0_beside_123 : decode cX0_beside 123 = .ok (.getfield 375, 3) := dk_180 1 119 (dk_at dksX0_beside_5 9 rfl rfl)
theorem dX0_beside_126 : decode cX0_beside 126 = .ok (.aload 4, 2) := dk_25 4 (dk_at dksX0_beside_5 12 rfl rfl)
theorem dX0_beside_128 : decode cX0_beside 128 = .ok (.getfield 382, 3) := dk_180 1 126 (dk_at dksX0_beside_5 14 rfl rfl)
theorem dX0_beside_131 : decode cX0_beside 131 = .ok (.aload_n 0, 1) := dk_42 (dk_at dksX0_beside_5 17 rfl rfl)
theorem dX0_beside_132 : decode cX0_beside 132 = .ok (.getfield 62, 3) := dk_180 0 62 (dk_at dksX0_beside_5 18 rfl rfl)
theorem dX0_beside_135 : decode cX0_beside 135 = .ok (.aload 4, 2) := dk_25 4 (dk_at dksX0_beside_5 21 rfl rfl)
theorem dX0_beside_137 : decode cX0_beside 137 = .ok (.getfield 385, 3) := dk_180 1 129 (dk_at dksX0_beside_6 0 rfl rfl)
theorem dX0_beside_140 : decode cX0_beside 140 = .ok (.aaload, 1) := dk_50 (dk_at dksX0_beside_6 3 rfl rfl)
theorem dX0_beside_141 : decode cX0_beside 141 = .ok (.aload 4, 2) := dk_25 4 (dk_at dksX0_beside_6 4 rfl rfl)
theorem dX0_beside_143 : decode cX0_beside 143 = .ok (.getfield 423, 3) := dk_180 1 167 (dk_at dksX0_beside_6 6 rfl rfl)
theorem dX0_beside_146 : decode cX0_beside 146 = .ok (.invokevirtual 219, 3) := dk_182 0 219 (dk_at dksX0_beside_6 9 rfl rfl)
theorem dX0_beside_149 : decode cX0_beside 149 = .ok (.pop, 1) := dk_87 (dk_at dksX0_beside_6 12 rfl rfl)
theorem dX0_beside_150 : decode cX0_beside 150 = .ok (.iinc 3 1, 3) := dk_132 3 1 (dk_at dksX0_beside_6 13 rfl rfl)
theorem dX0_beside_153 : decode cX0_beside 153 = .ok (.goto (-93), 3) := dk_167 255 163 (dk_at dksX0_beside_6 16 rfl rfl)
theorem dX0_beside_156 : decode cX0_beside 156 = .ok (.aload_n 2, 1) := dk_44 (dk_at dksX0_beside_6 19 rfl rfl)
theorem dX0_beside_157 : decode cX0_beside 157 = .ok (.getfield 263, 3) := dk_180 1 7 (dk_at dksX0_beside_6 20 rfl rfl)
theorem dX0_beside_160 : decode cX0_beside 160 = .ok (.invokeinterface 205 1, 5) := by decide +kernel
theorem dX0_beside_165 : decode cX0_beside 165 = .ok (.ireturn, 1) := dk_172 (dk_at dksX0_beside_7 5 rfl rfl)
abbrev cX0_count : ByteArray := prog_1_method_57_code
def yX0_count : MethodName := ⟨RX0, "count", "(I)I"⟩
def dkwX0_count_8 : List UInt8 := [28, 172, 2, 172]
abbrev dktX0_count_8 : List UInt8 := dkwX0_count_8 ++ []
def dkwX0_count_7 : List UInt8 := [180, 0, 13, 29, 50, 180, 0, 227, 199, 0, 7, 3, 167, 0, 4, 4, 96, 61, 132, 3, 1, 167, 255, 228]
abbrev dktX0_count_7 : List UInt8 := dkwX0_count_7 ++ dktX0_count_8
def dkwX0_count_6 : List UInt8 := [180, 0, 184, 172, 42, 180, 0, 40, 180, 0, 116, 180, 0, 157, 172, 3, 62, 29, 7, 162, 0, 29, 28, 42]
abbrev dktX0_count_6 : List UInt8 := dkwX0_count_6 ++ dktX0_count_7
def dkwX0_count_5 : List UInt8 := [172, 42, 180, 0, 40, 180, 0, 163, 180, 1, 168, 172, 42, 180, 0, 95, 172, 42, 180, 0, 40, 180, 0, 116]
abbrev dktX0_count_5 : List UInt8 := dkwX0_count_5 ++ dktX0_count_6
def dkwX0_count_4 : List UInt8 := [185, 0, 205, 1, 0, 172, 42, 2, 182, 1, 14, 172, 42, 180, 0, 40, 180, 0, 201, 185, 0, 205, 1, 0]
abbrev dktX0_count_4 : List UInt8 := dkwX0_count_4 ++ dktX0_count_5
def dkwX0_count_3 : List UInt8 := [185, 0, 205, 1, 0, 172, 42, 180, 0, 40, 180, 0, 146, 172, 42, 180, 0, 40, 180, 0, 163, 180, 1, 7]
abbrev dktX0_count_3 : List UInt8 := dkwX0_count_3 ++ dktX0_count_4
def dkwX0_count_2 : List UInt8 := [42, 180, 0, 40, 180, 0, 116, 182, 0, 120, 172, 42, 180, 0, 40, 180, 0, 116, 180, 1, 161]
abbrev dktX0_count_2 : List UInt8 := dkwX0_count_2 ++ dktX0_count_3
def dkwX0_count_1 : List UInt8 := [170, 0, 0, 0, 200, 0, 0, 0, 0, 0, 0, 0, 10, 0, 0, 0, 57, 0, 0, 0, 68, 0, 0, 0, 84, 0, 0, 0, 92, 0, 0, 0, 108, 0, 0, 0, 114, 0, 0, 0, 127, 0, 0, 0, 138, 0, 0, 0, 143, 0, 0, 0, 154, 0, 0, 0, 165]
abbrev dktX0_count_1 : List UInt8 := dkwX0_count_1 ++ dktX0_count_2
def dkwX0_count_0 : List UInt8 := [3, 61, 27]
abbrev dktX0_count_0 : List UInt8 := dkwX0_count_0 ++ dktX0_count_1
theorem dksX0_count_0 : cX0_count.data.toList.drop 0 = dktX0_count_0 := by decide +kernel
theorem dksX0_count_1 : cX0_count.data.toList.drop 3 = dktX0_count_1 := dk_seg dksX0_count_0 3 rfl rfl
theorem dksX0_count_2 : cX0_count.data.toList.drop 60 = dktX0_count_2 := dk_seg dksX0_count_1 57 rfl rfl
theorem dksX0_count_3 : cX0_count.data.toList.drop 81 = dktX0_count_3 := dk_seg dksX0_count_2 21 rfl rfl
theorem dksX0_count_4 : cX0_count.data.toList.drop 105 = dktX0_count_4 := dk_seg dksX0_count_3 24 rfl rfl
theorem dksX0_count_5 : cX0_count.data.toList.drop 129 = dktX0_count_5 := dk_seg dksX0_count_4 24 rfl rfl
theorem dksX0_count_6 : cX0_count.data.toList.drop 153 = dktX0_count_6 := dk_seg dksX0_count_5 24 rfl rfl
theorem dksX0_count_7 : cX0_count.data.toList.drop 177 = dktX0_count_7 := dk_seg dksX0_count_6 24 rfl rfl
theorem dksX0_count_8 : cX0_count.data.toList.drop 201 = dktX0_count_8 := dk_seg dksX0_count_7 24 rfl rfl
theorem dX0_count_0 : decode cX0_count 0 = .ok (.iconst 0, 1) := dk_3 (dk_at dksX0_count_0 0 rfl rfl)
theorem dX0_count_1 : decode cX0_count 1 = .ok (.istore_n 2, 1) := dk_61 (dk_at dksX0_count_0 1 rfl rfl)
theorem dX0_count_2 : decode cX0_count 2 = .ok (.iload_n 1, 1) := dk_27 (dk_at dksX0_count_0 2 rfl rfl)
theorem dX0_count_3 : decode cX0_count 3 = .ok (.tableswitch 200 0 10 #[57, 68, 84, 92, 108, 114, 127, 138, 143, 154, 165], 57) := by decide +kernel
theorem dX0_count_60 : decode cX0_count 60 = .ok (.aload_n 0, 1) := dk_42 (dk_at dksX0_count_2 0 rfl rfl)
theorem dX0_count_61 : decode cX0_count 61 = .ok (.getfield 40, 3) := dk_180 0 40 (dk_at dksX0_count_2 1 rfl rfl)
theorem dX0_count_64 : decode cX0_count 64 = .ok (.getfield 116, 3) := dk_180 0 116 (dk_at dksX0_count_2 4 rfl rfl)
theorem dX0_count_67 : decode cX0_count 67 = .ok (.invokevirtual 120, 3) := dk_182 0 120 (dk_at dksX0_count_2 7 rfl rfl)
theorem dX0_count_70 : decode cX0_count 70 = .ok (.ireturn, 1) := dk_172 (dk_at dksX0_count_2 10 rfl rfl)
theorem dX0_count_71 : decode cX0_count 71 = .ok (.aload_n 0, 1) := dk_42 (dk_at dksX0_count_2 11 rfl rfl)
theorem dX0_count_72 : decode cX0_count 72 = .ok (.getfield 40, 3) := dk_180 0 40 (dk_at dksX0_count_2 12 rfl rfl)
theorem dX0_count_75 : decode cX0_count 75 = .ok (.getfield 116, 3) := dk_180 0 116 (dk_at dksX0_count_2 15 rfl rfl)
theorem dX0_count_78 : decode cX0_count 78 = .ok (.getfield 417, 3) := dk_180 1 161 (dk_at dksX0_count_2 18 rfl rfl)
theorem dX0_count_81 : decode cX0_count 81 = .ok (.invokeinterface 205 1, 5) := by decide +kernel
theorem dX0_count_86 : decode cX0_count 86 = .ok (.ireturn, 1) := dk_172 (dk_at dksX0_count_3 5 rfl rfl)
theorem dX0_count_87 : decode cX0_count 87 = .ok (.aload_n 0, 1) := dk_42 (dk_at dksX0_count_3 6 rfl rfl)
theorem dX0_count_88 : decode cX0_count 88 = .ok (.getfield 40, 3) := dk_180 0 40 (dk_at dksX0_count_3 7 rfl rfl)
theorem dX0_count_91 : decode cX0_count 91 = .ok (.getfield 146, 3) := dk_180 0 146 (dk_at dksX0_count_3 10 rfl rfl)
theorem dX0_count_94 : decode cX0_count 94 = .ok (.ireturn, 1) := dk_172 (dk_at dksX0_count_3 13 rfl rfl)
theorem dX0_count_95 : decode cX0_count 95 = .ok (.aload_n 0, 1) := dk_42 (dk_at dksX0_count_3 14 rfl rfl)
theorem dX0_count_96 : decode cX0_count 96 = .ok (.getfield 40, 3) := dk_180 0 40 (dk_at dksX0_count_3 15 rfl rfl)
theorem dX0_count_99 : decode cX0_count 99 = .ok (.getfield 163, 3) := dk_180 0 163 (dk_at dksX0_count_3 18 rfl rfl)
theorem dX0_count_102 : decode cX0_count 102 = .ok (.getfield 263, 3) := dk_180 1 7 (dk_at dksX0_count_3 21 rfl rfl)
theorem dX0_count_105 : decode cX0_count 105 = .ok (.invokeinterface 205 1, 5) := by decide +kernel
theorem dX0_count_110 : decode cX0_count 110 = .ok (.ireturn, 1) := dk_172 (dk_at dksX0_count_4 5 rfl rfl)
theorem dX0_count_111 : decode cX0_count 111 = .ok (.aload_n 0, 1) := dk_42 (dk_at dksX0_count_4 6 rfl rfl)
theorem dX0_count_112 : decode cX0_count 112 = .ok (.iconst (-1), 1) := dk_2 (dk_at dksX0_count_4 7 rfl rfl)
theorem dX0_count_113 : decode cX0_count 113 = .ok (.invokevirtual 270, 3) := dk_182 1 14 (dk_at dksX0_count_4 8 rfl rfl)
theorem dX0_count_116 : decode cX0_count 116 = .ok (.ireturn, 1) := dk_172 (dk_at dksX0_count_4 11 rfl rfl)
theorem dX0_count_117 : decode cX0_count 117 = .ok (.aload_n 0, 1) := dk_42 (dk_at dksX0_count_4 12 rfl rfl)
theorem dX0_count_118 : decode cX0_count 118 = .ok (.getfield 40, 3) := dk_180 0 40 (dk_at dksX0_count_4 13 rfl rfl)
theorem dX0_count_121 : decode cX0_count 121 = .ok (.getfield 201, 3) := dk_180 0 201 (dk_at dksX0_count_4 16 rfl rfl)
theorem dX0_count_124 : decode cX0_count 124 = .ok (.invokeinterface 205 1, 5) := by decide +kernel
theorem dX0_count_129 : decode cX0_count 129 = .ok (.ireturn, 1) := dk_172 (dk_at dksX0_count_5 0 rfl rfl)
theorem dX0_count_130 : decode cX0_count 130 = .ok (.aload_n 0, 1) := dk_42 (dk_at dksX0_count_5 1 rfl rfl)
theorem dX0_count_131 : decode cX0_count 131 = .ok (.getfield 40, 3) := dk_180 0 40 (dk_at dksX0_count_5 2 rfl rfl)
theorem dX0_count_134 : decode cX0_count 134 = .ok (.getfield 163, 3) := dk_180 0 163 (dk_at dksX0_count_5 5 rfl rfl)
theorem dX0_count_137 : decode cX0_count 137 = .ok (.getfield 424, 3) := dk_180 1 168 (dk_at dksX0_count_5 8 rfl rfl)
theorem dX0_count_140 : decode cX0_count 140 = .ok (.ireturn, 1) := dk_172 (dk_at dksX0_count_5 11 rfl rfl)
theorem dX0_count_141 : decode cX0_count 141 = .ok (.aload_n 0, 1) := dk_42 (dk_at dksX0_count_5 12 rfl rfl)
theorem dX0_count_142 : decode cX0_count 142 = .ok (.getfield 95, 3) := dk_180 0 95 (dk_at dksX0_count_5 13 rfl rfl)
theorem dX0_count_145 : decode cX0_count 145 = .ok (.ireturn, 1) := dk_172 (dk_at dksX0_count_5 16 rfl rfl)
theorem dX0_count_146 : decode cX0_count 146 = .ok (.aload_n 0, 1) := dk_42 (dk_at dksX0_count_5 17 rfl rfl)
theorem dX0_count_147 : decode cX0_count 147 = .ok (.getfield 40, 3) := dk_180 0 40 (dk_at dksX0_count_5 18 rfl rfl)
theorem dX0_count_150 : decode cX0_count 150 = .ok (.getfield 116, 3) := dk_180 0 116 (dk_at dksX0_count_5 21 rfl rfl)
theorem dX0_count_153 : decode cX0_count 153 = .ok (.getfield 184, 3) := dk_180 0 184 (dk_at dksX0_count_6 0 rfl rfl)
theorem dX0_count_156 : decode cX0_count 156 = .ok (.ireturn, 1) := dk_172 (dk_at dksX0_count_6 3 rfl rfl)
theorem dX0_count_157 : decode cX0_count 157 = .ok (.aload_n 0, 1) := dk_42 (dk_at dksX0_count_6 4 rfl rfl)
theorem dX0_count_158 : decode cX0_count 158 = .ok (.getfield 40, 3) := dk_180 0 40 (dk_at dksX0_count_6 5 rfl rfl)
theorem dX0_count_161 : decode cX0_count 161 = .ok (.getfield 116, 3) := dk_180 0 116 (dk_at dksX0_count_6 8 rfl rfl)
theorem dX0_count_164 : decode cX0_count 164 = .ok (.getfield 157, 3) := dk_180 0 157 (dk_at dksX0_count_6 11 rfl rfl)
theorem dX0_count_167 : decode cX0_count 167 = .ok (.ireturn, 1) := dk_172 (dk_at dksX0_count_6 14 rfl rfl)
theorem dX0_count_168 : decode cX0_count 168 = .ok (.iconst 0, 1) := dk_3 (dk_at dksX0_count_6 15 rfl rfl)
theorem dX0_count_169 : decode cX0_count 169 = .ok (.istore_n 3, 1) := dk_62 (dk_at dksX0_count_6 16 rfl rfl)
theorem dX0_count_170 : decode cX0_count 170 = .ok (.iload_n 3, 1) := dk_29 (dk_at dksX0_count_6 17 rfl rfl)
theorem dX0_count_171 : decode cX0_count 171 = .ok (.iconst 4, 1) := dk_7 (dk_at dksX0_count_6 18 rfl rfl)
theorem dX0_count_172 : decode cX0_count 172 = .ok (.if_icmp .ge 29, 3) := dk_162 0 29 (dk_at dksX0_count_6 19 rfl rfl)
theorem dX0_count_175 : decode cX0_count 175 = .ok (.iload_n 2, 1) := dk_28 (dk_at dksX0_count_6 22 rfl rfl)
theorem dX0_count_176 : decode cX0_count 176 = .ok (.aload_n 0, 1) := dk_42 (dk_at dksX0_count_6 23 rfl rfl)
theorem dX0_count_177 : decode cX0_count 177 = .ok (.getfield 13, 3) := dk_180 0 13 (dk_at dksX0_count_7 0 rfl rfl)
theorem dX0_count_180 : decode cX0_count 180 = .ok (.iload_n 3, 1) := dk_29 (dk_at dksX0_count_7 3 rfl rfl)
theorem dX0_count_181 : decode cX0_count 181 = .ok (.aaload, 1) := dk_50 (dk_at dksX0_count_7 4 rfl rfl)
theorem dX0_count_182 : decode cX0_count 182 = .ok (.getfield 227, 3) := dk_180 0 227 (dk_at dksX0_count_7 5 rfl rfl)
theorem dX0_count_185 : decode cX0_count 185 = .ok (.ifnonnull 7, 3) := dk_199 0 7 (dk_at dksX0_count_7 8 rfl rfl)
theorem dX0_count_188 : decode cX0_count 188 = .ok (.iconst 0, 1) := dk_3 (dk_at dksX0_count_7 11 rfl rfl)
theorem dX0_count_189 : decode cX0_count 189 = .ok (.goto 4, 3) := dk_167 0 4 (dk_at dksX0_count_7 12 rfl rfl)
theorem dX0_count_192 : decode cX0_count 192 = .ok (.iconst 1, 1) := dk_4 (dk_at dksX0_count_7 15 rfl rfl)
theorem dX0_count_193 : decode cX0_count 193 = .ok (.iadd, 1) := dk_96 (dk_at dksX0_count_7 16 rfl rfl)
theorem dX0_count_194 : decode cX0_count 194 = .ok (.istore_n 2, 1) := dk_61 (dk_at dksX0_count_7 17 rfl rfl)
theorem dX0_count_195 : decode cX0_count 195 = .ok (.iinc 3 1, 3) := dk_132 3 1 (dk_at dksX0_count_7 18 rfl rfl)
theorem dX0_count_198 : decode cX0_count 198 = .ok (.goto (-28), 3) := dk_167 255 228 (dk_at dksX0_count_7 21 rfl rfl)
theorem dX0_count_201 : decode cX0_count 201 = .ok (.iload_n 2, 1) := dk_28 (dk_at dksX0_count_8 0 rfl rfl)
theorem dX0_count_202 : decode cX0_count 202 = .ok (.ireturn, 1) := dk_172 (dk_at dksX0_count_8 1 rfl rfl)
theorem dX0_count_203 : decode cX0_count 203 = .ok (.iconst (-1), 1) := dk_2 (dk_at dksX0_count_8 2 rfl rfl)
theorem dX0_count_204 : decode cX0_count 204 = .ok (.ireturn, 1) := dk_172 (dk_at dksX0_count_8 3 rfl rfl)
abbrev cX0_keep : ByteArray := prog_1_method_58_code
def yX0_keep : MethodName := ⟨RX0, "keep", "(I)I"⟩
def dkwX0_keep_2 : List UInt8 := [182, 1, 171, 3, 172]
abbrev dktX0_keep_2 : List UInt8 := dkwX0_keep_2 ++ []
def dkwX0_keep_1 : List UInt8 := [42, 180, 0, 44, 27, 187, 0, 37, 89, 183, 0, 39, 83, 42, 180, 0, 44, 27, 50, 42, 180, 0, 40]
abbrev dktX0_keep_1 : List UInt8 := dkwX0_keep_1 ++ dktX0_keep_2
def dkwX0_keep_0 : List UInt8 := [27, 133, 9, 20, 1, 158, 184, 0, 5, 154, 0, 6, 16, 254, 172, 42, 180, 0, 44, 27, 50, 199, 0, 16]
abbrev dktX0_keep_0 : List UInt8 := dkwX0_keep_0 ++ dktX0_keep_1
theorem dksX0_keep_0 : cX0_keep.data.toList.drop 0 = dktX0_keep_0 := by decide +kernel
theorem dksX0_keep_1 : cX0_keep.data.toList.drop 24 = dktX0_keep_1 := dk_seg dksX0_keep_0 24 rfl rfl
theorem dksX0_keep_2 : cX0_keep.data.toList.drop 47 = dktX0_keep_2 := dk_seg dksX0_keep_1 23 rfl rfl
theorem dX0_keep_0 : decode cX0_keep 0 = .ok (.iload_n 1, 1) := dk_27 (dk_at dksX0_keep_0 0 rfl rfl)
theorem dX0_keep_1 : decode cX0_keep 1 = .ok (.i2l, 1) := dk_133 (dk_at dksX0_keep_0 1 rfl rfl)
theorem dX0_keep_2 : decode cX0_keep 2 = .ok (.lconst 0, 1) := dk_9 (dk_at dksX0_keep_0 2 rfl rfl)
theorem dX0_keep_3 : decode cX0_keep 3 = .ok (.ldc2_w 414, 3) := dk_20 1 158 (dk_at dksX0_keep_0 3 rfl rfl)
theorem dX0_keep_6 : decode cX0_keep 6 = .ok (.invokestatic 5, 3) := dk_184 0 5 (dk_at dksX0_keep_0 6 rfl rfl)
theorem dX0_keep_9 : decode cX0_keep 9 = .ok (.ifCond .ne 6, 3) := dk_154 0 6 (dk_at dksX0_keep_0 9 rfl rfl)
theorem dX0_keep_12 : decode cX0_keep 12 = .ok (.bipush (-2), 2) := dk_16 254 (dk_at dksX0_keep_0 12 rfl rfl)
theorem dX0_keep_14 : decode cX0_keep 14 = .ok (.ireturn, 1) := dk_172 (dk_at dksX0_keep_0 14 rfl rfl)
theorem dX0_keep_15 : decode cX0_keep 15 = .ok (.aload_n 0, 1) := dk_42 (dk_at dksX0_keep_0 15 rfl rfl)
theorem dX0_keep_16 : decode cX0_keep 16 = .ok (.getfield 44, 3) := dk_180 0 44 (dk_at dksX0_keep_0 16 rfl rfl)
theorem dX0_keep_19 : decode cX0_keep 19 = .ok (.iload_n 1, 1) := dk_27 (dk_at dksX0_keep_0 19 rfl rfl)
theorem dX0_keep_20 : decode cX0_keep 20 = .ok (.aaload, 1) := dk_50 (dk_at dksX0_keep_0 20 rfl rfl)
theorem dX0_keep_21 : decode cX0_keep 21 = .ok (.ifnonnull 16, 3) := dk_199 0 16 (dk_at dksX0_keep_0 21 rfl rfl)
theorem dX0_keep_24 : decode cX0_keep 24 = .ok (.aload_n 0, 1) := dk_42 (dk_at dksX0_keep_1 0 rfl rfl)
theorem dX0_keep_25 : decode cX0_keep 25 = .ok (.getfield 44, 3) := dk_180 0 44 (dk_at dksX0_keep_1 1 rfl rfl)
theorem dX0_keep_28 : decode cX0_keep 28 = .ok (.iload_n 1, 1) := dk_27 (dk_at dksX0_keep_1 4 rfl rfl)
theorem dX0_keep_29 : decode cX0_keep 29 = .ok (.new 37, 3) := dk_187 0 37 (dk_at dksX0_keep_1 5 rfl rfl)
theorem dX0_keep_32 : decode cX0_keep 32 = .ok (.dup, 1) := dk_89 (dk_at dksX0_keep_1 8 rfl rfl)
theorem dX0_keep_33 : decode cX0_keep 33 = .ok (.invokespecial 39, 3) := dk_183 0 39 (dk_at dksX0_keep_1 9 rfl rfl)
theorem dX0_keep_36 : decode cX0_keep 36 = .ok (.aastore, 1) := dk_83 (dk_at dksX0_keep_1 12 rfl rfl)
theorem dX0_keep_37 : decode cX0_keep 37 = .ok (.aload_n 0, 1) := dk_42 (dk_at dksX0_keep_1 13 rfl rfl)
theorem dX0_keep_38 : decode cX0_keep 38 = .ok (.getfield 44, 3) := dk_180 0 44 (dk_at dksX0_keep_1 14 rfl rfl)
theorem dX0_keep_41 : decode cX0_keep 41 = .ok (.iload_n 1, 1) := dk_27 (dk_at dksX0_keep_1 17 rfl rfl)
theorem dX0_keep_42 : decode cX0_keep 42 = .ok (.aaload, 1) := dk_50 (dk_at dksX0_keep_1 18 rfl rfl)
theorem dX0_keep_43 : decode cX0_keep 43 = .ok (.aload_n 0, 1) := dk_42 (dk_at dksX0_keep_1 19 rfl rfl)
theorem dX0_keep_44 : decode cX0_keep 44 = .ok (.getfield 40, 3) := dk_180 0 40 (dk_at dksX0_keep_1 20 rfl rfl)
theorem dX0_keep_47 : decode cX0_keep 47 = .ok (.invokevirtual 427, 3) := dk_182 1 171 (dk_at dksX0_keep_2 0 rfl rfl)
theorem dX0_keep_50 : decode cX0_keep 50 = .ok (.iconst 0, 1) := dk_3 (dk_at dksX0_keep_2 3 rfl rfl)
theorem dX0_keep_51 : decode cX0_keep 51 = .ok (.ireturn, 1) := dk_172 (dk_at dksX0_keep_2 4 rfl rfl)
abbrev cX0_back : ByteArray := prog_1_method_59_code
def yX0_back : MethodName := ⟨RX0, "back", "(I)I"⟩
def dkwX0_back_1 : List UInt8 := [16, 250, 172, 42, 180, 0, 40, 42, 180, 0, 44, 27, 50, 182, 1, 171, 3, 172]
abbrev dktX0_back_1 : List UInt8 := dkwX0_back_1 ++ []
def dkwX0_back_0 : List UInt8 := [27, 133, 9, 20, 1, 158, 184, 0, 5, 154, 0, 6, 16, 254, 172, 42, 180, 0, 44, 27, 50, 199, 0, 6]
abbrev dktX0_back_0 : List UInt8 := dkwX0_back_0 ++ dktX0_back_1
theorem dksX0_back_0 : cX0_back.data.toList.drop 0 = dktX0_back_0 := by decide +kernel
theorem dksX0_back_1 : cX0_back.data.toList.drop 24 = dktX0_back_1 := dk_seg dksX0_back_0 24 rfl rfl
theorem dX0_back_0 : decode cX0_back 0 = .ok (.iload_n 1, 1) := dk_27 (dk_at dksX0_back_0 0 rfl rfl)
theorem dX0_back_1 : decode cX0_back 1 = .ok (.i2l, 1) := dk_133 (dk_at dksX0_back_0 1 rfl rfl)
theorem dX0_back_2 : decode cX0_back 2 = .ok (.lconst 0, 1) := dk_9 (dk_at dksX0_back_0 2 rfl rfl)
theorem dX0_back_3 : decode cX0_back 3 = .ok (.ldc2_w 414, 3) := dk_20 1 158 (dk_at dksX0_back_0 3 rfl rfl)
theorem dX0_back_6 : decode cX0_back 6 = .ok (.invokestatic 5, 3) := dk_184 0 5 (dk_at dksX0_back_0 6 rfl rfl)
theorem dX0_back_9 : decode cX0_back 9 = .ok (.ifCond .ne 6, 3) := dk_154 0 6 (dk_at dksX0_back_0 9 rfl rfl)
theorem dX0_back_12 : decode cX0_back 12 = .ok (.bipush (-2), 2) := dk_16 254 (dk_at dksX0_back_0 12 rfl rfl)
theorem dX0_back_14 : decode cX0_back 14 = .ok (.ireturn, 1) := dk_172 (dk_at dksX0_back_0 14 rfl rfl)
theorem dX0_back_15 : decode cX0_back 15 = .ok (.aload_n 0, 1) := dk_42 (dk_at dksX0_back_0 15 rfl rfl)
theorem dX0_back_16 : decode cX0_back 16 = .ok (.getfield 44, 3) := dk_180 0 44 (dk_at dksX0_back_0 16 rfl rfl)
theorem dX0_back_19 : decode cX0_back 19 = .ok (.iload_n 1, 1) := dk_27 (dk_at dksX0_back_0 19 rfl rfl)
theorem dX0_back_20 : decode cX0_back 20 = .ok (.aaload, 1) := dk_50 (dk_at dksX0_back_0 20 rfl rfl)
theorem dX0_back_21 : decode cX0_back 21 = .ok (.ifnonnull 6, 3) := dk_199 0 6 (dk_at dksX0_back_0 21 rfl rfl)
theorem dX0_back_24 : decode cX0_back 24 = .ok (.bipush (-6), 2) := dk_16 250 (dk_at dksX0_back_1 0 rfl rfl)
theorem dX0_back_26 : decode cX0_back 26 = .ok (.ireturn, 1) := dk_172 (dk_at dksX0_back_1 2 rfl rfl)
theorem dX0_back_27 : decode cX0_back 27 = .ok (.aload_n 0, 1) := dk_42 (dk_at dksX0_back_1 3 rfl rfl)
theorem dX0_back_28 : decode cX0_back 28 = .ok (.getfield 40, 3) := dk_180 0 40 (dk_at dksX0_back_1 4 rfl rfl)
theorem dX0_back_31 : decode cX0_back 31 = .ok (.aload_n 0, 1) := dk_42 (dk_at dksX0_back_1 7 rfl rfl)
theorem dX0_back_32 : decode cX0_back 32 = .ok (.getfield 44, 3) := dk_180 0 44 (dk_at dksX0_back_1 8 rfl rfl)
theorem dX0_back_35 : decode cX0_back 35 = .ok (.iload_n 1, 1) := dk_27 (dk_at dksX0_back_1 11 rfl rfl)
theorem dX0_back_36 : decode cX0_back 36 = .ok (.aaload, 1) := dk_50 (dk_at dksX0_back_1 12 rfl rfl)
theorem dX0_back_37 : decode cX0_back 37 = .ok (.invokevirtual 427, 3) := dk_182 1 171 (dk_at dksX0_back_1 13 rfl rfl)
theorem dX0_back_40 : decode cX0_back 40 = .ok (.iconst 0, 1) := dk_3 (dk_at dksX0_back_1 16 rfl rfl)
theorem dX0_back_41 : decode cX0_back 41 = .ok (.ireturn, 1) := dk_172 (dk_at dksX0_back_1 17 rfl rfl)
theorem q110 : (Jvm.Cond.initialized "CardBowl") ∈ lw_all := lw_g (lw_at lw_m1 1 rfl) rfl
theorem q156 : (Jvm.Cond.instanceMethod ({ cls := "CardBowl", name := "row", desc := "(III)I" } : Jvm.MethodName)) ∈ lw_all := lw_g (lw_at lw_m1 47 rfl) rfl
theorem q157 : (Jvm.Cond.selects "CardBowl" ({ cls := "CardBowl", name := "row", desc := "(III)I" } : Jvm.MethodName) ({ cls := "CardBowl", name := "row", desc := "(III)I" } : Jvm.MethodName)) ∈ lw_all := lw_g (lw_at lw_m1 48 rfl) rfl
theorem q158 : (Jvm.Cond.code ({ cls := "CardBowl", name := "row", desc := "(III)I" } : Jvm.MethodName) prog_1_method_4_code (4 : Nat) (Option.some Jvm.ClassFile.FieldType.int)) ∈ lw_all := lw_g (lw_at lw_m1 49 rfl) rfl
theorem q159 : (Jvm.Cond.methodLink "CardBowl" (9 : Nat) ({ cls := "CardBowl", name := "isSlot", desc := "(I)Z" } : Jvm.MethodName)) ∈ lw_all := lw_g (lw_at lw_m1 50 rfl) rfl
theorem q160 : (Jvm.Cond.static ({ cls := "CardBowl", name := "isSlot", desc := "(I)Z" } : Jvm.MethodName)) ∈ lw_all := lw_g (lw_at lw_m1 51 rfl) rfl
theorem q161 : (Jvm.Cond.code ({ cls := "CardBowl", name := "isSlot", desc := "(I)Z" } : Jvm.MethodName) prog_1_method_3_code (1 : Nat) (Option.some Jvm.ClassFile.FieldType.boolean)) ∈ lw_all := lw_g (lw_at lw_m1 52 rfl) rfl
theorem q162 : (Jvm.Cond.constantLong "CardBowl" (3 : Nat) (3 : Int64)) ∈ lw_all := lw_g (lw_at lw_m1 53 rfl) rfl
theorem q163 : (Jvm.Cond.methodLink "CardBowl" (5 : Nat) ({ cls := "CardBowl", name := "in", desc := "(JJJ)Z" } : Jvm.MethodName)) ∈ lw_all := lw_g (lw_at lw_m1 54 rfl) rfl
theorem q164 : (Jvm.Cond.static ({ cls := "CardBowl", name := "in", desc := "(JJJ)Z" } : Jvm.MethodName)) ∈ lw_all := lw_g (lw_at lw_m1 55 rfl) rfl
theorem q165 : (Jvm.Cond.code ({ cls := "CardBowl", name := "in", desc := "(JJJ)Z" } : Jvm.MethodName) prog_1_method_1_code (6 : Nat) (Option.some Jvm.ClassFile.FieldType.boolean)) ∈ lw_all := lw_g (lw_at lw_m1 56 rfl) rfl
theorem q166 : (Jvm.Cond.methodLink "CardBowl" (17 : Nat) ({ cls := "CardBowl$Slot", name := "begins", desc := "(II)Z" } : Jvm.MethodName)) ∈ lw_all := lw_g (lw_at lw_m1 57 rfl) rfl
theorem q262 : (Jvm.Cond.instanceMethod ({ cls := "CardBowl", name := "write", desc := "(IIJ)I" } : Jvm.MethodName)) ∈ lw_all := lw_g (lw_at lw_m1 153 rfl) rfl
theorem q263 : (Jvm.Cond.selects "CardBowl" ({ cls := "CardBowl", name := "write", desc := "(IIJ)I" } : Jvm.MethodName) ({ cls := "CardBowl", name := "write", desc := "(IIJ)I" } : Jvm.MethodName)) ∈ lw_all := lw_g (lw_at lw_m1 154 rfl) rfl
theorem q264 : (Jvm.Cond.code ({ cls := "CardBowl", name := "write", desc := "(IIJ)I" } : Jvm.MethodName) prog_1_method_5_code (5 : Nat) (Option.some Jvm.ClassFile.FieldType.int)) ∈ lw_all := lw_g (lw_at lw_m1 155 rfl) rfl
theorem q265 : (Jvm.Cond.methodLink "CardBowl" (23 : Nat) ({ cls := "CardBowl$Slot", name := "puts", desc := "(IJ)I" } : Jvm.MethodName)) ∈ lw_all := lw_g (lw_at lw_m1 156 rfl) rfl
theorem q341 : (Jvm.Cond.instanceMethod ({ cls := "CardBowl", name := "paste", desc := "(IIIII)I" } : Jvm.MethodName)) ∈ lw_all := lw_g (lw_at lw_m1 232 rfl) rfl
theorem q342 : (Jvm.Cond.selects "CardBowl" ({ cls := "CardBowl", name := "paste", desc := "(IIIII)I" } : Jvm.MethodName) ({ cls := "CardBowl", name := "paste", desc := "(IIIII)I" } : Jvm.MethodName)) ∈ lw_all := lw_g (lw_at lw_m1 233 rfl) rfl
theorem q343 : (Jvm.Cond.code ({ cls := "CardBowl", name := "paste", desc := "(IIIII)I" } : Jvm.MethodName) prog_1_method_6_code (6 : Nat) (Option.some Jvm.ClassFile.FieldType.int)) ∈ lw_all := lw_g (lw_at lw_m1 234 rfl) rfl
theorem q344 : (Jvm.Cond.methodLink "CardBowl" (27 : Nat) ({ cls := "CardBowl$Slot", name := "pastes", desc := "(ILCardBowl$Slot;II)I" } : Jvm.MethodName)) ∈ lw_all := lw_g (lw_at lw_m1 235 rfl) rfl
theorem q357 : (Jvm.Cond.instantiable "CardBowl" (12 : Nat)) ∈ lw_all := lw_g (lw_at lw_m2 8 rfl) rfl
theorem q359 : (Jvm.Cond.instanceMethod ({ cls := "CardBowl", name := "<init>", desc := "()V" } : Jvm.MethodName)) ∈ lw_all := lw_g (lw_at lw_m2 10 rfl) rfl
theorem q360 : (Jvm.Cond.code ({ cls := "CardBowl", name := "<init>", desc := "()V" } : Jvm.MethodName) prog_1_method_7_code (2 : Nat) (Option.none : Option Jvm.ClassFile.FieldType)) ∈ lw_all := lw_g (lw_at lw_m2 11 rfl) rfl
theorem q361 : (Jvm.Cond.methodLink "CardBowl" (31 : Nat) ({ cls := "java/lang/Object", name := "<init>", desc := "()V" } : Jvm.MethodName)) ∈ lw_all := lw_g (lw_at lw_m2 12 rfl) rfl
theorem q362 : (Jvm.Cond.classLink "CardBowl" (18 : Nat) "CardBowl$Slot") ∈ lw_all := lw_g (lw_at lw_m2 13 rfl) rfl
theorem q364 : (Jvm.Cond.classLink "CardBowl" (37 : Nat) "CardBowl$State") ∈ lw_all := lw_g (lw_at lw_m2 15 rfl) rfl
theorem q366 : (Jvm.Cond.methodLink "CardBowl" (39 : Nat) ({ cls := "CardBowl$State", name := "<init>", desc := "()V" } : Jvm.MethodName)) ∈ lw_all := lw_g (lw_at lw_m2 17 rfl) rfl
theorem q412 : (Jvm.Cond.fieldLinkNest "CardBowl" (417 : Nat) "CardBowl$Town" "rules" "Ljava/util/List;" "CardBowl") ∈ lw_tbl := lw_at lw_m2 63 rfl
theorem q413 : (Jvm.Cond.fieldLinkNest "CardBowl" (157 : Nat) "CardBowl$Town" "fresh" "I" "CardBowl") ∈ lw_tbl := lw_at lw_m2 64 rfl
theorem q416 : (Jvm.Cond.fieldLinkNest "CardBowl" (184 : Nat) "CardBowl$Town" "introducers" "I" "CardBowl") ∈ lw_tbl := lw_at lw_m2 67 rfl
theorem q471 : (Jvm.Cond.fieldLinkNest "CardBowl" (175 : Nat) "CardBowl$Ledger" "knows" "[I" "CardBowl") ∈ lw_tbl := lw_at lw_m2 122 rfl
theorem q473 : (Jvm.Cond.fieldLinkNest "CardBowl" (263 : Nat) "CardBowl$Ledger" "debts" "Ljava/util/List;" "CardBowl") ∈ lw_tbl := lw_at lw_m2 124 rfl
theorem q476 : (Jvm.Cond.fieldLinkNest "CardBowl" (424 : Nat) "CardBowl$Ledger" "paid" "I" "CardBowl") ∈ lw_tbl := lw_at lw_m2 127 rfl
theorem q515 : (Jvm.Cond.fieldLinkNest "CardBowl" (116 : Nat) "CardBowl$State" "town" "LCardBowl$Town;" "CardBowl") ∈ lw_tbl := lw_at lw_m2 166 rfl
theorem q518 : (Jvm.Cond.fieldLinkNest "CardBowl" (163 : Nat) "CardBowl$State" "ledger" "LCardBowl$Ledger;" "CardBowl") ∈ lw_tbl := lw_at lw_m2 169 rfl
theorem q520 : (Jvm.Cond.fieldLinkNest "CardBowl" (201 : Nat) "CardBowl$State" "deeds" "Ljava/util/List;" "CardBowl") ∈ lw_tbl := lw_at lw_m2 171 rfl
theorem q522 : (Jvm.Cond.fieldLinkNest "CardBowl" (146 : Nat) "CardBowl$State" "day" "I" "CardBowl") ∈ lw_tbl := lw_at lw_m2 173 rfl
theorem q533 : (Jvm.Cond.classLink "CardBowl" (48 : Nat) "CardBowl$Paying") ∈ lw_all := lw_g (lw_at lw_m2 184 rfl) rfl
theorem q535 : (Jvm.Cond.classLink "CardBowl" (50 : Nat) "CardBowl$Sent") ∈ lw_all := lw_g (lw_at lw_m2 186 rfl) rfl
theorem q537 : (Jvm.Cond.methodLinkNest "CardBowl" (52 : Nat) ({ cls := "CardBowl$Sent", name := "<init>", desc := "()V" } : Jvm.MethodName) "CardBowl") ∈ lw_tbl := lw_at lw_m2 188 rfl
theorem q545 : (Jvm.Cond.classLink "CardBowl" (53 : Nat) "CardBowl$Card") ∈ lw_all := lw_g (lw_at lw_m2 196 rfl) rfl
theorem q547 : (Jvm.Cond.methodLinkNest "CardBowl" (55 : Nat) ({ cls := "CardBowl$Card", name := "<init>", desc := "()V" } : Jvm.MethodName) "CardBowl") ∈ lw_tbl := lw_at lw_m2 198 rfl
theorem q552 : (Jvm.Cond.classLink "CardBowl" (56 : Nat) "CardBowl$Call") ∈ lw_all := lw_g (lw_at lw_m2 203 rfl) rfl
theorem q554 : (Jvm.Cond.methodLinkNest "CardBowl" (58 : Nat) ({ cls := "CardBowl$Call", name := "<init>", desc := "()V" } : Jvm.MethodName) "CardBowl") ∈ lw_tbl := lw_at lw_m2 205 rfl
theorem q559 : (Jvm.Cond.classLink "CardBowl" (59 : Nat) "CardBowl$Dinner") ∈ lw_all := lw_g (lw_at lw_m2 210 rfl) rfl
theorem q561 : (Jvm.Cond.methodLinkNest "CardBowl" (61 : Nat) ({ cls := "CardBowl$Dinner", name := "<init>", desc := "()V" } : Jvm.MethodName) "CardBowl") ∈ lw_tbl := lw_at lw_m2 212 rfl
theorem q566 : (Jvm.Cond.classLink "CardBowl" (66 : Nat) "CardBowl$Afternoon") ∈ lw_all := lw_g (lw_at lw_m2 217 rfl) rfl
theorem q568 : (Jvm.Cond.methodLinkNest "CardBowl" (68 : Nat) ({ cls := "CardBowl$Afternoon", name := "<init>", desc := "(LCardBowl;)V" } : Jvm.MethodName) "CardBowl") ∈ lw_tbl := lw_at lw_m2 219 rfl
theorem q573 : (Jvm.Cond.fieldLinkNest "CardBowl" (341 : Nat) "CardBowl$Afternoon" "seen" "[I" "CardBowl") ∈ lw_tbl := lw_at lw_m2 224 rfl
theorem q577 : (Jvm.Cond.fieldLinkNest "CardBowl" (320 : Nat) "CardBowl$Afternoon" "path" "[I" "CardBowl") ∈ lw_tbl := lw_at lw_m2 228 rfl
theorem q579 : (Jvm.Cond.fieldLinkNest "CardBowl" (344 : Nat) "CardBowl$Afternoon" "many" "I" "CardBowl") ∈ lw_tbl := lw_at lw_m2 230 rfl
theorem q581 : (Jvm.Cond.fieldLinkNest "CardBowl" (349 : Nat) "CardBowl$Afternoon" "day" "I" "CardBowl") ∈ lw_tbl := lw_at lw_m2 232 rfl
theorem q583 : (Jvm.Cond.fieldLinkNest "CardBowl" (314 : Nat) "CardBowl$Afternoon" "bestMask" "I" "CardBowl") ∈ lw_tbl := lw_at lw_m2 234 rfl
theorem q585 : (Jvm.Cond.fieldLinkNest "CardBowl" (311 : Nat) "CardBowl$Afternoon" "bestOver" "I" "CardBowl") ∈ lw_tbl := lw_at lw_m2 236 rfl
theorem q587 : (Jvm.Cond.fieldLinkNest "CardBowl" (308 : Nat) "CardBowl$Afternoon" "bestWorth" "I" "CardBowl") ∈ lw_tbl := lw_at lw_m2 238 rfl
theorem q616 : (Jvm.Cond.constant "CardBowl" (90 : Nat) (65536 : Int32)) ∈ lw_all := lw_g (lw_at lw_m3 27 rfl) rfl
theorem q617 : (Jvm.Cond.methodLinkNest "CardBowl" (94 : Nat) ({ cls := "CardBowl$Slot", name := "<init>", desc := "()V" } : Jvm.MethodName) "CardBowl") ∈ lw_tbl := lw_at lw_m3 28 rfl
theorem q622 : (Jvm.Cond.fieldLinkNest "CardBowl" (227 : Nat) "CardBowl$Slot" "held" "Ljava/lang/Object;" "CardBowl") ∈ lw_tbl := lw_at lw_m3 33 rfl
theorem q626 : (Jvm.Cond.fieldLink "CardBowl" (13 : Nat) "CardBowl" "slots" "[LCardBowl$Slot;") ∈ lw_all := lw_g (lw_at lw_m3 37 rfl) rfl
theorem q628 : (Jvm.Cond.fieldLink "CardBowl" (40 : Nat) "CardBowl" "now" "LCardBowl$State;") ∈ lw_all := lw_g (lw_at lw_m3 39 rfl) rfl
theorem q629 : (Jvm.Cond.fieldLink "CardBowl" (44 : Nat) "CardBowl" "images" "[LCardBowl$State;") ∈ lw_all := lw_g (lw_at lw_m3 40 rfl) rfl
theorem q630 : (Jvm.Cond.fieldLink "CardBowl" (62 : Nat) "CardBowl" "payings" "[LCardBowl$Paying;") ∈ lw_all := lw_g (lw_at lw_m3 41 rfl) rfl
theorem q631 : (Jvm.Cond.fieldLink "CardBowl" (71 : Nat) "CardBowl" "afternoon" "LCardBowl$Afternoon;") ∈ lw_all := lw_g (lw_at lw_m3 42 rfl) rfl
theorem q632 : (Jvm.Cond.fieldLink "CardBowl" (75 : Nat) "CardBowl" "tape" "[B") ∈ lw_all := lw_g (lw_at lw_m3 43 rfl) rfl
theorem q633 : (Jvm.Cond.fieldLink "CardBowl" (95 : Nat) "CardBowl" "taped" "I") ∈ lw_all := lw_g (lw_at lw_m3 44 rfl) rfl
theorem q634 : (Jvm.Cond.fieldLink "CardBowl" (101 : Nat) "CardBowl" "faultKind" "I") ∈ lw_all := lw_g (lw_at lw_m3 45 rfl) rfl
theorem q635 : (Jvm.Cond.fieldLink "CardBowl" (79 : Nat) "CardBowl" "faultPlace" "I") ∈ lw_all := lw_g (lw_at lw_m3 46 rfl) rfl
theorem q636 : (Jvm.Cond.fieldLink "CardBowl" (83 : Nat) "CardBowl" "fewestDays" "[I") ∈ lw_all := lw_g (lw_at lw_m3 47 rfl) rfl
theorem q637 : (Jvm.Cond.fieldLink "CardBowl" (87 : Nat) "CardBowl" "fewestThen" "[I") ∈ lw_all := lw_g (lw_at lw_m3 48 rfl) rfl
theorem q638 : (Jvm.Cond.fieldLink "CardBowl" (91 : Nat) "CardBowl" "calls" "[I") ∈ lw_all := lw_g (lw_at lw_m3 49 rfl) rfl
theorem q639 : (Jvm.Cond.laysFinal "CardBowl" "CardBowl" "slots" "[LCardBowl$Slot;") ∈ lw_all := lw_g (lw_at lw_m3 50 rfl) rfl
theorem q640 : (Jvm.Cond.soleField "CardBowl" "slots") ∈ lw_all := lw_g (lw_at lw_m3 51 rfl) rfl
theorem q641 : (Jvm.Cond.laysFinal "CardBowl" "CardBowl" "now" "LCardBowl$State;") ∈ lw_all := lw_g (lw_at lw_m3 52 rfl) rfl
theorem q642 : (Jvm.Cond.soleField "CardBowl" "now") ∈ lw_all := lw_g (lw_at lw_m3 53 rfl) rfl
theorem q643 : (Jvm.Cond.laysFinal "CardBowl" "CardBowl" "images" "[LCardBowl$State;") ∈ lw_all := lw_g (lw_at lw_m3 54 rfl) rfl
theorem q644 : (Jvm.Cond.soleField "CardBowl" "images") ∈ lw_all := lw_g (lw_at lw_m3 55 rfl) rfl
theorem q645 : (Jvm.Cond.laysFinal "CardBowl" "CardBowl" "payings" "[LCardBowl$Paying;") ∈ lw_all := lw_g (lw_at lw_m3 56 rfl) rfl
theorem q646 : (Jvm.Cond.soleField "CardBowl" "payings") ∈ lw_all := lw_g (lw_at lw_m3 57 rfl) rfl
theorem q647 : (Jvm.Cond.laysFinal "CardBowl" "CardBowl" "afternoon" "LCardBowl$Afternoon;") ∈ lw_all := lw_g (lw_at lw_m3 58 rfl) rfl
theorem q648 : (Jvm.Cond.soleField "CardBowl" "afternoon") ∈ lw_all := lw_g (lw_at lw_m3 59 rfl) rfl
theorem q649 : (Jvm.Cond.laysFinal "CardBowl" "CardBowl" "tape" "[B") ∈ lw_all := lw_g (lw_at lw_m3 60 rfl) rfl
theorem q650 : (Jvm.Cond.soleField "CardBowl" "tape") ∈ lw_all := lw_g (lw_at lw_m3 61 rfl) rfl
theorem q651 : (Jvm.Cond.lays "CardBowl" "CardBowl" "taped" "I") ∈ lw_all := lw_g (lw_at lw_m3 62 rfl) rfl
theorem q652 : (Jvm.Cond.soleField "CardBowl" "taped") ∈ lw_all := lw_g (lw_at lw_m3 63 rfl) rfl
theorem q653 : (Jvm.Cond.lays "CardBowl" "CardBowl" "faultKind" "I") ∈ lw_all := lw_g (lw_at lw_m3 64 rfl) rfl
theorem q654 : (Jvm.Cond.soleField "CardBowl" "faultKind") ∈ lw_all := lw_g (lw_at lw_m3 65 rfl) rfl
theorem q655 : (Jvm.Cond.lays "CardBowl" "CardBowl" "faultPlace" "I") ∈ lw_all := lw_g (lw_at lw_m3 66 rfl) rfl
theorem q656 : (Jvm.Cond.soleField "CardBowl" "faultPlace") ∈ lw_all := lw_g (lw_at lw_m3 67 rfl) rfl
theorem q657 : (Jvm.Cond.laysFinal "CardBowl" "CardBowl" "fewestDays" "[I") ∈ lw_all := lw_g (lw_at lw_m3 68 rfl) rfl
theorem q658 : (Jvm.Cond.soleField "CardBowl" "fewestDays") ∈ lw_all := lw_g (lw_at lw_m3 69 rfl) rfl
theorem q659 : (Jvm.Cond.laysFinal "CardBowl" "CardBowl" "fewestThen" "[I") ∈ lw_all := lw_g (lw_at lw_m3 70 rfl) rfl
theorem q660 : (Jvm.Cond.soleField "CardBowl" "fewestThen") ∈ lw_all := lw_g (lw_at lw_m3 71 rfl) rfl
theorem q661 : (Jvm.Cond.laysFinal "CardBowl" "CardBowl" "calls" "[I") ∈ lw_all := lw_g (lw_at lw_m3 72 rfl) rfl
theorem q662 : (Jvm.Cond.soleField "CardBowl" "calls") ∈ lw_all := lw_g (lw_at lw_m3 73 rfl) rfl
theorem q663 : (Jvm.Cond.superclass "CardBowl" "java/lang/Object") ∈ lw_all := lw_g (lw_at lw_m3 74 rfl) rfl
theorem q665 : (Jvm.Cond.instanceMethod ({ cls := "CardBowl", name := "feed", desc := "(IIIII)I" } : Jvm.MethodName)) ∈ lw_all := lw_g (lw_at lw_m3 76 rfl) rfl
theorem q666 : (Jvm.Cond.selects "CardBowl" ({ cls := "CardBowl", name := "feed", desc := "(IIIII)I" } : Jvm.MethodName) ({ cls := "CardBowl", name := "feed", desc := "(IIIII)I" } : Jvm.MethodName)) ∈ lw_all := lw_g (lw_at lw_m3 77 rfl) rfl
theorem q667 : (Jvm.Cond.code ({ cls := "CardBowl", name := "feed", desc := "(IIIII)I" } : Jvm.MethodName) prog_1_method_8_code (6 : Nat) (Option.some Jvm.ClassFile.FieldType.int)) ∈ lw_all := lw_g (lw_at lw_m3 78 rfl) rfl
theorem q668 : (Jvm.Cond.methodLink "CardBowl" (98 : Nat) ({ cls := "CardBowl", name := "puts", desc := "(I)V" } : Jvm.MethodName)) ∈ lw_all := lw_g (lw_at lw_m3 79 rfl) rfl
theorem q669 : (Jvm.Cond.privateMethod ({ cls := "CardBowl", name := "puts", desc := "(I)V" } : Jvm.MethodName)) ∈ lw_tbl := lw_at lw_m3 80 rfl
theorem q670 : (Jvm.Cond.instanceMethod ({ cls := "CardBowl", name := "puts", desc := "(I)V" } : Jvm.MethodName)) ∈ lw_all := lw_g (lw_at lw_m3 81 rfl) rfl
theorem q671 : (Jvm.Cond.code ({ cls := "CardBowl", name := "puts", desc := "(I)V" } : Jvm.MethodName) prog_1_method_9_code (3 : Nat) (Option.none : Option Jvm.ClassFile.FieldType)) ∈ lw_all := lw_g (lw_at lw_m3 82 rfl) rfl
theorem q673 : (Jvm.Cond.instanceMethod ({ cls := "CardBowl", name := "end", desc := "(I)I" } : Jvm.MethodName)) ∈ lw_all := lw_g (lw_at lw_m3 84 rfl) rfl
theorem q674 : (Jvm.Cond.selects "CardBowl" ({ cls := "CardBowl", name := "end", desc := "(I)I" } : Jvm.MethodName) ({ cls := "CardBowl", name := "end", desc := "(I)I" } : Jvm.MethodName)) ∈ lw_all := lw_g (lw_at lw_m3 85 rfl) rfl
theorem q675 : (Jvm.Cond.code ({ cls := "CardBowl", name := "end", desc := "(I)I" } : Jvm.MethodName) prog_1_method_10_code (2 : Nat) (Option.some Jvm.ClassFile.FieldType.int)) ∈ lw_all := lw_g (lw_at lw_m3 86 rfl) rfl
theorem q677 : (Jvm.Cond.instanceMethod ({ cls := "CardBowl", name := "town", desc := "()I" } : Jvm.MethodName)) ∈ lw_all := lw_g (lw_at lw_m3 88 rfl) rfl
theorem q678 : (Jvm.Cond.selects "CardBowl" ({ cls := "CardBowl", name := "town", desc := "()I" } : Jvm.MethodName) ({ cls := "CardBowl", name := "town", desc := "()I" } : Jvm.MethodName)) ∈ lw_all := lw_g (lw_at lw_m3 89 rfl) rfl
theorem q679 : (Jvm.Cond.codeWith ({ cls := "CardBowl", name := "town", desc := "()I" } : Jvm.MethodName) prog_1_method_11_code (4 : Nat) (Option.some Jvm.ClassFile.FieldType.int) [((0 : Nat), (46 : Nat), (53 : Nat), (126 : Nat)), ((0 : Nat), (46 : Nat), (80 : Nat), (0 : Nat)), ((53 : Nat), (73 : Nat), (80 : Nat), (0 : Nat))]) ∈ lw_all := lw_g (lw_at lw_m3 90 rfl) rfl
theorem q680 : (Jvm.Cond.classLink "CardBowl" (126 : Nat) "CardBowl$Wrong") ∈ lw_all := lw_g (lw_at lw_m3 91 rfl) rfl
theorem q681 : (Jvm.Cond.classLink "CardBowl" (104 : Nat) "CardBowl$Reader") ∈ lw_all := lw_g (lw_at lw_m3 92 rfl) rfl
theorem q683 : (Jvm.Cond.methodLink "CardBowl" (106 : Nat) ({ cls := "CardBowl$Reader", name := "<init>", desc := "([BI)V" } : Jvm.MethodName)) ∈ lw_all := lw_g (lw_at lw_m3 94 rfl) rfl
theorem q747 : (Jvm.Cond.methodLink "CardBowl" (109 : Nat) ({ cls := "CardBowl$Reader", name := "whole", desc := "()LCardBowl$Town;" } : Jvm.MethodName)) ∈ lw_all := lw_g (lw_at lw_m3 158 rfl) rfl
theorem q861 : (Jvm.Cond.fieldLinkNest "CardBowl" (128 : Nat) "CardBowl$Wrong" "kind" "I" "CardBowl") ∈ lw_tbl := lw_at lw_m4 32 rfl
theorem q863 : (Jvm.Cond.fieldLinkNest "CardBowl" (131 : Nat) "CardBowl$Wrong" "place" "I" "CardBowl") ∈ lw_tbl := lw_at lw_m4 34 rfl
theorem q908 : (Jvm.Cond.fieldLinkNest "CardBowl" (280 : Nat) "CardBowl$Rule" "owes" "I" "CardBowl") ∈ lw_tbl := lw_at lw_m4 79 rfl
theorem q1032 : (Jvm.Cond.selects "CardBowl" ({ cls := "java/lang/Object", name := "getClass", desc := "()Ljava/lang/Class;" } : Jvm.MethodName) ({ cls := "java/lang/Object", name := "getClass", desc := "()Ljava/lang/Class;" } : Jvm.MethodName)) ∈ lw_all := lw_g (lw_at lw_m4 203 rfl) rfl
theorem q1081 : (Jvm.Cond.fieldLinkNest "CardBowl" (401 : Nat) "CardBowl$House" "x" "I" "CardBowl") ∈ lw_tbl := lw_at lw_m5 12 rfl
theorem q1084 : (Jvm.Cond.fieldLinkNest "CardBowl" (404 : Nat) "CardBowl$House" "y" "I" "CardBowl") ∈ lw_tbl := lw_at lw_m5 15 rfl
theorem q1087 : (Jvm.Cond.fieldLinkNest "CardBowl" (273 : Nat) "CardBowl$House" "rank" "I" "CardBowl") ∈ lw_tbl := lw_at lw_m5 18 rfl
theorem q1091 : (Jvm.Cond.fieldLinkNest "CardBowl" (407 : Nat) "CardBowl$House" "weekday" "I" "CardBowl") ∈ lw_tbl := lw_at lw_m5 22 rfl
theorem q1094 : (Jvm.Cond.fieldLinkNest "CardBowl" (410 : Nat) "CardBowl$House" "from" "I" "CardBowl") ∈ lw_tbl := lw_at lw_m5 25 rfl
theorem q1097 : (Jvm.Cond.fieldLinkNest "CardBowl" (413 : Nat) "CardBowl$House" "to" "I" "CardBowl") ∈ lw_tbl := lw_at lw_m5 28 rfl
theorem q1100 : (Jvm.Cond.fieldLinkNest "CardBowl" (152 : Nat) "CardBowl$House" "came" "I" "CardBowl") ∈ lw_tbl := lw_at lw_m5 31 rfl
theorem q1132 : (Jvm.Cond.methodLink "CardBowl" (113 : Nat) ({ cls := "CardBowl$State", name := "begins", desc := "(LCardBowl$Town;)V" } : Jvm.MethodName)) ∈ lw_all := lw_g (lw_at lw_m5 63 rfl) rfl
theorem q1133 : (Jvm.Cond.methodLink "CardBowl" (120 : Nat) ({ cls := "CardBowl$Town", name := "many", desc := "()I" } : Jvm.MethodName)) ∈ lw_all := lw_g (lw_at lw_m5 64 rfl) rfl
theorem q1135 : (Jvm.Cond.instanceMethod ({ cls := "CardBowl", name := "fault", desc := "(I)I" } : Jvm.MethodName)) ∈ lw_all := lw_g (lw_at lw_m5 66 rfl) rfl
theorem q1136 : (Jvm.Cond.selects "CardBowl" ({ cls := "CardBowl", name := "fault", desc := "(I)I" } : Jvm.MethodName) ({ cls := "CardBowl", name := "fault", desc := "(I)I" } : Jvm.MethodName)) ∈ lw_all := lw_g (lw_at lw_m5 67 rfl) rfl
theorem q1137 : (Jvm.Cond.code ({ cls := "CardBowl", name := "fault", desc := "(I)I" } : Jvm.MethodName) prog_1_method_12_code (2 : Nat) (Option.some Jvm.ClassFile.FieldType.int)) ∈ lw_all := lw_g (lw_at lw_m5 68 rfl) rfl
theorem q1139 : (Jvm.Cond.instanceMethod ({ cls := "CardBowl", name := "days", desc := "(I)I" } : Jvm.MethodName)) ∈ lw_all := lw_g (lw_at lw_m5 70 rfl) rfl
theorem q1140 : (Jvm.Cond.selects "CardBowl" ({ cls := "CardBowl", name := "days", desc := "(I)I" } : Jvm.MethodName) ({ cls := "CardBowl", name := "days", desc := "(I)I" } : Jvm.MethodName)) ∈ lw_all := lw_g (lw_at lw_m5 71 rfl) rfl
theorem q1141 : (Jvm.Cond.code ({ cls := "CardBowl", name := "days", desc := "(I)I" } : Jvm.MethodName) prog_1_method_16_code (2 : Nat) (Option.some Jvm.ClassFile.FieldType.int)) ∈ lw_all := lw_g (lw_at lw_m5 72 rfl) rfl
theorem q1142 : (Jvm.Cond.constantLong "CardBowl" (144 : Nat) (60 : Int64)) ∈ lw_all := lw_g (lw_at lw_m5 73 rfl) rfl
theorem q1144 : (Jvm.Cond.instanceMethod ({ cls := "CardBowl", name := "bars", desc := "(III)I" } : Jvm.MethodName)) ∈ lw_all := lw_g (lw_at lw_m5 75 rfl) rfl
theorem q1145 : (Jvm.Cond.selects "CardBowl" ({ cls := "CardBowl", name := "bars", desc := "(III)I" } : Jvm.MethodName) ({ cls := "CardBowl", name := "bars", desc := "(III)I" } : Jvm.MethodName)) ∈ lw_all := lw_g (lw_at lw_m5 76 rfl) rfl
theorem q1146 : (Jvm.Cond.code ({ cls := "CardBowl", name := "bars", desc := "(III)I" } : Jvm.MethodName) prog_1_method_20_code (4 : Nat) (Option.some Jvm.ClassFile.FieldType.int)) ∈ lw_all := lw_g (lw_at lw_m5 77 rfl) rfl
theorem q1147 : (Jvm.Cond.methodLink "CardBowl" (194 : Nat) ({ cls := "CardBowl", name := "areTwo", desc := "(II)Z" } : Jvm.MethodName)) ∈ lw_all := lw_g (lw_at lw_m5 78 rfl) rfl
theorem q1148 : (Jvm.Cond.privateMethod ({ cls := "CardBowl", name := "areTwo", desc := "(II)Z" } : Jvm.MethodName)) ∈ lw_tbl := lw_at lw_m5 79 rfl
theorem q1149 : (Jvm.Cond.instanceMethod ({ cls := "CardBowl", name := "areTwo", desc := "(II)Z" } : Jvm.MethodName)) ∈ lw_all := lw_g (lw_at lw_m5 80 rfl) rfl
theorem q1150 : (Jvm.Cond.code ({ cls := "CardBowl", name := "areTwo", desc := "(II)Z" } : Jvm.MethodName) prog_1_method_14_code (3 : Nat) (Option.some Jvm.ClassFile.FieldType.boolean)) ∈ lw_all := lw_g (lw_at lw_m5 81 rfl) rfl
theorem q1151 : (Jvm.Cond.methodLink "CardBowl" (137 : Nat) ({ cls := "CardBowl", name := "isHouse", desc := "(I)Z" } : Jvm.MethodName)) ∈ lw_all := lw_g (lw_at lw_m5 82 rfl) rfl
theorem q1152 : (Jvm.Cond.privateMethod ({ cls := "CardBowl", name := "isHouse", desc := "(I)Z" } : Jvm.MethodName)) ∈ lw_tbl := lw_at lw_m5 83 rfl
theorem q1153 : (Jvm.Cond.instanceMethod ({ cls := "CardBowl", name := "isHouse", desc := "(I)Z" } : Jvm.MethodName)) ∈ lw_all := lw_g (lw_at lw_m5 84 rfl) rfl
theorem q1154 : (Jvm.Cond.code ({ cls := "CardBowl", name := "isHouse", desc := "(I)Z" } : Jvm.MethodName) prog_1_method_13_code (2 : Nat) (Option.some Jvm.ClassFile.FieldType.boolean)) ∈ lw_all := lw_g (lw_at lw_m5 85 rfl) rfl
theorem q1155 : (Jvm.Cond.methodLink "CardBowl" (134 : Nat) ({ cls := "CardBowl$Town", name := "has", desc := "(I)Z" } : Jvm.MethodName)) ∈ lw_all := lw_g (lw_at lw_m5 86 rfl) rfl
theorem q1160 : (Jvm.Cond.methodLink "CardBowl" (197 : Nat) ({ cls := "CardBowl", name := "barsOf", desc := "(III)I" } : Jvm.MethodName)) ∈ lw_all := lw_g (lw_at lw_m5 91 rfl) rfl
theorem q1161 : (Jvm.Cond.privateMethod ({ cls := "CardBowl", name := "barsOf", desc := "(III)I" } : Jvm.MethodName)) ∈ lw_tbl := lw_at lw_m5 92 rfl
theorem q1162 : (Jvm.Cond.instanceMethod ({ cls := "CardBowl", name := "barsOf", desc := "(III)I" } : Jvm.MethodName)) ∈ lw_all := lw_g (lw_at lw_m5 93 rfl) rfl
theorem q1163 : (Jvm.Cond.code ({ cls := "CardBowl", name := "barsOf", desc := "(III)I" } : Jvm.MethodName) prog_1_method_19_code (4 : Nat) (Option.some Jvm.ClassFile.FieldType.int)) ∈ lw_all := lw_g (lw_at lw_m5 94 rfl) rfl
theorem q1164 : (Jvm.Cond.methodLink "CardBowl" (187 : Nat) ({ cls := "CardBowl", name := "mayKnow", desc := "(II)Z" } : Jvm.MethodName)) ∈ lw_all := lw_g (lw_at lw_m5 95 rfl) rfl
theorem q1165 : (Jvm.Cond.privateMethod ({ cls := "CardBowl", name := "mayKnow", desc := "(II)Z" } : Jvm.MethodName)) ∈ lw_tbl := lw_at lw_m5 96 rfl
theorem q1166 : (Jvm.Cond.instanceMethod ({ cls := "CardBowl", name := "mayKnow", desc := "(II)Z" } : Jvm.MethodName)) ∈ lw_all := lw_g (lw_at lw_m5 97 rfl) rfl
theorem q1167 : (Jvm.Cond.code ({ cls := "CardBowl", name := "mayKnow", desc := "(II)Z" } : Jvm.MethodName) prog_1_method_18_code (3 : Nat) (Option.some Jvm.ClassFile.FieldType.boolean)) ∈ lw_all := lw_g (lw_at lw_m5 98 rfl) rfl
theorem q1168 : (Jvm.Cond.methodLink "CardBowl" (149 : Nat) ({ cls := "CardBowl", name := "at", desc := "(I)LCardBowl$House;" } : Jvm.MethodName)) ∈ lw_all := lw_g (lw_at lw_m5 99 rfl) rfl
theorem q1169 : (Jvm.Cond.privateMethod ({ cls := "CardBowl", name := "at", desc := "(I)LCardBowl$House;" } : Jvm.MethodName)) ∈ lw_tbl := lw_at lw_m5 100 rfl
theorem q1170 : (Jvm.Cond.instanceMethod ({ cls := "CardBowl", name := "at", desc := "(I)LCardBowl$House;" } : Jvm.MethodName)) ∈ lw_all := lw_g (lw_at lw_m5 101 rfl) rfl
theorem q1171 : (Jvm.Cond.code ({ cls := "CardBowl", name := "at", desc := "(I)LCardBowl$House;" } : Jvm.MethodName) prog_1_method_15_code (2 : Nat) (Option.some (Jvm.ClassFile.FieldType.object "CardBowl$House"))) ∈ lw_all := lw_g (lw_at lw_m5 102 rfl) rfl
theorem q1172 : (Jvm.Cond.methodLink "CardBowl" (140 : Nat) ({ cls := "CardBowl$Town", name := "house", desc := "(I)LCardBowl$House;" } : Jvm.MethodName)) ∈ lw_all := lw_g (lw_at lw_m5 103 rfl) rfl
theorem q1194 : (Jvm.Cond.methodLink "CardBowl" (160 : Nat) ({ cls := "CardBowl$House", name := "isThere", desc := "(I)Z" } : Jvm.MethodName)) ∈ lw_all := lw_g (lw_at lw_m5 125 rfl) rfl
theorem q1198 : (Jvm.Cond.methodLink "CardBowl" (167 : Nat) ({ cls := "CardBowl$Ledger", name := "areKnown", desc := "(II)Z" } : Jvm.MethodName)) ∈ lw_all := lw_g (lw_at lw_m5 129 rfl) rfl
theorem q1203 : (Jvm.Cond.static ({ cls := "CardBowl", name := "has", desc := "(II)Z" } : Jvm.MethodName)) ∈ lw_all := lw_g (lw_at lw_m5 134 rfl) rfl
theorem q1204 : (Jvm.Cond.code ({ cls := "CardBowl", name := "has", desc := "(II)Z" } : Jvm.MethodName) prog_1_method_2_code (2 : Nat) (Option.some Jvm.ClassFile.FieldType.boolean)) ∈ lw_all := lw_g (lw_at lw_m5 135 rfl) rfl
theorem q1205 : (Jvm.Cond.methodLink "CardBowl" (172 : Nat) ({ cls := "CardBowl", name := "isNew", desc := "(I)Z" } : Jvm.MethodName)) ∈ lw_all := lw_g (lw_at lw_m5 136 rfl) rfl
theorem q1206 : (Jvm.Cond.privateMethod ({ cls := "CardBowl", name := "isNew", desc := "(I)Z" } : Jvm.MethodName)) ∈ lw_tbl := lw_at lw_m5 137 rfl
theorem q1207 : (Jvm.Cond.instanceMethod ({ cls := "CardBowl", name := "isNew", desc := "(I)Z" } : Jvm.MethodName)) ∈ lw_all := lw_g (lw_at lw_m5 138 rfl) rfl
theorem q1208 : (Jvm.Cond.code ({ cls := "CardBowl", name := "isNew", desc := "(I)Z" } : Jvm.MethodName) prog_1_method_17_code (2 : Nat) (Option.some Jvm.ClassFile.FieldType.boolean)) ∈ lw_all := lw_g (lw_at lw_m5 139 rfl) rfl
theorem q1209 : (Jvm.Cond.methodLink "CardBowl" (178 : Nat) ({ cls := "java/lang/Integer", name := "bitCount", desc := "(I)I" } : Jvm.MethodName)) ∈ lw_all := lw_g (lw_at lw_m5 140 rfl) rfl
theorem q1215 : (Jvm.Cond.methodLink "CardBowl" (190 : Nat) ({ cls := "CardBowl$Paying", name := "bars", desc := "(LCardBowl$House;LCardBowl$House;I)I" } : Jvm.MethodName)) ∈ lw_all := lw_g (lw_at lw_m5 146 rfl) rfl
theorem q1230 : (Jvm.Cond.instanceMethod ({ cls := "CardBowl", name := "does", desc := "(III)I" } : Jvm.MethodName)) ∈ lw_all := lw_g (lw_at lw_m5 161 rfl) rfl
theorem q1231 : (Jvm.Cond.selects "CardBowl" ({ cls := "CardBowl", name := "does", desc := "(III)I" } : Jvm.MethodName) ({ cls := "CardBowl", name := "does", desc := "(III)I" } : Jvm.MethodName)) ∈ lw_all := lw_g (lw_at lw_m5 162 rfl) rfl
theorem q1232 : (Jvm.Cond.code ({ cls := "CardBowl", name := "does", desc := "(III)I" } : Jvm.MethodName) prog_1_method_21_code (4 : Nat) (Option.some Jvm.ClassFile.FieldType.int)) ∈ lw_all := lw_g (lw_at lw_m5 163 rfl) rfl
theorem q1233 : (Jvm.Cond.interfaceEntry "CardBowl" (205 : Nat)) ∈ lw_tbl := lw_at lw_m5 164 rfl
theorem q1234 : (Jvm.Cond.methodLink "CardBowl" (205 : Nat) ({ cls := "java/util/List", name := "size", desc := "()I" } : Jvm.MethodName)) ∈ lw_all := lw_g (lw_at lw_m5 165 rfl) rfl
theorem q1235 : (Jvm.Cond.classLink "CardBowl" (210 : Nat) "CardBowl$Deed") ∈ lw_all := lw_g (lw_at lw_m5 166 rfl) rfl
theorem q1237 : (Jvm.Cond.methodLink "CardBowl" (212 : Nat) ({ cls := "CardBowl$Deed", name := "<init>", desc := "(IIII)V" } : Jvm.MethodName)) ∈ lw_all := lw_g (lw_at lw_m5 168 rfl) rfl
theorem q1242 : (Jvm.Cond.fieldLinkNest "CardBowl" (375 : Nat) "CardBowl$Deed" "a" "I" "CardBowl") ∈ lw_tbl := lw_at lw_m5 173 rfl
theorem q1244 : (Jvm.Cond.fieldLinkNest "CardBowl" (382 : Nat) "CardBowl$Deed" "b" "I" "CardBowl") ∈ lw_tbl := lw_at lw_m5 175 rfl
theorem q1246 : (Jvm.Cond.fieldLinkNest "CardBowl" (385 : Nat) "CardBowl$Deed" "what" "I" "CardBowl") ∈ lw_tbl := lw_at lw_m5 177 rfl
theorem q1248 : (Jvm.Cond.fieldLinkNest "CardBowl" (423 : Nat) "CardBowl$Deed" "day" "I" "CardBowl") ∈ lw_tbl := lw_at lw_m5 179 rfl
theorem q1258 : (Jvm.Cond.interfaceEntry "CardBowl" (215 : Nat)) ∈ lw_tbl := lw_at lw_m5 189 rfl
theorem q1259 : (Jvm.Cond.methodLink "CardBowl" (215 : Nat) ({ cls := "java/util/List", name := "add", desc := "(Ljava/lang/Object;)Z" } : Jvm.MethodName)) ∈ lw_all := lw_g (lw_at lw_m5 190 rfl) rfl
theorem q1260 : (Jvm.Cond.methodLink "CardBowl" (219 : Nat) ({ cls := "CardBowl$Ledger", name := "does", desc := "(IILCardBowl$Paying;I)I" } : Jvm.MethodName)) ∈ lw_all := lw_g (lw_at lw_m5 191 rfl) rfl
theorem q1365 : (Jvm.Cond.fieldLinkNest "CardBowl" (253 : Nat) "CardBowl$Debt" "to" "I" "CardBowl") ∈ lw_tbl := lw_at lw_m6 56 rfl
theorem q1369 : (Jvm.Cond.fieldLinkNest "CardBowl" (258 : Nat) "CardBowl$Debt" "kind" "I" "CardBowl") ∈ lw_tbl := lw_at lw_m6 60 rfl
theorem q1371 : (Jvm.Cond.fieldLinkNest "CardBowl" (259 : Nat) "CardBowl$Debt" "due" "I" "CardBowl") ∈ lw_tbl := lw_at lw_m6 62 rfl
theorem q1373 : (Jvm.Cond.fieldLinkNest "CardBowl" (262 : Nat) "CardBowl$Debt" "came" "I" "CardBowl") ∈ lw_tbl := lw_at lw_m6 64 rfl
theorem q1402 : (Jvm.Cond.instanceMethod ({ cls := "CardBowl", name := "meet", desc := "(II)I" } : Jvm.MethodName)) ∈ lw_all := lw_g (lw_at lw_m6 93 rfl) rfl
theorem q1403 : (Jvm.Cond.selects "CardBowl" ({ cls := "CardBowl", name := "meet", desc := "(II)I" } : Jvm.MethodName) ({ cls := "CardBowl", name := "meet", desc := "(II)I" } : Jvm.MethodName)) ∈ lw_all := lw_g (lw_at lw_m6 94 rfl) rfl
theorem q1404 : (Jvm.Cond.code ({ cls := "CardBowl", name := "meet", desc := "(II)I" } : Jvm.MethodName) prog_1_method_22_code (4 : Nat) (Option.some Jvm.ClassFile.FieldType.int)) ∈ lw_all := lw_g (lw_at lw_m6 95 rfl) rfl
theorem q1405 : (Jvm.Cond.methodLink "CardBowl" (223 : Nat) ({ cls := "CardBowl$Ledger", name := "meets", desc := "(II)V" } : Jvm.MethodName)) ∈ lw_all := lw_g (lw_at lw_m6 96 rfl) rfl
theorem q1407 : (Jvm.Cond.instanceMethod ({ cls := "CardBowl", name := "done", desc := "(I)I" } : Jvm.MethodName)) ∈ lw_all := lw_g (lw_at lw_m6 98 rfl) rfl
theorem q1408 : (Jvm.Cond.selects "CardBowl" ({ cls := "CardBowl", name := "done", desc := "(I)I" } : Jvm.MethodName) ({ cls := "CardBowl", name := "done", desc := "(I)I" } : Jvm.MethodName)) ∈ lw_all := lw_g (lw_at lw_m6 99 rfl) rfl
theorem q1409 : (Jvm.Cond.code ({ cls := "CardBowl", name := "done", desc := "(I)I" } : Jvm.MethodName) prog_1_method_23_code (9 : Nat) (Option.some Jvm.ClassFile.FieldType.int)) ∈ lw_all := lw_g (lw_at lw_m6 100 rfl) rfl
theorem q1410 : (Jvm.Cond.methodLink "CardBowl" (231 : Nat) ({ cls := "CardBowl$Slot", name := "many", desc := "()I" } : Jvm.MethodName)) ∈ lw_all := lw_g (lw_at lw_m6 101 rfl) rfl
theorem q1414 : (Jvm.Cond.methodLink "CardBowl" (232 : Nat) ({ cls := "CardBowl$Slot", name := "number", desc := "(I)J" } : Jvm.MethodName)) ∈ lw_all := lw_g (lw_at lw_m6 105 rfl) rfl
theorem q1418 : (Jvm.Cond.constantLong "CardBowl" (236 : Nat) (16 : Int64)) ∈ lw_all := lw_g (lw_at lw_m6 109 rfl) rfl
theorem q1419 : (Jvm.Cond.constantLong "CardBowl" (238 : Nat) (4 : Int64)) ∈ lw_all := lw_g (lw_at lw_m6 110 rfl) rfl
theorem q1420 : (Jvm.Cond.methodLink "CardBowl" (240 : Nat) ({ cls := "CardBowl", name := "meet", desc := "(II)I" } : Jvm.MethodName)) ∈ lw_all := lw_g (lw_at lw_m6 111 rfl) rfl
theorem q1421 : (Jvm.Cond.methodLink "CardBowl" (244 : Nat) ({ cls := "CardBowl", name := "does", desc := "(III)I" } : Jvm.MethodName)) ∈ lw_all := lw_g (lw_at lw_m6 112 rfl) rfl
theorem q1423 : (Jvm.Cond.instanceMethod ({ cls := "CardBowl", name := "known", desc := "(II)I" } : Jvm.MethodName)) ∈ lw_all := lw_g (lw_at lw_m6 114 rfl) rfl
theorem q1424 : (Jvm.Cond.selects "CardBowl" ({ cls := "CardBowl", name := "known", desc := "(II)I" } : Jvm.MethodName) ({ cls := "CardBowl", name := "known", desc := "(II)I" } : Jvm.MethodName)) ∈ lw_all := lw_g (lw_at lw_m6 115 rfl) rfl
theorem q1425 : (Jvm.Cond.code ({ cls := "CardBowl", name := "known", desc := "(II)I" } : Jvm.MethodName) prog_1_method_24_code (3 : Nat) (Option.some Jvm.ClassFile.FieldType.int)) ∈ lw_all := lw_g (lw_at lw_m6 116 rfl) rfl
theorem q1427 : (Jvm.Cond.instanceMethod ({ cls := "CardBowl", name := "debts", desc := "(I)I" } : Jvm.MethodName)) ∈ lw_all := lw_g (lw_at lw_m6 118 rfl) rfl
theorem q1428 : (Jvm.Cond.selects "CardBowl" ({ cls := "CardBowl", name := "debts", desc := "(I)I" } : Jvm.MethodName) ({ cls := "CardBowl", name := "debts", desc := "(I)I" } : Jvm.MethodName)) ∈ lw_all := lw_g (lw_at lw_m6 119 rfl) rfl
theorem q1429 : (Jvm.Cond.code ({ cls := "CardBowl", name := "debts", desc := "(I)I" } : Jvm.MethodName) prog_1_method_25_code (2 : Nat) (Option.some Jvm.ClassFile.FieldType.int)) ∈ lw_all := lw_g (lw_at lw_m6 120 rfl) rfl
theorem q1430 : (Jvm.Cond.methodLink "CardBowl" (246 : Nat) ({ cls := "CardBowl$Ledger", name := "debtsOf", desc := "(I)I" } : Jvm.MethodName)) ∈ lw_all := lw_g (lw_at lw_m6 121 rfl) rfl
theorem q1432 : (Jvm.Cond.instanceMethod ({ cls := "CardBowl", name := "debt", desc := "(III)I" } : Jvm.MethodName)) ∈ lw_all := lw_g (lw_at lw_m6 123 rfl) rfl
theorem q1433 : (Jvm.Cond.selects "CardBowl" ({ cls := "CardBowl", name := "debt", desc := "(III)I" } : Jvm.MethodName) ({ cls := "CardBowl", name := "debt", desc := "(III)I" } : Jvm.MethodName)) ∈ lw_all := lw_g (lw_at lw_m6 124 rfl) rfl
theorem q1434 : (Jvm.Cond.code ({ cls := "CardBowl", name := "debt", desc := "(III)I" } : Jvm.MethodName) prog_1_method_26_code (5 : Nat) (Option.some Jvm.ClassFile.FieldType.int)) ∈ lw_all := lw_g (lw_at lw_m6 125 rfl) rfl
theorem q1435 : (Jvm.Cond.methodLink "CardBowl" (249 : Nat) ({ cls := "CardBowl$Ledger", name := "debt", desc := "(II)LCardBowl$Debt;" } : Jvm.MethodName)) ∈ lw_all := lw_g (lw_at lw_m6 126 rfl) rfl
theorem q1440 : (Jvm.Cond.instanceMethod ({ cls := "CardBowl", name := "slights", desc := "(I)I" } : Jvm.MethodName)) ∈ lw_all := lw_g (lw_at lw_m6 131 rfl) rfl
theorem q1441 : (Jvm.Cond.selects "CardBowl" ({ cls := "CardBowl", name := "slights", desc := "(I)I" } : Jvm.MethodName) ({ cls := "CardBowl", name := "slights", desc := "(I)I" } : Jvm.MethodName)) ∈ lw_all := lw_g (lw_at lw_m6 132 rfl) rfl
theorem q1442 : (Jvm.Cond.code ({ cls := "CardBowl", name := "slights", desc := "(I)I" } : Jvm.MethodName) prog_1_method_28_code (2 : Nat) (Option.some Jvm.ClassFile.FieldType.int)) ∈ lw_all := lw_g (lw_at lw_m6 133 rfl) rfl
theorem q1443 : (Jvm.Cond.methodLink "CardBowl" (270 : Nat) ({ cls := "CardBowl", name := "slightsOf", desc := "(I)I" } : Jvm.MethodName)) ∈ lw_all := lw_g (lw_at lw_m6 134 rfl) rfl
theorem q1444 : (Jvm.Cond.privateMethod ({ cls := "CardBowl", name := "slightsOf", desc := "(I)I" } : Jvm.MethodName)) ∈ lw_tbl := lw_at lw_m6 135 rfl
theorem q1445 : (Jvm.Cond.instanceMethod ({ cls := "CardBowl", name := "slightsOf", desc := "(I)I" } : Jvm.MethodName)) ∈ lw_all := lw_g (lw_at lw_m6 136 rfl) rfl
theorem q1446 : (Jvm.Cond.code ({ cls := "CardBowl", name := "slightsOf", desc := "(I)I" } : Jvm.MethodName) prog_1_method_27_code (4 : Nat) (Option.some Jvm.ClassFile.FieldType.int)) ∈ lw_all := lw_g (lw_at lw_m6 137 rfl) rfl
theorem q1447 : (Jvm.Cond.interfaceEntry "CardBowl" (266 : Nat)) ∈ lw_tbl := lw_at lw_m6 138 rfl
theorem q1448 : (Jvm.Cond.methodLink "CardBowl" (266 : Nat) ({ cls := "java/util/List", name := "get", desc := "(I)Ljava/lang/Object;" } : Jvm.MethodName)) ∈ lw_all := lw_g (lw_at lw_m6 139 rfl) rfl
theorem q1449 : (Jvm.Cond.classLink "CardBowl" (254 : Nat) "CardBowl$Debt") ∈ lw_all := lw_g (lw_at lw_m6 140 rfl) rfl
theorem q1451 : (Jvm.Cond.instanceMethod ({ cls := "CardBowl", name := "first", desc := "()I" } : Jvm.MethodName)) ∈ lw_all := lw_g (lw_at lw_m6 142 rfl) rfl
theorem q1452 : (Jvm.Cond.selects "CardBowl" ({ cls := "CardBowl", name := "first", desc := "()I" } : Jvm.MethodName) ({ cls := "CardBowl", name := "first", desc := "()I" } : Jvm.MethodName)) ∈ lw_all := lw_g (lw_at lw_m6 143 rfl) rfl
theorem q1453 : (Jvm.Cond.code ({ cls := "CardBowl", name := "first", desc := "()I" } : Jvm.MethodName) prog_1_method_29_code (5 : Nat) (Option.some Jvm.ClassFile.FieldType.int)) ∈ lw_all := lw_g (lw_at lw_m6 144 rfl) rfl
theorem q1455 : (Jvm.Cond.instanceMethod ({ cls := "CardBowl", name := "owes", desc := "(III)I" } : Jvm.MethodName)) ∈ lw_all := lw_g (lw_at lw_m6 146 rfl) rfl
theorem q1456 : (Jvm.Cond.selects "CardBowl" ({ cls := "CardBowl", name := "owes", desc := "(III)I" } : Jvm.MethodName) ({ cls := "CardBowl", name := "owes", desc := "(III)I" } : Jvm.MethodName)) ∈ lw_all := lw_g (lw_at lw_m6 147 rfl) rfl
theorem q1457 : (Jvm.Cond.code ({ cls := "CardBowl", name := "owes", desc := "(III)I" } : Jvm.MethodName) prog_1_method_30_code (5 : Nat) (Option.some Jvm.ClassFile.FieldType.int)) ∈ lw_all := lw_g (lw_at lw_m6 148 rfl) rfl
theorem q1458 : (Jvm.Cond.methodLink "CardBowl" (276 : Nat) ({ cls := "CardBowl$Ledger", name := "rule", desc := "(IIII)LCardBowl$Rule;" } : Jvm.MethodName)) ∈ lw_all := lw_g (lw_at lw_m6 149 rfl) rfl
theorem q1459 : (Jvm.Cond.methodLink "CardBowl" (285 : Nat) ({ cls := "CardBowl$Ledger", name := "hasOpen", desc := "(III)Z" } : Jvm.MethodName)) ∈ lw_all := lw_g (lw_at lw_m6 150 rfl) rfl
theorem q1461 : (Jvm.Cond.instanceMethod ({ cls := "CardBowl", name := "worth", desc := "(II)I" } : Jvm.MethodName)) ∈ lw_all := lw_g (lw_at lw_m6 152 rfl) rfl
theorem q1462 : (Jvm.Cond.selects "CardBowl" ({ cls := "CardBowl", name := "worth", desc := "(II)I" } : Jvm.MethodName) ({ cls := "CardBowl", name := "worth", desc := "(II)I" } : Jvm.MethodName)) ∈ lw_all := lw_g (lw_at lw_m6 153 rfl) rfl
theorem q1463 : (Jvm.Cond.code ({ cls := "CardBowl", name := "worth", desc := "(II)I" } : Jvm.MethodName) prog_1_method_33_code (3 : Nat) (Option.some Jvm.ClassFile.FieldType.int)) ∈ lw_all := lw_g (lw_at lw_m6 154 rfl) rfl
theorem q1464 : (Jvm.Cond.methodLink "CardBowl" (305 : Nat) ({ cls := "CardBowl", name := "isRound", desc := "(II)Z" } : Jvm.MethodName)) ∈ lw_all := lw_g (lw_at lw_m6 155 rfl) rfl
theorem q1465 : (Jvm.Cond.privateMethod ({ cls := "CardBowl", name := "isRound", desc := "(II)Z" } : Jvm.MethodName)) ∈ lw_tbl := lw_at lw_m6 156 rfl
theorem q1466 : (Jvm.Cond.instanceMethod ({ cls := "CardBowl", name := "isRound", desc := "(II)Z" } : Jvm.MethodName)) ∈ lw_all := lw_g (lw_at lw_m6 157 rfl) rfl
theorem q1467 : (Jvm.Cond.code ({ cls := "CardBowl", name := "isRound", desc := "(II)Z" } : Jvm.MethodName) prog_1_method_32_code (3 : Nat) (Option.some Jvm.ClassFile.FieldType.boolean)) ∈ lw_all := lw_g (lw_at lw_m6 158 rfl) rfl
theorem q1468 : (Jvm.Cond.methodLink "CardBowl" (291 : Nat) ({ cls := "CardBowl", name := "isDay", desc := "(I)Z" } : Jvm.MethodName)) ∈ lw_all := lw_g (lw_at lw_m6 159 rfl) rfl
theorem q1469 : (Jvm.Cond.privateMethod ({ cls := "CardBowl", name := "isDay", desc := "(I)Z" } : Jvm.MethodName)) ∈ lw_tbl := lw_at lw_m6 160 rfl
theorem q1470 : (Jvm.Cond.instanceMethod ({ cls := "CardBowl", name := "isDay", desc := "(I)Z" } : Jvm.MethodName)) ∈ lw_all := lw_g (lw_at lw_m6 161 rfl) rfl
theorem q1471 : (Jvm.Cond.code ({ cls := "CardBowl", name := "isDay", desc := "(I)Z" } : Jvm.MethodName) prog_1_method_31_code (2 : Nat) (Option.some Jvm.ClassFile.FieldType.boolean)) ∈ lw_all := lw_g (lw_at lw_m6 162 rfl) rfl
theorem q1472 : (Jvm.Cond.constantLong "CardBowl" (289 : Nat) (399 : Int64)) ∈ lw_all := lw_g (lw_at lw_m6 163 rfl) rfl
theorem q1473 : (Jvm.Cond.methodLink "CardBowl" (294 : Nat) ({ cls := "CardBowl$Afternoon", name := "begins", desc := "(II)V" } : Jvm.MethodName)) ∈ lw_all := lw_g (lw_at lw_m6 164 rfl) rfl
theorem q1478 : (Jvm.Cond.methodLink "CardBowl" (296 : Nat) ({ cls := "CardBowl$Afternoon", name := "owed", desc := "()V" } : Jvm.MethodName)) ∈ lw_all := lw_g (lw_at lw_m6 169 rfl) rfl
theorem q1488 : (Jvm.Cond.methodLink "CardBowl" (299 : Nat) ({ cls := "CardBowl$Afternoon", name := "goes", desc := "()V" } : Jvm.MethodName)) ∈ lw_all := lw_g (lw_at lw_m6 179 rfl) rfl
theorem q1515 : (Jvm.Cond.methodLink "CardBowl" (302 : Nat) ({ cls := "CardBowl$Afternoon", name := "best", desc := "()V" } : Jvm.MethodName)) ∈ lw_all := lw_g (lw_at lw_m6 206 rfl) rfl
theorem q1536 : (Jvm.Cond.instanceMethod ({ cls := "CardBowl", name := "over", desc := "(II)I" } : Jvm.MethodName)) ∈ lw_all := lw_g (lw_at lw_m6 227 rfl) rfl
theorem q1537 : (Jvm.Cond.selects "CardBowl" ({ cls := "CardBowl", name := "over", desc := "(II)I" } : Jvm.MethodName) ({ cls := "CardBowl", name := "over", desc := "(II)I" } : Jvm.MethodName)) ∈ lw_all := lw_g (lw_at lw_m6 228 rfl) rfl
theorem q1538 : (Jvm.Cond.code ({ cls := "CardBowl", name := "over", desc := "(II)I" } : Jvm.MethodName) prog_1_method_34_code (3 : Nat) (Option.some Jvm.ClassFile.FieldType.int)) ∈ lw_all := lw_g (lw_at lw_m6 229 rfl) rfl
theorem q1540 : (Jvm.Cond.instanceMethod ({ cls := "CardBowl", name := "round", desc := "(III)I" } : Jvm.MethodName)) ∈ lw_all := lw_g (lw_at lw_m6 231 rfl) rfl
theorem q1541 : (Jvm.Cond.selects "CardBowl" ({ cls := "CardBowl", name := "round", desc := "(III)I" } : Jvm.MethodName) ({ cls := "CardBowl", name := "round", desc := "(III)I" } : Jvm.MethodName)) ∈ lw_all := lw_g (lw_at lw_m6 232 rfl) rfl
theorem q1542 : (Jvm.Cond.code ({ cls := "CardBowl", name := "round", desc := "(III)I" } : Jvm.MethodName) prog_1_method_35_code (4 : Nat) (Option.some Jvm.ClassFile.FieldType.int)) ∈ lw_all := lw_g (lw_at lw_m6 233 rfl) rfl
theorem q1543 : (Jvm.Cond.methodLink "CardBowl" (317 : Nat) ({ cls := "CardBowl$Afternoon", name := "rows", desc := "()V" } : Jvm.MethodName)) ∈ lw_all := lw_g (lw_at lw_m6 234 rfl) rfl
theorem q1552 : (Jvm.Cond.instanceMethod ({ cls := "CardBowl", name := "may", desc := "(III)I" } : Jvm.MethodName)) ∈ lw_all := lw_g (lw_at lw_m7 3 rfl) rfl
theorem q1553 : (Jvm.Cond.selects "CardBowl" ({ cls := "CardBowl", name := "may", desc := "(III)I" } : Jvm.MethodName) ({ cls := "CardBowl", name := "may", desc := "(III)I" } : Jvm.MethodName)) ∈ lw_all := lw_g (lw_at lw_m7 4 rfl) rfl
theorem q1554 : (Jvm.Cond.code ({ cls := "CardBowl", name := "may", desc := "(III)I" } : Jvm.MethodName) prog_1_method_36_code (10 : Nat) (Option.some Jvm.ClassFile.FieldType.int)) ∈ lw_all := lw_g (lw_at lw_m7 5 rfl) rfl
theorem q1555 : (Jvm.Cond.methodLink "CardBowl" (323 : Nat) ({ cls := "CardBowl", name := "has", desc := "(II)Z" } : Jvm.MethodName)) ∈ lw_all := lw_g (lw_at lw_m7 6 rfl) rfl
theorem q1556 : (Jvm.Cond.methodLink "CardBowl" (325 : Nat) ({ cls := "CardBowl$Ledger", name := "greatest", desc := "(II)I" } : Jvm.MethodName)) ∈ lw_all := lw_g (lw_at lw_m7 7 rfl) rfl
theorem q1557 : (Jvm.Cond.methodLink "CardBowl" (328 : Nat) ({ cls := "CardBowl$House", name := "far", desc := "(LCardBowl$House;)I" } : Jvm.MethodName)) ∈ lw_all := lw_g (lw_at lw_m7 8 rfl) rfl
theorem q1558 : (Jvm.Cond.methodLinkNest "CardBowl" (332 : Nat) ({ cls := "CardBowl$Afternoon", name := "after", desc := "(III)I" } : Jvm.MethodName) "CardBowl") ∈ lw_tbl := lw_at lw_m7 9 rfl
theorem q1559 : (Jvm.Cond.constant "CardBowl" (335 : Nat) (100000 : Int32)) ∈ lw_all := lw_g (lw_at lw_m7 10 rfl) rfl
theorem q1561 : (Jvm.Cond.instanceMethod ({ cls := "CardBowl", name := "fewest", desc := "(I)I" } : Jvm.MethodName)) ∈ lw_all := lw_g (lw_at lw_m7 12 rfl) rfl
theorem q1562 : (Jvm.Cond.selects "CardBowl" ({ cls := "CardBowl", name := "fewest", desc := "(I)I" } : Jvm.MethodName) ({ cls := "CardBowl", name := "fewest", desc := "(I)I" } : Jvm.MethodName)) ∈ lw_all := lw_g (lw_at lw_m7 13 rfl) rfl
theorem q1563 : (Jvm.Cond.code ({ cls := "CardBowl", name := "fewest", desc := "(I)I" } : Jvm.MethodName) prog_1_method_39_code (8 : Nat) (Option.some Jvm.ClassFile.FieldType.int)) ∈ lw_all := lw_g (lw_at lw_m7 14 rfl) rfl
theorem q1564 : (Jvm.Cond.methodLink "CardBowl" (346 : Nat) ({ cls := "CardBowl", name := "tenOf", desc := "(I)I" } : Jvm.MethodName)) ∈ lw_all := lw_g (lw_at lw_m7 15 rfl) rfl
theorem q1565 : (Jvm.Cond.privateMethod ({ cls := "CardBowl", name := "tenOf", desc := "(I)I" } : Jvm.MethodName)) ∈ lw_tbl := lw_at lw_m7 16 rfl
theorem q1566 : (Jvm.Cond.instanceMethod ({ cls := "CardBowl", name := "tenOf", desc := "(I)I" } : Jvm.MethodName)) ∈ lw_all := lw_g (lw_at lw_m7 17 rfl) rfl
theorem q1567 : (Jvm.Cond.code ({ cls := "CardBowl", name := "tenOf", desc := "(I)I" } : Jvm.MethodName) prog_1_method_37_code (5 : Nat) (Option.some Jvm.ClassFile.FieldType.int)) ∈ lw_all := lw_g (lw_at lw_m7 18 rfl) rfl
theorem q1568 : (Jvm.Cond.methodLink "CardBowl" (336 : Nat) ({ cls := "java/lang/Math", name := "min", desc := "(II)I" } : Jvm.MethodName)) ∈ lw_all := lw_g (lw_at lw_m7 19 rfl) rfl
theorem q1569 : (Jvm.Cond.methodLink "CardBowl" (350 : Nat) ({ cls := "java/lang/System", name := "arraycopy", desc := "(Ljava/lang/Object;ILjava/lang/Object;II)V" } : Jvm.MethodName)) ∈ lw_all := lw_g (lw_at lw_m7 20 rfl) rfl
theorem q1570 : (Jvm.Cond.methodLink "CardBowl" (356 : Nat) ({ cls := "CardBowl$Afternoon", name := "over", desc := "(I)I" } : Jvm.MethodName)) ∈ lw_all := lw_g (lw_at lw_m7 21 rfl) rfl
theorem q1571 : (Jvm.Cond.methodLink "CardBowl" (359 : Nat) ({ cls := "CardBowl", name := "covers", desc := "(IIII)I" } : Jvm.MethodName)) ∈ lw_all := lw_g (lw_at lw_m7 22 rfl) rfl
theorem q1572 : (Jvm.Cond.privateMethod ({ cls := "CardBowl", name := "covers", desc := "(IIII)I" } : Jvm.MethodName)) ∈ lw_tbl := lw_at lw_m7 23 rfl
theorem q1573 : (Jvm.Cond.instanceMethod ({ cls := "CardBowl", name := "covers", desc := "(IIII)I" } : Jvm.MethodName)) ∈ lw_all := lw_g (lw_at lw_m7 24 rfl) rfl
theorem q1574 : (Jvm.Cond.code ({ cls := "CardBowl", name := "covers", desc := "(IIII)I" } : Jvm.MethodName) prog_1_method_38_code (9 : Nat) (Option.some Jvm.ClassFile.FieldType.int)) ∈ lw_all := lw_g (lw_at lw_m7 25 rfl) rfl
theorem q1576 : (Jvm.Cond.instanceMethod ({ cls := "CardBowl", name := "lost", desc := "(I)I" } : Jvm.MethodName)) ∈ lw_all := lw_g (lw_at lw_m7 27 rfl) rfl
theorem q1577 : (Jvm.Cond.selects "CardBowl" ({ cls := "CardBowl", name := "lost", desc := "(I)I" } : Jvm.MethodName) ({ cls := "CardBowl", name := "lost", desc := "(I)I" } : Jvm.MethodName)) ∈ lw_all := lw_g (lw_at lw_m7 28 rfl) rfl
theorem q1578 : (Jvm.Cond.code ({ cls := "CardBowl", name := "lost", desc := "(I)I" } : Jvm.MethodName) prog_1_method_40_code (7 : Nat) (Option.some Jvm.ClassFile.FieldType.int)) ∈ lw_all := lw_g (lw_at lw_m7 29 rfl) rfl
theorem q1580 : (Jvm.Cond.instanceMethod ({ cls := "CardBowl", name := "soon", desc := "(II)I" } : Jvm.MethodName)) ∈ lw_all := lw_g (lw_at lw_m7 31 rfl) rfl
theorem q1581 : (Jvm.Cond.selects "CardBowl" ({ cls := "CardBowl", name := "soon", desc := "(II)I" } : Jvm.MethodName) ({ cls := "CardBowl", name := "soon", desc := "(II)I" } : Jvm.MethodName)) ∈ lw_all := lw_g (lw_at lw_m7 32 rfl) rfl
theorem q1582 : (Jvm.Cond.code ({ cls := "CardBowl", name := "soon", desc := "(II)I" } : Jvm.MethodName) prog_1_method_44_code (4 : Nat) (Option.some Jvm.ClassFile.FieldType.int)) ∈ lw_all := lw_g (lw_at lw_m7 33 rfl) rfl
theorem q1583 : (Jvm.Cond.methodLink "CardBowl" (369 : Nat) ({ cls := "CardBowl", name := "soonest", desc := "(II)I" } : Jvm.MethodName)) ∈ lw_all := lw_g (lw_at lw_m7 34 rfl) rfl
theorem q1584 : (Jvm.Cond.privateMethod ({ cls := "CardBowl", name := "soonest", desc := "(II)I" } : Jvm.MethodName)) ∈ lw_tbl := lw_at lw_m7 35 rfl
theorem q1585 : (Jvm.Cond.instanceMethod ({ cls := "CardBowl", name := "soonest", desc := "(II)I" } : Jvm.MethodName)) ∈ lw_all := lw_g (lw_at lw_m7 36 rfl) rfl
theorem q1586 : (Jvm.Cond.code ({ cls := "CardBowl", name := "soonest", desc := "(II)I" } : Jvm.MethodName) prog_1_method_43_code (4 : Nat) (Option.some Jvm.ClassFile.FieldType.int)) ∈ lw_all := lw_g (lw_at lw_m7 37 rfl) rfl
theorem q1587 : (Jvm.Cond.methodLink "CardBowl" (366 : Nat) ({ cls := "CardBowl", name := "callsFrom", desc := "(III)I" } : Jvm.MethodName)) ∈ lw_all := lw_g (lw_at lw_m7 38 rfl) rfl
theorem q1588 : (Jvm.Cond.privateMethod ({ cls := "CardBowl", name := "callsFrom", desc := "(III)I" } : Jvm.MethodName)) ∈ lw_tbl := lw_at lw_m7 39 rfl
theorem q1589 : (Jvm.Cond.instanceMethod ({ cls := "CardBowl", name := "callsFrom", desc := "(III)I" } : Jvm.MethodName)) ∈ lw_all := lw_g (lw_at lw_m7 40 rfl) rfl
theorem q1590 : (Jvm.Cond.code ({ cls := "CardBowl", name := "callsFrom", desc := "(III)I" } : Jvm.MethodName) prog_1_method_41_code (6 : Nat) (Option.some Jvm.ClassFile.FieldType.int)) ∈ lw_all := lw_g (lw_at lw_m7 41 rfl) rfl
theorem q1591 : (Jvm.Cond.methodLink "CardBowl" (363 : Nat) ({ cls := "CardBowl", name := "mayCall", desc := "(III)Z" } : Jvm.MethodName)) ∈ lw_all := lw_g (lw_at lw_m7 42 rfl) rfl
theorem q1592 : (Jvm.Cond.privateMethod ({ cls := "CardBowl", name := "mayCall", desc := "(III)Z" } : Jvm.MethodName)) ∈ lw_tbl := lw_at lw_m7 43 rfl
theorem q1593 : (Jvm.Cond.instanceMethod ({ cls := "CardBowl", name := "mayCall", desc := "(III)Z" } : Jvm.MethodName)) ∈ lw_all := lw_g (lw_at lw_m7 44 rfl) rfl
theorem q1594 : (Jvm.Cond.code ({ cls := "CardBowl", name := "mayCall", desc := "(III)Z" } : Jvm.MethodName) prog_1_method_42_code (4 : Nat) (Option.some Jvm.ClassFile.FieldType.boolean)) ∈ lw_all := lw_g (lw_at lw_m7 45 rfl) rfl
theorem q1596 : (Jvm.Cond.instanceMethod ({ cls := "CardBowl", name := "path", desc := "(III)I" } : Jvm.MethodName)) ∈ lw_all := lw_g (lw_at lw_m7 47 rfl) rfl
theorem q1597 : (Jvm.Cond.selects "CardBowl" ({ cls := "CardBowl", name := "path", desc := "(III)I" } : Jvm.MethodName) ({ cls := "CardBowl", name := "path", desc := "(III)I" } : Jvm.MethodName)) ∈ lw_all := lw_g (lw_at lw_m7 48 rfl) rfl
theorem q1598 : (Jvm.Cond.code ({ cls := "CardBowl", name := "path", desc := "(III)I" } : Jvm.MethodName) prog_1_method_45_code (8 : Nat) (Option.some Jvm.ClassFile.FieldType.int)) ∈ lw_all := lw_g (lw_at lw_m7 49 rfl) rfl
theorem q1600 : (Jvm.Cond.instanceMethod ({ cls := "CardBowl", name := "reach", desc := "(I)I" } : Jvm.MethodName)) ∈ lw_all := lw_g (lw_at lw_m7 51 rfl) rfl
theorem q1601 : (Jvm.Cond.selects "CardBowl" ({ cls := "CardBowl", name := "reach", desc := "(I)I" } : Jvm.MethodName) ({ cls := "CardBowl", name := "reach", desc := "(I)I" } : Jvm.MethodName)) ∈ lw_all := lw_g (lw_at lw_m7 52 rfl) rfl
theorem q1602 : (Jvm.Cond.code ({ cls := "CardBowl", name := "reach", desc := "(I)I" } : Jvm.MethodName) prog_1_method_46_code (2 : Nat) (Option.some Jvm.ClassFile.FieldType.int)) ∈ lw_all := lw_g (lw_at lw_m7 53 rfl) rfl
theorem q1603 : (Jvm.Cond.methodLink "CardBowl" (372 : Nat) ({ cls := "CardBowl$Ledger", name := "reach", desc := "(III)I" } : Jvm.MethodName)) ∈ lw_all := lw_g (lw_at lw_m7 54 rfl) rfl
theorem q1608 : (Jvm.Cond.instanceMethod ({ cls := "CardBowl", name := "drop", desc := "(I)I" } : Jvm.MethodName)) ∈ lw_all := lw_g (lw_at lw_m7 59 rfl) rfl
theorem q1609 : (Jvm.Cond.selects "CardBowl" ({ cls := "CardBowl", name := "drop", desc := "(I)I" } : Jvm.MethodName) ({ cls := "CardBowl", name := "drop", desc := "(I)I" } : Jvm.MethodName)) ∈ lw_all := lw_g (lw_at lw_m7 60 rfl) rfl
theorem q1610 : (Jvm.Cond.code ({ cls := "CardBowl", name := "drop", desc := "(I)I" } : Jvm.MethodName) prog_1_method_47_code (5 : Nat) (Option.some Jvm.ClassFile.FieldType.int)) ∈ lw_all := lw_g (lw_at lw_m7 61 rfl) rfl
theorem q1612 : (Jvm.Cond.instanceMethod ({ cls := "CardBowl", name := "tie", desc := "(II)I" } : Jvm.MethodName)) ∈ lw_all := lw_g (lw_at lw_m7 63 rfl) rfl
theorem q1613 : (Jvm.Cond.selects "CardBowl" ({ cls := "CardBowl", name := "tie", desc := "(II)I" } : Jvm.MethodName) ({ cls := "CardBowl", name := "tie", desc := "(II)I" } : Jvm.MethodName)) ∈ lw_all := lw_g (lw_at lw_m7 64 rfl) rfl
theorem q1614 : (Jvm.Cond.code ({ cls := "CardBowl", name := "tie", desc := "(II)I" } : Jvm.MethodName) prog_1_method_48_code (3 : Nat) (Option.some Jvm.ClassFile.FieldType.int)) ∈ lw_all := lw_g (lw_at lw_m7 65 rfl) rfl
theorem q1616 : (Jvm.Cond.instanceMethod ({ cls := "CardBowl", name := "rings", desc := "()I" } : Jvm.MethodName)) ∈ lw_all := lw_g (lw_at lw_m7 67 rfl) rfl
theorem q1617 : (Jvm.Cond.selects "CardBowl" ({ cls := "CardBowl", name := "rings", desc := "()I" } : Jvm.MethodName) ({ cls := "CardBowl", name := "rings", desc := "()I" } : Jvm.MethodName)) ∈ lw_all := lw_g (lw_at lw_m7 68 rfl) rfl
theorem q1618 : (Jvm.Cond.code ({ cls := "CardBowl", name := "rings", desc := "()I" } : Jvm.MethodName) prog_1_method_53_code (4 : Nat) (Option.some Jvm.ClassFile.FieldType.int)) ∈ lw_all := lw_g (lw_at lw_m7 69 rfl) rfl
theorem q1619 : (Jvm.Cond.methodLink "CardBowl" (394 : Nat) ({ cls := "CardBowl", name := "ringOf", desc := "(I)I" } : Jvm.MethodName)) ∈ lw_all := lw_g (lw_at lw_m7 70 rfl) rfl
theorem q1620 : (Jvm.Cond.privateMethod ({ cls := "CardBowl", name := "ringOf", desc := "(I)I" } : Jvm.MethodName)) ∈ lw_tbl := lw_at lw_m7 71 rfl
theorem q1621 : (Jvm.Cond.instanceMethod ({ cls := "CardBowl", name := "ringOf", desc := "(I)I" } : Jvm.MethodName)) ∈ lw_all := lw_g (lw_at lw_m7 72 rfl) rfl
theorem q1622 : (Jvm.Cond.code ({ cls := "CardBowl", name := "ringOf", desc := "(I)I" } : Jvm.MethodName) prog_1_method_52_code (4 : Nat) (Option.some Jvm.ClassFile.FieldType.int)) ∈ lw_all := lw_g (lw_at lw_m7 73 rfl) rfl
theorem q1623 : (Jvm.Cond.methodLink "CardBowl" (391 : Nat) ({ cls := "CardBowl", name := "comesTo", desc := "(I)I" } : Jvm.MethodName)) ∈ lw_all := lw_g (lw_at lw_m7 74 rfl) rfl
theorem q1624 : (Jvm.Cond.privateMethod ({ cls := "CardBowl", name := "comesTo", desc := "(I)I" } : Jvm.MethodName)) ∈ lw_tbl := lw_at lw_m7 75 rfl
theorem q1625 : (Jvm.Cond.instanceMethod ({ cls := "CardBowl", name := "comesTo", desc := "(I)I" } : Jvm.MethodName)) ∈ lw_all := lw_g (lw_at lw_m7 76 rfl) rfl
theorem q1626 : (Jvm.Cond.code ({ cls := "CardBowl", name := "comesTo", desc := "(I)I" } : Jvm.MethodName) prog_1_method_51_code (5 : Nat) (Option.some Jvm.ClassFile.FieldType.int)) ∈ lw_all := lw_g (lw_at lw_m7 77 rfl) rfl
theorem q1627 : (Jvm.Cond.methodLink "CardBowl" (388 : Nat) ({ cls := "CardBowl", name := "calledBy", desc := "(I)I" } : Jvm.MethodName)) ∈ lw_all := lw_g (lw_at lw_m7 78 rfl) rfl
theorem q1628 : (Jvm.Cond.privateMethod ({ cls := "CardBowl", name := "calledBy", desc := "(I)I" } : Jvm.MethodName)) ∈ lw_tbl := lw_at lw_m7 79 rfl
theorem q1629 : (Jvm.Cond.instanceMethod ({ cls := "CardBowl", name := "calledBy", desc := "(I)I" } : Jvm.MethodName)) ∈ lw_all := lw_g (lw_at lw_m7 80 rfl) rfl
theorem q1630 : (Jvm.Cond.code ({ cls := "CardBowl", name := "calledBy", desc := "(I)I" } : Jvm.MethodName) prog_1_method_49_code (4 : Nat) (Option.some Jvm.ClassFile.FieldType.int)) ∈ lw_all := lw_g (lw_at lw_m7 81 rfl) rfl
theorem q1631 : (Jvm.Cond.methodLink "CardBowl" (378 : Nat) ({ cls := "CardBowl", name := "isSeeing", desc := "(LCardBowl$Deed;)Z" } : Jvm.MethodName)) ∈ lw_all := lw_g (lw_at lw_m7 82 rfl) rfl
theorem q1632 : (Jvm.Cond.static ({ cls := "CardBowl", name := "isSeeing", desc := "(LCardBowl$Deed;)Z" } : Jvm.MethodName)) ∈ lw_all := lw_g (lw_at lw_m7 83 rfl) rfl
theorem q1633 : (Jvm.Cond.code ({ cls := "CardBowl", name := "isSeeing", desc := "(LCardBowl$Deed;)Z" } : Jvm.MethodName) prog_1_method_50_code (1 : Nat) (Option.some Jvm.ClassFile.FieldType.boolean)) ∈ lw_all := lw_g (lw_at lw_m7 84 rfl) rfl
theorem q1634 : (Jvm.Cond.methodLink "CardBowl" (397 : Nat) ({ cls := "java/lang/Integer", name := "numberOfTrailingZeros", desc := "(I)I" } : Jvm.MethodName)) ∈ lw_all := lw_g (lw_at lw_m7 85 rfl) rfl
theorem q1639 : (Jvm.Cond.instanceMethod ({ cls := "CardBowl", name := "ring", desc := "(I)I" } : Jvm.MethodName)) ∈ lw_all := lw_g (lw_at lw_m7 90 rfl) rfl
theorem q1640 : (Jvm.Cond.selects "CardBowl" ({ cls := "CardBowl", name := "ring", desc := "(I)I" } : Jvm.MethodName) ({ cls := "CardBowl", name := "ring", desc := "(I)I" } : Jvm.MethodName)) ∈ lw_all := lw_g (lw_at lw_m7 91 rfl) rfl
theorem q1641 : (Jvm.Cond.code ({ cls := "CardBowl", name := "ring", desc := "(I)I" } : Jvm.MethodName) prog_1_method_54_code (2 : Nat) (Option.some Jvm.ClassFile.FieldType.int)) ∈ lw_all := lw_g (lw_at lw_m7 92 rfl) rfl
theorem q1643 : (Jvm.Cond.instanceMethod ({ cls := "CardBowl", name := "house", desc := "(II)I" } : Jvm.MethodName)) ∈ lw_all := lw_g (lw_at lw_m7 94 rfl) rfl
theorem q1644 : (Jvm.Cond.selects "CardBowl" ({ cls := "CardBowl", name := "house", desc := "(II)I" } : Jvm.MethodName) ({ cls := "CardBowl", name := "house", desc := "(II)I" } : Jvm.MethodName)) ∈ lw_all := lw_g (lw_at lw_m7 95 rfl) rfl
theorem q1645 : (Jvm.Cond.code ({ cls := "CardBowl", name := "house", desc := "(II)I" } : Jvm.MethodName) prog_1_method_55_code (8 : Nat) (Option.some Jvm.ClassFile.FieldType.int)) ∈ lw_all := lw_g (lw_at lw_m7 96 rfl) rfl
theorem q1646 : (Jvm.Cond.constant "CardBowl" (400 : Nat) (-2000000000 : Int32)) ∈ lw_all := lw_g (lw_at lw_m7 97 rfl) rfl
theorem q1648 : (Jvm.Cond.instanceMethod ({ cls := "CardBowl", name := "beside", desc := "(I)I" } : Jvm.MethodName)) ∈ lw_all := lw_g (lw_at lw_m7 99 rfl) rfl
theorem q1649 : (Jvm.Cond.selects "CardBowl" ({ cls := "CardBowl", name := "beside", desc := "(I)I" } : Jvm.MethodName) ({ cls := "CardBowl", name := "beside", desc := "(I)I" } : Jvm.MethodName)) ∈ lw_all := lw_g (lw_at lw_m7 100 rfl) rfl
theorem q1650 : (Jvm.Cond.code ({ cls := "CardBowl", name := "beside", desc := "(I)I" } : Jvm.MethodName) prog_1_method_56_code (5 : Nat) (Option.some Jvm.ClassFile.FieldType.int)) ∈ lw_all := lw_g (lw_at lw_m7 101 rfl) rfl
theorem q1651 : (Jvm.Cond.constantLong "CardBowl" (414 : Nat) (2 : Int64)) ∈ lw_all := lw_g (lw_at lw_m7 102 rfl) rfl
theorem q1652 : (Jvm.Cond.classLink "CardBowl" (168 : Nat) "CardBowl$Ledger") ∈ lw_all := lw_g (lw_at lw_m7 103 rfl) rfl
theorem q1653 : (Jvm.Cond.methodLinkNest "CardBowl" (416 : Nat) ({ cls := "CardBowl$Ledger", name := "<init>", desc := "()V" } : Jvm.MethodName) "CardBowl") ∈ lw_tbl := lw_at lw_m7 104 rfl
theorem q1654 : (Jvm.Cond.methodLink "CardBowl" (420 : Nat) ({ cls := "CardBowl$Ledger", name := "begins", desc := "(LCardBowl$Town;Ljava/util/List;)V" } : Jvm.MethodName)) ∈ lw_all := lw_g (lw_at lw_m7 105 rfl) rfl
theorem q1656 : (Jvm.Cond.instanceMethod ({ cls := "CardBowl", name := "count", desc := "(I)I" } : Jvm.MethodName)) ∈ lw_all := lw_g (lw_at lw_m7 107 rfl) rfl
theorem q1657 : (Jvm.Cond.selects "CardBowl" ({ cls := "CardBowl", name := "count", desc := "(I)I" } : Jvm.MethodName) ({ cls := "CardBowl", name := "count", desc := "(I)I" } : Jvm.MethodName)) ∈ lw_all := lw_g (lw_at lw_m7 108 rfl) rfl
theorem q1658 : (Jvm.Cond.code ({ cls := "CardBowl", name := "count", desc := "(I)I" } : Jvm.MethodName) prog_1_method_57_code (4 : Nat) (Option.some Jvm.ClassFile.FieldType.int)) ∈ lw_all := lw_g (lw_at lw_m7 109 rfl) rfl
theorem q1660 : (Jvm.Cond.instanceMethod ({ cls := "CardBowl", name := "keep", desc := "(I)I" } : Jvm.MethodName)) ∈ lw_all := lw_g (lw_at lw_m7 111 rfl) rfl
theorem q1661 : (Jvm.Cond.selects "CardBowl" ({ cls := "CardBowl", name := "keep", desc := "(I)I" } : Jvm.MethodName) ({ cls := "CardBowl", name := "keep", desc := "(I)I" } : Jvm.MethodName)) ∈ lw_all := lw_g (lw_at lw_m7 112 rfl) rfl
theorem q1662 : (Jvm.Cond.code ({ cls := "CardBowl", name := "keep", desc := "(I)I" } : Jvm.MethodName) prog_1_method_58_code (2 : Nat) (Option.some Jvm.ClassFile.FieldType.int)) ∈ lw_all := lw_g (lw_at lw_m7 113 rfl) rfl
theorem q1663 : (Jvm.Cond.methodLink "CardBowl" (427 : Nat) ({ cls := "CardBowl$State", name := "becomes", desc := "(LCardBowl$State;)V" } : Jvm.MethodName)) ∈ lw_all := lw_g (lw_at lw_m7 114 rfl) rfl
theorem q1679 : (Jvm.Cond.instanceMethod ({ cls := "CardBowl", name := "back", desc := "(I)I" } : Jvm.MethodName)) ∈ lw_all := lw_g (lw_at lw_m7 130 rfl) rfl
theorem q1680 : (Jvm.Cond.selects "CardBowl" ({ cls := "CardBowl", name := "back", desc := "(I)I" } : Jvm.MethodName) ({ cls := "CardBowl", name := "back", desc := "(I)I" } : Jvm.MethodName)) ∈ lw_all := lw_g (lw_at lw_m7 131 rfl) rfl
theorem q1681 : (Jvm.Cond.code ({ cls := "CardBowl", name := "back", desc := "(I)I" } : Jvm.MethodName) prog_1_method_59_code (2 : Nat) (Option.some Jvm.ClassFile.FieldType.int)) ∈ lw_all := lw_g (lw_at lw_m7 132 rfl) rfl
theorem q2276 : (Jvm.Cond.castable "CardBowl" "java/lang/Object") ∈ lw_tbl := lw_at lw_m10 7 rfl
theorem in_X0 : ∀ w ∈ wsX00, w ∈ lw_all := lw_in wsX00 [639, 641, 643, 645, 647, 649, 651, 653, 655, 657, 659, 661] (by decide +kernel) (by decide +kernel)
