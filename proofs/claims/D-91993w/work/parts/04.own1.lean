/-! CardBowl$State -/
set_option maxRecDepth 100000
def RX1 : String := "CardBowl$State"
def TX1 : u_T := fun k => match k with
  | 0 => ("CardBowl$State", "town", "LCardBowl$Town;", false)
  | 1 => ("CardBowl$State", "ledger", "LCardBowl$Ledger;", true)
  | 2 => ("CardBowl$State", "deeds", "Ljava/util/List;", true)
  | _ => ("CardBowl$State", "day", "I", false)
def tyX1 : Nat → FieldType := fun k => match k with
  | 0 => .object "CardBowl$Town"
  | 1 => .object "CardBowl$Ledger"
  | 2 => .object "java/util/List"
  | _ => .int
abbrev wsX10 : List Cond := u_ws RX1 TX1 4
theorem nmX1 : ∀ a, a < 4 → ∀ b, b < 4 → a ≠ b → (TX1 a).2.1 ≠ (TX1 b).2.1 := by decide +kernel
theorem tyX1_ok : ∀ k, k < 4 → parseFieldDescriptor (TX1 k).2.2.1 = some (tyX1 k) := by decide +kernel
abbrev cX1_init : ByteArray := prog_19_method_1_code
def yX1_init : MethodName := ⟨RX1, "<init>", "()V"⟩
def dkwX1_init_2 : List UInt8 := [177]
abbrev dktX1_init_2 : List UInt8 := dkwX1_init_2 ++ []
def dkwX1_init_1 : List UInt8 := [181, 0, 19, 42, 187, 0, 23, 89, 16, 8, 183, 0, 25, 181, 0, 28, 42, 42, 180, 0, 10, 182, 0, 32]
abbrev dktX1_init_1 : List UInt8 := dkwX1_init_1 ++ dktX1_init_2
def dkwX1_init_0 : List UInt8 := [42, 183, 0, 1, 42, 187, 0, 7, 89, 183, 0, 9, 181, 0, 10, 42, 187, 0, 16, 89, 183, 0, 18]
abbrev dktX1_init_0 : List UInt8 := dkwX1_init_0 ++ dktX1_init_1
theorem dksX1_init_0 : cX1_init.data.toList.drop 0 = dktX1_init_0 := by decide +kernel
theorem dksX1_init_1 : cX1_init.data.toList.drop 23 = dktX1_init_1 := dk_seg dksX1_init_0 23 rfl rfl
theorem dksX1_init_2 : cX1_init.data.toList.drop 47 = dktX1_init_2 := dk_seg dksX1_init_1 24 rfl rfl
theorem dX1_init_0 : decode cX1_init 0 = .ok (.aload_n 0, 1) := dk_42 (dk_at dksX1_init_0 0 rfl rfl)
theorem dX1_init_1 : decode cX1_init 1 = .ok (.invokespecial 1, 3) := dk_183 0 1 (dk_at dksX1_init_0 1 rfl rfl)
theorem dX1_init_4 : decode cX1_init 4 = .ok (.aload_n 0, 1) := dk_42 (dk_at dksX1_init_0 4 rfl rfl)
theorem dX1_init_5 : decode cX1_init 5 = .ok (.new 7, 3) := dk_187 0 7 (dk_at dksX1_init_0 5 rfl rfl)
theorem dX1_init_8 : decode cX1_init 8 = .ok (.dup, 1) := dk_89 (dk_at dksX1_init_0 8 rfl rfl)
theorem dX1_init_9 : decode cX1_init 9 = .ok (.invokespecial 9, 3) := dk_183 0 9 (dk_at dksX1_init_0 9 rfl rfl)
theorem dX1_init_12 : decode cX1_init 12 = .ok (.putfield 10, 3) := dk_181 0 10 (dk_at dksX1_init_0 12 rfl rfl)
theorem dX1_init_15 : decode cX1_init 15 = .ok (.aload_n 0, 1) := dk_42 (dk_at dksX1_init_0 15 rfl rfl)
theorem dX1_init_16 : decode cX1_init 16 = .ok (.new 16, 3) := dk_187 0 16 (dk_at dksX1_init_0 16 rfl rfl)
theorem dX1_init_19 : decode cX1_init 19 = .ok (.dup, 1) := dk_89 (dk_at dksX1_init_0 19 rfl rfl)
theorem dX1_init_20 : decode cX1_init 20 = .ok (.invokespecial 18, 3) := dk_183 0 18 (dk_at dksX1_init_0 20 rfl rfl)
theorem dX1_init_23 : decode cX1_init 23 = .ok (.putfield 19, 3) := dk_181 0 19 (dk_at dksX1_init_1 0 rfl rfl)
theorem dX1_init_26 : decode cX1_init 26 = .ok (.aload_n 0, 1) := dk_42 (dk_at dksX1_init_1 3 rfl rfl)
theorem dX1_init_27 : decode cX1_init 27 = .ok (.new 23, 3) := dk_187 0 23 (dk_at dksX1_init_1 4 rfl rfl)
theorem dX1_init_30 : decode cX1_init 30 = .ok (.dup, 1) := dk_89 (dk_at dksX1_init_1 7 rfl rfl)
theorem dX1_init_31 : decode cX1_init 31 = .ok (.bipush 8, 2) := dk_16 8 (dk_at dksX1_init_1 8 rfl rfl)
theorem dX1_init_33 : decode cX1_init 33 = .ok (.invokespecial 25, 3) := dk_183 0 25 (dk_at dksX1_init_1 10 rfl rfl)
theorem dX1_init_36 : decode cX1_init 36 = .ok (.putfield 28, 3) := dk_181 0 28 (dk_at dksX1_init_1 13 rfl rfl)
theorem dX1_init_39 : decode cX1_init 39 = .ok (.aload_n 0, 1) := dk_42 (dk_at dksX1_init_1 16 rfl rfl)
theorem dX1_init_40 : decode cX1_init 40 = .ok (.aload_n 0, 1) := dk_42 (dk_at dksX1_init_1 17 rfl rfl)
theorem dX1_init_41 : decode cX1_init 41 = .ok (.getfield 10, 3) := dk_180 0 10 (dk_at dksX1_init_1 18 rfl rfl)
theorem dX1_init_44 : decode cX1_init 44 = .ok (.invokevirtual 32, 3) := dk_182 0 32 (dk_at dksX1_init_1 21 rfl rfl)
theorem dX1_init_47 : decode cX1_init 47 = .ok (.return_, 1) := dk_177 (dk_at dksX1_init_2 0 rfl rfl)
abbrev cX1_begins : ByteArray := prog_19_method_2_code
def yX1_begins : MethodName := ⟨RX1, "begins", "(LCardBowl$Town;)V"⟩
def dkwX1_begins_1 : List UInt8 := [185, 0, 42, 1, 0, 42, 3, 181, 0, 47, 177]
abbrev dktX1_begins_1 : List UInt8 := dkwX1_begins_1 ++ []
def dkwX1_begins_0 : List UInt8 := [42, 43, 181, 0, 10, 42, 180, 0, 19, 43, 43, 180, 0, 36, 182, 0, 39, 42, 180, 0, 28]
abbrev dktX1_begins_0 : List UInt8 := dkwX1_begins_0 ++ dktX1_begins_1
theorem dksX1_begins_0 : cX1_begins.data.toList.drop 0 = dktX1_begins_0 := by decide +kernel
theorem dksX1_begins_1 : cX1_begins.data.toList.drop 21 = dktX1_begins_1 := dk_seg dksX1_begins_0 21 rfl rfl
theorem dX1_begins_0 : decode cX1_begins 0 = .ok (.aload_n 0, 1) := dk_42 (dk_at dksX1_begins_0 0 rfl rfl)
theorem dX1_begins_1 : decode cX1_begins 1 = .ok (.aload_n 1, 1) := dk_43 (dk_at dksX1_begins_0 1 rfl rfl)
theorem dX1_begins_2 : decode cX1_begins 2 = .ok (.putfield 10, 3) := dk_181 0 10 (dk_at dksX1_begins_0 2 rfl rfl)
theorem dX1_begins_5 : decode cX1_begins 5 = .ok (.aload_n 0, 1) := dk_42 (dk_at dksX1_begins_0 5 rfl rfl)
theorem dX1_begins_6 : decode cX1_begins 6 = .ok (.getfield 19, 3) := dk_180 0 19 (dk_at dksX1_begins_0 6 rfl rfl)
theorem dX1_begins_9 : decode cX1_begins 9 = .ok (.aload_n 1, 1) := dk_43 (dk_at dksX1_begins_0 9 rfl rfl)
theorem dX1_begins_10 : decode cX1_begins 10 = .ok (.aload_n 1, 1) := dk_43 (dk_at dksX1_begins_0 10 rfl rfl)
theorem dX1_begins_11 : decode cX1_begins 11 = .ok (.getfield 36, 3) := dk_180 0 36 (dk_at dksX1_begins_0 11 rfl rfl)
theorem dX1_begins_14 : decode cX1_begins 14 = .ok (.invokevirtual 39, 3) := dk_182 0 39 (dk_at dksX1_begins_0 14 rfl rfl)
theorem dX1_begins_17 : decode cX1_begins 17 = .ok (.aload_n 0, 1) := dk_42 (dk_at dksX1_begins_0 17 rfl rfl)
theorem dX1_begins_18 : decode cX1_begins 18 = .ok (.getfield 28, 3) := dk_180 0 28 (dk_at dksX1_begins_0 18 rfl rfl)
theorem dX1_begins_21 : decode cX1_begins 21 = .ok (.invokeinterface 42 1, 5) := by decide +kernel
theorem dX1_begins_26 : decode cX1_begins 26 = .ok (.aload_n 0, 1) := dk_42 (dk_at dksX1_begins_1 5 rfl rfl)
theorem dX1_begins_27 : decode cX1_begins 27 = .ok (.iconst 0, 1) := dk_3 (dk_at dksX1_begins_1 6 rfl rfl)
theorem dX1_begins_28 : decode cX1_begins 28 = .ok (.putfield 47, 3) := dk_181 0 47 (dk_at dksX1_begins_1 7 rfl rfl)
theorem dX1_begins_31 : decode cX1_begins 31 = .ok (.return_, 1) := dk_177 (dk_at dksX1_begins_1 10 rfl rfl)
abbrev cX1_becomes : ByteArray := prog_19_method_3_code
def yX1_becomes : MethodName := ⟨RX1, "becomes", "(LCardBowl$State;)V"⟩
def dkwX1_becomes_3 : List UInt8 := [167, 255, 217, 42, 43, 180, 0, 47, 181, 0, 47, 177]
abbrev dktX1_becomes_3 : List UInt8 := dkwX1_becomes_3 ++ []
def dkwX1_becomes_2 : List UInt8 := [43, 180, 0, 28, 28, 185, 0, 59, 2, 0, 192, 0, 63, 185, 0, 65, 2, 0, 87, 132, 2, 1]
abbrev dktX1_becomes_2 : List UInt8 := dkwX1_becomes_2 ++ dktX1_becomes_3
def dkwX1_becomes_1 : List UInt8 := [185, 0, 42, 1, 0, 3, 61, 28, 43, 180, 0, 28, 185, 0, 55, 1, 0, 162, 0, 32, 42, 180, 0, 28]
abbrev dktX1_becomes_1 : List UInt8 := dkwX1_becomes_1 ++ dktX1_becomes_2
def dkwX1_becomes_0 : List UInt8 := [42, 43, 180, 0, 10, 181, 0, 10, 42, 180, 0, 19, 43, 180, 0, 19, 182, 0, 51, 42, 180, 0, 28]
abbrev dktX1_becomes_0 : List UInt8 := dkwX1_becomes_0 ++ dktX1_becomes_1
theorem dksX1_becomes_0 : cX1_becomes.data.toList.drop 0 = dktX1_becomes_0 := by decide +kernel
theorem dksX1_becomes_1 : cX1_becomes.data.toList.drop 23 = dktX1_becomes_1 := dk_seg dksX1_becomes_0 23 rfl rfl
theorem dksX1_becomes_2 : cX1_becomes.data.toList.drop 47 = dktX1_becomes_2 := dk_seg dksX1_becomes_1 24 rfl rfl
theorem dksX1_becomes_3 : cX1_becomes.data.toList.drop 69 = dktX1_becomes_3 := dk_seg dksX1_becomes_2 22 rfl rfl
theorem dX1_becomes_0 : decode cX1_becomes 0 = .ok (.aload_n 0, 1) := dk_42 (dk_at dksX1_becomes_0 0 rfl rfl)
theorem dX1_becomes_1 : decode cX1_becomes 1 = .ok (.aload_n 1, 1) := dk_43 (dk_at dksX1_becomes_0 1 rfl rfl)
theorem dX1_becomes_2 : decode cX1_becomes 2 = .ok (.getfield 10, 3) := dk_180 0 10 (dk_at dksX1_becomes_0 2 rfl rfl)
theorem dX1_becomes_5 : decode cX1_becomes 5 = .ok (.putfield 10, 3) := dk_181 0 10 (dk_at dksX1_becomes_0 5 rfl rfl)
theorem dX1_becomes_8 : decode cX1_becomes 8 = .ok (.aload_n 0, 1) := dk_42 (dk_at dksX1_becomes_0 8 rfl rfl)
theorem dX1_becomes_9 : decode cX1_becomes 9 = .ok (.getfield 19, 3) := dk_180 0 19 (dk_at dksX1_becomes_0 9 rfl rfl)
theorem dX1_becomes_12 : decode cX1_becomes 12 = .ok (.aload_n 1, 1) := dk_43 (dk_at dksX1_becomes_0 12 rfl rfl)
theorem dX1_becomes_13 : decode cX1_becomes 13 = .ok (.getfield 19, 3) := dk_180 0 19 (dk_at dksX1_becomes_0 13 rfl rfl)
theorem dX1_becomes_16 : decode cX1_becomes 16 = .ok (.invokevirtual 51, 3) := dk_182 0 51 (dk_at dksX1_becomes_0 16 rfl rfl)
theorem dX1_becomes_19 : decode cX1_becomes 19 = .ok (.aload_n 0, 1) := dk_42 (dk_at dksX1_becomes_0 19 rfl rfl)
theorem dX1_becomes_20 : decode cX1_becomes 20 = .ok (.getfield 28, 3) := dk_180 0 28 (dk_at dksX1_becomes_0 20 rfl rfl)
theorem dX1_becomes_23 : decode cX1_becomes 23 = .ok (.invokeinterface 42 1, 5) := by decide +kernel
theorem dX1_becomes_28 : decode cX1_becomes 28 = .ok (.iconst 0, 1) := dk_3 (dk_at dksX1_becomes_1 5 rfl rfl)
theorem dX1_becomes_29 : decode cX1_becomes 29 = .ok (.istore_n 2, 1) := dk_61 (dk_at dksX1_becomes_1 6 rfl rfl)
theorem dX1_becomes_30 : decode cX1_becomes 30 = .ok (.iload_n 2, 1) := dk_28 (dk_at dksX1_becomes_1 7 rfl rfl)
theorem dX1_becomes_31 : decode cX1_becomes 31 = .ok (.aload_n 1, 1) := dk_43 (dk_at dksX1_becomes_1 8 rfl rfl)
theorem dX1_becomes_32 : decode cX1_becomes 32 = .ok (.getfield 28, 3) := dk_180 0 28 (dk_at dksX1_becomes_1 9 rfl rfl)
theorem dX1_becomes_35 : decode cX1_becomes 35 = .ok (.invokeinterface 55 1, 5) := by decide +kernel
theorem dX1_becomes_40 : decode cX1_becomes 40 = .ok (.if_icmp .ge 32, 3) := dk_162 0 32 (dk_at dksX1_becomes_1 17 rfl rfl)
theorem dX1_becomes_43 : decode cX1_becomes 43 = .ok (.aload_n 0, 1) := dk_42 (dk_at dksX1_becomes_1 20 rfl rfl)
theorem dX1_becomes_44 : decode cX1_becomes 44 = .ok (.getfield 28, 3) := dk_180 0 28 (dk_at dksX1_becomes_1 21 rfl rfl)
theorem dX1_becomes_47 : decode cX1_becomes 47 = .ok (.aload_n 1, 1) := dk_43 (dk_at dksX1_becomes_2 0 rfl rfl)
theorem dX1_becomes_48 : decode cX1_becomes 48 = .ok (.getfield 28, 3) := dk_180 0 28 (dk_at dksX1_becomes_2 1 rfl rfl)
theorem dX1_becomes_51 : decode cX1_becomes 51 = .ok (.iload_n 2, 1) := dk_28 (dk_at dksX1_becomes_2 4 rfl rfl)
theorem dX1_becomes_52 : decode cX1_becomes 52 = .ok (.invokeinterface 59 2, 5) := by decide +kernel
theorem dX1_becomes_57 : decode cX1_becomes 57 = .ok (.checkcast 63, 3) := dk_192 0 63 (dk_at dksX1_becomes_2 10 rfl rfl)
theorem dX1_becomes_60 : decode cX1_becomes 60 = .ok (.invokeinterface 65 2, 5) := by decide +kernel
theorem dX1_becomes_65 : decode cX1_becomes 65 = .ok (.pop, 1) := dk_87 (dk_at dksX1_becomes_2 18 rfl rfl)
theorem dX1_becomes_66 : decode cX1_becomes 66 = .ok (.iinc 2 1, 3) := dk_132 2 1 (dk_at dksX1_becomes_2 19 rfl rfl)
theorem dX1_becomes_69 : decode cX1_becomes 69 = .ok (.goto (-39), 3) := dk_167 255 217 (dk_at dksX1_becomes_3 0 rfl rfl)
theorem dX1_becomes_72 : decode cX1_becomes 72 = .ok (.aload_n 0, 1) := dk_42 (dk_at dksX1_becomes_3 3 rfl rfl)
theorem dX1_becomes_73 : decode cX1_becomes 73 = .ok (.aload_n 1, 1) := dk_43 (dk_at dksX1_becomes_3 4 rfl rfl)
theorem dX1_becomes_74 : decode cX1_becomes 74 = .ok (.getfield 47, 3) := dk_180 0 47 (dk_at dksX1_becomes_3 5 rfl rfl)
theorem dX1_becomes_77 : decode cX1_becomes 77 = .ok (.putfield 47, 3) := dk_181 0 47 (dk_at dksX1_becomes_3 8 rfl rfl)
theorem dX1_becomes_80 : decode cX1_becomes 80 = .ok (.return_, 1) := dk_177 (dk_at dksX1_becomes_3 11 rfl rfl)
theorem q111 : (Jvm.Cond.initialized "CardBowl$State") ∈ lw_all := lw_g (lw_at lw_m1 2 rfl) rfl
theorem q365 : (Jvm.Cond.instantiable "CardBowl$State" (4 : Nat)) ∈ lw_all := lw_g (lw_at lw_m2 16 rfl) rfl
theorem q367 : (Jvm.Cond.instanceMethod ({ cls := "CardBowl$State", name := "<init>", desc := "()V" } : Jvm.MethodName)) ∈ lw_all := lw_g (lw_at lw_m2 18 rfl) rfl
theorem q368 : (Jvm.Cond.code ({ cls := "CardBowl$State", name := "<init>", desc := "()V" } : Jvm.MethodName) prog_19_method_1_code (1 : Nat) (Option.none : Option Jvm.ClassFile.FieldType)) ∈ lw_all := lw_g (lw_at lw_m2 19 rfl) rfl
theorem q369 : (Jvm.Cond.methodLink "CardBowl$State" (1 : Nat) ({ cls := "java/lang/Object", name := "<init>", desc := "()V" } : Jvm.MethodName)) ∈ lw_all := lw_g (lw_at lw_m2 20 rfl) rfl
theorem q370 : (Jvm.Cond.classLink "CardBowl$State" (7 : Nat) "CardBowl$Town") ∈ lw_all := lw_g (lw_at lw_m2 21 rfl) rfl
theorem q372 : (Jvm.Cond.methodLinkNest "CardBowl$State" (9 : Nat) ({ cls := "CardBowl$Town", name := "<init>", desc := "()V" } : Jvm.MethodName) "CardBowl") ∈ lw_tbl := lw_at lw_m2 23 rfl
theorem q410 : (Jvm.Cond.fieldLinkNest "CardBowl$State" (36 : Nat) "CardBowl$Town" "rules" "Ljava/util/List;" "CardBowl") ∈ lw_tbl := lw_at lw_m2 61 rfl
theorem q429 : (Jvm.Cond.classLink "CardBowl$State" (16 : Nat) "CardBowl$Ledger") ∈ lw_all := lw_g (lw_at lw_m2 80 rfl) rfl
theorem q431 : (Jvm.Cond.methodLinkNest "CardBowl$State" (18 : Nat) ({ cls := "CardBowl$Ledger", name := "<init>", desc := "()V" } : Jvm.MethodName) "CardBowl") ∈ lw_tbl := lw_at lw_m2 82 rfl
theorem q490 : (Jvm.Cond.classLink "CardBowl$State" (23 : Nat) "java/util/ArrayList") ∈ lw_all := lw_g (lw_at lw_m2 141 rfl) rfl
theorem q491 : (Jvm.Cond.methodLink "CardBowl$State" (25 : Nat) ({ cls := "java/util/ArrayList", name := "<init>", desc := "(I)V" } : Jvm.MethodName)) ∈ lw_all := lw_g (lw_at lw_m2 142 rfl) rfl
theorem q492 : (Jvm.Cond.methodLink "CardBowl$State" (32 : Nat) ({ cls := "CardBowl$State", name := "begins", desc := "(LCardBowl$Town;)V" } : Jvm.MethodName)) ∈ lw_all := lw_g (lw_at lw_m2 143 rfl) rfl
theorem q493 : (Jvm.Cond.instanceMethod ({ cls := "CardBowl$State", name := "begins", desc := "(LCardBowl$Town;)V" } : Jvm.MethodName)) ∈ lw_all := lw_g (lw_at lw_m2 144 rfl) rfl
theorem q494 : (Jvm.Cond.selects "CardBowl$State" ({ cls := "CardBowl$State", name := "begins", desc := "(LCardBowl$Town;)V" } : Jvm.MethodName) ({ cls := "CardBowl$State", name := "begins", desc := "(LCardBowl$Town;)V" } : Jvm.MethodName)) ∈ lw_all := lw_g (lw_at lw_m2 145 rfl) rfl
theorem q495 : (Jvm.Cond.code ({ cls := "CardBowl$State", name := "begins", desc := "(LCardBowl$Town;)V" } : Jvm.MethodName) prog_19_method_2_code (2 : Nat) (Option.none : Option Jvm.ClassFile.FieldType)) ∈ lw_all := lw_g (lw_at lw_m2 146 rfl) rfl
theorem q496 : (Jvm.Cond.methodLink "CardBowl$State" (39 : Nat) ({ cls := "CardBowl$Ledger", name := "begins", desc := "(LCardBowl$Town;Ljava/util/List;)V" } : Jvm.MethodName)) ∈ lw_all := lw_g (lw_at lw_m2 147 rfl) rfl
theorem q511 : (Jvm.Cond.interfaceEntry "CardBowl$State" (42 : Nat)) ∈ lw_tbl := lw_at lw_m2 162 rfl
theorem q512 : (Jvm.Cond.methodLink "CardBowl$State" (42 : Nat) ({ cls := "java/util/List", name := "clear", desc := "()V" } : Jvm.MethodName)) ∈ lw_all := lw_g (lw_at lw_m2 163 rfl) rfl
theorem q513 : (Jvm.Cond.fieldLink "CardBowl$State" (10 : Nat) "CardBowl$State" "town" "LCardBowl$Town;") ∈ lw_all := lw_g (lw_at lw_m2 164 rfl) rfl
theorem q516 : (Jvm.Cond.fieldLink "CardBowl$State" (19 : Nat) "CardBowl$State" "ledger" "LCardBowl$Ledger;") ∈ lw_all := lw_g (lw_at lw_m2 167 rfl) rfl
theorem q519 : (Jvm.Cond.fieldLink "CardBowl$State" (28 : Nat) "CardBowl$State" "deeds" "Ljava/util/List;") ∈ lw_all := lw_g (lw_at lw_m2 170 rfl) rfl
theorem q521 : (Jvm.Cond.fieldLink "CardBowl$State" (47 : Nat) "CardBowl$State" "day" "I") ∈ lw_all := lw_g (lw_at lw_m2 172 rfl) rfl
theorem q523 : (Jvm.Cond.lays "CardBowl$State" "CardBowl$State" "town" "LCardBowl$Town;") ∈ lw_all := lw_g (lw_at lw_m2 174 rfl) rfl
theorem q524 : (Jvm.Cond.soleField "CardBowl$State" "town") ∈ lw_all := lw_g (lw_at lw_m2 175 rfl) rfl
theorem q525 : (Jvm.Cond.laysFinal "CardBowl$State" "CardBowl$State" "ledger" "LCardBowl$Ledger;") ∈ lw_all := lw_g (lw_at lw_m2 176 rfl) rfl
theorem q526 : (Jvm.Cond.soleField "CardBowl$State" "ledger") ∈ lw_all := lw_g (lw_at lw_m2 177 rfl) rfl
theorem q527 : (Jvm.Cond.laysFinal "CardBowl$State" "CardBowl$State" "deeds" "Ljava/util/List;") ∈ lw_all := lw_g (lw_at lw_m2 178 rfl) rfl
theorem q528 : (Jvm.Cond.soleField "CardBowl$State" "deeds") ∈ lw_all := lw_g (lw_at lw_m2 179 rfl) rfl
theorem q529 : (Jvm.Cond.lays "CardBowl$State" "CardBowl$State" "day" "I") ∈ lw_all := lw_g (lw_at lw_m2 180 rfl) rfl
theorem q530 : (Jvm.Cond.soleField "CardBowl$State" "day") ∈ lw_all := lw_g (lw_at lw_m2 181 rfl) rfl
theorem q531 : (Jvm.Cond.superclass "CardBowl$State" "java/lang/Object") ∈ lw_all := lw_g (lw_at lw_m2 182 rfl) rfl
theorem q1049 : (Jvm.Cond.selects "CardBowl$State" ({ cls := "java/lang/Object", name := "getClass", desc := "()Ljava/lang/Class;" } : Jvm.MethodName) ({ cls := "java/lang/Object", name := "getClass", desc := "()Ljava/lang/Class;" } : Jvm.MethodName)) ∈ lw_all := lw_g (lw_at lw_m4 220 rfl) rfl
theorem q1664 : (Jvm.Cond.instanceMethod ({ cls := "CardBowl$State", name := "becomes", desc := "(LCardBowl$State;)V" } : Jvm.MethodName)) ∈ lw_all := lw_g (lw_at lw_m7 115 rfl) rfl
theorem q1665 : (Jvm.Cond.selects "CardBowl$State" ({ cls := "CardBowl$State", name := "becomes", desc := "(LCardBowl$State;)V" } : Jvm.MethodName) ({ cls := "CardBowl$State", name := "becomes", desc := "(LCardBowl$State;)V" } : Jvm.MethodName)) ∈ lw_all := lw_g (lw_at lw_m7 116 rfl) rfl
theorem q1666 : (Jvm.Cond.code ({ cls := "CardBowl$State", name := "becomes", desc := "(LCardBowl$State;)V" } : Jvm.MethodName) prog_19_method_3_code (3 : Nat) (Option.none : Option Jvm.ClassFile.FieldType)) ∈ lw_all := lw_g (lw_at lw_m7 117 rfl) rfl
theorem q1667 : (Jvm.Cond.methodLink "CardBowl$State" (51 : Nat) ({ cls := "CardBowl$Ledger", name := "becomes", desc := "(LCardBowl$Ledger;)V" } : Jvm.MethodName)) ∈ lw_all := lw_g (lw_at lw_m7 118 rfl) rfl
theorem q1671 : (Jvm.Cond.interfaceEntry "CardBowl$State" (55 : Nat)) ∈ lw_tbl := lw_at lw_m7 122 rfl
theorem q1672 : (Jvm.Cond.methodLink "CardBowl$State" (55 : Nat) ({ cls := "java/util/List", name := "size", desc := "()I" } : Jvm.MethodName)) ∈ lw_all := lw_g (lw_at lw_m7 123 rfl) rfl
theorem q1673 : (Jvm.Cond.interfaceEntry "CardBowl$State" (59 : Nat)) ∈ lw_tbl := lw_at lw_m7 124 rfl
theorem q1674 : (Jvm.Cond.methodLink "CardBowl$State" (59 : Nat) ({ cls := "java/util/List", name := "get", desc := "(I)Ljava/lang/Object;" } : Jvm.MethodName)) ∈ lw_all := lw_g (lw_at lw_m7 125 rfl) rfl
theorem q1675 : (Jvm.Cond.classLink "CardBowl$State" (63 : Nat) "CardBowl$Deed") ∈ lw_all := lw_g (lw_at lw_m7 126 rfl) rfl
theorem q1676 : (Jvm.Cond.interfaceEntry "CardBowl$State" (65 : Nat)) ∈ lw_tbl := lw_at lw_m7 127 rfl
theorem q1677 : (Jvm.Cond.methodLink "CardBowl$State" (65 : Nat) ({ cls := "java/util/List", name := "add", desc := "(Ljava/lang/Object;)Z" } : Jvm.MethodName)) ∈ lw_all := lw_g (lw_at lw_m7 128 rfl) rfl
theorem q2273 : (Jvm.Cond.castable "CardBowl$State" "java/lang/Object") ∈ lw_tbl := lw_at lw_m10 4 rfl
theorem in_X1 : ∀ w ∈ wsX10, w ∈ lw_all := lw_in wsX10 [523, 525, 527, 529] (by decide +kernel) (by decide +kernel)
/-! CardBowl$Town -/
set_option maxRecDepth 100000
def RX2 : String := "CardBowl$Town"
def TX2 : u_T := fun k => match k with
  | 0 => ("CardBowl$Town", "houses", "Ljava/util/List;", true)
  | 1 => ("CardBowl$Town", "knows", "[I", true)
  | 2 => ("CardBowl$Town", "rules", "Ljava/util/List;", true)
  | 3 => ("CardBowl$Town", "fresh", "I", false)
  | _ => ("CardBowl$Town", "introducers", "I", false)
def tyX2 : Nat → FieldType := fun k => match k with
  | 0 => .object "java/util/List"
  | 1 => .array .int
  | 2 => .object "java/util/List"
  | 3 => .int
  | _ => .int
abbrev wsX20 : List Cond := u_ws RX2 TX2 5
theorem nmX2 : ∀ a, a < 5 → ∀ b, b < 5 → a ≠ b → (TX2 a).2.1 ≠ (TX2 b).2.1 := by decide +kernel
theorem tyX2_ok : ∀ k, k < 5 → parseFieldDescriptor (TX2 k).2.2.1 = some (tyX2 k) := by decide +kernel
abbrev cX2_init : ByteArray := prog_22_method_1_code
def yX2_init : MethodName := ⟨RX2, "<init>", "()V"⟩
def dkwX2_init_1 : List UInt8 := [42, 187, 0, 9, 89, 7, 183, 0, 11, 181, 0, 24, 42, 6, 181, 0, 27, 177]
abbrev dktX2_init_1 : List UInt8 := dkwX2_init_1 ++ []
def dkwX2_init_0 : List UInt8 := [42, 183, 0, 3, 42, 187, 0, 9, 89, 7, 183, 0, 11, 181, 0, 14, 42, 16, 16, 188, 10, 181, 0, 20]
abbrev dktX2_init_0 : List UInt8 := dkwX2_init_0 ++ dktX2_init_1
theorem dksX2_init_0 : cX2_init.data.toList.drop 0 = dktX2_init_0 := by decide +kernel
theorem dksX2_init_1 : cX2_init.data.toList.drop 24 = dktX2_init_1 := dk_seg dksX2_init_0 24 rfl rfl
theorem dX2_init_0 : decode cX2_init 0 = .ok (.aload_n 0, 1) := dk_42 (dk_at dksX2_init_0 0 rfl rfl)
theorem dX2_init_1 : decode cX2_init 1 = .ok (.invokespecial 3, 3) := dk_183 0 3 (dk_at dksX2_init_0 1 rfl rfl)
theorem dX2_init_4 : decode cX2_init 4 = .ok (.aload_n 0, 1) := dk_42 (dk_at dksX2_init_0 4 rfl rfl)
theorem dX2_init_5 : decode cX2_init 5 = .ok (.new 9, 3) := dk_187 0 9 (dk_at dksX2_init_0 5 rfl rfl)
theorem dX2_init_8 : decode cX2_init 8 = .ok (.dup, 1) := dk_89 (dk_at dksX2_init_0 8 rfl rfl)
theorem dX2_init_9 : decode cX2_init 9 = .ok (.iconst 4, 1) := dk_7 (dk_at dksX2_init_0 9 rfl rfl)
theorem dX2_init_10 : decode cX2_init 10 = .ok (.invokespecial 11, 3) := dk_183 0 11 (dk_at dksX2_init_0 10 rfl rfl)
theorem dX2_init_13 : decode cX2_init 13 = .ok (.putfield 14, 3) := dk_181 0 14 (dk_at dksX2_init_0 13 rfl rfl)
theorem dX2_init_16 : decode cX2_init 16 = .ok (.aload_n 0, 1) := dk_42 (dk_at dksX2_init_0 16 rfl rfl)
theorem dX2_init_17 : decode cX2_init 17 = .ok (.bipush 16, 2) := dk_16 16 (dk_at dksX2_init_0 17 rfl rfl)
theorem dX2_init_19 : decode cX2_init 19 = .ok (.newarray .int, 2) := dk_188_10 (dk_at dksX2_init_0 19 rfl rfl)
theorem dX2_init_21 : decode cX2_init 21 = .ok (.putfield 20, 3) := dk_181 0 20 (dk_at dksX2_init_0 21 rfl rfl)
theorem dX2_init_24 : decode cX2_init 24 = .ok (.aload_n 0, 1) := dk_42 (dk_at dksX2_init_1 0 rfl rfl)
theorem dX2_init_25 : decode cX2_init 25 = .ok (.new 9, 3) := dk_187 0 9 (dk_at dksX2_init_1 1 rfl rfl)
theorem dX2_init_28 : decode cX2_init 28 = .ok (.dup, 1) := dk_89 (dk_at dksX2_init_1 4 rfl rfl)
theorem dX2_init_29 : decode cX2_init 29 = .ok (.iconst 4, 1) := dk_7 (dk_at dksX2_init_1 5 rfl rfl)
theorem dX2_init_30 : decode cX2_init 30 = .ok (.invokespecial 11, 3) := dk_183 0 11 (dk_at dksX2_init_1 6 rfl rfl)
theorem dX2_init_33 : decode cX2_init 33 = .ok (.putfield 24, 3) := dk_181 0 24 (dk_at dksX2_init_1 9 rfl rfl)
theorem dX2_init_36 : decode cX2_init 36 = .ok (.aload_n 0, 1) := dk_42 (dk_at dksX2_init_1 12 rfl rfl)
theorem dX2_init_37 : decode cX2_init 37 = .ok (.iconst 3, 1) := dk_6 (dk_at dksX2_init_1 13 rfl rfl)
theorem dX2_init_38 : decode cX2_init 38 = .ok (.putfield 27, 3) := dk_181 0 27 (dk_at dksX2_init_1 14 rfl rfl)
theorem dX2_init_41 : decode cX2_init 41 = .ok (.return_, 1) := dk_177 (dk_at dksX2_init_1 17 rfl rfl)
abbrev cX2_many : ByteArray := prog_22_method_3_code
def yX2_many : MethodName := ⟨RX2, "many", "()I"⟩
def dkwX2_many_0 : List UInt8 := [42, 180, 0, 14, 185, 0, 39, 1, 0, 172]
abbrev dktX2_many_0 : List UInt8 := dkwX2_many_0 ++ []
theorem dksX2_many_0 : cX2_many.data.toList.drop 0 = dktX2_many_0 := by decide +kernel
theorem dX2_many_0 : decode cX2_many 0 = .ok (.aload_n 0, 1) := dk_42 (dk_at dksX2_many_0 0 rfl rfl)
theorem dX2_many_1 : decode cX2_many 1 = .ok (.getfield 14, 3) := dk_180 0 14 (dk_at dksX2_many_0 1 rfl rfl)
theorem dX2_many_4 : decode cX2_many 4 = .ok (.invokeinterface 39 1, 5) := by decide +kernel
theorem dX2_many_9 : decode cX2_many 9 = .ok (.ireturn, 1) := dk_172 (dk_at dksX2_many_0 9 rfl rfl)
abbrev cX2_has : ByteArray := prog_22_method_4_code
def yX2_has : MethodName := ⟨RX2, "has", "(I)Z"⟩
def dkwX2_has_0 : List UInt8 := [27, 133, 9, 42, 180, 0, 14, 185, 0, 39, 1, 0, 4, 100, 133, 184, 0, 43, 172]
abbrev dktX2_has_0 : List UInt8 := dkwX2_has_0 ++ []
theorem dksX2_has_0 : cX2_has.data.toList.drop 0 = dktX2_has_0 := by decide +kernel
theorem dX2_has_0 : decode cX2_has 0 = .ok (.iload_n 1, 1) := dk_27 (dk_at dksX2_has_0 0 rfl rfl)
theorem dX2_has_1 : decode cX2_has 1 = .ok (.i2l, 1) := dk_133 (dk_at dksX2_has_0 1 rfl rfl)
theorem dX2_has_2 : decode cX2_has 2 = .ok (.lconst 0, 1) := dk_9 (dk_at dksX2_has_0 2 rfl rfl)
theorem dX2_has_3 : decode cX2_has 3 = .ok (.aload_n 0, 1) := dk_42 (dk_at dksX2_has_0 3 rfl rfl)
theorem dX2_has_4 : decode cX2_has 4 = .ok (.getfield 14, 3) := dk_180 0 14 (dk_at dksX2_has_0 4 rfl rfl)
theorem dX2_has_7 : decode cX2_has 7 = .ok (.invokeinterface 39 1, 5) := by decide +kernel
theorem dX2_has_12 : decode cX2_has 12 = .ok (.iconst 1, 1) := dk_4 (dk_at dksX2_has_0 12 rfl rfl)
theorem dX2_has_13 : decode cX2_has 13 = .ok (.isub, 1) := dk_100 (dk_at dksX2_has_0 13 rfl rfl)
theorem dX2_has_14 : decode cX2_has 14 = .ok (.i2l, 1) := dk_133 (dk_at dksX2_has_0 14 rfl rfl)
theorem dX2_has_15 : decode cX2_has 15 = .ok (.invokestatic 43, 3) := dk_184 0 43 (dk_at dksX2_has_0 15 rfl rfl)
theorem dX2_has_18 : decode cX2_has 18 = .ok (.ireturn, 1) := dk_172 (dk_at dksX2_has_0 18 rfl rfl)
abbrev cX2_house : ByteArray := prog_22_method_2_code
def yX2_house : MethodName := ⟨RX2, "house", "(I)LCardBowl$House;"⟩
def dkwX2_house_0 : List UInt8 := [42, 180, 0, 14, 27, 185, 0, 31, 2, 0, 192, 0, 37, 176]
abbrev dktX2_house_0 : List UInt8 := dkwX2_house_0 ++ []
theorem dksX2_house_0 : cX2_house.data.toList.drop 0 = dktX2_house_0 := by decide +kernel
theorem dX2_house_0 : decode cX2_house 0 = .ok (.aload_n 0, 1) := dk_42 (dk_at dksX2_house_0 0 rfl rfl)
theorem dX2_house_1 : decode cX2_house 1 = .ok (.getfield 14, 3) := dk_180 0 14 (dk_at dksX2_house_0 1 rfl rfl)
theorem dX2_house_4 : decode cX2_house 4 = .ok (.iload_n 1, 1) := dk_27 (dk_at dksX2_house_0 4 rfl rfl)
theorem dX2_house_5 : decode cX2_house 5 = .ok (.invokeinterface 31 2, 5) := by decide +kernel
theorem dX2_house_10 : decode cX2_house 10 = .ok (.checkcast 37, 3) := dk_192 0 37 (dk_at dksX2_house_0 10 rfl rfl)
theorem dX2_house_13 : decode cX2_house 13 = .ok (.areturn, 1) := dk_176 (dk_at dksX2_house_0 13 rfl rfl)
theorem q112 : (Jvm.Cond.initialized "CardBowl$Town") ∈ lw_all := lw_g (lw_at lw_m1 3 rfl) rfl
theorem q371 : (Jvm.Cond.instantiable "CardBowl$Town" (5 : Nat)) ∈ lw_all := lw_g (lw_at lw_m2 22 rfl) rfl
theorem q373 : (Jvm.Cond.instanceMethod ({ cls := "CardBowl$Town", name := "<init>", desc := "()V" } : Jvm.MethodName)) ∈ lw_all := lw_g (lw_at lw_m2 24 rfl) rfl
theorem q374 : (Jvm.Cond.code ({ cls := "CardBowl$Town", name := "<init>", desc := "()V" } : Jvm.MethodName) prog_22_method_1_code (1 : Nat) (Option.none : Option Jvm.ClassFile.FieldType)) ∈ lw_all := lw_g (lw_at lw_m2 25 rfl) rfl
theorem q375 : (Jvm.Cond.methodLink "CardBowl$Town" (3 : Nat) ({ cls := "java/lang/Object", name := "<init>", desc := "()V" } : Jvm.MethodName)) ∈ lw_all := lw_g (lw_at lw_m2 26 rfl) rfl
theorem q376 : (Jvm.Cond.classLink "CardBowl$Town" (9 : Nat) "java/util/ArrayList") ∈ lw_all := lw_g (lw_at lw_m2 27 rfl) rfl
theorem q378 : (Jvm.Cond.methodLink "CardBowl$Town" (11 : Nat) ({ cls := "java/util/ArrayList", name := "<init>", desc := "(I)V" } : Jvm.MethodName)) ∈ lw_all := lw_g (lw_at lw_m2 29 rfl) rfl
theorem q404 : (Jvm.Cond.fieldLink "CardBowl$Town" (14 : Nat) "CardBowl$Town" "houses" "Ljava/util/List;") ∈ lw_all := lw_g (lw_at lw_m2 55 rfl) rfl
theorem q406 : (Jvm.Cond.fieldLink "CardBowl$Town" (20 : Nat) "CardBowl$Town" "knows" "[I") ∈ lw_all := lw_g (lw_at lw_m2 57 rfl) rfl
theorem q409 : (Jvm.Cond.fieldLink "CardBowl$Town" (24 : Nat) "CardBowl$Town" "rules" "Ljava/util/List;") ∈ lw_all := lw_g (lw_at lw_m2 60 rfl) rfl
theorem q415 : (Jvm.Cond.fieldLink "CardBowl$Town" (27 : Nat) "CardBowl$Town" "introducers" "I") ∈ lw_all := lw_g (lw_at lw_m2 66 rfl) rfl
theorem q418 : (Jvm.Cond.laysFinal "CardBowl$Town" "CardBowl$Town" "houses" "Ljava/util/List;") ∈ lw_all := lw_g (lw_at lw_m2 69 rfl) rfl
theorem q419 : (Jvm.Cond.soleField "CardBowl$Town" "houses") ∈ lw_all := lw_g (lw_at lw_m2 70 rfl) rfl
theorem q420 : (Jvm.Cond.laysFinal "CardBowl$Town" "CardBowl$Town" "knows" "[I") ∈ lw_all := lw_g (lw_at lw_m2 71 rfl) rfl
theorem q421 : (Jvm.Cond.soleField "CardBowl$Town" "knows") ∈ lw_all := lw_g (lw_at lw_m2 72 rfl) rfl
theorem q422 : (Jvm.Cond.laysFinal "CardBowl$Town" "CardBowl$Town" "rules" "Ljava/util/List;") ∈ lw_all := lw_g (lw_at lw_m2 73 rfl) rfl
theorem q423 : (Jvm.Cond.soleField "CardBowl$Town" "rules") ∈ lw_all := lw_g (lw_at lw_m2 74 rfl) rfl
theorem q424 : (Jvm.Cond.lays "CardBowl$Town" "CardBowl$Town" "fresh" "I") ∈ lw_all := lw_g (lw_at lw_m2 75 rfl) rfl
theorem q425 : (Jvm.Cond.soleField "CardBowl$Town" "fresh") ∈ lw_all := lw_g (lw_at lw_m2 76 rfl) rfl
theorem q426 : (Jvm.Cond.lays "CardBowl$Town" "CardBowl$Town" "introducers" "I") ∈ lw_all := lw_g (lw_at lw_m2 77 rfl) rfl
theorem q427 : (Jvm.Cond.soleField "CardBowl$Town" "introducers") ∈ lw_all := lw_g (lw_at lw_m2 78 rfl) rfl
theorem q428 : (Jvm.Cond.superclass "CardBowl$Town" "java/lang/Object") ∈ lw_all := lw_g (lw_at lw_m2 79 rfl) rfl
theorem q824 : (Jvm.Cond.instanceMethod ({ cls := "CardBowl$Town", name := "many", desc := "()I" } : Jvm.MethodName)) ∈ lw_all := lw_g (lw_at lw_m3 235 rfl) rfl
theorem q825 : (Jvm.Cond.selects "CardBowl$Town" ({ cls := "CardBowl$Town", name := "many", desc := "()I" } : Jvm.MethodName) ({ cls := "CardBowl$Town", name := "many", desc := "()I" } : Jvm.MethodName)) ∈ lw_all := lw_g (lw_at lw_m3 236 rfl) rfl
theorem q826 : (Jvm.Cond.code ({ cls := "CardBowl$Town", name := "many", desc := "()I" } : Jvm.MethodName) prog_22_method_3_code (1 : Nat) (Option.some Jvm.ClassFile.FieldType.int)) ∈ lw_all := lw_g (lw_at lw_m3 237 rfl) rfl
theorem q827 : (Jvm.Cond.interfaceEntry "CardBowl$Town" (39 : Nat)) ∈ lw_tbl := lw_at lw_m3 238 rfl
theorem q828 : (Jvm.Cond.methodLink "CardBowl$Town" (39 : Nat) ({ cls := "java/util/List", name := "size", desc := "()I" } : Jvm.MethodName)) ∈ lw_all := lw_g (lw_at lw_m3 239 rfl) rfl
theorem q1051 : (Jvm.Cond.selects "CardBowl$Town" ({ cls := "java/lang/Object", name := "getClass", desc := "()Ljava/lang/Class;" } : Jvm.MethodName) ({ cls := "java/lang/Object", name := "getClass", desc := "()Ljava/lang/Class;" } : Jvm.MethodName)) ∈ lw_all := lw_g (lw_at lw_m4 222 rfl) rfl
theorem q1156 : (Jvm.Cond.instanceMethod ({ cls := "CardBowl$Town", name := "has", desc := "(I)Z" } : Jvm.MethodName)) ∈ lw_all := lw_g (lw_at lw_m5 87 rfl) rfl
theorem q1157 : (Jvm.Cond.selects "CardBowl$Town" ({ cls := "CardBowl$Town", name := "has", desc := "(I)Z" } : Jvm.MethodName) ({ cls := "CardBowl$Town", name := "has", desc := "(I)Z" } : Jvm.MethodName)) ∈ lw_all := lw_g (lw_at lw_m5 88 rfl) rfl
theorem q1158 : (Jvm.Cond.code ({ cls := "CardBowl$Town", name := "has", desc := "(I)Z" } : Jvm.MethodName) prog_22_method_4_code (2 : Nat) (Option.some Jvm.ClassFile.FieldType.boolean)) ∈ lw_all := lw_g (lw_at lw_m5 89 rfl) rfl
theorem q1159 : (Jvm.Cond.methodLinkNest "CardBowl$Town" (43 : Nat) ({ cls := "CardBowl", name := "in", desc := "(JJJ)Z" } : Jvm.MethodName) "CardBowl") ∈ lw_tbl := lw_at lw_m5 90 rfl
theorem q1173 : (Jvm.Cond.instanceMethod ({ cls := "CardBowl$Town", name := "house", desc := "(I)LCardBowl$House;" } : Jvm.MethodName)) ∈ lw_all := lw_g (lw_at lw_m5 104 rfl) rfl
theorem q1174 : (Jvm.Cond.selects "CardBowl$Town" ({ cls := "CardBowl$Town", name := "house", desc := "(I)LCardBowl$House;" } : Jvm.MethodName) ({ cls := "CardBowl$Town", name := "house", desc := "(I)LCardBowl$House;" } : Jvm.MethodName)) ∈ lw_all := lw_g (lw_at lw_m5 105 rfl) rfl
theorem q1175 : (Jvm.Cond.code ({ cls := "CardBowl$Town", name := "house", desc := "(I)LCardBowl$House;" } : Jvm.MethodName) prog_22_method_2_code (2 : Nat) (Option.some (Jvm.ClassFile.FieldType.object "CardBowl$House"))) ∈ lw_all := lw_g (lw_at lw_m5 106 rfl) rfl
theorem q1176 : (Jvm.Cond.interfaceEntry "CardBowl$Town" (31 : Nat)) ∈ lw_tbl := lw_at lw_m5 107 rfl
theorem q1177 : (Jvm.Cond.methodLink "CardBowl$Town" (31 : Nat) ({ cls := "java/util/List", name := "get", desc := "(I)Ljava/lang/Object;" } : Jvm.MethodName)) ∈ lw_all := lw_g (lw_at lw_m5 108 rfl) rfl
theorem q1193 : (Jvm.Cond.classLink "CardBowl$Town" (37 : Nat) "CardBowl$House") ∈ lw_all := lw_g (lw_at lw_m5 124 rfl) rfl
theorem q2277 : (Jvm.Cond.castable "CardBowl$Town" "java/lang/Object") ∈ lw_tbl := lw_at lw_m10 8 rfl
theorem in_X2 : ∀ w ∈ wsX20, w ∈ lw_all := lw_in wsX20 [418, 420, 422, 424, 426] (by decide +kernel) (by decide +kernel)
/-! CardBowl$Ledger -/
set_option maxRecDepth 100000
def RX3 : String := "CardBowl$Ledger"
def TX3 : u_T := fun k => match k with
  | 0 => ("CardBowl$Ledger", "town", "LCardBowl$Town;", false)
  | 1 => ("CardBowl$Ledger", "rules", "Ljava/util/List;", false)
  | 2 => ("CardBowl$Ledger", "knows", "[I", true)
  | 3 => ("CardBowl$Ledger", "debts", "Ljava/util/List;", true)
  | 4 => ("CardBowl$Ledger", "asked", "LCardBowl$Asked;", true)
  | _ => ("CardBowl$Ledger", "paid", "I", false)
def tyX3 : Nat → FieldType := fun k => match k with
  | 0 => .object "CardBowl$Town"
  | 1 => .object "java/util/List"
  | 2 => .array .int
  | 3 => .object "java/util/List"
  | 4 => .object "CardBowl$Asked"
  | _ => .int
abbrev wsX30 : List Cond := u_ws RX3 TX3 6
theorem nmX3 : ∀ a, a < 6 → ∀ b, b < 6 → a ≠ b → (TX3 a).2.1 ≠ (TX3 b).2.1 := by decide +kernel
theorem tyX3_ok : ∀ k, k < 6 → parseFieldDescriptor (TX3 k).2.2.1 = some (tyX3 k) := by decide +kernel
abbrev cX3_init : ByteArray := prog_12_method_1_code
def yX3_init : MethodName := ⟨RX3, "<init>", "()V"⟩
def dkwX3_init_1 : List UInt8 := [181, 0, 20, 42, 187, 0, 24, 89, 183, 0, 26, 181, 0, 27, 177]
abbrev dktX3_init_1 : List UInt8 := dkwX3_init_1 ++ []
def dkwX3_init_0 : List UInt8 := [42, 183, 0, 3, 42, 16, 16, 188, 10, 181, 0, 9, 42, 187, 0, 15, 89, 16, 8, 183, 0, 17]
abbrev dktX3_init_0 : List UInt8 := dkwX3_init_0 ++ dktX3_init_1
theorem dksX3_init_0 : cX3_init.data.toList.drop 0 = dktX3_init_0 := by decide +kernel
theorem dksX3_init_1 : cX3_init.data.toList.drop 22 = dktX3_init_1 := dk_seg dksX3_init_0 22 rfl rfl
theorem dX3_init_0 : decode cX3_init 0 = .ok (.aload_n 0, 1) := dk_42 (dk_at dksX3_init_0 0 rfl rfl)
theorem dX3_init_1 : decode cX3_init 1 = .ok (.invokespecial 3, 3) := dk_183 0 3 (dk_at dksX3_init_0 1 rfl rfl)
theorem dX3_init_4 : decode cX3_init 4 = .ok (.aload_n 0, 1) := dk_42 (dk_at dksX3_init_0 4 rfl rfl)
theorem dX3_init_5 : decode cX3_init 5 = .ok (.bipush 16, 2) := dk_16 16 (dk_at dksX3_init_0 5 rfl rfl)
theorem dX3_init_7 : decode cX3_init 7 = .ok (.newarray .int, 2) := dk_188_10 (dk_at dksX3_init_0 7 rfl rfl)
theorem dX3_init_9 : decode cX3_init 9 = .ok (.putfield 9, 3) := dk_181 0 9 (dk_at dksX3_init_0 9 rfl rfl)
theorem dX3_init_12 : decode cX3_init 12 = .ok (.aload_n 0, 1) := dk_42 (dk_at dksX3_init_0 12 rfl rfl)
theorem dX3_init_13 : decode cX3_init 13 = .ok (.new 15, 3) := dk_187 0 15 (dk_at dksX3_init_0 13 rfl rfl)
theorem dX3_init_16 : decode cX3_init 16 = .ok (.dup, 1) := dk_89 (dk_at dksX3_init_0 16 rfl rfl)
theorem dX3_init_17 : decode cX3_init 17 = .ok (.bipush 8, 2) := dk_16 8 (dk_at dksX3_init_0 17 rfl rfl)
theorem dX3_init_19 : decode cX3_init 19 = .ok (.invokespecial 17, 3) := dk_183 0 17 (dk_at dksX3_init_0 19 rfl rfl)
theorem dX3_init_22 : decode cX3_init 22 = .ok (.putfield 20, 3) := dk_181 0 20 (dk_at dksX3_init_1 0 rfl rfl)
theorem dX3_init_25 : decode cX3_init 25 = .ok (.aload_n 0, 1) := dk_42 (dk_at dksX3_init_1 3 rfl rfl)
theorem dX3_init_26 : decode cX3_init 26 = .ok (.new 24, 3) := dk_187 0 24 (dk_at dksX3_init_1 4 rfl rfl)
theorem dX3_init_29 : decode cX3_init 29 = .ok (.dup, 1) := dk_89 (dk_at dksX3_init_1 7 rfl rfl)
theorem dX3_init_30 : decode cX3_init 30 = .ok (.invokespecial 26, 3) := dk_183 0 26 (dk_at dksX3_init_1 8 rfl rfl)
theorem dX3_init_33 : decode cX3_init 33 = .ok (.putfield 27, 3) := dk_181 0 27 (dk_at dksX3_init_1 11 rfl rfl)
theorem dX3_init_36 : decode cX3_init 36 = .ok (.return_, 1) := dk_177 (dk_at dksX3_init_1 14 rfl rfl)
abbrev cX3_begins : ByteArray := prog_12_method_2_code
def yX3_begins : MethodName := ⟨RX3, "begins", "(LCardBowl$Town;Ljava/util/List;)V"⟩
def dkwX3_begins_1 : List UInt8 := [184, 0, 41, 42, 180, 0, 20, 185, 0, 47, 1, 0, 42, 3, 181, 0, 52, 177]
abbrev dktX3_begins_1 : List UInt8 := dkwX3_begins_1 ++ []
def dkwX3_begins_0 : List UInt8 := [42, 43, 181, 0, 31, 42, 44, 181, 0, 35, 43, 180, 0, 38, 3, 42, 180, 0, 9, 3, 16, 16]
abbrev dktX3_begins_0 : List UInt8 := dkwX3_begins_0 ++ dktX3_begins_1
theorem dksX3_begins_0 : cX3_begins.data.toList.drop 0 = dktX3_begins_0 := by decide +kernel
theorem dksX3_begins_1 : cX3_begins.data.toList.drop 22 = dktX3_begins_1 := dk_seg dksX3_begins_0 22 rfl rfl
theorem dX3_begins_0 : decode cX3_begins 0 = .ok (.aload_n 0, 1) := dk_42 (dk_at dksX3_begins_0 0 rfl rfl)
theorem dX3_begins_1 : decode cX3_begins 1 = .ok (.aload_n 1, 1) := dk_43 (dk_at dksX3_begins_0 1 rfl rfl)
theorem dX3_begins_2 : decode cX3_begins 2 = .ok (.putfield 31, 3) := dk_181 0 31 (dk_at dksX3_begins_0 2 rfl rfl)
theorem dX3_begins_5 : decode cX3_begins 5 = .ok (.aload_n 0, 1) := dk_42 (dk_at dksX3_begins_0 5 rfl rfl)
theorem dX3_begins_6 : decode cX3_begins 6 = .ok (.aload_n 2, 1) := dk_44 (dk_at dksX3_begins_0 6 rfl rfl)
theorem dX3_begins_7 : decode cX3_begins 7 = .ok (.putfield 35, 3) := dk_181 0 35 (dk_at dksX3_begins_0 7 rfl rfl)
theorem dX3_begins_10 : decode cX3_begins 10 = .ok (.aload_n 1, 1) := dk_43 (dk_at dksX3_begins_0 10 rfl rfl)
theorem dX3_begins_11 : decode cX3_begins 11 = .ok (.getfield 38, 3) := dk_180 0 38 (dk_at dksX3_begins_0 11 rfl rfl)
theorem dX3_begins_14 : decode cX3_begins 14 = .ok (.iconst 0, 1) := dk_3 (dk_at dksX3_begins_0 14 rfl rfl)
theorem dX3_begins_15 : decode cX3_begins 15 = .ok (.aload_n 0, 1) := dk_42 (dk_at dksX3_begins_0 15 rfl rfl)
theorem dX3_begins_16 : decode cX3_begins 16 = .ok (.getfield 9, 3) := dk_180 0 9 (dk_at dksX3_begins_0 16 rfl rfl)
theorem dX3_begins_19 : decode cX3_begins 19 = .ok (.iconst 0, 1) := dk_3 (dk_at dksX3_begins_0 19 rfl rfl)
theorem dX3_begins_20 : decode cX3_begins 20 = .ok (.bipush 16, 2) := dk_16 16 (dk_at dksX3_begins_0 20 rfl rfl)
theorem dX3_begins_22 : decode cX3_begins 22 = .ok (.invokestatic 41, 3) := dk_184 0 41 (dk_at dksX3_begins_1 0 rfl rfl)
theorem dX3_begins_25 : decode cX3_begins 25 = .ok (.aload_n 0, 1) := dk_42 (dk_at dksX3_begins_1 3 rfl rfl)
theorem dX3_begins_26 : decode cX3_begins 26 = .ok (.getfield 20, 3) := dk_180 0 20 (dk_at dksX3_begins_1 4 rfl rfl)
theorem dX3_begins_29 : decode cX3_begins 29 = .ok (.invokeinterface 47 1, 5) := by decide +kernel
theorem dX3_begins_34 : decode cX3_begins 34 = .ok (.aload_n 0, 1) := dk_42 (dk_at dksX3_begins_1 12 rfl rfl)
theorem dX3_begins_35 : decode cX3_begins 35 = .ok (.iconst 0, 1) := dk_3 (dk_at dksX3_begins_1 13 rfl rfl)
theorem dX3_begins_36 : decode cX3_begins 36 = .ok (.putfield 52, 3) := dk_181 0 52 (dk_at dksX3_begins_1 14 rfl rfl)
theorem dX3_begins_39 : decode cX3_begins 39 = .ok (.return_, 1) := dk_177 (dk_at dksX3_begins_1 17 rfl rfl)
abbrev cX3_areKnown : ByteArray := prog_12_method_4_code
def yX3_areKnown : MethodName := ⟨RX3, "areKnown", "(II)Z"⟩
def dkwX3_areKnown_0 : List UInt8 := [42, 180, 0, 9, 27, 46, 28, 184, 0, 70, 172]
abbrev dktX3_areKnown_0 : List UInt8 := dkwX3_areKnown_0 ++ []
theorem dksX3_areKnown_0 : cX3_areKnown.data.toList.drop 0 = dktX3_areKnown_0 := by decide +kernel
theorem dX3_areKnown_0 : decode cX3_areKnown 0 = .ok (.aload_n 0, 1) := dk_42 (dk_at dksX3_areKnown_0 0 rfl rfl)
theorem dX3_areKnown_1 : decode cX3_areKnown 1 = .ok (.getfield 9, 3) := dk_180 0 9 (dk_at dksX3_areKnown_0 1 rfl rfl)
theorem dX3_areKnown_4 : decode cX3_areKnown 4 = .ok (.iload_n 1, 1) := dk_27 (dk_at dksX3_areKnown_0 4 rfl rfl)
theorem dX3_areKnown_5 : decode cX3_areKnown 5 = .ok (.iaload, 1) := dk_46 (dk_at dksX3_areKnown_0 5 rfl rfl)
theorem dX3_areKnown_6 : decode cX3_areKnown 6 = .ok (.iload_n 2, 1) := dk_28 (dk_at dksX3_areKnown_0 6 rfl rfl)
theorem dX3_areKnown_7 : decode cX3_areKnown 7 = .ok (.invokestatic 70, 3) := dk_184 0 70 (dk_at dksX3_areKnown_0 7 rfl rfl)
theorem dX3_areKnown_10 : decode cX3_areKnown 10 = .ok (.ireturn, 1) := dk_172 (dk_at dksX3_areKnown_0 10 rfl rfl)
abbrev cX3_does : ByteArray := prog_12_method_10_code
def yX3_does : MethodName := ⟨RX3, "does", "(IILCardBowl$Paying;I)I"⟩
def dkwX3_does_8 : List UInt8 := [182, 0, 157, 21, 5, 172]
abbrev dktX3_does_8 : List UInt8 := dkwX3_does_8 ++ []
def dkwX3_does_7 : List UInt8 := [184, 0, 144, 21, 4, 183, 0, 150, 185, 0, 66, 2, 0, 87, 45, 182, 0, 153, 153, 0, 9, 42, 27, 28]
abbrev dktX3_does_7 : List UInt8 := dkwX3_does_7 ++ dktX3_does_8
def dkwX3_does_6 : List UInt8 := [187, 0, 64, 89, 28, 27, 25, 6, 180, 0, 134, 17, 1, 143, 21, 4, 25, 6, 180, 0, 141, 96]
abbrev dktX3_does_6 : List UInt8 := dkwX3_does_6 ++ dktX3_does_7
def dkwX3_does_5 : List UInt8 := [25, 6, 198, 0, 57, 42, 28, 27, 25, 6, 180, 0, 134, 182, 0, 137, 154, 0, 43, 42, 180, 0, 20]
abbrev dktX3_does_5 : List UInt8 := dkwX3_does_5 ++ dktX3_does_6
def dkwX3_does_4 : List UInt8 := [180, 0, 52, 21, 5, 96, 181, 0, 52, 42, 27, 28, 45, 182, 0, 128, 21, 4, 182, 0, 130, 58, 6]
abbrev dktX3_does_4 : List UInt8 := dkwX3_does_4 ++ dktX3_does_5
def dkwX3_does_3 : List UInt8 := [180, 0, 20, 21, 6, 185, 0, 125, 2, 0, 87, 132, 5, 1, 132, 6, 255, 167, 255, 187, 42, 89]
abbrev dktX3_does_3 : List UInt8 := dkwX3_does_3 ++ dktX3_does_4
def dkwX3_does_2 : List UInt8 := [25, 7, 180, 0, 77, 28, 160, 0, 30, 45, 25, 7, 182, 0, 119, 154, 0, 6, 167, 0, 18, 42]
abbrev dktX3_does_2 : List UInt8 := dkwX3_does_2 ++ dktX3_does_3
def dkwX3_does_1 : List UInt8 := [180, 0, 20, 21, 6, 185, 0, 60, 2, 0, 192, 0, 64, 58, 7, 25, 7, 180, 0, 74, 27, 160, 0, 39]
abbrev dktX3_does_1 : List UInt8 := dkwX3_does_1 ++ dktX3_does_2
def dkwX3_does_0 : List UInt8 := [3, 54, 5, 42, 180, 0, 20, 185, 0, 56, 1, 0, 4, 100, 54, 6, 21, 6, 155, 0, 70, 42]
abbrev dktX3_does_0 : List UInt8 := dkwX3_does_0 ++ dktX3_does_1
theorem dksX3_does_0 : cX3_does.data.toList.drop 0 = dktX3_does_0 := by decide +kernel
theorem dksX3_does_1 : cX3_does.data.toList.drop 22 = dktX3_does_1 := dk_seg dksX3_does_0 22 rfl rfl
theorem dksX3_does_2 : cX3_does.data.toList.drop 46 = dktX3_does_2 := dk_seg dksX3_does_1 24 rfl rfl
theorem dksX3_does_3 : cX3_does.data.toList.drop 68 = dktX3_does_3 := dk_seg dksX3_does_2 22 rfl rfl
theorem dksX3_does_4 : cX3_does.data.toList.drop 90 = dktX3_does_4 := dk_seg dksX3_does_3 22 rfl rfl
theorem dksX3_does_5 : cX3_does.data.toList.drop 113 = dktX3_does_5 := dk_seg dksX3_does_4 23 rfl rfl
theorem dksX3_does_6 : cX3_does.data.toList.drop 136 = dktX3_does_6 := dk_seg dksX3_does_5 23 rfl rfl
theorem dksX3_does_7 : cX3_does.data.toList.drop 158 = dktX3_does_7 := dk_seg dksX3_does_6 22 rfl rfl
theorem dksX3_does_8 : cX3_does.data.toList.drop 182 = dktX3_does_8 := dk_seg dksX3_does_7 24 rfl rfl
theorem dX3_does_0 : decode cX3_does 0 = .ok (.iconst 0, 1) := dk_3 (dk_at dksX3_does_0 0 rfl rfl)
theorem dX3_does_1 : decode cX3_does 1 = .ok (.istore 5, 2) := dk_54 5 (dk_at dksX3_does_0 1 rfl rfl)
theorem dX3_does_3 : decode cX3_does 3 = .ok (.aload_n 0, 1) := dk_42 (dk_at dksX3_does_0 3 rfl rfl)
theorem dX3_does_4 : decode cX3_does 4 = .ok (.getfield 20, 3) := dk_180 0 20 (dk_at dksX3_does_0 4 rfl rfl)
theorem dX3_does_7 : decode cX3_does 7 = .ok (.invokeinterface 56 1, 5) := by decide +kernel
theorem dX3_does_12 : decode cX3_does 12 = .ok (.iconst 1, 1) := dk_4 (dk_at dksX3_does_0 12 rfl rfl)
theorem dX3_does_13 : decode cX3_does 13 = .ok (.isub, 1) := dk_100 (dk_at dksX3_does_0 13 rfl rfl)
theorem dX3_does_14 : decode cX3_does 14 = .ok (.istore 6, 2) := dk_54 6 (dk_at dksX3_does_0 14 rfl rfl)
theorem dX3_does_16 : decode cX3_does 16 = .ok (.iload 6, 2) := dk_21 6 (dk_at dksX3_does_0 16 rfl rfl)
theorem dX3_does_18 : decode cX3_does 18 = .ok (.ifCond .lt 70, 3) := dk_155 0 70 (dk_at dksX3_does_0 18 rfl rfl)
theorem dX3_does_21 : decode cX3_does 21 = .ok (.aload_n 0, 1) := dk_42 (dk_at dksX3_does_0 21 rfl rfl)
theorem dX3_does_22 : decode cX3_does 22 = .ok (.getfield 20, 3) := dk_180 0 20 (dk_at dksX3_does_1 0 rfl rfl)
theorem dX3_does_25 : decode cX3_does 25 = .ok (.iload 6, 2) := dk_21 6 (dk_at dksX3_does_1 3 rfl rfl)
theorem dX3_does_27 : decode cX3_does 27 = .ok (.invokeinterface 60 2, 5) := by decide +kernel
theorem dX3_does_32 : decode cX3_does 32 = .ok (.checkcast 64, 3) := dk_192 0 64 (dk_at dksX3_does_1 10 rfl rfl)
theorem dX3_does_35 : decode cX3_does 35 = .ok (.astore 7, 2) := dk_58 7 (dk_at dksX3_does_1 13 rfl rfl)
theorem dX3_does_37 : decode cX3_does 37 = .ok (.aload 7, 2) := dk_25 7 (dk_at dksX3_does_1 15 rfl rfl)
theorem dX3_does_39 : decode cX3_does 39 = .ok (.getfield 74, 3) := dk_180 0 74 (dk_at dksX3_does_1 17 rfl rfl)
theorem dX3_does_42 : decode cX3_does 42 = .ok (.iload_n 1, 1) := dk_27 (dk_at dksX3_does_1 20 rfl rfl)
theorem dX3_does_43 : decode cX3_does 43 = .ok (.if_icmp .ne 39, 3) := dk_160 0 39 (dk_at dksX3_does_1 21 rfl rfl)
theorem dX3_does_46 : decode cX3_does 46 = .ok (.aload 7, 2) := dk_25 7 (dk_at dksX3_does_2 0 rfl rfl)
theorem dX3_does_48 : decode cX3_does 48 = .ok (.getfield 77, 3) := dk_180 0 77 (dk_at dksX3_does_2 2 rfl rfl)
theorem dX3_does_51 : decode cX3_does 51 = .ok (.iload_n 2, 1) := dk_28 (dk_at dksX3_does_2 5 rfl rfl)
theorem dX3_does_52 : decode cX3_does 52 = .ok (.if_icmp .ne 30, 3) := dk_160 0 30 (dk_at dksX3_does_2 6 rfl rfl)
theorem dX3_does_55 : decode cX3_does 55 = .ok (.aload_n 3, 1) := dk_45 (dk_at dksX3_does_2 9 rfl rfl)
theorem dX3_does_56 : decode cX3_does 56 = .ok (.aload 7, 2) := dk_25 7 (dk_at dksX3_does_2 10 rfl rfl)
theorem dX3_does_58 : decode cX3_does 58 = .ok (.invokevirtual 119, 3) := dk_182 0 119 (dk_at dksX3_does_2 12 rfl rfl)
theorem dX3_does_61 : decode cX3_does 61 = .ok (.ifCond .ne 6, 3) := dk_154 0 6 (dk_at dksX3_does_2 15 rfl rfl)
theorem dX3_does_64 : decode cX3_does 64 = .ok (.goto 18, 3) := dk_167 0 18 (dk_at dksX3_does_2 18 rfl rfl)
theorem dX3_does_67 : decode cX3_does 67 = .ok (.aload_n 0, 1) := dk_42 (dk_at dksX3_does_2 21 rfl rfl)
theorem dX3_does_68 : decode cX3_does 68 = .ok (.getfield 20, 3) := dk_180 0 20 (dk_at dksX3_does_3 0 rfl rfl)
theorem dX3_does_71 : decode cX3_does 71 = .ok (.iload 6, 2) := dk_21 6 (dk_at dksX3_does_3 3 rfl rfl)
theorem dX3_does_73 : decode cX3_does 73 = .ok (.invokeinterface 125 2, 5) := by decide +kernel
theorem dX3_does_78 : decode cX3_does 78 = .ok (.pop, 1) := dk_87 (dk_at dksX3_does_3 10 rfl rfl)
theorem dX3_does_79 : decode cX3_does 79 = .ok (.iinc 5 1, 3) := dk_132 5 1 (dk_at dksX3_does_3 11 rfl rfl)
theorem dX3_does_82 : decode cX3_does 82 = .ok (.iinc 6 (-1), 3) := dk_132 6 255 (dk_at dksX3_does_3 14 rfl rfl)
theorem dX3_does_85 : decode cX3_does 85 = .ok (.goto (-69), 3) := dk_167 255 187 (dk_at dksX3_does_3 17 rfl rfl)
theorem dX3_does_88 : decode cX3_does 88 = .ok (.aload_n 0, 1) := dk_42 (dk_at dksX3_does_3 20 rfl rfl)
theorem dX3_does_89 : decode cX3_does 89 = .ok (.dup, 1) := dk_89 (dk_at dksX3_does_3 21 rfl rfl)
theorem dX3_does_90 : decode cX3_does 90 = .ok (.getfield 52, 3) := dk_180 0 52 (dk_at dksX3_does_4 0 rfl rfl)
theorem dX3_does_93 : decode cX3_does 93 = .ok (.iload 5, 2) := dk_21 5 (dk_at dksX3_does_4 3 rfl rfl)
theorem dX3_does_95 : decode cX3_does 95 = .ok (.iadd, 1) := dk_96 (dk_at dksX3_does_4 5 rfl rfl)
theorem dX3_does_96 : decode cX3_does 96 = .ok (.putfield 52, 3) := dk_181 0 52 (dk_at dksX3_does_4 6 rfl rfl)
theorem dX3_does_99 : decode cX3_does 99 = .ok (.aload_n 0, 1) := dk_42 (dk_at dksX3_does_4 9 rfl rfl)
theorem dX3_does_100 : decode cX3_does 100 = .ok (.iload_n 1, 1) := dk_27 (dk_at dksX3_does_4 10 rfl rfl)
theorem dX3_does_101 : decode cX3_does 101 = .ok (.iload_n 2, 1) := dk_28 (dk_at dksX3_does_4 11 rfl rfl)
theorem dX3_does_102 : decode cX3_does 102 = .ok (.aload_n 3, 1) := dk_45 (dk_at dksX3_does_4 12 rfl rfl)
theorem dX3_does_103 : decode cX3_does 103 = .ok (.invokevirtual 128, 3) := dk_182 0 128 (dk_at dksX3_does_4 13 rfl rfl)
theorem dX3_does_106 : decode cX3_does 106 = .ok (.iload 4, 2) := dk_21 4 (dk_at dksX3_does_4 16 rfl rfl)
theorem dX3_does_108 : decode cX3_does 108 = .ok (.invokevirtual 130, 3) := dk_182 0 130 (dk_at dksX3_does_4 18 rfl rfl)
theorem dX3_does_111 : decode cX3_does 111 = .ok (.astore 6, 2) := dk_58 6 (dk_at dksX3_does_4 21 rfl rfl)
theorem dX3_does_113 : decode cX3_does 113 = .ok (.aload 6, 2) := dk_25 6 (dk_at dksX3_does_5 0 rfl rfl)
theorem dX3_does_115 : decode cX3_does 115 = .ok (.ifnull 57, 3) := dk_198 0 57 (dk_at dksX3_does_5 2 rfl rfl)
theorem dX3_does_118 : decode cX3_does 118 = .ok (.aload_n 0, 1) := dk_42 (dk_at dksX3_does_5 5 rfl rfl)
theorem dX3_does_119 : decode cX3_does 119 = .ok (.iload_n 2, 1) := dk_28 (dk_at dksX3_does_5 6 rfl rfl)
theorem dX3_does_120 : decode cX3_does 120 = .ok (.iload_n 1, 1) := dk_27 (dk_at dksX3_does_5 7 rfl rfl)
theorem dX3_does_121 : decode cX3_does 121 = .ok (.aload 6, 2) := dk_25 6 (dk_at dksX3_does_5 8 rfl rfl)
theorem dX3_does_123 : decode cX3_does 123 = .ok (.getfield 134, 3) := dk_180 0 134 (dk_at dksX3_does_5 10 rfl rfl)
theorem dX3_does_126 : decode cX3_does 126 = .ok (.invokevirtual 137, 3) := dk_182 0 137 (dk_at dksX3_does_5 13 rfl rfl)
theorem dX3_does_129 : decode cX3_does 129 = .ok (.ifCond .ne 43, 3) := dk_154 0 43 (dk_at dksX3_does_5 16 rfl rfl)
theorem dX3_does_132 : decode cX3_does 132 = .ok (.aload_n 0, 1) := dk_42 (dk_at dksX3_does_5 19 rfl rfl)
theorem dX3_does_133 : decode cX3_does 133 = .ok (.getfield 20, 3) := dk_180 0 20 (dk_at dksX3_does_5 20 rfl rfl)
theorem dX3_does_136 : decode cX3_does 136 = .ok (.new 64, 3) := dk_187 0 64 (dk_at dksX3_does_6 0 rfl rfl)
theorem dX3_does_139 : decode cX3_does 139 = .ok (.dup, 1) := dk_89 (dk_at dksX3_does_6 3 rfl rfl)
theorem dX3_does_140 : decode cX3_does 140 = .ok (.iload_n 2, 1) := dk_28 (dk_at dksX3_does_6 4 rfl rfl)
theorem dX3_does_141 : decode cX3_does 141 = .ok (.iload_n 1, 1) := dk_27 (dk_at dksX3_does_6 5 rfl rfl)
theorem dX3_does_142 : decode cX3_does 142 = .ok (.aload 6, 2) := dk_25 6 (dk_at dksX3_does_6 6 rfl rfl)
theorem dX3_does_144 : decode cX3_does 144 = .ok (.getfield 134, 3) := dk_180 0 134 (dk_at dksX3_does_6 8 rfl rfl)
theorem dX3_does_147 : decode cX3_does 147 = .ok (.sipush 399, 3) := dk_17 1 143 (dk_at dksX3_does_6 11 rfl rfl)
theorem dX3_does_150 : decode cX3_does 150 = .ok (.iload 4, 2) := dk_21 4 (dk_at dksX3_does_6 14 rfl rfl)
theorem dX3_does_152 : decode cX3_does 152 = .ok (.aload 6, 2) := dk_25 6 (dk_at dksX3_does_6 16 rfl rfl)
theorem dX3_does_154 : decode cX3_does 154 = .ok (.getfield 141, 3) := dk_180 0 141 (dk_at dksX3_does_6 18 rfl rfl)
theorem dX3_does_157 : decode cX3_does 157 = .ok (.iadd, 1) := dk_96 (dk_at dksX3_does_6 21 rfl rfl)
theorem dX3_does_158 : decode cX3_does 158 = .ok (.invokestatic 144, 3) := dk_184 0 144 (dk_at dksX3_does_7 0 rfl rfl)
theorem dX3_does_161 : decode cX3_does 161 = .ok (.iload 4, 2) := dk_21 4 (dk_at dksX3_does_7 3 rfl rfl)
theorem dX3_does_163 : decode cX3_does 163 = .ok (.invokespecial 150, 3) := dk_183 0 150 (dk_at dksX3_does_7 5 rfl rfl)
theorem dX3_does_166 : decode cX3_does 166 = .ok (.invokeinterface 66 2, 5) := by decide +kernel
theorem dX3_does_171 : decode cX3_does 171 = .ok (.pop, 1) := dk_87 (dk_at dksX3_does_7 13 rfl rfl)
theorem dX3_does_172 : decode cX3_does 172 = .ok (.aload_n 3, 1) := dk_45 (dk_at dksX3_does_7 14 rfl rfl)
theorem dX3_does_173 : decode cX3_does 173 = .ok (.invokevirtual 153, 3) := dk_182 0 153 (dk_at dksX3_does_7 15 rfl rfl)
theorem dX3_does_176 : decode cX3_does 176 = .ok (.ifCond .eq 9, 3) := dk_153 0 9 (dk_at dksX3_does_7 18 rfl rfl)
theorem dX3_does_179 : decode cX3_does 179 = .ok (.aload_n 0, 1) := dk_42 (dk_at dksX3_does_7 21 rfl rfl)
theorem dX3_does_180 : decode cX3_does 180 = .ok (.iload_n 1, 1) := dk_27 (dk_at dksX3_does_7 22 rfl rfl)
theorem dX3_does_181 : decode cX3_does 181 = .ok (.iload_n 2, 1) := dk_28 (dk_at dksX3_does_7 23 rfl rfl)
theorem dX3_does_182 : decode cX3_does 182 = .ok (.invokevirtual 157, 3) := dk_182 0 157 (dk_at dksX3_does_8 0 rfl rfl)
theorem dX3_does_185 : decode cX3_does 185 = .ok (.iload 5, 2) := dk_21 5 (dk_at dksX3_does_8 3 rfl rfl)
theorem dX3_does_187 : decode cX3_does 187 = .ok (.ireturn, 1) := dk_172 (dk_at dksX3_does_8 5 rfl rfl)
abbrev cX3_rule : ByteArray := prog_12_method_9_code
def yX3_rule : MethodName := ⟨RX3, "rule", "(IIII)LCardBowl$Rule;"⟩
def dkwX3_rule_6 : List UInt8 := [132, 5, 1, 167, 255, 199, 1, 176]
abbrev dktX3_rule_6 : List UInt8 := dkwX3_rule_6 ++ []
def dkwX3_rule_5 : List UInt8 := [180, 0, 27, 182, 0, 115, 153, 0, 18, 42, 180, 0, 35, 21, 5, 185, 0, 60, 2, 0, 192, 0, 113, 176]
abbrev dktX3_rule_5 : List UInt8 := dkwX3_rule_5 ++ dktX3_rule_6
def dkwX3_rule_4 : List UInt8 := [185, 0, 56, 1, 0, 162, 0, 49, 42, 180, 0, 35, 21, 5, 185, 0, 60, 2, 0, 192, 0, 113, 29, 42]
abbrev dktX3_rule_4 : List UInt8 := dkwX3_rule_4 ++ dktX3_rule_5
def dkwX3_rule_3 : List UInt8 := [153, 0, 7, 4, 167, 0, 4, 3, 181, 0, 110, 3, 54, 5, 21, 5, 42, 180, 0, 35]
abbrev dktX3_rule_3 : List UInt8 := dkwX3_rule_3 ++ dktX3_rule_4
def dkwX3_rule_2 : List UInt8 := [181, 0, 102, 42, 180, 0, 27, 21, 4, 181, 0, 104, 42, 180, 0, 27, 42, 27, 28, 182, 0, 107]
abbrev dktX3_rule_2 : List UInt8 := dkwX3_rule_2 ++ dktX3_rule_3
def dkwX3_rule_1 : List UInt8 := [180, 0, 31, 28, 182, 0, 83, 180, 0, 87, 181, 0, 95, 42, 180, 0, 27, 42, 28, 182, 0, 98]
abbrev dktX3_rule_1 : List UInt8 := dkwX3_rule_1 ++ dktX3_rule_2
def dkwX3_rule_0 : List UInt8 := [42, 180, 0, 27, 42, 180, 0, 31, 27, 182, 0, 83, 180, 0, 87, 181, 0, 92, 42, 180, 0, 27, 42]
abbrev dktX3_rule_0 : List UInt8 := dkwX3_rule_0 ++ dktX3_rule_1
theorem dksX3_rule_0 : cX3_rule.data.toList.drop 0 = dktX3_rule_0 := by decide +kernel
theorem dksX3_rule_1 : cX3_rule.data.toList.drop 23 = dktX3_rule_1 := dk_seg dksX3_rule_0 23 rfl rfl
theorem dksX3_rule_2 : cX3_rule.data.toList.drop 45 = dktX3_rule_2 := dk_seg dksX3_rule_1 22 rfl rfl
theorem dksX3_rule_3 : cX3_rule.data.toList.drop 67 = dktX3_rule_3 := dk_seg dksX3_rule_2 22 rfl rfl
theorem dksX3_rule_4 : cX3_rule.data.toList.drop 87 = dktX3_rule_4 := dk_seg dksX3_rule_3 20 rfl rfl
theorem dksX3_rule_5 : cX3_rule.data.toList.drop 111 = dktX3_rule_5 := dk_seg dksX3_rule_4 24 rfl rfl
theorem dksX3_rule_6 : cX3_rule.data.toList.drop 135 = dktX3_rule_6 := dk_seg dksX3_rule_5 24 rfl rfl
theorem dX3_rule_0 : decode cX3_rule 0 = .ok (.aload_n 0, 1) := dk_42 (dk_at dksX3_rule_0 0 rfl rfl)
theorem dX3_rule_1 : decode cX3_rule 1 = .ok (.getfield 27, 3) := dk_180 0 27 (dk_at dksX3_rule_0 1 rfl rfl)
theorem dX3_rule_4 : decode cX3_rule 4 = .ok (.aload_n 0, 1) := dk_42 (dk_at dksX3_rule_0 4 rfl rfl)
theorem dX3_rule_5 : decode cX3_rule 5 = .ok (.getfield 31, 3) := dk_180 0 31 (dk_at dksX3_rule_0 5 rfl rfl)
theorem dX3_rule_8 : decode cX3_rule 8 = .ok (.iload_n 1, 1) := dk_27 (dk_at dksX3_rule_0 8 rfl rfl)
theorem dX3_rule_9 : decode cX3_rule 9 = .ok (.invokevirtual 83, 3) := dk_182 0 83 (dk_at dksX3_rule_0 9 rfl rfl)
theorem dX3_rule_12 : decode cX3_rule 12 = .ok (.getfield 87, 3) := dk_180 0 87 (dk_at dksX3_rule_0 12 rfl rfl)
theorem dX3_rule_15 : decode cX3_rule 15 = .ok (.putfield 92, 3) := dk_181 0 92 (dk_at dksX3_rule_0 15 rfl rfl)
theorem dX3_rule_18 : decode cX3_rule 18 = .ok (.aload_n 0, 1) := dk_42 (dk_at dksX3_rule_0 18 rfl rfl)
theorem dX3_rule_19 : decode cX3_rule 19 = .ok (.getfield 27, 3) := dk_180 0 27 (dk_at dksX3_rule_0 19 rfl rfl)
theorem dX3_rule_22 : decode cX3_rule 22 = .ok (.aload_n 0, 1) := dk_42 (dk_at dksX3_rule_0 22 rfl rfl)
theorem dX3_rule_23 : decode cX3_rule 23 = .ok (.getfield 31, 3) := dk_180 0 31 (dk_at dksX3_rule_1 0 rfl rfl)
theorem dX3_rule_26 : decode cX3_rule 26 = .ok (.iload_n 2, 1) := dk_28 (dk_at dksX3_rule_1 3 rfl rfl)
theorem dX3_rule_27 : decode cX3_rule 27 = .ok (.invokevirtual 83, 3) := dk_182 0 83 (dk_at dksX3_rule_1 4 rfl rfl)
theorem dX3_rule_30 : decode cX3_rule 30 = .ok (.getfield 87, 3) := dk_180 0 87 (dk_at dksX3_rule_1 7 rfl rfl)
theorem dX3_rule_33 : decode cX3_rule 33 = .ok (.putfield 95, 3) := dk_181 0 95 (dk_at dksX3_rule_1 10 rfl rfl)
theorem dX3_rule_36 : decode cX3_rule 36 = .ok (.aload_n 0, 1) := dk_42 (dk_at dksX3_rule_1 13 rfl rfl)
theorem dX3_rule_37 : decode cX3_rule 37 = .ok (.getfield 27, 3) := dk_180 0 27 (dk_at dksX3_rule_1 14 rfl rfl)
theorem dX3_rule_40 : decode cX3_rule 40 = .ok (.aload_n 0, 1) := dk_42 (dk_at dksX3_rule_1 17 rfl rfl)
theorem dX3_rule_41 : decode cX3_rule 41 = .ok (.iload_n 2, 1) := dk_28 (dk_at dksX3_rule_1 18 rfl rfl)
theorem dX3_rule_42 : decode cX3_rule 42 = .ok (.invokevirtual 98, 3) := dk_182 0 98 (dk_at dksX3_rule_1 19 rfl rfl)
theorem dX3_rule_45 : decode cX3_rule 45 = .ok (.putfield 102, 3) := dk_181 0 102 (dk_at dksX3_rule_2 0 rfl rfl)
theorem dX3_rule_48 : decode cX3_rule 48 = .ok (.aload_n 0, 1) := dk_42 (dk_at dksX3_rule_2 3 rfl rfl)
theorem dX3_rule_49 : decode cX3_rule 49 = .ok (.getfield 27, 3) := dk_180 0 27 (dk_at dksX3_rule_2 4 rfl rfl)
theorem dX3_rule_52 : decode cX3_rule 52 = .ok (.iload 4, 2) := dk_21 4 (dk_at dksX3_rule_2 7 rfl rfl)
theorem dX3_rule_54 : decode cX3_rule 54 = .ok (.putfield 104, 3) := dk_181 0 104 (dk_at dksX3_rule_2 9 rfl rfl)
theorem dX3_rule_57 : decode cX3_rule 57 = .ok (.aload_n 0, 1) := dk_42 (dk_at dksX3_rule_2 12 rfl rfl)
theorem dX3_rule_58 : decode cX3_rule 58 = .ok (.getfield 27, 3) := dk_180 0 27 (dk_at dksX3_rule_2 13 rfl rfl)
theorem dX3_rule_61 : decode cX3_rule 61 = .ok (.aload_n 0, 1) := dk_42 (dk_at dksX3_rule_2 16 rfl rfl)
theorem dX3_rule_62 : decode cX3_rule 62 = .ok (.iload_n 1, 1) := dk_27 (dk_at dksX3_rule_2 17 rfl rfl)
theorem dX3_rule_63 : decode cX3_rule 63 = .ok (.iload_n 2, 1) := dk_28 (dk_at dksX3_rule_2 18 rfl rfl)
theorem dX3_rule_64 : decode cX3_rule 64 = .ok (.invokevirtual 107, 3) := dk_182 0 107 (dk_at dksX3_rule_2 19 rfl rfl)
theorem dX3_rule_67 : decode cX3_rule 67 = .ok (.ifCond .eq 7, 3) := dk_153 0 7 (dk_at dksX3_rule_3 0 rfl rfl)
theorem dX3_rule_70 : decode cX3_rule 70 = .ok (.iconst 1, 1) := dk_4 (dk_at dksX3_rule_3 3 rfl rfl)
theorem dX3_rule_71 : decode cX3_rule 71 = .ok (.goto 4, 3) := dk_167 0 4 (dk_at dksX3_rule_3 4 rfl rfl)
theorem dX3_rule_74 : decode cX3_rule 74 = .ok (.iconst 0, 1) := dk_3 (dk_at dksX3_rule_3 7 rfl rfl)
theorem dX3_rule_75 : decode cX3_rule 75 = .ok (.putfield 110, 3) := dk_181 0 110 (dk_at dksX3_rule_3 8 rfl rfl)
theorem dX3_rule_78 : decode cX3_rule 78 = .ok (.iconst 0, 1) := dk_3 (dk_at dksX3_rule_3 11 rfl rfl)
theorem dX3_rule_79 : decode cX3_rule 79 = .ok (.istore 5, 2) := dk_54 5 (dk_at dksX3_rule_3 12 rfl rfl)
theorem dX3_rule_81 : decode cX3_rule 81 = .ok (.iload 5, 2) := dk_21 5 (dk_at dksX3_rule_3 14 rfl rfl)
theorem dX3_rule_83 : decode cX3_rule 83 = .ok (.aload_n 0, 1) := dk_42 (dk_at dksX3_rule_3 16 rfl rfl)
theorem dX3_rule_84 : decode cX3_rule 84 = .ok (.getfield 35, 3) := dk_180 0 35 (dk_at dksX3_rule_3 17 rfl rfl)
theorem dX3_rule_87 : decode cX3_rule 87 = .ok (.invokeinterface 56 1, 5) := by decide +kernel
theorem dX3_rule_92 : decode cX3_rule 92 = .ok (.if_icmp .ge 49, 3) := dk_162 0 49 (dk_at dksX3_rule_4 5 rfl rfl)
theorem dX3_rule_95 : decode cX3_rule 95 = .ok (.aload_n 0, 1) := dk_42 (dk_at dksX3_rule_4 8 rfl rfl)
theorem dX3_rule_96 : decode cX3_rule 96 = .ok (.getfield 35, 3) := dk_180 0 35 (dk_at dksX3_rule_4 9 rfl rfl)
theorem dX3_rule_99 : decode cX3_rule 99 = .ok (.iload 5, 2) := dk_21 5 (dk_at dksX3_rule_4 12 rfl rfl)
theorem dX3_rule_101 : decode cX3_rule 101 = .ok (.invokeinterface 60 2, 5) := by decide +kernel
theorem dX3_rule_106 : decode cX3_rule 106 = .ok (.checkcast 113, 3) := dk_192 0 113 (dk_at dksX3_rule_4 19 rfl rfl)
theorem dX3_rule_109 : decode cX3_rule 109 = .ok (.iload_n 3, 1) := dk_29 (dk_at dksX3_rule_4 22 rfl rfl)
theorem dX3_rule_110 : decode cX3_rule 110 = .ok (.aload_n 0, 1) := dk_42 (dk_at dksX3_rule_4 23 rfl rfl)
theorem dX3_rule_111 : decode cX3_rule 111 = .ok (.getfield 27, 3) := dk_180 0 27 (dk_at dksX3_rule_5 0 rfl rfl)
theorem dX3_rule_114 : decode cX3_rule 114 = .ok (.invokevirtual 115, 3) := dk_182 0 115 (dk_at dksX3_rule_5 3 rfl rfl)
theorem dX3_rule_117 : decode cX3_rule 117 = .ok (.ifCond .eq 18, 3) := dk_153 0 18 (dk_at dksX3_rule_5 6 rfl rfl)
theorem dX3_rule_120 : decode cX3_rule 120 = .ok (.aload_n 0, 1) := dk_42 (dk_at dksX3_rule_5 9 rfl rfl)
theorem dX3_rule_121 : decode cX3_rule 121 = .ok (.getfield 35, 3) := dk_180 0 35 (dk_at dksX3_rule_5 10 rfl rfl)
theorem dX3_rule_124 : decode cX3_rule 124 = .ok (.iload 5, 2) := dk_21 5 (dk_at dksX3_rule_5 13 rfl rfl)
theorem dX3_rule_126 : decode cX3_rule 126 = .ok (.invokeinterface 60 2, 5) := by decide +kernel
theorem dX3_rule_131 : decode cX3_rule 131 = .ok (.checkcast 113, 3) := dk_192 0 113 (dk_at dksX3_rule_5 20 rfl rfl)
theorem dX3_rule_134 : decode cX3_rule 134 = .ok (.areturn, 1) := dk_176 (dk_at dksX3_rule_5 23 rfl rfl)
theorem dX3_rule_135 : decode cX3_rule 135 = .ok (.iinc 5 1, 3) := dk_132 5 1 (dk_at dksX3_rule_6 0 rfl rfl)
theorem dX3_rule_138 : decode cX3_rule 138 = .ok (.goto (-57), 3) := dk_167 255 199 (dk_at dksX3_rule_6 3 rfl rfl)
theorem dX3_rule_141 : decode cX3_rule 141 = .ok (.aconst_null, 1) := dk_1 (dk_at dksX3_rule_6 6 rfl rfl)
theorem dX3_rule_142 : decode cX3_rule 142 = .ok (.areturn, 1) := dk_176 (dk_at dksX3_rule_6 7 rfl rfl)
abbrev cX3_debtsOf : ByteArray := prog_12_method_6_code
def yX3_debtsOf : MethodName := ⟨RX3, "debtsOf", "(I)I"⟩
def dkwX3_debtsOf_2 : List UInt8 := [132, 3, 1, 167, 255, 212, 28, 172]
abbrev dktX3_debtsOf_2 : List UInt8 := dkwX3_debtsOf_2 ++ []
def dkwX3_debtsOf_1 : List UInt8 := [185, 0, 60, 2, 0, 192, 0, 64, 180, 0, 74, 27, 160, 0, 7, 4, 167, 0, 4, 3, 96, 61]
abbrev dktX3_debtsOf_1 : List UInt8 := dkwX3_debtsOf_1 ++ dktX3_debtsOf_2
def dkwX3_debtsOf_0 : List UInt8 := [3, 61, 3, 62, 29, 42, 180, 0, 20, 185, 0, 56, 1, 0, 162, 0, 37, 28, 42, 180, 0, 20, 29]
abbrev dktX3_debtsOf_0 : List UInt8 := dkwX3_debtsOf_0 ++ dktX3_debtsOf_1
theorem dksX3_debtsOf_0 : cX3_debtsOf.data.toList.drop 0 = dktX3_debtsOf_0 := by decide +kernel
theorem dksX3_debtsOf_1 : cX3_debtsOf.data.toList.drop 23 = dktX3_debtsOf_1 := dk_seg dksX3_debtsOf_0 23 rfl rfl
theorem dksX3_debtsOf_2 : cX3_debtsOf.data.toList.drop 45 = dktX3_debtsOf_2 := dk_seg dksX3_debtsOf_1 22 rfl rfl
theorem dX3_debtsOf_0 : decode cX3_debtsOf 0 = .ok (.iconst 0, 1) := dk_3 (dk_at dksX3_debtsOf_0 0 rfl rfl)
theorem dX3_debtsOf_1 : decode cX3_debtsOf 1 = .ok (.istore_n 2, 1) := dk_61 (dk_at dksX3_debtsOf_0 1 rfl rfl)
theorem dX3_debtsOf_2 : decode cX3_debtsOf 2 = .ok (.iconst 0, 1) := dk_3 (dk_at dksX3_debtsOf_0 2 rfl rfl)
theorem dX3_debtsOf_3 : decode cX3_debtsOf 3 = .ok (.istore_n 3, 1) := dk_62 (dk_at dksX3_debtsOf_0 3 rfl rfl)
theorem dX3_debtsOf_4 : decode cX3_debtsOf 4 = .ok (.iload_n 3, 1) := dk_29 (dk_at dksX3_debtsOf_0 4 rfl rfl)
theorem dX3_debtsOf_5 : decode cX3_debtsOf 5 = .ok (.aload_n 0, 1) := dk_42 (dk_at dksX3_debtsOf_0 5 rfl rfl)
theorem dX3_debtsOf_6 : decode cX3_debtsOf 6 = .ok (.getfield 20, 3) := dk_180 0 20 (dk_at dksX3_debtsOf_0 6 rfl rfl)
theorem dX3_debtsOf_9 : decode cX3_debtsOf 9 = .ok (.invokeinterface 56 1, 5) := by decide +kernel
theorem dX3_debtsOf_14 : decode cX3_debtsOf 14 = .ok (.if_icmp .ge 37, 3) := dk_162 0 37 (dk_at dksX3_debtsOf_0 14 rfl rfl)
theorem dX3_debtsOf_17 : decode cX3_debtsOf 17 = .ok (.iload_n 2, 1) := dk_28 (dk_at dksX3_debtsOf_0 17 rfl rfl)
theorem dX3_debtsOf_18 : decode cX3_debtsOf 18 = .ok (.aload_n 0, 1) := dk_42 (dk_at dksX3_debtsOf_0 18 rfl rfl)
theorem dX3_debtsOf_19 : decode cX3_debtsOf 19 = .ok (.getfield 20, 3) := dk_180 0 20 (dk_at dksX3_debtsOf_0 19 rfl rfl)
theorem dX3_debtsOf_22 : decode cX3_debtsOf 22 = .ok (.iload_n 3, 1) := dk_29 (dk_at dksX3_debtsOf_0 22 rfl rfl)
theorem dX3_debtsOf_23 : decode cX3_debtsOf 23 = .ok (.invokeinterface 60 2, 5) := by decide +kernel
theorem dX3_debtsOf_28 : decode cX3_debtsOf 28 = .ok (.checkcast 64, 3) := dk_192 0 64 (dk_at dksX3_debtsOf_1 5 rfl rfl)
theorem dX3_debtsOf_31 : decode cX3_debtsOf 31 = .ok (.getfield 74, 3) := dk_180 0 74 (dk_at dksX3_debtsOf_1 8 rfl rfl)
theorem dX3_debtsOf_34 : decode cX3_debtsOf 34 = .ok (.iload_n 1, 1) := dk_27 (dk_at dksX3_debtsOf_1 11 rfl rfl)
theorem dX3_debtsOf_35 : decode cX3_debtsOf 35 = .ok (.if_icmp .ne 7, 3) := dk_160 0 7 (dk_at dksX3_debtsOf_1 12 rfl rfl)
theorem dX3_debtsOf_38 : decode cX3_debtsOf 38 = .ok (.iconst 1, 1) := dk_4 (dk_at dksX3_debtsOf_1 15 rfl rfl)
theorem dX3_debtsOf_39 : decode cX3_debtsOf 39 = .ok (.goto 4, 3) := dk_167 0 4 (dk_at dksX3_debtsOf_1 16 rfl rfl)
theorem dX3_debtsOf_42 : decode cX3_debtsOf 42 = .ok (.iconst 0, 1) := dk_3 (dk_at dksX3_debtsOf_1 19 rfl rfl)
theorem dX3_debtsOf_43 : decode cX3_debtsOf 43 = .ok (.iadd, 1) := dk_96 (dk_at dksX3_debtsOf_1 20 rfl rfl)
theorem dX3_debtsOf_44 : decode cX3_debtsOf 44 = .ok (.istore_n 2, 1) := dk_61 (dk_at dksX3_debtsOf_1 21 rfl rfl)
theorem dX3_debtsOf_45 : decode cX3_debtsOf 45 = .ok (.iinc 3 1, 3) := dk_132 3 1 (dk_at dksX3_debtsOf_2 0 rfl rfl)
theorem dX3_debtsOf_48 : decode cX3_debtsOf 48 = .ok (.goto (-44), 3) := dk_167 255 212 (dk_at dksX3_debtsOf_2 3 rfl rfl)
theorem dX3_debtsOf_51 : decode cX3_debtsOf 51 = .ok (.iload_n 2, 1) := dk_28 (dk_at dksX3_debtsOf_2 6 rfl rfl)
theorem dX3_debtsOf_52 : decode cX3_debtsOf 52 = .ok (.ireturn, 1) := dk_172 (dk_at dksX3_debtsOf_2 7 rfl rfl)
abbrev cX3_hasOpen : ByteArray := prog_12_method_8_code
def yX3_hasOpen : MethodName := ⟨RX3, "hasOpen", "(III)Z"⟩
def dkwX3_hasOpen_4 : List UInt8 := [3, 54, 4, 132, 5, 1, 167, 255, 164, 21, 4, 172]
abbrev dktX3_hasOpen_4 : List UInt8 := dkwX3_hasOpen_4 ++ []
def dkwX3_hasOpen_3 : List UInt8 := [180, 0, 20, 21, 5, 185, 0, 60, 2, 0, 192, 0, 64, 180, 0, 80, 29, 160, 0, 7, 4, 167, 0, 4]
abbrev dktX3_hasOpen_3 : List UInt8 := dkwX3_hasOpen_3 ++ dktX3_hasOpen_4
def dkwX3_hasOpen_2 : List UInt8 := [42, 180, 0, 20, 21, 5, 185, 0, 60, 2, 0, 192, 0, 64, 180, 0, 77, 28, 160, 0, 28, 42]
abbrev dktX3_hasOpen_2 : List UInt8 := dkwX3_hasOpen_2 ++ dktX3_hasOpen_3
def dkwX3_hasOpen_1 : List UInt8 := [154, 0, 66, 42, 180, 0, 20, 21, 5, 185, 0, 60, 2, 0, 192, 0, 64, 180, 0, 74, 27, 160, 0, 49]
abbrev dktX3_hasOpen_1 : List UInt8 := dkwX3_hasOpen_1 ++ dktX3_hasOpen_2
def dkwX3_hasOpen_0 : List UInt8 := [3, 54, 4, 3, 54, 5, 21, 5, 42, 180, 0, 20, 185, 0, 56, 1, 0, 162, 0, 84, 21, 4]
abbrev dktX3_hasOpen_0 : List UInt8 := dkwX3_hasOpen_0 ++ dktX3_hasOpen_1
theorem dksX3_hasOpen_0 : cX3_hasOpen.data.toList.drop 0 = dktX3_hasOpen_0 := by decide +kernel
theorem dksX3_hasOpen_1 : cX3_hasOpen.data.toList.drop 22 = dktX3_hasOpen_1 := dk_seg dksX3_hasOpen_0 22 rfl rfl
theorem dksX3_hasOpen_2 : cX3_hasOpen.data.toList.drop 46 = dktX3_hasOpen_2 := dk_seg dksX3_hasOpen_1 24 rfl rfl
theorem dksX3_hasOpen_3 : cX3_hasOpen.data.toList.drop 68 = dktX3_hasOpen_3 := dk_seg dksX3_hasOpen_2 22 rfl rfl
theorem dksX3_hasOpen_4 : cX3_hasOpen.data.toList.drop 92 = dktX3_hasOpen_4 := dk_seg dksX3_hasOpen_3 24 rfl rfl
theorem dX3_hasOpen_0 : decode cX3_hasOpen 0 = .ok (.iconst 0, 1) := dk_3 (dk_at dksX3_hasOpen_0 0 rfl rfl)
theorem dX3_hasOpen_1 : decode cX3_hasOpen 1 = .ok (.istore 4, 2) := dk_54 4 (dk_at dksX3_hasOpen_0 1 rfl rfl)
theorem dX3_hasOpen_3 : decode cX3_hasOpen 3 = .ok (.iconst 0, 1) := dk_3 (dk_at dksX3_hasOpen_0 3 rfl rfl)
theorem dX3_hasOpen_4 : decode cX3_hasOpen 4 = .ok (.istore 5, 2) := dk_54 5 (dk_at dksX3_hasOpen_0 4 rfl rfl)
theorem dX3_hasOpen_6 : decode cX3_hasOpen 6 = .ok (.iload 5, 2) := dk_21 5 (dk_at dksX3_hasOpen_0 6 rfl rfl)
theorem dX3_hasOpen_8 : decode cX3_hasOpen 8 = .ok (.aload_n 0, 1) := dk_42 (dk_at dksX3_hasOpen_0 8 rfl rfl)
theorem dX3_hasOpen_9 : decode cX3_hasOpen 9 = .ok (.getfield 20, 3) := dk_180 0 20 (dk_at dksX3_hasOpen_0 9 rfl rfl)
theorem dX3_hasOpen_12 : decode cX3_hasOpen 12 = .ok (.invokeinterface 56 1, 5) := by decide +kernel
theorem dX3_hasOpen_17 : decode cX3_hasOpen 17 = .ok (.if_icmp .ge 84, 3) := dk_162 0 84 (dk_at dksX3_hasOpen_0 17 rfl rfl)
theorem dX3_hasOpen_20 : decode cX3_hasOpen 20 = .ok (.iload 4, 2) := dk_21 4 (dk_at dksX3_hasOpen_0 20 rfl rfl)
theorem dX3_hasOpen_22 : decode cX3_hasOpen 22 = .ok (.ifCond .ne 66, 3) := dk_154 0 66 (dk_at dksX3_hasOpen_1 0 rfl rfl)
theorem dX3_hasOpen_25 : decode cX3_hasOpen 25 = .ok (.aload_n 0, 1) := dk_42 (dk_at dksX3_hasOpen_1 3 rfl rfl)
theorem dX3_hasOpen_26 : decode cX3_hasOpen 26 = .ok (.getfield 20, 3) := dk_180 0 20 (dk_at dksX3_hasOpen_1 4 rfl rfl)
theorem dX3_hasOpen_29 : decode cX3_hasOpen 29 = .ok (.iload 5, 2) := dk_21 5 (dk_at dksX3_hasOpen_1 7 rfl rfl)
theorem dX3_hasOpen_31 : decode cX3_hasOpen 31 = .ok (.invokeinterface 60 2, 5) := by decide +kernel
theorem dX3_hasOpen_36 : decode cX3_hasOpen 36 = .ok (.checkcast 64, 3) := dk_192 0 64 (dk_at dksX3_hasOpen_1 14 rfl rfl)
theorem dX3_hasOpen_39 : decode cX3_hasOpen 39 = .ok (.getfield 74, 3) := dk_180 0 74 (dk_at dksX3_hasOpen_1 17 rfl rfl)
theorem dX3_hasOpen_42 : decode cX3_hasOpen 42 = .ok (.iload_n 1, 1) := dk_27 (dk_at dksX3_hasOpen_1 20 rfl rfl)
theorem dX3_hasOpen_43 : decode cX3_hasOpen 43 = .ok (.if_icmp .ne 49, 3) := dk_160 0 49 (dk_at dksX3_hasOpen_1 21 rfl rfl)
theorem dX3_hasOpen_46 : decode cX3_hasOpen 46 = .ok (.aload_n 0, 1) := dk_42 (dk_at dksX3_hasOpen_2 0 rfl rfl)
theorem dX3_hasOpen_47 : decode cX3_hasOpen 47 = .ok (.getfield 20, 3) := dk_180 0 20 (dk_at dksX3_hasOpen_2 1 rfl rfl)
theorem dX3_hasOpen_50 : decode cX3_hasOpen 50 = .ok (.iload 5, 2) := dk_21 5 (dk_at dksX3_hasOpen_2 4 rfl rfl)
theorem dX3_hasOpen_52 : decode cX3_hasOpen 52 = .ok (.invokeinterface 60 2, 5) := by decide +kernel
theorem dX3_hasOpen_57 : decode cX3_hasOpen 57 = .ok (.checkcast 64, 3) := dk_192 0 64 (dk_at dksX3_hasOpen_2 11 rfl rfl)
theorem dX3_hasOpen_60 : decode cX3_hasOpen 60 = .ok (.getfield 77, 3) := dk_180 0 77 (dk_at dksX3_hasOpen_2 14 rfl rfl)
theorem dX3_hasOpen_63 : decode cX3_hasOpen 63 = .ok (.iload_n 2, 1) := dk_28 (dk_at dksX3_hasOpen_2 17 rfl rfl)
theorem dX3_hasOpen_64 : decode cX3_hasOpen 64 = .ok (.if_icmp .ne 28, 3) := dk_160 0 28 (dk_at dksX3_hasOpen_2 18 rfl rfl)
theorem dX3_hasOpen_67 : decode cX3_hasOpen 67 = .ok (.aload_n 0, 1) := dk_42 (dk_at dksX3_hasOpen_2 21 rfl rfl)
theorem dX3_hasOpen_68 : decode cX3_hasOpen 68 = .ok (.getfield 20, 3) := dk_180 0 20 (dk_at dksX3_hasOpen_3 0 rfl rfl)
theorem dX3_hasOpen_71 : decode cX3_hasOpen 71 = .ok (.iload 5, 2) := dk_21 5 (dk_at dksX3_hasOpen_3 3 rfl rfl)
theorem dX3_hasOpen_73 : decode cX3_hasOpen 73 = .ok (.invokeinterface 60 2, 5) := by decide +kernel
theorem dX3_hasOpen_78 : decode cX3_hasOpen 78 = .ok (.checkcast 64, 3) := dk_192 0 64 (dk_at dksX3_hasOpen_3 10 rfl rfl)
theorem dX3_hasOpen_81 : decode cX3_hasOpen 81 = .ok (.getfield 80, 3) := dk_180 0 80 (dk_at dksX3_hasOpen_3 13 rfl rfl)
theorem dX3_hasOpen_84 : decode cX3_hasOpen 84 = .ok (.iload_n 3, 1) := dk_29 (dk_at dksX3_hasOpen_3 16 rfl rfl)
theorem dX3_hasOpen_85 : decode cX3_hasOpen 85 = .ok (.if_icmp .ne 7, 3) := dk_160 0 7 (dk_at dksX3_hasOpen_3 17 rfl rfl)
theorem dX3_hasOpen_88 : decode cX3_hasOpen 88 = .ok (.iconst 1, 1) := dk_4 (dk_at dksX3_hasOpen_3 20 rfl rfl)
theorem dX3_hasOpen_89 : decode cX3_hasOpen 89 = .ok (.goto 4, 3) := dk_167 0 4 (dk_at dksX3_hasOpen_3 21 rfl rfl)
theorem dX3_hasOpen_92 : decode cX3_hasOpen 92 = .ok (.iconst 0, 1) := dk_3 (dk_at dksX3_hasOpen_4 0 rfl rfl)
theorem dX3_hasOpen_93 : decode cX3_hasOpen 93 = .ok (.istore 4, 2) := dk_54 4 (dk_at dksX3_hasOpen_4 1 rfl rfl)
theorem dX3_hasOpen_95 : decode cX3_hasOpen 95 = .ok (.iinc 5 1, 3) := dk_132 5 1 (dk_at dksX3_hasOpen_4 3 rfl rfl)
theorem dX3_hasOpen_98 : decode cX3_hasOpen 98 = .ok (.goto (-92), 3) := dk_167 255 164 (dk_at dksX3_hasOpen_4 6 rfl rfl)
theorem dX3_hasOpen_101 : decode cX3_hasOpen 101 = .ok (.iload 4, 2) := dk_21 4 (dk_at dksX3_hasOpen_4 9 rfl rfl)
theorem dX3_hasOpen_103 : decode cX3_hasOpen 103 = .ok (.ireturn, 1) := dk_172 (dk_at dksX3_hasOpen_4 11 rfl rfl)
abbrev cX3_meets : ByteArray := prog_12_method_5_code
def yX3_meets : MethodName := ⟨RX3, "meets", "(II)V"⟩
def dkwX3_meets_1 : List UInt8 := [177]
abbrev dktX3_meets_1 : List UInt8 := dkwX3_meets_1 ++ []
def dkwX3_meets_0 : List UInt8 := [42, 180, 0, 9, 27, 92, 46, 4, 28, 120, 128, 79, 42, 180, 0, 9, 28, 92, 46, 4, 27, 120, 128, 79]
abbrev dktX3_meets_0 : List UInt8 := dkwX3_meets_0 ++ dktX3_meets_1
theorem dksX3_meets_0 : cX3_meets.data.toList.drop 0 = dktX3_meets_0 := by decide +kernel
theorem dksX3_meets_1 : cX3_meets.data.toList.drop 24 = dktX3_meets_1 := dk_seg dksX3_meets_0 24 rfl rfl
theorem dX3_meets_0 : decode cX3_meets 0 = .ok (.aload_n 0, 1) := dk_42 (dk_at dksX3_meets_0 0 rfl rfl)
theorem dX3_meets_1 : decode cX3_meets 1 = .ok (.getfield 9, 3) := dk_180 0 9 (dk_at dksX3_meets_0 1 rfl rfl)
theorem dX3_meets_4 : decode cX3_meets 4 = .ok (.iload_n 1, 1) := dk_27 (dk_at dksX3_meets_0 4 rfl rfl)
theorem dX3_meets_5 : decode cX3_meets 5 = .ok (.dup2, 1) := dk_92 (dk_at dksX3_meets_0 5 rfl rfl)
theorem dX3_meets_6 : decode cX3_meets 6 = .ok (.iaload, 1) := dk_46 (dk_at dksX3_meets_0 6 rfl rfl)
theorem dX3_meets_7 : decode cX3_meets 7 = .ok (.iconst 1, 1) := dk_4 (dk_at dksX3_meets_0 7 rfl rfl)
theorem dX3_meets_8 : decode cX3_meets 8 = .ok (.iload_n 2, 1) := dk_28 (dk_at dksX3_meets_0 8 rfl rfl)
theorem dX3_meets_9 : decode cX3_meets 9 = .ok (.ishl, 1) := dk_120 (dk_at dksX3_meets_0 9 rfl rfl)
theorem dX3_meets_10 : decode cX3_meets 10 = .ok (.ior, 1) := dk_128 (dk_at dksX3_meets_0 10 rfl rfl)
theorem dX3_meets_11 : decode cX3_meets 11 = .ok (.iastore, 1) := dk_79 (dk_at dksX3_meets_0 11 rfl rfl)
theorem dX3_meets_12 : decode cX3_meets 12 = .ok (.aload_n 0, 1) := dk_42 (dk_at dksX3_meets_0 12 rfl rfl)
theorem dX3_meets_13 : decode cX3_meets 13 = .ok (.getfield 9, 3) := dk_180 0 9 (dk_at dksX3_meets_0 13 rfl rfl)
theorem dX3_meets_16 : decode cX3_meets 16 = .ok (.iload_n 2, 1) := dk_28 (dk_at dksX3_meets_0 16 rfl rfl)
theorem dX3_meets_17 : decode cX3_meets 17 = .ok (.dup2, 1) := dk_92 (dk_at dksX3_meets_0 17 rfl rfl)
theorem dX3_meets_18 : decode cX3_meets 18 = .ok (.iaload, 1) := dk_46 (dk_at dksX3_meets_0 18 rfl rfl)
theorem dX3_meets_19 : decode cX3_meets 19 = .ok (.iconst 1, 1) := dk_4 (dk_at dksX3_meets_0 19 rfl rfl)
theorem dX3_meets_20 : decode cX3_meets 20 = .ok (.iload_n 1, 1) := dk_27 (dk_at dksX3_meets_0 20 rfl rfl)
theorem dX3_meets_21 : decode cX3_meets 21 = .ok (.ishl, 1) := dk_120 (dk_at dksX3_meets_0 21 rfl rfl)
theorem dX3_meets_22 : decode cX3_meets 22 = .ok (.ior, 1) := dk_128 (dk_at dksX3_meets_0 22 rfl rfl)
theorem dX3_meets_23 : decode cX3_meets 23 = .ok (.iastore, 1) := dk_79 (dk_at dksX3_meets_0 23 rfl rfl)
theorem dX3_meets_24 : decode cX3_meets 24 = .ok (.return_, 1) := dk_177 (dk_at dksX3_meets_1 0 rfl rfl)
abbrev cX3_debt : ByteArray := prog_12_method_7_code
def yX3_debt : MethodName := ⟨RX3, "debt", "(II)LCardBowl$Debt;"⟩
def dkwX3_debt_3 : List UInt8 := [1, 176]
abbrev dktX3_debt_3 : List UInt8 := dkwX3_debt_3 ++ []
def dkwX3_debt_2 : List UInt8 := [42, 180, 0, 20, 21, 4, 185, 0, 60, 2, 0, 192, 0, 64, 176, 132, 3, 255, 132, 4, 1, 167, 255, 193]
abbrev dktX3_debt_2 : List UInt8 := dkwX3_debt_2 ++ dktX3_debt_3
def dkwX3_debt_1 : List UInt8 := [21, 4, 185, 0, 60, 2, 0, 192, 0, 64, 180, 0, 74, 27, 159, 0, 6, 167, 0, 25, 29, 154, 0, 18]
abbrev dktX3_debt_1 : List UInt8 := dkwX3_debt_1 ++ dktX3_debt_2
def dkwX3_debt_0 : List UInt8 := [28, 62, 3, 54, 4, 21, 4, 42, 180, 0, 20, 185, 0, 56, 1, 0, 162, 0, 55, 42, 180, 0, 20]
abbrev dktX3_debt_0 : List UInt8 := dkwX3_debt_0 ++ dktX3_debt_1
theorem dksX3_debt_0 : cX3_debt.data.toList.drop 0 = dktX3_debt_0 := by decide +kernel
theorem dksX3_debt_1 : cX3_debt.data.toList.drop 23 = dktX3_debt_1 := dk_seg dksX3_debt_0 23 rfl rfl
theorem dksX3_debt_2 : cX3_debt.data.toList.drop 47 = dktX3_debt_2 := dk_seg dksX3_debt_1 24 rfl rfl
theorem dksX3_debt_3 : cX3_debt.data.toList.drop 71 = dktX3_debt_3 := dk_seg dksX3_debt_2 24 rfl rfl
theorem dX3_debt_0 : decode cX3_debt 0 = .ok (.iload_n 2, 1) := dk_28 (dk_at dksX3_debt_0 0 rfl rfl)
theorem dX3_debt_1 : decode cX3_debt 1 = .ok (.istore_n 3, 1) := dk_62 (dk_at dksX3_debt_0 1 rfl rfl)
theorem dX3_debt_2 : decode cX3_debt 2 = .ok (.iconst 0, 1) := dk_3 (dk_at dksX3_debt_0 2 rfl rfl)
theorem dX3_debt_3 : decode cX3_debt 3 = .ok (.istore 4, 2) := dk_54 4 (dk_at dksX3_debt_0 3 rfl rfl)
theorem dX3_debt_5 : decode cX3_debt 5 = .ok (.iload 4, 2) := dk_21 4 (dk_at dksX3_debt_0 5 rfl rfl)
theorem dX3_debt_7 : decode cX3_debt 7 = .ok (.aload_n 0, 1) := dk_42 (dk_at dksX3_debt_0 7 rfl rfl)
theorem dX3_debt_8 : decode cX3_debt 8 = .ok (.getfield 20, 3) := dk_180 0 20 (dk_at dksX3_debt_0 8 rfl rfl)
theorem dX3_debt_11 : decode cX3_debt 11 = .ok (.invokeinterface 56 1, 5) := by decide +kernel
theorem dX3_debt_16 : decode cX3_debt 16 = .ok (.if_icmp .ge 55, 3) := dk_162 0 55 (dk_at dksX3_debt_0 16 rfl rfl)
theorem dX3_debt_19 : decode cX3_debt 19 = .ok (.aload_n 0, 1) := dk_42 (dk_at dksX3_debt_0 19 rfl rfl)
theorem dX3_debt_20 : decode cX3_debt 20 = .ok (.getfield 20, 3) := dk_180 0 20 (dk_at dksX3_debt_0 20 rfl rfl)
theorem dX3_debt_23 : decode cX3_debt 23 = .ok (.iload 4, 2) := dk_21 4 (dk_at dksX3_debt_1 0 rfl rfl)
theorem dX3_debt_25 : decode cX3_debt 25 = .ok (.invokeinterface 60 2, 5) := by decide +kernel
theorem dX3_debt_30 : decode cX3_debt 30 = .ok (.checkcast 64, 3) := dk_192 0 64 (dk_at dksX3_debt_1 7 rfl rfl)
theorem dX3_debt_33 : decode cX3_debt 33 = .ok (.getfield 74, 3) := dk_180 0 74 (dk_at dksX3_debt_1 10 rfl rfl)
theorem dX3_debt_36 : decode cX3_debt 36 = .ok (.iload_n 1, 1) := dk_27 (dk_at dksX3_debt_1 13 rfl rfl)
theorem dX3_debt_37 : decode cX3_debt 37 = .ok (.if_icmp .eq 6, 3) := dk_159 0 6 (dk_at dksX3_debt_1 14 rfl rfl)
theorem dX3_debt_40 : decode cX3_debt 40 = .ok (.goto 25, 3) := dk_167 0 25 (dk_at dksX3_debt_1 17 rfl rfl)
theorem dX3_debt_43 : decode cX3_debt 43 = .ok (.iload_n 3, 1) := dk_29 (dk_at dksX3_debt_1 20 rfl rfl)
theorem dX3_debt_44 : decode cX3_debt 44 = .ok (.ifCond .ne 18, 3) := dk_154 0 18 (dk_at dksX3_debt_1 21 rfl rfl)
theorem dX3_debt_47 : decode cX3_debt 47 = .ok (.aload_n 0, 1) := dk_42 (dk_at dksX3_debt_2 0 rfl rfl)
theorem dX3_debt_48 : decode cX3_debt 48 = .ok (.getfield 20, 3) := dk_180 0 20 (dk_at dksX3_debt_2 1 rfl rfl)
theorem dX3_debt_51 : decode cX3_debt 51 = .ok (.iload 4, 2) := dk_21 4 (dk_at dksX3_debt_2 4 rfl rfl)
theorem dX3_debt_53 : decode cX3_debt 53 = .ok (.invokeinterface 60 2, 5) := by decide +kernel
theorem dX3_debt_58 : decode cX3_debt 58 = .ok (.checkcast 64, 3) := dk_192 0 64 (dk_at dksX3_debt_2 11 rfl rfl)
theorem dX3_debt_61 : decode cX3_debt 61 = .ok (.areturn, 1) := dk_176 (dk_at dksX3_debt_2 14 rfl rfl)
theorem dX3_debt_62 : decode cX3_debt 62 = .ok (.iinc 3 (-1), 3) := dk_132 3 255 (dk_at dksX3_debt_2 15 rfl rfl)
theorem dX3_debt_65 : decode cX3_debt 65 = .ok (.iinc 4 1, 3) := dk_132 4 1 (dk_at dksX3_debt_2 18 rfl rfl)
theorem dX3_debt_68 : decode cX3_debt 68 = .ok (.goto (-63), 3) := dk_167 255 193 (dk_at dksX3_debt_2 21 rfl rfl)
theorem dX3_debt_71 : decode cX3_debt 71 = .ok (.aconst_null, 1) := dk_1 (dk_at dksX3_debt_3 0 rfl rfl)
theorem dX3_debt_72 : decode cX3_debt 72 = .ok (.areturn, 1) := dk_176 (dk_at dksX3_debt_3 1 rfl rfl)
abbrev cX3_greatest : ByteArray := prog_12_method_12_code
def yX3_greatest : MethodName := ⟨RX3, "greatest", "(II)I"⟩
def dkwX3_greatest_3 : List UInt8 := [185, 0, 60, 2, 0, 192, 0, 64, 180, 0, 80, 184, 0, 161, 62, 132, 4, 1, 167, 255, 175, 29, 172]
abbrev dktX3_greatest_3 : List UInt8 := dkwX3_greatest_3 ++ []
def dkwX3_greatest_2 : List UInt8 := [185, 0, 60, 2, 0, 192, 0, 64, 180, 0, 77, 28, 160, 0, 25, 29, 42, 180, 0, 20, 21, 4]
abbrev dktX3_greatest_2 : List UInt8 := dkwX3_greatest_2 ++ dktX3_greatest_3
def dkwX3_greatest_1 : List UInt8 := [21, 4, 185, 0, 60, 2, 0, 192, 0, 64, 180, 0, 74, 27, 160, 0, 46, 42, 180, 0, 20, 21, 4]
abbrev dktX3_greatest_1 : List UInt8 := dkwX3_greatest_1 ++ dktX3_greatest_2
def dkwX3_greatest_0 : List UInt8 := [2, 62, 3, 54, 4, 21, 4, 42, 180, 0, 20, 185, 0, 56, 1, 0, 162, 0, 73, 42, 180, 0, 20]
abbrev dktX3_greatest_0 : List UInt8 := dkwX3_greatest_0 ++ dktX3_greatest_1
theorem dksX3_greatest_0 : cX3_greatest.data.toList.drop 0 = dktX3_greatest_0 := by decide +kernel
theorem dksX3_greatest_1 : cX3_greatest.data.toList.drop 23 = dktX3_greatest_1 := dk_seg dksX3_greatest_0 23 rfl rfl
theorem dksX3_greatest_2 : cX3_greatest.data.toList.drop 46 = dktX3_greatest_2 := dk_seg dksX3_greatest_1 23 rfl rfl
theorem dksX3_greatest_3 : cX3_greatest.data.toList.drop 68 = dktX3_greatest_3 := dk_seg dksX3_greatest_2 22 rfl rfl
theorem dX3_greatest_0 : decode cX3_greatest 0 = .ok (.iconst (-1), 1) := dk_2 (dk_at dksX3_greatest_0 0 rfl rfl)
theorem dX3_greatest_1 : decode cX3_greatest 1 = .ok (.istore_n 3, 1) := dk_62 (dk_at dksX3_greatest_0 1 rfl rfl)
theorem dX3_greatest_2 : decode cX3_greatest 2 = .ok (.iconst 0, 1) := dk_3 (dk_at dksX3_greatest_0 2 rfl rfl)
theorem dX3_greatest_3 : decode cX3_greatest 3 = .ok (.istore 4, 2) := dk_54 4 (dk_at dksX3_greatest_0 3 rfl rfl)
theorem dX3_greatest_5 : decode cX3_greatest 5 = .ok (.iload 4, 2) := dk_21 4 (dk_at dksX3_greatest_0 5 rfl rfl)
theorem dX3_greatest_7 : decode cX3_greatest 7 = .ok (.aload_n 0, 1) := dk_42 (dk_at dksX3_greatest_0 7 rfl rfl)
theorem dX3_greatest_8 : decode cX3_greatest 8 = .ok (.getfield 20, 3) := dk_180 0 20 (dk_at dksX3_greatest_0 8 rfl rfl)
theorem dX3_greatest_11 : decode cX3_greatest 11 = .ok (.invokeinterface 56 1, 5) := by decide +kernel
theorem dX3_greatest_16 : decode cX3_greatest 16 = .ok (.if_icmp .ge 73, 3) := dk_162 0 73 (dk_at dksX3_greatest_0 16 rfl rfl)
theorem dX3_greatest_19 : decode cX3_greatest 19 = .ok (.aload_n 0, 1) := dk_42 (dk_at dksX3_greatest_0 19 rfl rfl)
theorem dX3_greatest_20 : decode cX3_greatest 20 = .ok (.getfield 20, 3) := dk_180 0 20 (dk_at dksX3_greatest_0 20 rfl rfl)
theorem dX3_greatest_23 : decode cX3_greatest 23 = .ok (.iload 4, 2) := dk_21 4 (dk_at dksX3_greatest_1 0 rfl rfl)
theorem dX3_greatest_25 : decode cX3_greatest 25 = .ok (.invokeinterface 60 2, 5) := by decide +kernel
theorem dX3_greatest_30 : decode cX3_greatest 30 = .ok (.checkcast 64, 3) := dk_192 0 64 (dk_at dksX3_greatest_1 7 rfl rfl)
theorem dX3_greatest_33 : decode cX3_greatest 33 = .ok (.getfield 74, 3) := dk_180 0 74 (dk_at dksX3_greatest_1 10 rfl rfl)
theorem dX3_greatest_36 : decode cX3_greatest 36 = .ok (.iload_n 1, 1) := dk_27 (dk_at dksX3_greatest_1 13 rfl rfl)
theorem dX3_greatest_37 : decode cX3_greatest 37 = .ok (.if_icmp .ne 46, 3) := dk_160 0 46 (dk_at dksX3_greatest_1 14 rfl rfl)
theorem dX3_greatest_40 : decode cX3_greatest 40 = .ok (.aload_n 0, 1) := dk_42 (dk_at dksX3_greatest_1 17 rfl rfl)
theorem dX3_greatest_41 : decode cX3_greatest 41 = .ok (.getfield 20, 3) := dk_180 0 20 (dk_at dksX3_greatest_1 18 rfl rfl)
theorem dX3_greatest_44 : decode cX3_greatest 44 = .ok (.iload 4, 2) := dk_21 4 (dk_at dksX3_greatest_1 21 rfl rfl)
theorem dX3_greatest_46 : decode cX3_greatest 46 = .ok (.invokeinterface 60 2, 5) := by decide +kernel
theorem dX3_greatest_51 : decode cX3_greatest 51 = .ok (.checkcast 64, 3) := dk_192 0 64 (dk_at dksX3_greatest_2 5 rfl rfl)
theorem dX3_greatest_54 : decode cX3_greatest 54 = .ok (.getfield 77, 3) := dk_180 0 77 (dk_at dksX3_greatest_2 8 rfl rfl)
theorem dX3_greatest_57 : decode cX3_greatest 57 = .ok (.iload_n 2, 1) := dk_28 (dk_at dksX3_greatest_2 11 rfl rfl)
theorem dX3_greatest_58 : decode cX3_greatest 58 = .ok (.if_icmp .ne 25, 3) := dk_160 0 25 (dk_at dksX3_greatest_2 12 rfl rfl)
theorem dX3_greatest_61 : decode cX3_greatest 61 = .ok (.iload_n 3, 1) := dk_29 (dk_at dksX3_greatest_2 15 rfl rfl)
theorem dX3_greatest_62 : decode cX3_greatest 62 = .ok (.aload_n 0, 1) := dk_42 (dk_at dksX3_greatest_2 16 rfl rfl)
theorem dX3_greatest_63 : decode cX3_greatest 63 = .ok (.getfield 20, 3) := dk_180 0 20 (dk_at dksX3_greatest_2 17 rfl rfl)
theorem dX3_greatest_66 : decode cX3_greatest 66 = .ok (.iload 4, 2) := dk_21 4 (dk_at dksX3_greatest_2 20 rfl rfl)
theorem dX3_greatest_68 : decode cX3_greatest 68 = .ok (.invokeinterface 60 2, 5) := by decide +kernel
theorem dX3_greatest_73 : decode cX3_greatest 73 = .ok (.checkcast 64, 3) := dk_192 0 64 (dk_at dksX3_greatest_3 5 rfl rfl)
theorem dX3_greatest_76 : decode cX3_greatest 76 = .ok (.getfield 80, 3) := dk_180 0 80 (dk_at dksX3_greatest_3 8 rfl rfl)
theorem dX3_greatest_79 : decode cX3_greatest 79 = .ok (.invokestatic 161, 3) := dk_184 0 161 (dk_at dksX3_greatest_3 11 rfl rfl)
theorem dX3_greatest_82 : decode cX3_greatest 82 = .ok (.istore_n 3, 1) := dk_62 (dk_at dksX3_greatest_3 14 rfl rfl)
theorem dX3_greatest_83 : decode cX3_greatest 83 = .ok (.iinc 4 1, 3) := dk_132 4 1 (dk_at dksX3_greatest_3 15 rfl rfl)
theorem dX3_greatest_86 : decode cX3_greatest 86 = .ok (.goto (-81), 3) := dk_167 255 175 (dk_at dksX3_greatest_3 18 rfl rfl)
theorem dX3_greatest_89 : decode cX3_greatest 89 = .ok (.iload_n 3, 1) := dk_29 (dk_at dksX3_greatest_3 21 rfl rfl)
theorem dX3_greatest_90 : decode cX3_greatest 90 = .ok (.ireturn, 1) := dk_172 (dk_at dksX3_greatest_3 22 rfl rfl)
abbrev cX3_worth : ByteArray := prog_12_method_13_code
def yX3_worth : MethodName := ⟨RX3, "worth", "(II)I"⟩
def dkwX3_worth_4 : List UInt8 := [167, 255, 171, 29, 172]
abbrev dktX3_worth_4 : List UInt8 := dkwX3_worth_4 ++ []
def dkwX3_worth_3 : List UInt8 := [185, 0, 60, 2, 0, 192, 0, 64, 180, 0, 80, 4, 96, 167, 0, 4, 3, 96, 62, 132, 4, 1]
abbrev dktX3_worth_3 : List UInt8 := dkwX3_worth_3 ++ dktX3_worth_4
def dkwX3_worth_2 : List UInt8 := [185, 0, 60, 2, 0, 192, 0, 64, 180, 0, 77, 28, 160, 0, 25, 42, 180, 0, 20, 21, 4]
abbrev dktX3_worth_2 : List UInt8 := dkwX3_worth_2 ++ dktX3_worth_3
def dkwX3_worth_1 : List UInt8 := [21, 4, 185, 0, 60, 2, 0, 192, 0, 64, 180, 0, 74, 27, 160, 0, 46, 42, 180, 0, 20, 21, 4]
abbrev dktX3_worth_1 : List UInt8 := dkwX3_worth_1 ++ dktX3_worth_2
def dkwX3_worth_0 : List UInt8 := [3, 62, 3, 54, 4, 21, 4, 42, 180, 0, 20, 185, 0, 56, 1, 0, 162, 0, 77, 29, 42, 180, 0, 20]
abbrev dktX3_worth_0 : List UInt8 := dkwX3_worth_0 ++ dktX3_worth_1
theorem dksX3_worth_0 : cX3_worth.data.toList.drop 0 = dktX3_worth_0 := by decide +kernel
theorem dksX3_worth_1 : cX3_worth.data.toList.drop 24 = dktX3_worth_1 := dk_seg dksX3_worth_0 24 rfl rfl
theorem dksX3_worth_2 : cX3_worth.data.toList.drop 47 = dktX3_worth_2 := dk_seg dksX3_worth_1 23 rfl rfl
theorem dksX3_worth_3 : cX3_worth.data.toList.drop 68 = dktX3_worth_3 := dk_seg dksX3_worth_2 21 rfl rfl
theorem dksX3_worth_4 : cX3_worth.data.toList.drop 90 = dktX3_worth_4 := dk_seg dksX3_worth_3 22 rfl rfl
theorem dX3_worth_0 : decode cX3_worth 0 = .ok (.iconst 0, 1) := dk_3 (dk_at dksX3_worth_0 0 rfl rfl)
theorem dX3_worth_1 : decode cX3_worth 1 = .ok (.istore_n 3, 1) := dk_62 (dk_at dksX3_worth_0 1 rfl rfl)
theorem dX3_worth_2 : decode cX3_worth 2 = .ok (.iconst 0, 1) := dk_3 (dk_at dksX3_worth_0 2 rfl rfl)
theorem dX3_worth_3 : decode cX3_worth 3 = .ok (.istore 4, 2) := dk_54 4 (dk_at dksX3_worth_0 3 rfl rfl)
theorem dX3_worth_5 : decode cX3_worth 5 = .ok (.iload 4, 2) := dk_21 4 (dk_at dksX3_worth_0 5 rfl rfl)
theorem dX3_worth_7 : decode cX3_worth 7 = .ok (.aload_n 0, 1) := dk_42 (dk_at dksX3_worth_0 7 rfl rfl)
theorem dX3_worth_8 : decode cX3_worth 8 = .ok (.getfield 20, 3) := dk_180 0 20 (dk_at dksX3_worth_0 8 rfl rfl)
theorem dX3_worth_11 : decode cX3_worth 11 = .ok (.invokeinterface 56 1, 5) := by decide +kernel
theorem dX3_worth_16 : decode cX3_worth 16 = .ok (.if_icmp .ge 77, 3) := dk_162 0 77 (dk_at dksX3_worth_0 16 rfl rfl)
theorem dX3_worth_19 : decode cX3_worth 19 = .ok (.iload_n 3, 1) := dk_29 (dk_at dksX3_worth_0 19 rfl rfl)
theorem dX3_worth_20 : decode cX3_worth 20 = .ok (.aload_n 0, 1) := dk_42 (dk_at dksX3_worth_0 20 rfl rfl)
theorem dX3_worth_21 : decode cX3_worth 21 = .ok (.getfield 20, 3) := dk_180 0 20 (dk_at dksX3_worth_0 21 rfl rfl)
theorem dX3_worth_24 : decode cX3_worth 24 = .ok (.iload 4, 2) := dk_21 4 (dk_at dksX3_worth_1 0 rfl rfl)
theorem dX3_worth_26 : decode cX3_worth 26 = .ok (.invokeinterface 60 2, 5) := by decide +kernel
theorem dX3_worth_31 : decode cX3_worth 31 = .ok (.checkcast 64, 3) := dk_192 0 64 (dk_at dksX3_worth_1 7 rfl rfl)
theorem dX3_worth_34 : decode cX3_worth 34 = .ok (.getfield 74, 3) := dk_180 0 74 (dk_at dksX3_worth_1 10 rfl rfl)
theorem dX3_worth_37 : decode cX3_worth 37 = .ok (.iload_n 1, 1) := dk_27 (dk_at dksX3_worth_1 13 rfl rfl)
theorem dX3_worth_38 : decode cX3_worth 38 = .ok (.if_icmp .ne 46, 3) := dk_160 0 46 (dk_at dksX3_worth_1 14 rfl rfl)
theorem dX3_worth_41 : decode cX3_worth 41 = .ok (.aload_n 0, 1) := dk_42 (dk_at dksX3_worth_1 17 rfl rfl)
theorem dX3_worth_42 : decode cX3_worth 42 = .ok (.getfield 20, 3) := dk_180 0 20 (dk_at dksX3_worth_1 18 rfl rfl)
theorem dX3_worth_45 : decode cX3_worth 45 = .ok (.iload 4, 2) := dk_21 4 (dk_at dksX3_worth_1 21 rfl rfl)
theorem dX3_worth_47 : decode cX3_worth 47 = .ok (.invokeinterface 60 2, 5) := by decide +kernel
theorem dX3_worth_52 : decode cX3_worth 52 = .ok (.checkcast 64, 3) := dk_192 0 64 (dk_at dksX3_worth_2 5 rfl rfl)
theorem dX3_worth_55 : decode cX3_worth 55 = .ok (.getfield 77, 3) := dk_180 0 77 (dk_at dksX3_worth_2 8 rfl rfl)
theorem dX3_worth_58 : decode cX3_worth 58 = .ok (.iload_n 2, 1) := dk_28 (dk_at dksX3_worth_2 11 rfl rfl)
theorem dX3_worth_59 : decode cX3_worth 59 = .ok (.if_icmp .ne 25, 3) := dk_160 0 25 (dk_at dksX3_worth_2 12 rfl rfl)
theorem dX3_worth_62 : decode cX3_worth 62 = .ok (.aload_n 0, 1) := dk_42 (dk_at dksX3_worth_2 15 rfl rfl)
theorem dX3_worth_63 : decode cX3_worth 63 = .ok (.getfield 20, 3) := dk_180 0 20 (dk_at dksX3_worth_2 16 rfl rfl)
theorem dX3_worth_66 : decode cX3_worth 66 = .ok (.iload 4, 2) := dk_21 4 (dk_at dksX3_worth_2 19 rfl rfl)
theorem dX3_worth_68 : decode cX3_worth 68 = .ok (.invokeinterface 60 2, 5) := by decide +kernel
theorem dX3_worth_73 : decode cX3_worth 73 = .ok (.checkcast 64, 3) := dk_192 0 64 (dk_at dksX3_worth_3 5 rfl rfl)
theorem dX3_worth_76 : decode cX3_worth 76 = .ok (.getfield 80, 3) := dk_180 0 80 (dk_at dksX3_worth_3 8 rfl rfl)
theorem dX3_worth_79 : decode cX3_worth 79 = .ok (.iconst 1, 1) := dk_4 (dk_at dksX3_worth_3 11 rfl rfl)
theorem dX3_worth_80 : decode cX3_worth 80 = .ok (.iadd, 1) := dk_96 (dk_at dksX3_worth_3 12 rfl rfl)
theorem dX3_worth_81 : decode cX3_worth 81 = .ok (.goto 4, 3) := dk_167 0 4 (dk_at dksX3_worth_3 13 rfl rfl)
theorem dX3_worth_84 : decode cX3_worth 84 = .ok (.iconst 0, 1) := dk_3 (dk_at dksX3_worth_3 16 rfl rfl)
theorem dX3_worth_85 : decode cX3_worth 85 = .ok (.iadd, 1) := dk_96 (dk_at dksX3_worth_3 17 rfl rfl)
theorem dX3_worth_86 : decode cX3_worth 86 = .ok (.istore_n 3, 1) := dk_62 (dk_at dksX3_worth_3 18 rfl rfl)
theorem dX3_worth_87 : decode cX3_worth 87 = .ok (.iinc 4 1, 3) := dk_132 4 1 (dk_at dksX3_worth_3 19 rfl rfl)
theorem dX3_worth_90 : decode cX3_worth 90 = .ok (.goto (-85), 3) := dk_167 255 171 (dk_at dksX3_worth_4 0 rfl rfl)
theorem dX3_worth_93 : decode cX3_worth 93 = .ok (.iload_n 3, 1) := dk_29 (dk_at dksX3_worth_4 3 rfl rfl)
theorem dX3_worth_94 : decode cX3_worth 94 = .ok (.ireturn, 1) := dk_172 (dk_at dksX3_worth_4 4 rfl rfl)
abbrev cX3_reach : ByteArray := prog_12_method_11_code
def yX3_reach : MethodName := ⟨RX3, "reach", "(III)I"⟩
def dkwX3_reach_4 : List UInt8 := [167, 255, 185, 167, 255, 168, 21, 4, 172]
abbrev dktX3_reach_4 : List UInt8 := dkwX3_reach_4 ++ []
def dkwX3_reach_3 : List UInt8 := [160, 0, 13, 21, 7, 4, 28, 120, 2, 130, 126, 54, 7, 21, 4, 21, 7, 128, 54, 4, 132, 6, 1]
abbrev dktX3_reach_3 : List UInt8 := dkwX3_reach_3 ++ dktX3_reach_4
def dkwX3_reach_2 : List UInt8 := [46, 54, 7, 21, 6, 28, 160, 0, 13, 21, 7, 4, 29, 120, 2, 130, 126, 54, 7, 21, 6, 29]
abbrev dktX3_reach_2 : List UInt8 := dkwX3_reach_2 ++ dktX3_reach_3
def dkwX3_reach_1 : List UInt8 := [16, 16, 162, 0, 70, 21, 5, 21, 6, 184, 0, 70, 154, 0, 6, 167, 0, 51, 42, 180, 0, 9, 21, 6]
abbrev dktX3_reach_1 : List UInt8 := dkwX3_reach_1 ++ dktX3_reach_2
def dkwX3_reach_0 : List UInt8 := [4, 27, 120, 54, 4, 3, 54, 5, 21, 5, 21, 4, 159, 0, 87, 21, 4, 54, 5, 3, 54, 6, 21, 6]
abbrev dktX3_reach_0 : List UInt8 := dkwX3_reach_0 ++ dktX3_reach_1
theorem dksX3_reach_0 : cX3_reach.data.toList.drop 0 = dktX3_reach_0 := by decide +kernel
theorem dksX3_reach_1 : cX3_reach.data.toList.drop 24 = dktX3_reach_1 := dk_seg dksX3_reach_0 24 rfl rfl
theorem dksX3_reach_2 : cX3_reach.data.toList.drop 48 = dktX3_reach_2 := dk_seg dksX3_reach_1 24 rfl rfl
theorem dksX3_reach_3 : cX3_reach.data.toList.drop 70 = dktX3_reach_3 := dk_seg dksX3_reach_2 22 rfl rfl
theorem dksX3_reach_4 : cX3_reach.data.toList.drop 93 = dktX3_reach_4 := dk_seg dksX3_reach_3 23 rfl rfl
theorem dX3_reach_0 : decode cX3_reach 0 = .ok (.iconst 1, 1) := dk_4 (dk_at dksX3_reach_0 0 rfl rfl)
theorem dX3_reach_1 : decode cX3_reach 1 = .ok (.iload_n 1, 1) := dk_27 (dk_at dksX3_reach_0 1 rfl rfl)
theorem dX3_reach_2 : decode cX3_reach 2 = .ok (.ishl, 1) := dk_120 (dk_at dksX3_reach_0 2 rfl rfl)
theorem dX3_reach_3 : decode cX3_reach 3 = .ok (.istore 4, 2) := dk_54 4 (dk_at dksX3_reach_0 3 rfl rfl)
theorem dX3_reach_5 : decode cX3_reach 5 = .ok (.iconst 0, 1) := dk_3 (dk_at dksX3_reach_0 5 rfl rfl)
theorem dX3_reach_6 : decode cX3_reach 6 = .ok (.istore 5, 2) := dk_54 5 (dk_at dksX3_reach_0 6 rfl rfl)
theorem dX3_reach_8 : decode cX3_reach 8 = .ok (.iload 5, 2) := dk_21 5 (dk_at dksX3_reach_0 8 rfl rfl)
theorem dX3_reach_10 : decode cX3_reach 10 = .ok (.iload 4, 2) := dk_21 4 (dk_at dksX3_reach_0 10 rfl rfl)
theorem dX3_reach_12 : decode cX3_reach 12 = .ok (.if_icmp .eq 87, 3) := dk_159 0 87 (dk_at dksX3_reach_0 12 rfl rfl)
theorem dX3_reach_15 : decode cX3_reach 15 = .ok (.iload 4, 2) := dk_21 4 (dk_at dksX3_reach_0 15 rfl rfl)
theorem dX3_reach_17 : decode cX3_reach 17 = .ok (.istore 5, 2) := dk_54 5 (dk_at dksX3_reach_0 17 rfl rfl)
theorem dX3_reach_19 : decode cX3_reach 19 = .ok (.iconst 0, 1) := dk_3 (dk_at dksX3_reach_0 19 rfl rfl)
theorem dX3_reach_20 : decode cX3_reach 20 = .ok (.istore 6, 2) := dk_54 6 (dk_at dksX3_reach_0 20 rfl rfl)
theorem dX3_reach_22 : decode cX3_reach 22 = .ok (.iload 6, 2) := dk_21 6 (dk_at dksX3_reach_0 22 rfl rfl)
theorem dX3_reach_24 : decode cX3_reach 24 = .ok (.bipush 16, 2) := dk_16 16 (dk_at dksX3_reach_1 0 rfl rfl)
theorem dX3_reach_26 : decode cX3_reach 26 = .ok (.if_icmp .ge 70, 3) := dk_162 0 70 (dk_at dksX3_reach_1 2 rfl rfl)
theorem dX3_reach_29 : decode cX3_reach 29 = .ok (.iload 5, 2) := dk_21 5 (dk_at dksX3_reach_1 5 rfl rfl)
theorem dX3_reach_31 : decode cX3_reach 31 = .ok (.iload 6, 2) := dk_21 6 (dk_at dksX3_reach_1 7 rfl rfl)
theorem dX3_reach_33 : decode cX3_reach 33 = .ok (.invokestatic 70, 3) := dk_184 0 70 (dk_at dksX3_reach_1 9 rfl rfl)
theorem dX3_reach_36 : decode cX3_reach 36 = .ok (.ifCond .ne 6, 3) := dk_154 0 6 (dk_at dksX3_reach_1 12 rfl rfl)
theorem dX3_reach_39 : decode cX3_reach 39 = .ok (.goto 51, 3) := dk_167 0 51 (dk_at dksX3_reach_1 15 rfl rfl)
theorem dX3_reach_42 : decode cX3_reach 42 = .ok (.aload_n 0, 1) := dk_42 (dk_at dksX3_reach_1 18 rfl rfl)
theorem dX3_reach_43 : decode cX3_reach 43 = .ok (.getfield 9, 3) := dk_180 0 9 (dk_at dksX3_reach_1 19 rfl rfl)
theorem dX3_reach_46 : decode cX3_reach 46 = .ok (.iload 6, 2) := dk_21 6 (dk_at dksX3_reach_1 22 rfl rfl)
theorem dX3_reach_48 : decode cX3_reach 48 = .ok (.iaload, 1) := dk_46 (dk_at dksX3_reach_2 0 rfl rfl)
theorem dX3_reach_49 : decode cX3_reach 49 = .ok (.istore 7, 2) := dk_54 7 (dk_at dksX3_reach_2 1 rfl rfl)
theorem dX3_reach_51 : decode cX3_reach 51 = .ok (.iload 6, 2) := dk_21 6 (dk_at dksX3_reach_2 3 rfl rfl)
theorem dX3_reach_53 : decode cX3_reach 53 = .ok (.iload_n 2, 1) := dk_28 (dk_at dksX3_reach_2 5 rfl rfl)
theorem dX3_reach_54 : decode cX3_reach 54 = .ok (.if_icmp .ne 13, 3) := dk_160 0 13 (dk_at dksX3_reach_2 6 rfl rfl)
theorem dX3_reach_57 : decode cX3_reach 57 = .ok (.iload 7, 2) := dk_21 7 (dk_at dksX3_reach_2 9 rfl rfl)
theorem dX3_reach_59 : decode cX3_reach 59 = .ok (.iconst 1, 1) := dk_4 (dk_at dksX3_reach_2 11 rfl rfl)
theorem dX3_reach_60 : decode cX3_reach 60 = .ok (.iload_n 3, 1) := dk_29 (dk_at dksX3_reach_2 12 rfl rfl)
theorem dX3_reach_61 : decode cX3_reach 61 = .ok (.ishl, 1) := dk_120 (dk_at dksX3_reach_2 13 rfl rfl)
theorem dX3_reach_62 : decode cX3_reach 62 = .ok (.iconst (-1), 1) := dk_2 (dk_at dksX3_reach_2 14 rfl rfl)
theorem dX3_reach_63 : decode cX3_reach 63 = .ok (.ixor, 1) := dk_130 (dk_at dksX3_reach_2 15 rfl rfl)
theorem dX3_reach_64 : decode cX3_reach 64 = .ok (.iand, 1) := dk_126 (dk_at dksX3_reach_2 16 rfl rfl)
theorem dX3_reach_65 : decode cX3_reach 65 = .ok (.istore 7, 2) := dk_54 7 (dk_at dksX3_reach_2 17 rfl rfl)
theorem dX3_reach_67 : decode cX3_reach 67 = .ok (.iload 6, 2) := dk_21 6 (dk_at dksX3_reach_2 19 rfl rfl)
theorem dX3_reach_69 : decode cX3_reach 69 = .ok (.iload_n 3, 1) := dk_29 (dk_at dksX3_reach_2 21 rfl rfl)
theorem dX3_reach_70 : decode cX3_reach 70 = .ok (.if_icmp .ne 13, 3) := dk_160 0 13 (dk_at dksX3_reach_3 0 rfl rfl)
theorem dX3_reach_73 : decode cX3_reach 73 = .ok (.iload 7, 2) := dk_21 7 (dk_at dksX3_reach_3 3 rfl rfl)
theorem dX3_reach_75 : decode cX3_reach 75 = .ok (.iconst 1, 1) := dk_4 (dk_at dksX3_reach_3 5 rfl rfl)
theorem dX3_reach_76 : decode cX3_reach 76 = .ok (.iload_n 2, 1) := dk_28 (dk_at dksX3_reach_3 6 rfl rfl)
theorem dX3_reach_77 : decode cX3_reach 77 = .ok (.ishl, 1) := dk_120 (dk_at dksX3_reach_3 7 rfl rfl)
theorem dX3_reach_78 : decode cX3_reach 78 = .ok (.iconst (-1), 1) := dk_2 (dk_at dksX3_reach_3 8 rfl rfl)
theorem dX3_reach_79 : decode cX3_reach 79 = .ok (.ixor, 1) := dk_130 (dk_at dksX3_reach_3 9 rfl rfl)
theorem dX3_reach_80 : decode cX3_reach 80 = .ok (.iand, 1) := dk_126 (dk_at dksX3_reach_3 10 rfl rfl)
theorem dX3_reach_81 : decode cX3_reach 81 = .ok (.istore 7, 2) := dk_54 7 (dk_at dksX3_reach_3 11 rfl rfl)
theorem dX3_reach_83 : decode cX3_reach 83 = .ok (.iload 4, 2) := dk_21 4 (dk_at dksX3_reach_3 13 rfl rfl)
theorem dX3_reach_85 : decode cX3_reach 85 = .ok (.iload 7, 2) := dk_21 7 (dk_at dksX3_reach_3 15 rfl rfl)
theorem dX3_reach_87 : decode cX3_reach 87 = .ok (.ior, 1) := dk_128 (dk_at dksX3_reach_3 17 rfl rfl)
theorem dX3_reach_88 : decode cX3_reach 88 = .ok (.istore 4, 2) := dk_54 4 (dk_at dksX3_reach_3 18 rfl rfl)
theorem dX3_reach_90 : decode cX3_reach 90 = .ok (.iinc 6 1, 3) := dk_132 6 1 (dk_at dksX3_reach_3 20 rfl rfl)
theorem dX3_reach_93 : decode cX3_reach 93 = .ok (.goto (-71), 3) := dk_167 255 185 (dk_at dksX3_reach_4 0 rfl rfl)
theorem dX3_reach_96 : decode cX3_reach 96 = .ok (.goto (-88), 3) := dk_167 255 168 (dk_at dksX3_reach_4 3 rfl rfl)
theorem dX3_reach_99 : decode cX3_reach 99 = .ok (.iload 4, 2) := dk_21 4 (dk_at dksX3_reach_4 6 rfl rfl)
theorem dX3_reach_101 : decode cX3_reach 101 = .ok (.ireturn, 1) := dk_172 (dk_at dksX3_reach_4 8 rfl rfl)
abbrev cX3_becomes : ByteArray := prog_12_method_3_code
def yX3_becomes : MethodName := ⟨RX3, "becomes", "(LCardBowl$Ledger;)V"⟩
def dkwX3_becomes_4 : List UInt8 := [180, 0, 52, 181, 0, 52, 177]
abbrev dktX3_becomes_4 : List UInt8 := dkwX3_becomes_4 ++ []
def dkwX3_becomes_3 : List UInt8 := [185, 0, 60, 2, 0, 192, 0, 64, 185, 0, 66, 2, 0, 87, 132, 2, 1, 167, 255, 217, 42, 43]
abbrev dktX3_becomes_3 : List UInt8 := dkwX3_becomes_3 ++ dktX3_becomes_4
def dkwX3_becomes_2 : List UInt8 := [180, 0, 20, 185, 0, 56, 1, 0, 162, 0, 32, 42, 180, 0, 20, 43, 180, 0, 20, 28]
abbrev dktX3_becomes_2 : List UInt8 := dkwX3_becomes_2 ++ dktX3_becomes_3
def dkwX3_becomes_1 : List UInt8 := [180, 0, 9, 3, 16, 16, 184, 0, 41, 42, 180, 0, 20, 185, 0, 47, 1, 0, 3, 61, 28, 43]
abbrev dktX3_becomes_1 : List UInt8 := dkwX3_becomes_1 ++ dktX3_becomes_2
def dkwX3_becomes_0 : List UInt8 := [42, 43, 180, 0, 31, 181, 0, 31, 42, 43, 180, 0, 35, 181, 0, 35, 43, 180, 0, 9, 3, 42]
abbrev dktX3_becomes_0 : List UInt8 := dkwX3_becomes_0 ++ dktX3_becomes_1
theorem dksX3_becomes_0 : cX3_becomes.data.toList.drop 0 = dktX3_becomes_0 := by decide +kernel
theorem dksX3_becomes_1 : cX3_becomes.data.toList.drop 22 = dktX3_becomes_1 := dk_seg dksX3_becomes_0 22 rfl rfl
theorem dksX3_becomes_2 : cX3_becomes.data.toList.drop 44 = dktX3_becomes_2 := dk_seg dksX3_becomes_1 22 rfl rfl
theorem dksX3_becomes_3 : cX3_becomes.data.toList.drop 64 = dktX3_becomes_3 := dk_seg dksX3_becomes_2 20 rfl rfl
theorem dksX3_becomes_4 : cX3_becomes.data.toList.drop 86 = dktX3_becomes_4 := dk_seg dksX3_becomes_3 22 rfl rfl
theorem dX3_becomes_0 : decode cX3_becomes 0 = .ok (.aload_n 0, 1) := dk_42 (dk_at dksX3_becomes_0 0 rfl rfl)
theorem dX3_becomes_1 : decode cX3_becomes 1 = .ok (.aload_n 1, 1) := dk_43 (dk_at dksX3_becomes_0 1 rfl rfl)
theorem dX3_becomes_2 : decode cX3_becomes 2 = .ok (.getfield 31, 3) := dk_180 0 31 (dk_at dksX3_becomes_0 2 rfl rfl)
theorem dX3_becomes_5 : decode cX3_becomes 5 = .ok (.putfield 31, 3) := dk_181 0 31 (dk_at dksX3_becomes_0 5 rfl rfl)
theorem dX3_becomes_8 : decode cX3_becomes 8 = .ok (.aload_n 0, 1) := dk_42 (dk_at dksX3_becomes_0 8 rfl rfl)
theorem dX3_becomes_9 : decode cX3_becomes 9 = .ok (.aload_n 1, 1) := dk_43 (dk_at dksX3_becomes_0 9 rfl rfl)
theorem dX3_becomes_10 : decode cX3_becomes 10 = .ok (.getfield 35, 3) := dk_180 0 35 (dk_at dksX3_becomes_0 10 rfl rfl)
theorem dX3_becomes_13 : decode cX3_becomes 13 = .ok (.putfield 35, 3) := dk_181 0 35 (dk_at dksX3_becomes_0 13 rfl rfl)
theorem dX3_becomes_16 : decode cX3_becomes 16 = .ok (.aload_n 1, 1) := dk_43 (dk_at dksX3_becomes_0 16 rfl rfl)
theorem dX3_becomes_17 : decode cX3_becomes 17 = .ok (.getfield 9, 3) := dk_180 0 9 (dk_at dksX3_becomes_0 17 rfl rfl)
theorem dX3_becomes_20 : decode cX3_becomes 20 = .ok (.iconst 0, 1) := dk_3 (dk_at dksX3_becomes_0 20 rfl rfl)
theorem dX3_becomes_21 : decode cX3_becomes 21 = .ok (.aload_n 0, 1) := dk_42 (dk_at dksX3_becomes_0 21 rfl rfl)
theorem dX3_becomes_22 : decode cX3_becomes 22 = .ok (.getfield 9, 3) := dk_180 0 9 (dk_at dksX3_becomes_1 0 rfl rfl)
theorem dX3_becomes_25 : decode cX3_becomes 25 = .ok (.iconst 0, 1) := dk_3 (dk_at dksX3_becomes_1 3 rfl rfl)
theorem dX3_becomes_26 : decode cX3_becomes 26 = .ok (.bipush 16, 2) := dk_16 16 (dk_at dksX3_becomes_1 4 rfl rfl)
theorem dX3_becomes_28 : decode cX3_becomes 28 = .ok (.invokestatic 41, 3) := dk_184 0 41 (dk_at dksX3_becomes_1 6 rfl rfl)
theorem dX3_becomes_31 : decode cX3_becomes 31 = .ok (.aload_n 0, 1) := dk_42 (dk_at dksX3_becomes_1 9 rfl rfl)
theorem dX3_becomes_32 : decode cX3_becomes 32 = .ok (.getfield 20, 3) := dk_180 0 20 (dk_at dksX3_becomes_1 10 rfl rfl)
theorem dX3_becomes_35 : decode cX3_becomes 35 = .ok (.invokeinterface 47 1, 5) := by decide +kernel
theorem dX3_becomes_40 : decode cX3_becomes 40 = .ok (.iconst 0, 1) := dk_3 (dk_at dksX3_becomes_1 18 rfl rfl)
theorem dX3_becomes_41 : decode cX3_becomes 41 = .ok (.istore_n 2, 1) := dk_61 (dk_at dksX3_becomes_1 19 rfl rfl)
theorem dX3_becomes_42 : decode cX3_becomes 42 = .ok (.iload_n 2, 1) := dk_28 (dk_at dksX3_becomes_1 20 rfl rfl)
theorem dX3_becomes_43 : decode cX3_becomes 43 = .ok (.aload_n 1, 1) := dk_43 (dk_at dksX3_becomes_1 21 rfl rfl)
theorem dX3_becomes_44 : decode cX3_becomes 44 = .ok (.getfield 20, 3) := dk_180 0 20 (dk_at dksX3_becomes_2 0 rfl rfl)
theorem dX3_becomes_47 : decode cX3_becomes 47 = .ok (.invokeinterface 56 1, 5) := by decide +kernel
theorem dX3_becomes_52 : decode cX3_becomes 52 = .ok (.if_icmp .ge 32, 3) := dk_162 0 32 (dk_at dksX3_becomes_2 8 rfl rfl)
theorem dX3_becomes_55 : decode cX3_becomes 55 = .ok (.aload_n 0, 1) := dk_42 (dk_at dksX3_becomes_2 11 rfl rfl)
theorem dX3_becomes_56 : decode cX3_becomes 56 = .ok (.getfield 20, 3) := dk_180 0 20 (dk_at dksX3_becomes_2 12 rfl rfl)
theorem dX3_becomes_59 : decode cX3_becomes 59 = .ok (.aload_n 1, 1) := dk_43 (dk_at dksX3_becomes_2 15 rfl rfl)
theorem dX3_becomes_60 : decode cX3_becomes 60 = .ok (.getfield 20, 3) := dk_180 0 20 (dk_at dksX3_becomes_2 16 rfl rfl)
theorem dX3_becomes_63 : decode cX3_becomes 63 = .ok (.iload_n 2, 1) := dk_28 (dk_at dksX3_becomes_2 19 rfl rfl)
theorem dX3_becomes_64 : decode cX3_becomes 64 = .ok (.invokeinterface 60 2, 5) := by decide +kernel
theorem dX3_becomes_69 : decode cX3_becomes 69 = .ok (.checkcast 64, 3) := dk_192 0 64 (dk_at dksX3_becomes_3 5 rfl rfl)
theorem dX3_becomes_72 : decode cX3_becomes 72 = .ok (.invokeinterface 66 2, 5) := by decide +kernel
theorem dX3_becomes_77 : decode cX3_becomes 77 = .ok (.pop, 1) := dk_87 (dk_at dksX3_becomes_3 13 rfl rfl)
theorem dX3_becomes_78 : decode cX3_becomes 78 = .ok (.iinc 2 1, 3) := dk_132 2 1 (dk_at dksX3_becomes_3 14 rfl rfl)
theorem dX3_becomes_81 : decode cX3_becomes 81 = .ok (.goto (-39), 3) := dk_167 255 217 (dk_at dksX3_becomes_3 17 rfl rfl)
theorem dX3_becomes_84 : decode cX3_becomes 84 = .ok (.aload_n 0, 1) := dk_42 (dk_at dksX3_becomes_3 20 rfl rfl)
theorem dX3_becomes_85 : decode cX3_becomes 85 = .ok (.aload_n 1, 1) := dk_43 (dk_at dksX3_becomes_3 21 rfl rfl)
theorem dX3_becomes_86 : decode cX3_becomes 86 = .ok (.getfield 52, 3) := dk_180 0 52 (dk_at dksX3_becomes_4 0 rfl rfl)
theorem dX3_becomes_89 : decode cX3_becomes 89 = .ok (.putfield 52, 3) := dk_181 0 52 (dk_at dksX3_becomes_4 3 rfl rfl)
theorem dX3_becomes_92 : decode cX3_becomes 92 = .ok (.return_, 1) := dk_177 (dk_at dksX3_becomes_4 6 rfl rfl)
theorem q116 : (Jvm.Cond.initialized "CardBowl$Ledger") ∈ lw_all := lw_g (lw_at lw_m1 7 rfl) rfl
theorem q407 : (Jvm.Cond.fieldLinkNest "CardBowl$Ledger" (38 : Nat) "CardBowl$Town" "knows" "[I" "CardBowl") ∈ lw_tbl := lw_at lw_m2 58 rfl
theorem q430 : (Jvm.Cond.instantiable "CardBowl$Ledger" (6 : Nat)) ∈ lw_all := lw_g (lw_at lw_m2 81 rfl) rfl
theorem q432 : (Jvm.Cond.instanceMethod ({ cls := "CardBowl$Ledger", name := "<init>", desc := "()V" } : Jvm.MethodName)) ∈ lw_all := lw_g (lw_at lw_m2 83 rfl) rfl
theorem q433 : (Jvm.Cond.code ({ cls := "CardBowl$Ledger", name := "<init>", desc := "()V" } : Jvm.MethodName) prog_12_method_1_code (1 : Nat) (Option.none : Option Jvm.ClassFile.FieldType)) ∈ lw_all := lw_g (lw_at lw_m2 84 rfl) rfl
theorem q434 : (Jvm.Cond.methodLink "CardBowl$Ledger" (3 : Nat) ({ cls := "java/lang/Object", name := "<init>", desc := "()V" } : Jvm.MethodName)) ∈ lw_all := lw_g (lw_at lw_m2 85 rfl) rfl
theorem q435 : (Jvm.Cond.classLink "CardBowl$Ledger" (15 : Nat) "java/util/ArrayList") ∈ lw_all := lw_g (lw_at lw_m2 86 rfl) rfl
theorem q436 : (Jvm.Cond.methodLink "CardBowl$Ledger" (17 : Nat) ({ cls := "java/util/ArrayList", name := "<init>", desc := "(I)V" } : Jvm.MethodName)) ∈ lw_all := lw_g (lw_at lw_m2 87 rfl) rfl
theorem q437 : (Jvm.Cond.classLink "CardBowl$Ledger" (24 : Nat) "CardBowl$Asked") ∈ lw_all := lw_g (lw_at lw_m2 88 rfl) rfl
theorem q439 : (Jvm.Cond.methodLinkNest "CardBowl$Ledger" (26 : Nat) ({ cls := "CardBowl$Asked", name := "<init>", desc := "()V" } : Jvm.MethodName) "CardBowl") ∈ lw_tbl := lw_at lw_m2 90 rfl
theorem q444 : (Jvm.Cond.fieldLinkNest "CardBowl$Ledger" (92 : Nat) "CardBowl$Asked" "mine" "I" "CardBowl") ∈ lw_tbl := lw_at lw_m2 95 rfl
theorem q446 : (Jvm.Cond.fieldLinkNest "CardBowl$Ledger" (95 : Nat) "CardBowl$Asked" "theirs" "I" "CardBowl") ∈ lw_tbl := lw_at lw_m2 97 rfl
theorem q448 : (Jvm.Cond.fieldLinkNest "CardBowl$Ledger" (102 : Nat) "CardBowl$Asked" "debts" "I" "CardBowl") ∈ lw_tbl := lw_at lw_m2 99 rfl
theorem q450 : (Jvm.Cond.fieldLinkNest "CardBowl$Ledger" (104 : Nat) "CardBowl$Asked" "day" "I" "CardBowl") ∈ lw_tbl := lw_at lw_m2 101 rfl
theorem q452 : (Jvm.Cond.fieldLinkNest "CardBowl$Ledger" (110 : Nat) "CardBowl$Asked" "known" "I" "CardBowl") ∈ lw_tbl := lw_at lw_m2 103 rfl
theorem q468 : (Jvm.Cond.fieldLink "CardBowl$Ledger" (31 : Nat) "CardBowl$Ledger" "town" "LCardBowl$Town;") ∈ lw_all := lw_g (lw_at lw_m2 119 rfl) rfl
theorem q469 : (Jvm.Cond.fieldLink "CardBowl$Ledger" (35 : Nat) "CardBowl$Ledger" "rules" "Ljava/util/List;") ∈ lw_all := lw_g (lw_at lw_m2 120 rfl) rfl
theorem q470 : (Jvm.Cond.fieldLink "CardBowl$Ledger" (9 : Nat) "CardBowl$Ledger" "knows" "[I") ∈ lw_all := lw_g (lw_at lw_m2 121 rfl) rfl
theorem q472 : (Jvm.Cond.fieldLink "CardBowl$Ledger" (20 : Nat) "CardBowl$Ledger" "debts" "Ljava/util/List;") ∈ lw_all := lw_g (lw_at lw_m2 123 rfl) rfl
theorem q474 : (Jvm.Cond.fieldLink "CardBowl$Ledger" (27 : Nat) "CardBowl$Ledger" "asked" "LCardBowl$Asked;") ∈ lw_all := lw_g (lw_at lw_m2 125 rfl) rfl
theorem q475 : (Jvm.Cond.fieldLink "CardBowl$Ledger" (52 : Nat) "CardBowl$Ledger" "paid" "I") ∈ lw_all := lw_g (lw_at lw_m2 126 rfl) rfl
theorem q477 : (Jvm.Cond.lays "CardBowl$Ledger" "CardBowl$Ledger" "town" "LCardBowl$Town;") ∈ lw_all := lw_g (lw_at lw_m2 128 rfl) rfl
theorem q478 : (Jvm.Cond.soleField "CardBowl$Ledger" "town") ∈ lw_all := lw_g (lw_at lw_m2 129 rfl) rfl
theorem q479 : (Jvm.Cond.lays "CardBowl$Ledger" "CardBowl$Ledger" "rules" "Ljava/util/List;") ∈ lw_all := lw_g (lw_at lw_m2 130 rfl) rfl
theorem q480 : (Jvm.Cond.soleField "CardBowl$Ledger" "rules") ∈ lw_all := lw_g (lw_at lw_m2 131 rfl) rfl
theorem q481 : (Jvm.Cond.laysFinal "CardBowl$Ledger" "CardBowl$Ledger" "knows" "[I") ∈ lw_all := lw_g (lw_at lw_m2 132 rfl) rfl
theorem q482 : (Jvm.Cond.soleField "CardBowl$Ledger" "knows") ∈ lw_all := lw_g (lw_at lw_m2 133 rfl) rfl
theorem q483 : (Jvm.Cond.laysFinal "CardBowl$Ledger" "CardBowl$Ledger" "debts" "Ljava/util/List;") ∈ lw_all := lw_g (lw_at lw_m2 134 rfl) rfl
theorem q484 : (Jvm.Cond.soleField "CardBowl$Ledger" "debts") ∈ lw_all := lw_g (lw_at lw_m2 135 rfl) rfl
theorem q485 : (Jvm.Cond.laysFinal "CardBowl$Ledger" "CardBowl$Ledger" "asked" "LCardBowl$Asked;") ∈ lw_all := lw_g (lw_at lw_m2 136 rfl) rfl
theorem q486 : (Jvm.Cond.soleField "CardBowl$Ledger" "asked") ∈ lw_all := lw_g (lw_at lw_m2 137 rfl) rfl
theorem q487 : (Jvm.Cond.lays "CardBowl$Ledger" "CardBowl$Ledger" "paid" "I") ∈ lw_all := lw_g (lw_at lw_m2 138 rfl) rfl
theorem q488 : (Jvm.Cond.soleField "CardBowl$Ledger" "paid") ∈ lw_all := lw_g (lw_at lw_m2 139 rfl) rfl
theorem q489 : (Jvm.Cond.superclass "CardBowl$Ledger" "java/lang/Object") ∈ lw_all := lw_g (lw_at lw_m2 140 rfl) rfl
theorem q497 : (Jvm.Cond.instanceMethod ({ cls := "CardBowl$Ledger", name := "begins", desc := "(LCardBowl$Town;Ljava/util/List;)V" } : Jvm.MethodName)) ∈ lw_all := lw_g (lw_at lw_m2 148 rfl) rfl
theorem q498 : (Jvm.Cond.selects "CardBowl$Ledger" ({ cls := "CardBowl$Ledger", name := "begins", desc := "(LCardBowl$Town;Ljava/util/List;)V" } : Jvm.MethodName) ({ cls := "CardBowl$Ledger", name := "begins", desc := "(LCardBowl$Town;Ljava/util/List;)V" } : Jvm.MethodName)) ∈ lw_all := lw_g (lw_at lw_m2 149 rfl) rfl
theorem q499 : (Jvm.Cond.code ({ cls := "CardBowl$Ledger", name := "begins", desc := "(LCardBowl$Town;Ljava/util/List;)V" } : Jvm.MethodName) prog_12_method_2_code (3 : Nat) (Option.none : Option Jvm.ClassFile.FieldType)) ∈ lw_all := lw_g (lw_at lw_m2 150 rfl) rfl
theorem q500 : (Jvm.Cond.methodLink "CardBowl$Ledger" (41 : Nat) ({ cls := "java/lang/System", name := "arraycopy", desc := "(Ljava/lang/Object;ILjava/lang/Object;II)V" } : Jvm.MethodName)) ∈ lw_all := lw_g (lw_at lw_m2 151 rfl) rfl
theorem q501 : (Jvm.Cond.interfaceEntry "CardBowl$Ledger" (47 : Nat)) ∈ lw_tbl := lw_at lw_m2 152 rfl
theorem q502 : (Jvm.Cond.methodLink "CardBowl$Ledger" (47 : Nat) ({ cls := "java/util/List", name := "clear", desc := "()V" } : Jvm.MethodName)) ∈ lw_all := lw_g (lw_at lw_m2 153 rfl) rfl
theorem q907 : (Jvm.Cond.fieldLinkNest "CardBowl$Ledger" (134 : Nat) "CardBowl$Rule" "owes" "I" "CardBowl") ∈ lw_tbl := lw_at lw_m4 78 rfl
theorem q910 : (Jvm.Cond.fieldLinkNest "CardBowl$Ledger" (141 : Nat) "CardBowl$Rule" "within" "I" "CardBowl") ∈ lw_tbl := lw_at lw_m4 81 rfl
theorem q1043 : (Jvm.Cond.selects "CardBowl$Ledger" ({ cls := "java/lang/Object", name := "getClass", desc := "()Ljava/lang/Class;" } : Jvm.MethodName) ({ cls := "java/lang/Object", name := "getClass", desc := "()Ljava/lang/Class;" } : Jvm.MethodName)) ∈ lw_all := lw_g (lw_at lw_m4 214 rfl) rfl
theorem q1085 : (Jvm.Cond.fieldLinkNest "CardBowl$Ledger" (87 : Nat) "CardBowl$House" "rank" "I" "CardBowl") ∈ lw_tbl := lw_at lw_m5 16 rfl
theorem q1199 : (Jvm.Cond.instanceMethod ({ cls := "CardBowl$Ledger", name := "areKnown", desc := "(II)Z" } : Jvm.MethodName)) ∈ lw_all := lw_g (lw_at lw_m5 130 rfl) rfl
theorem q1200 : (Jvm.Cond.selects "CardBowl$Ledger" ({ cls := "CardBowl$Ledger", name := "areKnown", desc := "(II)Z" } : Jvm.MethodName) ({ cls := "CardBowl$Ledger", name := "areKnown", desc := "(II)Z" } : Jvm.MethodName)) ∈ lw_all := lw_g (lw_at lw_m5 131 rfl) rfl
theorem q1201 : (Jvm.Cond.code ({ cls := "CardBowl$Ledger", name := "areKnown", desc := "(II)Z" } : Jvm.MethodName) prog_12_method_4_code (3 : Nat) (Option.some Jvm.ClassFile.FieldType.boolean)) ∈ lw_all := lw_g (lw_at lw_m5 132 rfl) rfl
theorem q1202 : (Jvm.Cond.methodLinkNest "CardBowl$Ledger" (70 : Nat) ({ cls := "CardBowl", name := "has", desc := "(II)Z" } : Jvm.MethodName) "CardBowl") ∈ lw_tbl := lw_at lw_m5 133 rfl
theorem q1261 : (Jvm.Cond.instanceMethod ({ cls := "CardBowl$Ledger", name := "does", desc := "(IILCardBowl$Paying;I)I" } : Jvm.MethodName)) ∈ lw_all := lw_g (lw_at lw_m5 192 rfl) rfl
theorem q1262 : (Jvm.Cond.selects "CardBowl$Ledger" ({ cls := "CardBowl$Ledger", name := "does", desc := "(IILCardBowl$Paying;I)I" } : Jvm.MethodName) ({ cls := "CardBowl$Ledger", name := "does", desc := "(IILCardBowl$Paying;I)I" } : Jvm.MethodName)) ∈ lw_all := lw_g (lw_at lw_m5 193 rfl) rfl
theorem q1263 : (Jvm.Cond.code ({ cls := "CardBowl$Ledger", name := "does", desc := "(IILCardBowl$Paying;I)I" } : Jvm.MethodName) prog_12_method_10_code (8 : Nat) (Option.some Jvm.ClassFile.FieldType.int)) ∈ lw_all := lw_g (lw_at lw_m5 194 rfl) rfl
theorem q1264 : (Jvm.Cond.interfaceEntry "CardBowl$Ledger" (56 : Nat)) ∈ lw_tbl := lw_at lw_m5 195 rfl
theorem q1265 : (Jvm.Cond.methodLink "CardBowl$Ledger" (56 : Nat) ({ cls := "java/util/List", name := "size", desc := "()I" } : Jvm.MethodName)) ∈ lw_all := lw_g (lw_at lw_m5 196 rfl) rfl
theorem q1266 : (Jvm.Cond.interfaceEntry "CardBowl$Ledger" (60 : Nat)) ∈ lw_tbl := lw_at lw_m5 197 rfl
theorem q1267 : (Jvm.Cond.methodLink "CardBowl$Ledger" (60 : Nat) ({ cls := "java/util/List", name := "get", desc := "(I)Ljava/lang/Object;" } : Jvm.MethodName)) ∈ lw_all := lw_g (lw_at lw_m5 198 rfl) rfl
theorem q1268 : (Jvm.Cond.classLink "CardBowl$Ledger" (64 : Nat) "CardBowl$Debt") ∈ lw_all := lw_g (lw_at lw_m5 199 rfl) rfl
theorem q1269 : (Jvm.Cond.methodLink "CardBowl$Ledger" (119 : Nat) ({ cls := "CardBowl$Paying", name := "pays", desc := "(LCardBowl$Debt;)Z" } : Jvm.MethodName)) ∈ lw_all := lw_g (lw_at lw_m5 200 rfl) rfl
theorem q1293 : (Jvm.Cond.interfaceEntry "CardBowl$Ledger" (125 : Nat)) ∈ lw_tbl := lw_at lw_m5 224 rfl
theorem q1294 : (Jvm.Cond.methodLink "CardBowl$Ledger" (125 : Nat) ({ cls := "java/util/List", name := "remove", desc := "(I)Ljava/lang/Object;" } : Jvm.MethodName)) ∈ lw_all := lw_g (lw_at lw_m5 225 rfl) rfl
theorem q1307 : (Jvm.Cond.methodLink "CardBowl$Ledger" (128 : Nat) ({ cls := "CardBowl$Paying", name := "kind", desc := "()I" } : Jvm.MethodName)) ∈ lw_all := lw_g (lw_at lw_m5 238 rfl) rfl
theorem q1308 : (Jvm.Cond.methodLink "CardBowl$Ledger" (130 : Nat) ({ cls := "CardBowl$Ledger", name := "rule", desc := "(IIII)LCardBowl$Rule;" } : Jvm.MethodName)) ∈ lw_all := lw_g (lw_at lw_m5 239 rfl) rfl
theorem q1309 : (Jvm.Cond.instanceMethod ({ cls := "CardBowl$Ledger", name := "rule", desc := "(IIII)LCardBowl$Rule;" } : Jvm.MethodName)) ∈ lw_all := lw_g (lw_at lw_m6 0 rfl) rfl
theorem q1310 : (Jvm.Cond.selects "CardBowl$Ledger" ({ cls := "CardBowl$Ledger", name := "rule", desc := "(IIII)LCardBowl$Rule;" } : Jvm.MethodName) ({ cls := "CardBowl$Ledger", name := "rule", desc := "(IIII)LCardBowl$Rule;" } : Jvm.MethodName)) ∈ lw_all := lw_g (lw_at lw_m6 1 rfl) rfl
theorem q1311 : (Jvm.Cond.code ({ cls := "CardBowl$Ledger", name := "rule", desc := "(IIII)LCardBowl$Rule;" } : Jvm.MethodName) prog_12_method_9_code (6 : Nat) (Option.some (Jvm.ClassFile.FieldType.object "CardBowl$Rule"))) ∈ lw_all := lw_g (lw_at lw_m6 2 rfl) rfl
theorem q1312 : (Jvm.Cond.methodLink "CardBowl$Ledger" (83 : Nat) ({ cls := "CardBowl$Town", name := "house", desc := "(I)LCardBowl$House;" } : Jvm.MethodName)) ∈ lw_all := lw_g (lw_at lw_m6 3 rfl) rfl
theorem q1313 : (Jvm.Cond.methodLink "CardBowl$Ledger" (98 : Nat) ({ cls := "CardBowl$Ledger", name := "debtsOf", desc := "(I)I" } : Jvm.MethodName)) ∈ lw_all := lw_g (lw_at lw_m6 4 rfl) rfl
theorem q1314 : (Jvm.Cond.instanceMethod ({ cls := "CardBowl$Ledger", name := "debtsOf", desc := "(I)I" } : Jvm.MethodName)) ∈ lw_all := lw_g (lw_at lw_m6 5 rfl) rfl
theorem q1315 : (Jvm.Cond.selects "CardBowl$Ledger" ({ cls := "CardBowl$Ledger", name := "debtsOf", desc := "(I)I" } : Jvm.MethodName) ({ cls := "CardBowl$Ledger", name := "debtsOf", desc := "(I)I" } : Jvm.MethodName)) ∈ lw_all := lw_g (lw_at lw_m6 6 rfl) rfl
theorem q1316 : (Jvm.Cond.code ({ cls := "CardBowl$Ledger", name := "debtsOf", desc := "(I)I" } : Jvm.MethodName) prog_12_method_6_code (4 : Nat) (Option.some Jvm.ClassFile.FieldType.int)) ∈ lw_all := lw_g (lw_at lw_m6 7 rfl) rfl
theorem q1317 : (Jvm.Cond.methodLink "CardBowl$Ledger" (107 : Nat) ({ cls := "CardBowl$Ledger", name := "areKnown", desc := "(II)Z" } : Jvm.MethodName)) ∈ lw_all := lw_g (lw_at lw_m6 8 rfl) rfl
theorem q1318 : (Jvm.Cond.classLink "CardBowl$Ledger" (113 : Nat) "CardBowl$Rule") ∈ lw_all := lw_g (lw_at lw_m6 9 rfl) rfl
theorem q1319 : (Jvm.Cond.methodLink "CardBowl$Ledger" (115 : Nat) ({ cls := "CardBowl$Rule", name := "holds", desc := "(ILCardBowl$Asked;)Z" } : Jvm.MethodName)) ∈ lw_all := lw_g (lw_at lw_m6 10 rfl) rfl
theorem q1351 : (Jvm.Cond.methodLink "CardBowl$Ledger" (137 : Nat) ({ cls := "CardBowl$Ledger", name := "hasOpen", desc := "(III)Z" } : Jvm.MethodName)) ∈ lw_all := lw_g (lw_at lw_m6 42 rfl) rfl
theorem q1352 : (Jvm.Cond.instanceMethod ({ cls := "CardBowl$Ledger", name := "hasOpen", desc := "(III)Z" } : Jvm.MethodName)) ∈ lw_all := lw_g (lw_at lw_m6 43 rfl) rfl
theorem q1353 : (Jvm.Cond.selects "CardBowl$Ledger" ({ cls := "CardBowl$Ledger", name := "hasOpen", desc := "(III)Z" } : Jvm.MethodName) ({ cls := "CardBowl$Ledger", name := "hasOpen", desc := "(III)Z" } : Jvm.MethodName)) ∈ lw_all := lw_g (lw_at lw_m6 44 rfl) rfl
theorem q1354 : (Jvm.Cond.code ({ cls := "CardBowl$Ledger", name := "hasOpen", desc := "(III)Z" } : Jvm.MethodName) prog_12_method_8_code (6 : Nat) (Option.some Jvm.ClassFile.FieldType.boolean)) ∈ lw_all := lw_g (lw_at lw_m6 45 rfl) rfl
theorem q1356 : (Jvm.Cond.methodLink "CardBowl$Ledger" (144 : Nat) ({ cls := "java/lang/Math", name := "min", desc := "(II)I" } : Jvm.MethodName)) ∈ lw_all := lw_g (lw_at lw_m6 47 rfl) rfl
theorem q1357 : (Jvm.Cond.methodLink "CardBowl$Ledger" (150 : Nat) ({ cls := "CardBowl$Debt", name := "<init>", desc := "(IIIII)V" } : Jvm.MethodName)) ∈ lw_all := lw_g (lw_at lw_m6 48 rfl) rfl
theorem q1362 : (Jvm.Cond.fieldLinkNest "CardBowl$Ledger" (74 : Nat) "CardBowl$Debt" "from" "I" "CardBowl") ∈ lw_tbl := lw_at lw_m6 53 rfl
theorem q1364 : (Jvm.Cond.fieldLinkNest "CardBowl$Ledger" (77 : Nat) "CardBowl$Debt" "to" "I" "CardBowl") ∈ lw_tbl := lw_at lw_m6 55 rfl
theorem q1368 : (Jvm.Cond.fieldLinkNest "CardBowl$Ledger" (80 : Nat) "CardBowl$Debt" "kind" "I" "CardBowl") ∈ lw_tbl := lw_at lw_m6 59 rfl
theorem q1385 : (Jvm.Cond.interfaceEntry "CardBowl$Ledger" (66 : Nat)) ∈ lw_tbl := lw_at lw_m6 76 rfl
theorem q1386 : (Jvm.Cond.methodLink "CardBowl$Ledger" (66 : Nat) ({ cls := "java/util/List", name := "add", desc := "(Ljava/lang/Object;)Z" } : Jvm.MethodName)) ∈ lw_all := lw_g (lw_at lw_m6 77 rfl) rfl
theorem q1387 : (Jvm.Cond.methodLink "CardBowl$Ledger" (153 : Nat) ({ cls := "CardBowl$Paying", name := "makesKnown", desc := "()Z" } : Jvm.MethodName)) ∈ lw_all := lw_g (lw_at lw_m6 78 rfl) rfl
theorem q1397 : (Jvm.Cond.methodLink "CardBowl$Ledger" (157 : Nat) ({ cls := "CardBowl$Ledger", name := "meets", desc := "(II)V" } : Jvm.MethodName)) ∈ lw_all := lw_g (lw_at lw_m6 88 rfl) rfl
theorem q1398 : (Jvm.Cond.instanceMethod ({ cls := "CardBowl$Ledger", name := "meets", desc := "(II)V" } : Jvm.MethodName)) ∈ lw_all := lw_g (lw_at lw_m6 89 rfl) rfl
theorem q1399 : (Jvm.Cond.selects "CardBowl$Ledger" ({ cls := "CardBowl$Ledger", name := "meets", desc := "(II)V" } : Jvm.MethodName) ({ cls := "CardBowl$Ledger", name := "meets", desc := "(II)V" } : Jvm.MethodName)) ∈ lw_all := lw_g (lw_at lw_m6 90 rfl) rfl
theorem q1400 : (Jvm.Cond.code ({ cls := "CardBowl$Ledger", name := "meets", desc := "(II)V" } : Jvm.MethodName) prog_12_method_5_code (3 : Nat) (Option.none : Option Jvm.ClassFile.FieldType)) ∈ lw_all := lw_g (lw_at lw_m6 91 rfl) rfl
theorem q1436 : (Jvm.Cond.instanceMethod ({ cls := "CardBowl$Ledger", name := "debt", desc := "(II)LCardBowl$Debt;" } : Jvm.MethodName)) ∈ lw_all := lw_g (lw_at lw_m6 127 rfl) rfl
theorem q1437 : (Jvm.Cond.selects "CardBowl$Ledger" ({ cls := "CardBowl$Ledger", name := "debt", desc := "(II)LCardBowl$Debt;" } : Jvm.MethodName) ({ cls := "CardBowl$Ledger", name := "debt", desc := "(II)LCardBowl$Debt;" } : Jvm.MethodName)) ∈ lw_all := lw_g (lw_at lw_m6 128 rfl) rfl
theorem q1438 : (Jvm.Cond.code ({ cls := "CardBowl$Ledger", name := "debt", desc := "(II)LCardBowl$Debt;" } : Jvm.MethodName) prog_12_method_7_code (5 : Nat) (Option.some (Jvm.ClassFile.FieldType.object "CardBowl$Debt"))) ∈ lw_all := lw_g (lw_at lw_m6 129 rfl) rfl
theorem q1484 : (Jvm.Cond.instanceMethod ({ cls := "CardBowl$Ledger", name := "greatest", desc := "(II)I" } : Jvm.MethodName)) ∈ lw_all := lw_g (lw_at lw_m6 175 rfl) rfl
theorem q1485 : (Jvm.Cond.selects "CardBowl$Ledger" ({ cls := "CardBowl$Ledger", name := "greatest", desc := "(II)I" } : Jvm.MethodName) ({ cls := "CardBowl$Ledger", name := "greatest", desc := "(II)I" } : Jvm.MethodName)) ∈ lw_all := lw_g (lw_at lw_m6 176 rfl) rfl
theorem q1486 : (Jvm.Cond.code ({ cls := "CardBowl$Ledger", name := "greatest", desc := "(II)I" } : Jvm.MethodName) prog_12_method_12_code (5 : Nat) (Option.some Jvm.ClassFile.FieldType.int)) ∈ lw_all := lw_g (lw_at lw_m6 177 rfl) rfl
theorem q1487 : (Jvm.Cond.methodLink "CardBowl$Ledger" (161 : Nat) ({ cls := "java/lang/Math", name := "max", desc := "(II)I" } : Jvm.MethodName)) ∈ lw_all := lw_g (lw_at lw_m6 178 rfl) rfl
theorem q1528 : (Jvm.Cond.instanceMethod ({ cls := "CardBowl$Ledger", name := "worth", desc := "(II)I" } : Jvm.MethodName)) ∈ lw_all := lw_g (lw_at lw_m6 219 rfl) rfl
theorem q1529 : (Jvm.Cond.selects "CardBowl$Ledger" ({ cls := "CardBowl$Ledger", name := "worth", desc := "(II)I" } : Jvm.MethodName) ({ cls := "CardBowl$Ledger", name := "worth", desc := "(II)I" } : Jvm.MethodName)) ∈ lw_all := lw_g (lw_at lw_m6 220 rfl) rfl
theorem q1530 : (Jvm.Cond.code ({ cls := "CardBowl$Ledger", name := "worth", desc := "(II)I" } : Jvm.MethodName) prog_12_method_13_code (5 : Nat) (Option.some Jvm.ClassFile.FieldType.int)) ∈ lw_all := lw_g (lw_at lw_m6 221 rfl) rfl
theorem q1604 : (Jvm.Cond.instanceMethod ({ cls := "CardBowl$Ledger", name := "reach", desc := "(III)I" } : Jvm.MethodName)) ∈ lw_all := lw_g (lw_at lw_m7 55 rfl) rfl
theorem q1605 : (Jvm.Cond.selects "CardBowl$Ledger" ({ cls := "CardBowl$Ledger", name := "reach", desc := "(III)I" } : Jvm.MethodName) ({ cls := "CardBowl$Ledger", name := "reach", desc := "(III)I" } : Jvm.MethodName)) ∈ lw_all := lw_g (lw_at lw_m7 56 rfl) rfl
theorem q1606 : (Jvm.Cond.code ({ cls := "CardBowl$Ledger", name := "reach", desc := "(III)I" } : Jvm.MethodName) prog_12_method_11_code (8 : Nat) (Option.some Jvm.ClassFile.FieldType.int)) ∈ lw_all := lw_g (lw_at lw_m7 57 rfl) rfl
theorem q1668 : (Jvm.Cond.instanceMethod ({ cls := "CardBowl$Ledger", name := "becomes", desc := "(LCardBowl$Ledger;)V" } : Jvm.MethodName)) ∈ lw_all := lw_g (lw_at lw_m7 119 rfl) rfl
theorem q1669 : (Jvm.Cond.selects "CardBowl$Ledger" ({ cls := "CardBowl$Ledger", name := "becomes", desc := "(LCardBowl$Ledger;)V" } : Jvm.MethodName) ({ cls := "CardBowl$Ledger", name := "becomes", desc := "(LCardBowl$Ledger;)V" } : Jvm.MethodName)) ∈ lw_all := lw_g (lw_at lw_m7 120 rfl) rfl
theorem q1670 : (Jvm.Cond.code ({ cls := "CardBowl$Ledger", name := "becomes", desc := "(LCardBowl$Ledger;)V" } : Jvm.MethodName) prog_12_method_3_code (3 : Nat) (Option.none : Option Jvm.ClassFile.FieldType)) ∈ lw_all := lw_g (lw_at lw_m7 121 rfl) rfl
theorem q2279 : (Jvm.Cond.castable "CardBowl$Ledger" "java/lang/Object") ∈ lw_tbl := lw_at lw_m10 10 rfl
theorem in_X3 : ∀ w ∈ wsX30, w ∈ lw_all := lw_in wsX30 [477, 479, 481, 483, 485, 487] (by decide +kernel) (by decide +kernel)
/-! CardBowl$Asked -/
set_option maxRecDepth 100000
def RX4 : String := "CardBowl$Asked"
def TX4 : u_T := fun k => match k with
  | 0 => ("CardBowl$Asked", "mine", "I", false)
  | 1 => ("CardBowl$Asked", "theirs", "I", false)
  | 2 => ("CardBowl$Asked", "debts", "I", false)
  | 3 => ("CardBowl$Asked", "day", "I", false)
  | 4 => ("CardBowl$Asked", "known", "I", false)
  | _ => ("CardBowl$Asked", "isBroken", "Z", false)
def tyX4 : Nat → FieldType := fun k => match k with
  | 0 => .int
  | 1 => .int
  | 2 => .int
  | 3 => .int
  | 4 => .int
  | _ => .boolean
abbrev wsX40 : List Cond := u_ws RX4 TX4 6
theorem nmX4 : ∀ a, a < 6 → ∀ b, b < 6 → a ≠ b → (TX4 a).2.1 ≠ (TX4 b).2.1 := by decide +kernel
theorem tyX4_ok : ∀ k, k < 6 → parseFieldDescriptor (TX4 k).2.2.1 = some (tyX4 k) := by decide +kernel
abbrev cX4_init : ByteArray := prog_4_method_1_code
def yX4_init : MethodName := ⟨RX4, "<init>", "()V"⟩
theorem dX4_init_0 : decode cX4_init 0 = .ok (.aload_n 0, 1) := by decide +kernel
theorem dX4_init_1 : decode cX4_init 1 = .ok (.invokespecial 3, 3) := by decide +kernel
theorem dX4_init_4 : decode cX4_init 4 = .ok (.return_, 1) := by decide +kernel
abbrev cX4_within : ByteArray := prog_4_method_2_code
def yX4_within : MethodName := ⟨RX4, "within", "(J)J"⟩
def dkwX4_within_1 : List UInt8 := [4, 167, 0, 4, 3, 181, 0, 9, 42, 180, 0, 9, 153, 0, 7, 9, 167, 0, 4, 31, 173]
abbrev dktX4_within_1 : List UInt8 := dkwX4_within_1 ++ []
def dkwX4_within_0 : List UInt8 := [42, 42, 180, 0, 9, 154, 0, 19, 31, 20, 0, 15, 148, 157, 0, 11, 31, 20, 0, 17, 148, 156, 0, 7]
abbrev dktX4_within_0 : List UInt8 := dkwX4_within_0 ++ dktX4_within_1
theorem dksX4_within_0 : cX4_within.data.toList.drop 0 = dktX4_within_0 := by decide +kernel
theorem dksX4_within_1 : cX4_within.data.toList.drop 24 = dktX4_within_1 := dk_seg dksX4_within_0 24 rfl rfl
theorem dX4_within_0 : decode cX4_within 0 = .ok (.aload_n 0, 1) := dk_42 (dk_at dksX4_within_0 0 rfl rfl)
theorem dX4_within_1 : decode cX4_within 1 = .ok (.aload_n 0, 1) := dk_42 (dk_at dksX4_within_0 1 rfl rfl)
theorem dX4_within_2 : decode cX4_within 2 = .ok (.getfield 9, 3) := dk_180 0 9 (dk_at dksX4_within_0 2 rfl rfl)
theorem dX4_within_5 : decode cX4_within 5 = .ok (.ifCond .ne 19, 3) := dk_154 0 19 (dk_at dksX4_within_0 5 rfl rfl)
theorem dX4_within_8 : decode cX4_within 8 = .ok (.lload_n 1, 1) := dk_31 (dk_at dksX4_within_0 8 rfl rfl)
theorem dX4_within_9 : decode cX4_within 9 = .ok (.ldc2_w 15, 3) := dk_20 0 15 (dk_at dksX4_within_0 9 rfl rfl)
theorem dX4_within_12 : decode cX4_within 12 = .ok (.lcmp, 1) := dk_148 (dk_at dksX4_within_0 12 rfl rfl)
theorem dX4_within_13 : decode cX4_within 13 = .ok (.ifCond .gt 11, 3) := dk_157 0 11 (dk_at dksX4_within_0 13 rfl rfl)
theorem dX4_within_16 : decode cX4_within 16 = .ok (.lload_n 1, 1) := dk_31 (dk_at dksX4_within_0 16 rfl rfl)
theorem dX4_within_17 : decode cX4_within 17 = .ok (.ldc2_w 17, 3) := dk_20 0 17 (dk_at dksX4_within_0 17 rfl rfl)
theorem dX4_within_20 : decode cX4_within 20 = .ok (.lcmp, 1) := dk_148 (dk_at dksX4_within_0 20 rfl rfl)
theorem dX4_within_21 : decode cX4_within 21 = .ok (.ifCond .ge 7, 3) := dk_156 0 7 (dk_at dksX4_within_0 21 rfl rfl)
theorem dX4_within_24 : decode cX4_within 24 = .ok (.iconst 1, 1) := dk_4 (dk_at dksX4_within_1 0 rfl rfl)
theorem dX4_within_25 : decode cX4_within 25 = .ok (.goto 4, 3) := dk_167 0 4 (dk_at dksX4_within_1 1 rfl rfl)
theorem dX4_within_28 : decode cX4_within 28 = .ok (.iconst 0, 1) := dk_3 (dk_at dksX4_within_1 4 rfl rfl)
theorem dX4_within_29 : decode cX4_within 29 = .ok (.putfield 9, 3) := dk_181 0 9 (dk_at dksX4_within_1 5 rfl rfl)
theorem dX4_within_32 : decode cX4_within 32 = .ok (.aload_n 0, 1) := dk_42 (dk_at dksX4_within_1 8 rfl rfl)
theorem dX4_within_33 : decode cX4_within 33 = .ok (.getfield 9, 3) := dk_180 0 9 (dk_at dksX4_within_1 9 rfl rfl)
theorem dX4_within_36 : decode cX4_within 36 = .ok (.ifCond .eq 7, 3) := dk_153 0 7 (dk_at dksX4_within_1 12 rfl rfl)
theorem dX4_within_39 : decode cX4_within 39 = .ok (.lconst 0, 1) := dk_9 (dk_at dksX4_within_1 15 rfl rfl)
theorem dX4_within_40 : decode cX4_within 40 = .ok (.goto 4, 3) := dk_167 0 4 (dk_at dksX4_within_1 16 rfl rfl)
theorem dX4_within_43 : decode cX4_within 43 = .ok (.lload_n 1, 1) := dk_31 (dk_at dksX4_within_1 19 rfl rfl)
theorem dX4_within_44 : decode cX4_within 44 = .ok (.lreturn, 1) := dk_173 (dk_at dksX4_within_1 20 rfl rfl)
theorem q117 : (Jvm.Cond.initialized "CardBowl$Asked") ∈ lw_all := lw_g (lw_at lw_m1 8 rfl) rfl
theorem q438 : (Jvm.Cond.instantiable "CardBowl$Asked" (6 : Nat)) ∈ lw_all := lw_g (lw_at lw_m2 89 rfl) rfl
theorem q440 : (Jvm.Cond.instanceMethod ({ cls := "CardBowl$Asked", name := "<init>", desc := "()V" } : Jvm.MethodName)) ∈ lw_all := lw_g (lw_at lw_m2 91 rfl) rfl
theorem q441 : (Jvm.Cond.code ({ cls := "CardBowl$Asked", name := "<init>", desc := "()V" } : Jvm.MethodName) prog_4_method_1_code (1 : Nat) (Option.none : Option Jvm.ClassFile.FieldType)) ∈ lw_all := lw_g (lw_at lw_m2 92 rfl) rfl
theorem q442 : (Jvm.Cond.methodLink "CardBowl$Asked" (3 : Nat) ({ cls := "java/lang/Object", name := "<init>", desc := "()V" } : Jvm.MethodName)) ∈ lw_all := lw_g (lw_at lw_m2 93 rfl) rfl
theorem q454 : (Jvm.Cond.fieldLink "CardBowl$Asked" (9 : Nat) "CardBowl$Asked" "isBroken" "Z") ∈ lw_all := lw_g (lw_at lw_m2 105 rfl) rfl
theorem q455 : (Jvm.Cond.lays "CardBowl$Asked" "CardBowl$Asked" "mine" "I") ∈ lw_all := lw_g (lw_at lw_m2 106 rfl) rfl
theorem q456 : (Jvm.Cond.soleField "CardBowl$Asked" "mine") ∈ lw_all := lw_g (lw_at lw_m2 107 rfl) rfl
theorem q457 : (Jvm.Cond.lays "CardBowl$Asked" "CardBowl$Asked" "theirs" "I") ∈ lw_all := lw_g (lw_at lw_m2 108 rfl) rfl
theorem q458 : (Jvm.Cond.soleField "CardBowl$Asked" "theirs") ∈ lw_all := lw_g (lw_at lw_m2 109 rfl) rfl
theorem q459 : (Jvm.Cond.lays "CardBowl$Asked" "CardBowl$Asked" "debts" "I") ∈ lw_all := lw_g (lw_at lw_m2 110 rfl) rfl
theorem q460 : (Jvm.Cond.soleField "CardBowl$Asked" "debts") ∈ lw_all := lw_g (lw_at lw_m2 111 rfl) rfl
theorem q461 : (Jvm.Cond.lays "CardBowl$Asked" "CardBowl$Asked" "day" "I") ∈ lw_all := lw_g (lw_at lw_m2 112 rfl) rfl
theorem q462 : (Jvm.Cond.soleField "CardBowl$Asked" "day") ∈ lw_all := lw_g (lw_at lw_m2 113 rfl) rfl
theorem q463 : (Jvm.Cond.lays "CardBowl$Asked" "CardBowl$Asked" "known" "I") ∈ lw_all := lw_g (lw_at lw_m2 114 rfl) rfl
theorem q464 : (Jvm.Cond.soleField "CardBowl$Asked" "known") ∈ lw_all := lw_g (lw_at lw_m2 115 rfl) rfl
theorem q465 : (Jvm.Cond.lays "CardBowl$Asked" "CardBowl$Asked" "isBroken" "Z") ∈ lw_all := lw_g (lw_at lw_m2 116 rfl) rfl
theorem q466 : (Jvm.Cond.soleField "CardBowl$Asked" "isBroken") ∈ lw_all := lw_g (lw_at lw_m2 117 rfl) rfl
theorem q467 : (Jvm.Cond.superclass "CardBowl$Asked" "java/lang/Object") ∈ lw_all := lw_g (lw_at lw_m2 118 rfl) rfl
theorem q1035 : (Jvm.Cond.selects "CardBowl$Asked" ({ cls := "java/lang/Object", name := "getClass", desc := "()Ljava/lang/Class;" } : Jvm.MethodName) ({ cls := "java/lang/Object", name := "getClass", desc := "()Ljava/lang/Class;" } : Jvm.MethodName)) ∈ lw_all := lw_g (lw_at lw_m4 206 rfl) rfl
theorem q1345 : (Jvm.Cond.instanceMethod ({ cls := "CardBowl$Asked", name := "within", desc := "(J)J" } : Jvm.MethodName)) ∈ lw_all := lw_g (lw_at lw_m6 36 rfl) rfl
theorem q1346 : (Jvm.Cond.selects "CardBowl$Asked" ({ cls := "CardBowl$Asked", name := "within", desc := "(J)J" } : Jvm.MethodName) ({ cls := "CardBowl$Asked", name := "within", desc := "(J)J" } : Jvm.MethodName)) ∈ lw_all := lw_g (lw_at lw_m6 37 rfl) rfl
theorem q1347 : (Jvm.Cond.code ({ cls := "CardBowl$Asked", name := "within", desc := "(J)J" } : Jvm.MethodName) prog_4_method_2_code (3 : Nat) (Option.some Jvm.ClassFile.FieldType.long)) ∈ lw_all := lw_g (lw_at lw_m6 38 rfl) rfl
theorem q1348 : (Jvm.Cond.constantLong "CardBowl$Asked" (15 : Nat) (1000000000 : Int64)) ∈ lw_all := lw_g (lw_at lw_m6 39 rfl) rfl
theorem q1349 : (Jvm.Cond.constantLong "CardBowl$Asked" (17 : Nat) (-1000000000 : Int64)) ∈ lw_all := lw_g (lw_at lw_m6 40 rfl) rfl
theorem q2280 : (Jvm.Cond.castable "CardBowl$Asked" "java/lang/Object") ∈ lw_tbl := lw_at lw_m10 11 rfl
theorem in_X4 : ∀ w ∈ wsX40, w ∈ lw_all := lw_in wsX40 [455, 457, 459, 461, 463, 465] (by decide +kernel) (by decide +kernel)
/-! CardBowl$Paying -/
set_option maxRecDepth 100000
def RX5 : String := "CardBowl$Paying"
abbrev cX5_init : ByteArray := prog_14_method_1_code
def yX5_init : MethodName := ⟨RX5, "<init>", "()V"⟩
theorem dX5_init_0 : decode cX5_init 0 = .ok (.aload_n 0, 1) := by decide +kernel
theorem dX5_init_1 : decode cX5_init 1 = .ok (.invokespecial 1, 3) := by decide +kernel
theorem dX5_init_4 : decode cX5_init 4 = .ok (.return_, 1) := by decide +kernel
abbrev cX5_bars : ByteArray := prog_14_method_5_code
def yX5_bars : MethodName := ⟨RX5, "bars", "(LCardBowl$House;LCardBowl$House;I)I"⟩
theorem dX5_bars_0 : decode cX5_bars 0 = .ok (.iconst 0, 1) := by decide +kernel
theorem dX5_bars_1 : decode cX5_bars 1 = .ok (.ireturn, 1) := by decide +kernel
abbrev cX5_pays : ByteArray := prog_14_method_3_code
def yX5_pays : MethodName := ⟨RX5, "pays", "(LCardBowl$Debt;)Z"⟩
def dkwX5_pays_0 : List UInt8 := [43, 180, 0, 7, 42, 182, 0, 13, 163, 0, 7, 4, 167, 0, 4, 3, 172]
abbrev dktX5_pays_0 : List UInt8 := dkwX5_pays_0 ++ []
theorem dksX5_pays_0 : cX5_pays.data.toList.drop 0 = dktX5_pays_0 := by decide +kernel
theorem dX5_pays_0 : decode cX5_pays 0 = .ok (.aload_n 1, 1) := dk_43 (dk_at dksX5_pays_0 0 rfl rfl)
theorem dX5_pays_1 : decode cX5_pays 1 = .ok (.getfield 7, 3) := dk_180 0 7 (dk_at dksX5_pays_0 1 rfl rfl)
theorem dX5_pays_4 : decode cX5_pays 4 = .ok (.aload_n 0, 1) := dk_42 (dk_at dksX5_pays_0 4 rfl rfl)
theorem dX5_pays_5 : decode cX5_pays 5 = .ok (.invokevirtual 13, 3) := dk_182 0 13 (dk_at dksX5_pays_0 5 rfl rfl)
theorem dX5_pays_8 : decode cX5_pays 8 = .ok (.if_icmp .gt 7, 3) := dk_163 0 7 (dk_at dksX5_pays_0 8 rfl rfl)
theorem dX5_pays_11 : decode cX5_pays 11 = .ok (.iconst 1, 1) := dk_4 (dk_at dksX5_pays_0 11 rfl rfl)
theorem dX5_pays_12 : decode cX5_pays 12 = .ok (.goto 4, 3) := dk_167 0 4 (dk_at dksX5_pays_0 12 rfl rfl)
theorem dX5_pays_15 : decode cX5_pays 15 = .ok (.iconst 0, 1) := dk_3 (dk_at dksX5_pays_0 15 rfl rfl)
theorem dX5_pays_16 : decode cX5_pays 16 = .ok (.ireturn, 1) := dk_172 (dk_at dksX5_pays_0 16 rfl rfl)
abbrev cX5_makesKnown : ByteArray := prog_14_method_4_code
def yX5_makesKnown : MethodName := ⟨RX5, "makesKnown", "()Z"⟩
theorem dX5_makesKnown_0 : decode cX5_makesKnown 0 = .ok (.iconst 0, 1) := by decide +kernel
theorem dX5_makesKnown_1 : decode cX5_makesKnown 1 = .ok (.ireturn, 1) := by decide +kernel
theorem q119 : (Jvm.Cond.initialized "CardBowl$Paying") ∈ lw_all := lw_g (lw_at lw_m1 10 rfl) rfl
theorem q541 : (Jvm.Cond.instanceMethod ({ cls := "CardBowl$Paying", name := "<init>", desc := "()V" } : Jvm.MethodName)) ∈ lw_all := lw_g (lw_at lw_m2 192 rfl) rfl
theorem q542 : (Jvm.Cond.code ({ cls := "CardBowl$Paying", name := "<init>", desc := "()V" } : Jvm.MethodName) prog_14_method_1_code (1 : Nat) (Option.none : Option Jvm.ClassFile.FieldType)) ∈ lw_all := lw_g (lw_at lw_m2 193 rfl) rfl
theorem q543 : (Jvm.Cond.methodLink "CardBowl$Paying" (1 : Nat) ({ cls := "java/lang/Object", name := "<init>", desc := "()V" } : Jvm.MethodName)) ∈ lw_all := lw_g (lw_at lw_m2 194 rfl) rfl
theorem q1216 : (Jvm.Cond.instanceMethod ({ cls := "CardBowl$Paying", name := "bars", desc := "(LCardBowl$House;LCardBowl$House;I)I" } : Jvm.MethodName)) ∈ lw_all := lw_g (lw_at lw_m5 147 rfl) rfl
theorem q1217 : (Jvm.Cond.sameMethod "CardBowl$Paying" "CardBowl$Paying" "bars" "(LCardBowl$House;LCardBowl$House;I)I") ∈ lw_all := lw_g (lw_at lw_m5 148 rfl) rfl
theorem q1228 : (Jvm.Cond.code ({ cls := "CardBowl$Paying", name := "bars", desc := "(LCardBowl$House;LCardBowl$House;I)I" } : Jvm.MethodName) prog_14_method_5_code (4 : Nat) (Option.some Jvm.ClassFile.FieldType.int)) ∈ lw_all := lw_g (lw_at lw_m5 159 rfl) rfl
theorem q1270 : (Jvm.Cond.instanceMethod ({ cls := "CardBowl$Paying", name := "pays", desc := "(LCardBowl$Debt;)Z" } : Jvm.MethodName)) ∈ lw_all := lw_g (lw_at lw_m5 201 rfl) rfl
theorem q1271 : (Jvm.Cond.sameMethod "CardBowl$Paying" "CardBowl$Paying" "pays" "(LCardBowl$Debt;)Z") ∈ lw_all := lw_g (lw_at lw_m5 202 rfl) rfl
theorem q1276 : (Jvm.Cond.code ({ cls := "CardBowl$Paying", name := "pays", desc := "(LCardBowl$Debt;)Z" } : Jvm.MethodName) prog_14_method_3_code (2 : Nat) (Option.some Jvm.ClassFile.FieldType.boolean)) ∈ lw_all := lw_g (lw_at lw_m5 207 rfl) rfl
theorem q1277 : (Jvm.Cond.methodLink "CardBowl$Paying" (13 : Nat) ({ cls := "CardBowl$Paying", name := "kind", desc := "()I" } : Jvm.MethodName)) ∈ lw_all := lw_g (lw_at lw_m5 208 rfl) rfl
theorem q1278 : (Jvm.Cond.declares ({ cls := "CardBowl$Paying", name := "kind", desc := "()I" } : Jvm.MethodName)) ∈ lw_tbl := lw_at lw_m5 209 rfl
theorem q1279 : (Jvm.Cond.sameMethod "CardBowl$Paying" "CardBowl$Paying" "kind" "()I") ∈ lw_all := lw_g (lw_at lw_m5 210 rfl) rfl
theorem q1367 : (Jvm.Cond.fieldLinkNest "CardBowl$Paying" (7 : Nat) "CardBowl$Debt" "kind" "I" "CardBowl") ∈ lw_tbl := lw_at lw_m6 58 rfl
theorem q1388 : (Jvm.Cond.instanceMethod ({ cls := "CardBowl$Paying", name := "makesKnown", desc := "()Z" } : Jvm.MethodName)) ∈ lw_all := lw_g (lw_at lw_m6 79 rfl) rfl
theorem q1389 : (Jvm.Cond.sameMethod "CardBowl$Paying" "CardBowl$Paying" "makesKnown" "()Z") ∈ lw_all := lw_g (lw_at lw_m6 80 rfl) rfl
theorem q1396 : (Jvm.Cond.code ({ cls := "CardBowl$Paying", name := "makesKnown", desc := "()Z" } : Jvm.MethodName) prog_14_method_4_code (1 : Nat) (Option.some Jvm.ClassFile.FieldType.boolean)) ∈ lw_all := lw_g (lw_at lw_m6 87 rfl) rfl
theorem q2274 : (Jvm.Cond.castable "CardBowl$Paying" "java/lang/Object") ∈ lw_tbl := lw_at lw_m10 5 rfl
/-! CardBowl$Sent -/
set_option maxRecDepth 100000
def RX6 : String := "CardBowl$Sent"
abbrev cX6_init : ByteArray := prog_17_method_1_code
def yX6_init : MethodName := ⟨RX6, "<init>", "()V"⟩
theorem dX6_init_0 : decode cX6_init 0 = .ok (.aload_n 0, 1) := by decide +kernel
theorem dX6_init_1 : decode cX6_init 1 = .ok (.invokespecial 1, 3) := by decide +kernel
theorem dX6_init_4 : decode cX6_init 4 = .ok (.return_, 1) := by decide +kernel
abbrev cX6_kind : ByteArray := prog_17_method_2_code
def yX6_kind : MethodName := ⟨RX6, "kind", "()I"⟩
theorem dX6_kind_0 : decode cX6_kind 0 = .ok (.iconst 0, 1) := by decide +kernel
theorem dX6_kind_1 : decode cX6_kind 1 = .ok (.ireturn, 1) := by decide +kernel
theorem q120 : (Jvm.Cond.initialized "CardBowl$Sent") ∈ lw_all := lw_g (lw_at lw_m1 11 rfl) rfl
theorem q536 : (Jvm.Cond.instantiable "CardBowl$Sent" (0 : Nat)) ∈ lw_all := lw_g (lw_at lw_m2 187 rfl) rfl
theorem q538 : (Jvm.Cond.instanceMethod ({ cls := "CardBowl$Sent", name := "<init>", desc := "()V" } : Jvm.MethodName)) ∈ lw_all := lw_g (lw_at lw_m2 189 rfl) rfl
theorem q539 : (Jvm.Cond.code ({ cls := "CardBowl$Sent", name := "<init>", desc := "()V" } : Jvm.MethodName) prog_17_method_1_code (1 : Nat) (Option.none : Option Jvm.ClassFile.FieldType)) ∈ lw_all := lw_g (lw_at lw_m2 190 rfl) rfl
theorem q540 : (Jvm.Cond.methodLinkNest "CardBowl$Sent" (1 : Nat) ({ cls := "CardBowl$Paying", name := "<init>", desc := "()V" } : Jvm.MethodName) "CardBowl") ∈ lw_tbl := lw_at lw_m2 191 rfl
theorem q544 : (Jvm.Cond.superclass "CardBowl$Sent" "CardBowl$Paying") ∈ lw_all := lw_g (lw_at lw_m2 195 rfl) rfl
theorem q1047 : (Jvm.Cond.selects "CardBowl$Sent" ({ cls := "java/lang/Object", name := "getClass", desc := "()Ljava/lang/Class;" } : Jvm.MethodName) ({ cls := "java/lang/Object", name := "getClass", desc := "()Ljava/lang/Class;" } : Jvm.MethodName)) ∈ lw_all := lw_g (lw_at lw_m4 218 rfl) rfl
theorem q1227 : (Jvm.Cond.selects "CardBowl$Sent" ({ cls := "CardBowl$Paying", name := "bars", desc := "(LCardBowl$House;LCardBowl$House;I)I" } : Jvm.MethodName) ({ cls := "CardBowl$Paying", name := "bars", desc := "(LCardBowl$House;LCardBowl$House;I)I" } : Jvm.MethodName)) ∈ lw_all := lw_g (lw_at lw_m5 158 rfl) rfl
theorem q1275 : (Jvm.Cond.selects "CardBowl$Sent" ({ cls := "CardBowl$Paying", name := "pays", desc := "(LCardBowl$Debt;)Z" } : Jvm.MethodName) ({ cls := "CardBowl$Paying", name := "pays", desc := "(LCardBowl$Debt;)Z" } : Jvm.MethodName)) ∈ lw_all := lw_g (lw_at lw_m5 206 rfl) rfl
theorem q1290 : (Jvm.Cond.selects "CardBowl$Sent" ({ cls := "CardBowl$Paying", name := "kind", desc := "()I" } : Jvm.MethodName) ({ cls := "CardBowl$Sent", name := "kind", desc := "()I" } : Jvm.MethodName)) ∈ lw_all := lw_g (lw_at lw_m5 221 rfl) rfl
theorem q1291 : (Jvm.Cond.instanceMethod ({ cls := "CardBowl$Sent", name := "kind", desc := "()I" } : Jvm.MethodName)) ∈ lw_all := lw_g (lw_at lw_m5 222 rfl) rfl
theorem q1292 : (Jvm.Cond.code ({ cls := "CardBowl$Sent", name := "kind", desc := "()I" } : Jvm.MethodName) prog_17_method_2_code (1 : Nat) (Option.some Jvm.ClassFile.FieldType.int)) ∈ lw_all := lw_g (lw_at lw_m5 223 rfl) rfl
theorem q1395 : (Jvm.Cond.selects "CardBowl$Sent" ({ cls := "CardBowl$Paying", name := "makesKnown", desc := "()Z" } : Jvm.MethodName) ({ cls := "CardBowl$Paying", name := "makesKnown", desc := "()Z" } : Jvm.MethodName)) ∈ lw_all := lw_g (lw_at lw_m6 86 rfl) rfl
theorem q2281 : (Jvm.Cond.castable "CardBowl$Sent" "java/lang/Object") ∈ lw_tbl := lw_at lw_m10 12 rfl
theorem q2302 : (Jvm.Cond.castable "CardBowl$Sent" "CardBowl$Paying") ∈ lw_tbl := lw_at lw_m10 33 rfl
/-! CardBowl$Card -/
set_option maxRecDepth 100000
def RX7 : String := "CardBowl$Card"
abbrev cX7_init : ByteArray := prog_6_method_1_code
def yX7_init : MethodName := ⟨RX7, "<init>", "()V"⟩
theorem dX7_init_0 : decode cX7_init 0 = .ok (.aload_n 0, 1) := by decide +kernel
theorem dX7_init_1 : decode cX7_init 1 = .ok (.invokespecial 1, 3) := by decide +kernel
theorem dX7_init_4 : decode cX7_init 4 = .ok (.return_, 1) := by decide +kernel
abbrev cX7_kind : ByteArray := prog_6_method_2_code
def yX7_kind : MethodName := ⟨RX7, "kind", "()I"⟩
theorem dX7_kind_0 : decode cX7_kind 0 = .ok (.iconst 1, 1) := by decide +kernel
theorem dX7_kind_1 : decode cX7_kind 1 = .ok (.ireturn, 1) := by decide +kernel
theorem q121 : (Jvm.Cond.initialized "CardBowl$Card") ∈ lw_all := lw_g (lw_at lw_m1 12 rfl) rfl
theorem q546 : (Jvm.Cond.instantiable "CardBowl$Card" (0 : Nat)) ∈ lw_all := lw_g (lw_at lw_m2 197 rfl) rfl
theorem q548 : (Jvm.Cond.instanceMethod ({ cls := "CardBowl$Card", name := "<init>", desc := "()V" } : Jvm.MethodName)) ∈ lw_all := lw_g (lw_at lw_m2 199 rfl) rfl
theorem q549 : (Jvm.Cond.code ({ cls := "CardBowl$Card", name := "<init>", desc := "()V" } : Jvm.MethodName) prog_6_method_1_code (1 : Nat) (Option.none : Option Jvm.ClassFile.FieldType)) ∈ lw_all := lw_g (lw_at lw_m2 200 rfl) rfl
theorem q550 : (Jvm.Cond.methodLinkNest "CardBowl$Card" (1 : Nat) ({ cls := "CardBowl$Sent", name := "<init>", desc := "()V" } : Jvm.MethodName) "CardBowl") ∈ lw_tbl := lw_at lw_m2 201 rfl
theorem q551 : (Jvm.Cond.superclass "CardBowl$Card" "CardBowl$Sent") ∈ lw_all := lw_g (lw_at lw_m2 202 rfl) rfl
theorem q1037 : (Jvm.Cond.selects "CardBowl$Card" ({ cls := "java/lang/Object", name := "getClass", desc := "()Ljava/lang/Class;" } : Jvm.MethodName) ({ cls := "java/lang/Object", name := "getClass", desc := "()Ljava/lang/Class;" } : Jvm.MethodName)) ∈ lw_all := lw_g (lw_at lw_m4 208 rfl) rfl
theorem q1225 : (Jvm.Cond.selects "CardBowl$Card" ({ cls := "CardBowl$Paying", name := "bars", desc := "(LCardBowl$House;LCardBowl$House;I)I" } : Jvm.MethodName) ({ cls := "CardBowl$Paying", name := "bars", desc := "(LCardBowl$House;LCardBowl$House;I)I" } : Jvm.MethodName)) ∈ lw_all := lw_g (lw_at lw_m5 156 rfl) rfl
theorem q1273 : (Jvm.Cond.selects "CardBowl$Card" ({ cls := "CardBowl$Paying", name := "pays", desc := "(LCardBowl$Debt;)Z" } : Jvm.MethodName) ({ cls := "CardBowl$Paying", name := "pays", desc := "(LCardBowl$Debt;)Z" } : Jvm.MethodName)) ∈ lw_all := lw_g (lw_at lw_m5 204 rfl) rfl
theorem q1283 : (Jvm.Cond.selects "CardBowl$Card" ({ cls := "CardBowl$Paying", name := "kind", desc := "()I" } : Jvm.MethodName) ({ cls := "CardBowl$Card", name := "kind", desc := "()I" } : Jvm.MethodName)) ∈ lw_all := lw_g (lw_at lw_m5 214 rfl) rfl
theorem q1284 : (Jvm.Cond.instanceMethod ({ cls := "CardBowl$Card", name := "kind", desc := "()I" } : Jvm.MethodName)) ∈ lw_all := lw_g (lw_at lw_m5 215 rfl) rfl
theorem q1285 : (Jvm.Cond.code ({ cls := "CardBowl$Card", name := "kind", desc := "()I" } : Jvm.MethodName) prog_6_method_2_code (1 : Nat) (Option.some Jvm.ClassFile.FieldType.int)) ∈ lw_all := lw_g (lw_at lw_m5 216 rfl) rfl
theorem q1393 : (Jvm.Cond.selects "CardBowl$Card" ({ cls := "CardBowl$Paying", name := "makesKnown", desc := "()Z" } : Jvm.MethodName) ({ cls := "CardBowl$Paying", name := "makesKnown", desc := "()Z" } : Jvm.MethodName)) ∈ lw_all := lw_g (lw_at lw_m6 84 rfl) rfl
theorem q2282 : (Jvm.Cond.castable "CardBowl$Card" "java/lang/Object") ∈ lw_tbl := lw_at lw_m10 13 rfl
theorem q2303 : (Jvm.Cond.castable "CardBowl$Card" "CardBowl$Paying") ∈ lw_tbl := lw_at lw_m10 34 rfl
/-! CardBowl$Call -/
set_option maxRecDepth 100000
def RX8 : String := "CardBowl$Call"
abbrev cX8_init : ByteArray := prog_5_method_1_code
def yX8_init : MethodName := ⟨RX8, "<init>", "()V"⟩
theorem dX8_init_0 : decode cX8_init 0 = .ok (.aload_n 0, 1) := by decide +kernel
theorem dX8_init_1 : decode cX8_init 1 = .ok (.invokespecial 3, 3) := by decide +kernel
theorem dX8_init_4 : decode cX8_init 4 = .ok (.return_, 1) := by decide +kernel
abbrev cX8_bars : ByteArray := prog_5_method_4_code
def yX8_bars : MethodName := ⟨RX8, "bars", "(LCardBowl$House;LCardBowl$House;I)I"⟩
def dkwX8_bars_1 : List UInt8 := [167, 0, 4, 3, 172]
abbrev dktX8_bars_1 : List UInt8 := dkwX8_bars_1 ++ []
def dkwX8_bars_0 : List UInt8 := [29, 16, 7, 112, 44, 180, 0, 9, 159, 0, 7, 5, 167, 0, 16, 43, 29, 182, 0, 15, 153, 0, 7, 6]
abbrev dktX8_bars_0 : List UInt8 := dkwX8_bars_0 ++ dktX8_bars_1
theorem dksX8_bars_0 : cX8_bars.data.toList.drop 0 = dktX8_bars_0 := by decide +kernel
theorem dksX8_bars_1 : cX8_bars.data.toList.drop 24 = dktX8_bars_1 := dk_seg dksX8_bars_0 24 rfl rfl
theorem dX8_bars_0 : decode cX8_bars 0 = .ok (.iload_n 3, 1) := dk_29 (dk_at dksX8_bars_0 0 rfl rfl)
theorem dX8_bars_1 : decode cX8_bars 1 = .ok (.bipush 7, 2) := dk_16 7 (dk_at dksX8_bars_0 1 rfl rfl)
theorem dX8_bars_3 : decode cX8_bars 3 = .ok (.irem, 1) := dk_112 (dk_at dksX8_bars_0 3 rfl rfl)
theorem dX8_bars_4 : decode cX8_bars 4 = .ok (.aload_n 2, 1) := dk_44 (dk_at dksX8_bars_0 4 rfl rfl)
theorem dX8_bars_5 : decode cX8_bars 5 = .ok (.getfield 9, 3) := dk_180 0 9 (dk_at dksX8_bars_0 5 rfl rfl)
theorem dX8_bars_8 : decode cX8_bars 8 = .ok (.if_icmp .eq 7, 3) := dk_159 0 7 (dk_at dksX8_bars_0 8 rfl rfl)
theorem dX8_bars_11 : decode cX8_bars 11 = .ok (.iconst 2, 1) := dk_5 (dk_at dksX8_bars_0 11 rfl rfl)
theorem dX8_bars_12 : decode cX8_bars 12 = .ok (.goto 16, 3) := dk_167 0 16 (dk_at dksX8_bars_0 12 rfl rfl)
theorem dX8_bars_15 : decode cX8_bars 15 = .ok (.aload_n 1, 1) := dk_43 (dk_at dksX8_bars_0 15 rfl rfl)
theorem dX8_bars_16 : decode cX8_bars 16 = .ok (.iload_n 3, 1) := dk_29 (dk_at dksX8_bars_0 16 rfl rfl)
theorem dX8_bars_17 : decode cX8_bars 17 = .ok (.invokevirtual 15, 3) := dk_182 0 15 (dk_at dksX8_bars_0 17 rfl rfl)
theorem dX8_bars_20 : decode cX8_bars 20 = .ok (.ifCond .eq 7, 3) := dk_153 0 7 (dk_at dksX8_bars_0 20 rfl rfl)
theorem dX8_bars_23 : decode cX8_bars 23 = .ok (.iconst 3, 1) := dk_6 (dk_at dksX8_bars_0 23 rfl rfl)
theorem dX8_bars_24 : decode cX8_bars 24 = .ok (.goto 4, 3) := dk_167 0 4 (dk_at dksX8_bars_1 0 rfl rfl)
theorem dX8_bars_27 : decode cX8_bars 27 = .ok (.iconst 0, 1) := dk_3 (dk_at dksX8_bars_1 3 rfl rfl)
theorem dX8_bars_28 : decode cX8_bars 28 = .ok (.ireturn, 1) := dk_172 (dk_at dksX8_bars_1 4 rfl rfl)
abbrev cX8_kind : ByteArray := prog_5_method_2_code
def yX8_kind : MethodName := ⟨RX8, "kind", "()I"⟩
theorem dX8_kind_0 : decode cX8_kind 0 = .ok (.iconst 2, 1) := by decide +kernel
theorem dX8_kind_1 : decode cX8_kind 1 = .ok (.ireturn, 1) := by decide +kernel
abbrev cX8_makesKnown : ByteArray := prog_5_method_3_code
def yX8_makesKnown : MethodName := ⟨RX8, "makesKnown", "()Z"⟩
theorem dX8_makesKnown_0 : decode cX8_makesKnown 0 = .ok (.iconst 1, 1) := by decide +kernel
theorem dX8_makesKnown_1 : decode cX8_makesKnown 1 = .ok (.ireturn, 1) := by decide +kernel
theorem q122 : (Jvm.Cond.initialized "CardBowl$Call") ∈ lw_all := lw_g (lw_at lw_m1 13 rfl) rfl
theorem q553 : (Jvm.Cond.instantiable "CardBowl$Call" (0 : Nat)) ∈ lw_all := lw_g (lw_at lw_m2 204 rfl) rfl
theorem q555 : (Jvm.Cond.instanceMethod ({ cls := "CardBowl$Call", name := "<init>", desc := "()V" } : Jvm.MethodName)) ∈ lw_all := lw_g (lw_at lw_m2 206 rfl) rfl
theorem q556 : (Jvm.Cond.code ({ cls := "CardBowl$Call", name := "<init>", desc := "()V" } : Jvm.MethodName) prog_5_method_1_code (1 : Nat) (Option.none : Option Jvm.ClassFile.FieldType)) ∈ lw_all := lw_g (lw_at lw_m2 207 rfl) rfl
theorem q557 : (Jvm.Cond.methodLinkNest "CardBowl$Call" (3 : Nat) ({ cls := "CardBowl$Paying", name := "<init>", desc := "()V" } : Jvm.MethodName) "CardBowl") ∈ lw_tbl := lw_at lw_m2 208 rfl
theorem q558 : (Jvm.Cond.superclass "CardBowl$Call" "CardBowl$Paying") ∈ lw_all := lw_g (lw_at lw_m2 209 rfl) rfl
theorem q1036 : (Jvm.Cond.selects "CardBowl$Call" ({ cls := "java/lang/Object", name := "getClass", desc := "()Ljava/lang/Class;" } : Jvm.MethodName) ({ cls := "java/lang/Object", name := "getClass", desc := "()Ljava/lang/Class;" } : Jvm.MethodName)) ∈ lw_all := lw_g (lw_at lw_m4 207 rfl) rfl
theorem q1088 : (Jvm.Cond.fieldLinkNest "CardBowl$Call" (9 : Nat) "CardBowl$House" "weekday" "I" "CardBowl") ∈ lw_tbl := lw_at lw_m5 19 rfl
theorem q1218 : (Jvm.Cond.selects "CardBowl$Call" ({ cls := "CardBowl$Paying", name := "bars", desc := "(LCardBowl$House;LCardBowl$House;I)I" } : Jvm.MethodName) ({ cls := "CardBowl$Call", name := "bars", desc := "(LCardBowl$House;LCardBowl$House;I)I" } : Jvm.MethodName)) ∈ lw_all := lw_g (lw_at lw_m5 149 rfl) rfl
theorem q1219 : (Jvm.Cond.instanceMethod ({ cls := "CardBowl$Call", name := "bars", desc := "(LCardBowl$House;LCardBowl$House;I)I" } : Jvm.MethodName)) ∈ lw_all := lw_g (lw_at lw_m5 150 rfl) rfl
theorem q1220 : (Jvm.Cond.code ({ cls := "CardBowl$Call", name := "bars", desc := "(LCardBowl$House;LCardBowl$House;I)I" } : Jvm.MethodName) prog_5_method_4_code (4 : Nat) (Option.some Jvm.ClassFile.FieldType.int)) ∈ lw_all := lw_g (lw_at lw_m5 151 rfl) rfl
theorem q1221 : (Jvm.Cond.methodLink "CardBowl$Call" (15 : Nat) ({ cls := "CardBowl$House", name := "waits", desc := "(I)Z" } : Jvm.MethodName)) ∈ lw_all := lw_g (lw_at lw_m5 152 rfl) rfl
theorem q1272 : (Jvm.Cond.selects "CardBowl$Call" ({ cls := "CardBowl$Paying", name := "pays", desc := "(LCardBowl$Debt;)Z" } : Jvm.MethodName) ({ cls := "CardBowl$Paying", name := "pays", desc := "(LCardBowl$Debt;)Z" } : Jvm.MethodName)) ∈ lw_all := lw_g (lw_at lw_m5 203 rfl) rfl
theorem q1280 : (Jvm.Cond.selects "CardBowl$Call" ({ cls := "CardBowl$Paying", name := "kind", desc := "()I" } : Jvm.MethodName) ({ cls := "CardBowl$Call", name := "kind", desc := "()I" } : Jvm.MethodName)) ∈ lw_all := lw_g (lw_at lw_m5 211 rfl) rfl
theorem q1281 : (Jvm.Cond.instanceMethod ({ cls := "CardBowl$Call", name := "kind", desc := "()I" } : Jvm.MethodName)) ∈ lw_all := lw_g (lw_at lw_m5 212 rfl) rfl
theorem q1282 : (Jvm.Cond.code ({ cls := "CardBowl$Call", name := "kind", desc := "()I" } : Jvm.MethodName) prog_5_method_2_code (1 : Nat) (Option.some Jvm.ClassFile.FieldType.int)) ∈ lw_all := lw_g (lw_at lw_m5 213 rfl) rfl
theorem q1390 : (Jvm.Cond.selects "CardBowl$Call" ({ cls := "CardBowl$Paying", name := "makesKnown", desc := "()Z" } : Jvm.MethodName) ({ cls := "CardBowl$Call", name := "makesKnown", desc := "()Z" } : Jvm.MethodName)) ∈ lw_all := lw_g (lw_at lw_m6 81 rfl) rfl
theorem q1391 : (Jvm.Cond.instanceMethod ({ cls := "CardBowl$Call", name := "makesKnown", desc := "()Z" } : Jvm.MethodName)) ∈ lw_all := lw_g (lw_at lw_m6 82 rfl) rfl
theorem q1392 : (Jvm.Cond.code ({ cls := "CardBowl$Call", name := "makesKnown", desc := "()Z" } : Jvm.MethodName) prog_5_method_3_code (1 : Nat) (Option.some Jvm.ClassFile.FieldType.boolean)) ∈ lw_all := lw_g (lw_at lw_m6 83 rfl) rfl
theorem q2269 : (Jvm.Cond.sameMethod "CardBowl$Call" "CardBowl$Call" "kind" "()I") ∈ lw_all := lw_g (lw_at lw_m10 0 rfl) rfl
theorem q2283 : (Jvm.Cond.castable "CardBowl$Call" "java/lang/Object") ∈ lw_tbl := lw_at lw_m10 14 rfl
theorem q2304 : (Jvm.Cond.castable "CardBowl$Call" "CardBowl$Paying") ∈ lw_tbl := lw_at lw_m10 35 rfl
/-! CardBowl$Dinner -/
set_option maxRecDepth 100000
def RX9 : String := "CardBowl$Dinner"
abbrev cX9_init : ByteArray := prog_9_method_1_code
def yX9_init : MethodName := ⟨RX9, "<init>", "()V"⟩
theorem dX9_init_0 : decode cX9_init 0 = .ok (.aload_n 0, 1) := by decide +kernel
theorem dX9_init_1 : decode cX9_init 1 = .ok (.invokespecial 1, 3) := by decide +kernel
theorem dX9_init_4 : decode cX9_init 4 = .ok (.return_, 1) := by decide +kernel
abbrev cX9_kind : ByteArray := prog_9_method_2_code
def yX9_kind : MethodName := ⟨RX9, "kind", "()I"⟩
def dkwX9_kind_0 : List UInt8 := [42, 183, 0, 7, 4, 96, 172]
abbrev dktX9_kind_0 : List UInt8 := dkwX9_kind_0 ++ []
theorem dksX9_kind_0 : cX9_kind.data.toList.drop 0 = dktX9_kind_0 := by decide +kernel
theorem dX9_kind_0 : decode cX9_kind 0 = .ok (.aload_n 0, 1) := dk_42 (dk_at dksX9_kind_0 0 rfl rfl)
theorem dX9_kind_1 : decode cX9_kind 1 = .ok (.invokespecial 7, 3) := dk_183 0 7 (dk_at dksX9_kind_0 1 rfl rfl)
theorem dX9_kind_4 : decode cX9_kind 4 = .ok (.iconst 1, 1) := dk_4 (dk_at dksX9_kind_0 4 rfl rfl)
theorem dX9_kind_5 : decode cX9_kind 5 = .ok (.iadd, 1) := dk_96 (dk_at dksX9_kind_0 5 rfl rfl)
theorem dX9_kind_6 : decode cX9_kind 6 = .ok (.ireturn, 1) := dk_172 (dk_at dksX9_kind_0 6 rfl rfl)
theorem q123 : (Jvm.Cond.initialized "CardBowl$Dinner") ∈ lw_all := lw_g (lw_at lw_m1 14 rfl) rfl
theorem q560 : (Jvm.Cond.instantiable "CardBowl$Dinner" (0 : Nat)) ∈ lw_all := lw_g (lw_at lw_m2 211 rfl) rfl
theorem q562 : (Jvm.Cond.instanceMethod ({ cls := "CardBowl$Dinner", name := "<init>", desc := "()V" } : Jvm.MethodName)) ∈ lw_all := lw_g (lw_at lw_m2 213 rfl) rfl
theorem q563 : (Jvm.Cond.code ({ cls := "CardBowl$Dinner", name := "<init>", desc := "()V" } : Jvm.MethodName) prog_9_method_1_code (1 : Nat) (Option.none : Option Jvm.ClassFile.FieldType)) ∈ lw_all := lw_g (lw_at lw_m2 214 rfl) rfl
theorem q564 : (Jvm.Cond.methodLinkNest "CardBowl$Dinner" (1 : Nat) ({ cls := "CardBowl$Call", name := "<init>", desc := "()V" } : Jvm.MethodName) "CardBowl") ∈ lw_tbl := lw_at lw_m2 215 rfl
theorem q565 : (Jvm.Cond.superclass "CardBowl$Dinner" "CardBowl$Call") ∈ lw_all := lw_g (lw_at lw_m2 216 rfl) rfl
theorem q1040 : (Jvm.Cond.selects "CardBowl$Dinner" ({ cls := "java/lang/Object", name := "getClass", desc := "()Ljava/lang/Class;" } : Jvm.MethodName) ({ cls := "java/lang/Object", name := "getClass", desc := "()Ljava/lang/Class;" } : Jvm.MethodName)) ∈ lw_all := lw_g (lw_at lw_m4 211 rfl) rfl
theorem q1226 : (Jvm.Cond.selects "CardBowl$Dinner" ({ cls := "CardBowl$Paying", name := "bars", desc := "(LCardBowl$House;LCardBowl$House;I)I" } : Jvm.MethodName) ({ cls := "CardBowl$Call", name := "bars", desc := "(LCardBowl$House;LCardBowl$House;I)I" } : Jvm.MethodName)) ∈ lw_all := lw_g (lw_at lw_m5 157 rfl) rfl
theorem q1274 : (Jvm.Cond.selects "CardBowl$Dinner" ({ cls := "CardBowl$Paying", name := "pays", desc := "(LCardBowl$Debt;)Z" } : Jvm.MethodName) ({ cls := "CardBowl$Paying", name := "pays", desc := "(LCardBowl$Debt;)Z" } : Jvm.MethodName)) ∈ lw_all := lw_g (lw_at lw_m5 205 rfl) rfl
theorem q1286 : (Jvm.Cond.selects "CardBowl$Dinner" ({ cls := "CardBowl$Paying", name := "kind", desc := "()I" } : Jvm.MethodName) ({ cls := "CardBowl$Dinner", name := "kind", desc := "()I" } : Jvm.MethodName)) ∈ lw_all := lw_g (lw_at lw_m5 217 rfl) rfl
theorem q1287 : (Jvm.Cond.instanceMethod ({ cls := "CardBowl$Dinner", name := "kind", desc := "()I" } : Jvm.MethodName)) ∈ lw_all := lw_g (lw_at lw_m5 218 rfl) rfl
theorem q1288 : (Jvm.Cond.code ({ cls := "CardBowl$Dinner", name := "kind", desc := "()I" } : Jvm.MethodName) prog_9_method_2_code (1 : Nat) (Option.some Jvm.ClassFile.FieldType.int)) ∈ lw_all := lw_g (lw_at lw_m5 219 rfl) rfl
theorem q1289 : (Jvm.Cond.methodLink "CardBowl$Dinner" (7 : Nat) ({ cls := "CardBowl$Call", name := "kind", desc := "()I" } : Jvm.MethodName)) ∈ lw_all := lw_g (lw_at lw_m5 220 rfl) rfl
theorem q1394 : (Jvm.Cond.selects "CardBowl$Dinner" ({ cls := "CardBowl$Paying", name := "makesKnown", desc := "()Z" } : Jvm.MethodName) ({ cls := "CardBowl$Call", name := "makesKnown", desc := "()Z" } : Jvm.MethodName)) ∈ lw_all := lw_g (lw_at lw_m6 85 rfl) rfl
theorem q2284 : (Jvm.Cond.castable "CardBowl$Dinner" "java/lang/Object") ∈ lw_tbl := lw_at lw_m10 15 rfl
theorem q2305 : (Jvm.Cond.castable "CardBowl$Dinner" "CardBowl$Paying") ∈ lw_tbl := lw_at lw_m10 36 rfl
/-! CardBowl$Afternoon -/
set_option maxRecDepth 100000
def RX10 : String := "CardBowl$Afternoon"
def TX10 : u_T := fun k => match k with
  | 0 => ("CardBowl$Afternoon", "seen", "[I", true)
  | 1 => ("CardBowl$Afternoon", "early", "[I", true)
  | 2 => ("CardBowl$Afternoon", "late", "[I", true)
  | 3 => ("CardBowl$Afternoon", "path", "[I", true)
  | 4 => ("CardBowl$Afternoon", "many", "I", false)
  | 5 => ("CardBowl$Afternoon", "day", "I", false)
  | 6 => ("CardBowl$Afternoon", "bestMask", "I", false)
  | 7 => ("CardBowl$Afternoon", "bestOver", "I", false)
  | 8 => ("CardBowl$Afternoon", "bestWorth", "I", false)
  | 9 => ("CardBowl$Afternoon", "self", "LCardBowl$House;", false)
  | 10 => ("CardBowl$Afternoon", "owner", "I", false)
  | _ => ("CardBowl$Afternoon", "this$0", "LCardBowl;", true)
def tyX10 : Nat → FieldType := fun k => match k with
  | 0 => .array .int
  | 1 => .array .int
  | 2 => .array .int
  | 3 => .array .int
  | 4 => .int
  | 5 => .int
  | 6 => .int
  | 7 => .int
  | 8 => .int
  | 9 => .object "CardBowl$House"
  | 10 => .int
  | _ => .object "CardBowl"
abbrev wsX100 : List Cond := u_ws RX10 TX10 12
theorem nmX10 : ∀ a, a < 12 → ∀ b, b < 12 → a ≠ b → (TX10 a).2.1 ≠ (TX10 b).2.1 := by decide +kernel
theorem tyX10_ok : ∀ k, k < 12 → parseFieldDescriptor (TX10 k).2.2.1 = some (tyX10 k) := by decide +kernel
abbrev cX10_init : ByteArray := prog_2_method_1_code
def yX10_init : MethodName := ⟨RX10, "<init>", "(LCardBowl;)V"⟩
def dkwX10_init_1 : List UInt8 := [181, 0, 19, 42, 17, 40, 0, 188, 10, 181, 0, 22, 42, 16, 10, 188, 10, 181, 0, 25, 177]
abbrev dktX10_init_1 : List UInt8 := dkwX10_init_1 ++ []
def dkwX10_init_0 : List UInt8 := [42, 43, 181, 0, 3, 42, 183, 0, 9, 42, 16, 10, 188, 10, 181, 0, 15, 42, 17, 40, 0, 188, 10]
abbrev dktX10_init_0 : List UInt8 := dkwX10_init_0 ++ dktX10_init_1
theorem dksX10_init_0 : cX10_init.data.toList.drop 0 = dktX10_init_0 := by decide +kernel
theorem dksX10_init_1 : cX10_init.data.toList.drop 23 = dktX10_init_1 := dk_seg dksX10_init_0 23 rfl rfl
theorem dX10_init_0 : decode cX10_init 0 = .ok (.aload_n 0, 1) := dk_42 (dk_at dksX10_init_0 0 rfl rfl)
theorem dX10_init_1 : decode cX10_init 1 = .ok (.aload_n 1, 1) := dk_43 (dk_at dksX10_init_0 1 rfl rfl)
theorem dX10_init_2 : decode cX10_init 2 = .ok (.putfield 3, 3) := dk_181 0 3 (dk_at dksX10_init_0 2 rfl rfl)
theorem dX10_init_5 : decode cX10_init 5 = .ok (.aload_n 0, 1) := dk_42 (dk_at dksX10_init_0 5 rfl rfl)
theorem dX10_init_6 : decode cX10_init 6 = .ok (.invokespecial 9, 3) := dk_183 0 9 (dk_at dksX10_init_0 6 rfl rfl)
theorem dX10_init_9 : decode cX10_init 9 = .ok (.aload_n 0, 1) := dk_42 (dk_at dksX10_init_0 9 rfl rfl)
theorem dX10_init_10 : decode cX10_init 10 = .ok (.bipush 10, 2) := dk_16 10 (dk_at dksX10_init_0 10 rfl rfl)
theorem dX10_init_12 : decode cX10_init 12 = .ok (.newarray .int, 2) := dk_188_10 (dk_at dksX10_init_0 12 rfl rfl)
theorem dX10_init_14 : decode cX10_init 14 = .ok (.putfield 15, 3) := dk_181 0 15 (dk_at dksX10_init_0 14 rfl rfl)
theorem dX10_init_17 : decode cX10_init 17 = .ok (.aload_n 0, 1) := dk_42 (dk_at dksX10_init_0 17 rfl rfl)
theorem dX10_init_18 : decode cX10_init 18 = .ok (.sipush 10240, 3) := dk_17 40 0 (dk_at dksX10_init_0 18 rfl rfl)
theorem dX10_init_21 : decode cX10_init 21 = .ok (.newarray .int, 2) := dk_188_10 (dk_at dksX10_init_0 21 rfl rfl)
theorem dX10_init_23 : decode cX10_init 23 = .ok (.putfield 19, 3) := dk_181 0 19 (dk_at dksX10_init_1 0 rfl rfl)
theorem dX10_init_26 : decode cX10_init 26 = .ok (.aload_n 0, 1) := dk_42 (dk_at dksX10_init_1 3 rfl rfl)
theorem dX10_init_27 : decode cX10_init 27 = .ok (.sipush 10240, 3) := dk_17 40 0 (dk_at dksX10_init_1 4 rfl rfl)
theorem dX10_init_30 : decode cX10_init 30 = .ok (.newarray .int, 2) := dk_188_10 (dk_at dksX10_init_1 7 rfl rfl)
theorem dX10_init_32 : decode cX10_init 32 = .ok (.putfield 22, 3) := dk_181 0 22 (dk_at dksX10_init_1 9 rfl rfl)
theorem dX10_init_35 : decode cX10_init 35 = .ok (.aload_n 0, 1) := dk_42 (dk_at dksX10_init_1 12 rfl rfl)
theorem dX10_init_36 : decode cX10_init 36 = .ok (.bipush 10, 2) := dk_16 10 (dk_at dksX10_init_1 13 rfl rfl)
theorem dX10_init_38 : decode cX10_init 38 = .ok (.newarray .int, 2) := dk_188_10 (dk_at dksX10_init_1 15 rfl rfl)
theorem dX10_init_40 : decode cX10_init 40 = .ok (.putfield 25, 3) := dk_181 0 25 (dk_at dksX10_init_1 17 rfl rfl)
theorem dX10_init_43 : decode cX10_init 43 = .ok (.return_, 1) := dk_177 (dk_at dksX10_init_1 20 rfl rfl)
abbrev cX10_begins : ByteArray := prog_2_method_6_code
def yX10_begins : MethodName := ⟨RX10, "begins", "(II)V"⟩
def dkwX10_begins_1 : List UInt8 := [28, 181, 0, 63, 42, 3, 181, 0, 89, 177]
abbrev dktX10_begins_1 : List UInt8 := dkwX10_begins_1 ++ []
def dkwX10_begins_0 : List UInt8 := [42, 27, 181, 0, 48, 42, 42, 180, 0, 3, 180, 0, 28, 180, 0, 32, 27, 182, 0, 38, 181, 0, 85, 42]
abbrev dktX10_begins_0 : List UInt8 := dkwX10_begins_0 ++ dktX10_begins_1
theorem dksX10_begins_0 : cX10_begins.data.toList.drop 0 = dktX10_begins_0 := by decide +kernel
theorem dksX10_begins_1 : cX10_begins.data.toList.drop 24 = dktX10_begins_1 := dk_seg dksX10_begins_0 24 rfl rfl
theorem dX10_begins_0 : decode cX10_begins 0 = .ok (.aload_n 0, 1) := dk_42 (dk_at dksX10_begins_0 0 rfl rfl)
theorem dX10_begins_1 : decode cX10_begins 1 = .ok (.iload_n 1, 1) := dk_27 (dk_at dksX10_begins_0 1 rfl rfl)
theorem dX10_begins_2 : decode cX10_begins 2 = .ok (.putfield 48, 3) := dk_181 0 48 (dk_at dksX10_begins_0 2 rfl rfl)
theorem dX10_begins_5 : decode cX10_begins 5 = .ok (.aload_n 0, 1) := dk_42 (dk_at dksX10_begins_0 5 rfl rfl)
theorem dX10_begins_6 : decode cX10_begins 6 = .ok (.aload_n 0, 1) := dk_42 (dk_at dksX10_begins_0 6 rfl rfl)
theorem dX10_begins_7 : decode cX10_begins 7 = .ok (.getfield 3, 3) := dk_180 0 3 (dk_at dksX10_begins_0 7 rfl rfl)
theorem dX10_begins_10 : decode cX10_begins 10 = .ok (.getfield 28, 3) := dk_180 0 28 (dk_at dksX10_begins_0 10 rfl rfl)
theorem dX10_begins_13 : decode cX10_begins 13 = .ok (.getfield 32, 3) := dk_180 0 32 (dk_at dksX10_begins_0 13 rfl rfl)
theorem dX10_begins_16 : decode cX10_begins 16 = .ok (.iload_n 1, 1) := dk_27 (dk_at dksX10_begins_0 16 rfl rfl)
theorem dX10_begins_17 : decode cX10_begins 17 = .ok (.invokevirtual 38, 3) := dk_182 0 38 (dk_at dksX10_begins_0 17 rfl rfl)
theorem dX10_begins_20 : decode cX10_begins 20 = .ok (.putfield 85, 3) := dk_181 0 85 (dk_at dksX10_begins_0 20 rfl rfl)
theorem dX10_begins_23 : decode cX10_begins 23 = .ok (.aload_n 0, 1) := dk_42 (dk_at dksX10_begins_0 23 rfl rfl)
theorem dX10_begins_24 : decode cX10_begins 24 = .ok (.iload_n 2, 1) := dk_28 (dk_at dksX10_begins_1 0 rfl rfl)
theorem dX10_begins_25 : decode cX10_begins 25 = .ok (.putfield 63, 3) := dk_181 0 63 (dk_at dksX10_begins_1 1 rfl rfl)
theorem dX10_begins_28 : decode cX10_begins 28 = .ok (.aload_n 0, 1) := dk_42 (dk_at dksX10_begins_1 4 rfl rfl)
theorem dX10_begins_29 : decode cX10_begins 29 = .ok (.iconst 0, 1) := dk_3 (dk_at dksX10_begins_1 5 rfl rfl)
theorem dX10_begins_30 : decode cX10_begins 30 = .ok (.putfield 89, 3) := dk_181 0 89 (dk_at dksX10_begins_1 6 rfl rfl)
theorem dX10_begins_33 : decode cX10_begins 33 = .ok (.return_, 1) := dk_177 (dk_at dksX10_begins_1 9 rfl rfl)
abbrev cX10_owed : ByteArray := prog_2_method_7_code
def yX10_owed : MethodName := ⟨RX10, "owed", "()V"⟩
def dkwX10_owed_3 : List UInt8 := [181, 0, 89, 132, 1, 1, 167, 255, 182, 177]
abbrev dktX10_owed_3 : List UInt8 := dkwX10_owed_3 ++ []
def dkwX10_owed_2 : List UInt8 := [160, 0, 6, 167, 0, 23, 42, 180, 0, 15, 42, 180, 0, 89, 27, 79, 42, 89, 180, 0, 89, 4, 96]
abbrev dktX10_owed_2 : List UInt8 := dkwX10_owed_2 ++ dktX10_owed_3
def dkwX10_owed_1 : List UInt8 := [16, 10, 162, 0, 54, 42, 180, 0, 3, 180, 0, 28, 180, 0, 44, 42, 180, 0, 48, 27, 182, 0, 52, 2]
abbrev dktX10_owed_1 : List UInt8 := dkwX10_owed_1 ++ dktX10_owed_2
def dkwX10_owed_0 : List UInt8 := [3, 60, 27, 42, 180, 0, 3, 180, 0, 28, 180, 0, 32, 182, 0, 92, 162, 0, 63, 42, 180, 0, 89]
abbrev dktX10_owed_0 : List UInt8 := dkwX10_owed_0 ++ dktX10_owed_1
theorem dksX10_owed_0 : cX10_owed.data.toList.drop 0 = dktX10_owed_0 := by decide +kernel
theorem dksX10_owed_1 : cX10_owed.data.toList.drop 23 = dktX10_owed_1 := dk_seg dksX10_owed_0 23 rfl rfl
theorem dksX10_owed_2 : cX10_owed.data.toList.drop 47 = dktX10_owed_2 := dk_seg dksX10_owed_1 24 rfl rfl
theorem dksX10_owed_3 : cX10_owed.data.toList.drop 70 = dktX10_owed_3 := dk_seg dksX10_owed_2 23 rfl rfl
theorem dX10_owed_0 : decode cX10_owed 0 = .ok (.iconst 0, 1) := dk_3 (dk_at dksX10_owed_0 0 rfl rfl)
theorem dX10_owed_1 : decode cX10_owed 1 = .ok (.istore_n 1, 1) := dk_60 (dk_at dksX10_owed_0 1 rfl rfl)
theorem dX10_owed_2 : decode cX10_owed 2 = .ok (.iload_n 1, 1) := dk_27 (dk_at dksX10_owed_0 2 rfl rfl)
theorem dX10_owed_3 : decode cX10_owed 3 = .ok (.aload_n 0, 1) := dk_42 (dk_at dksX10_owed_0 3 rfl rfl)
theorem dX10_owed_4 : decode cX10_owed 4 = .ok (.getfield 3, 3) := dk_180 0 3 (dk_at dksX10_owed_0 4 rfl rfl)
theorem dX10_owed_7 : decode cX10_owed 7 = .ok (.getfield 28, 3) := dk_180 0 28 (dk_at dksX10_owed_0 7 rfl rfl)
theorem dX10_owed_10 : decode cX10_owed 10 = .ok (.getfield 32, 3) := dk_180 0 32 (dk_at dksX10_owed_0 10 rfl rfl)
theorem dX10_owed_13 : decode cX10_owed 13 = .ok (.invokevirtual 92, 3) := dk_182 0 92 (dk_at dksX10_owed_0 13 rfl rfl)
theorem dX10_owed_16 : decode cX10_owed 16 = .ok (.if_icmp .ge 63, 3) := dk_162 0 63 (dk_at dksX10_owed_0 16 rfl rfl)
theorem dX10_owed_19 : decode cX10_owed 19 = .ok (.aload_n 0, 1) := dk_42 (dk_at dksX10_owed_0 19 rfl rfl)
theorem dX10_owed_20 : decode cX10_owed 20 = .ok (.getfield 89, 3) := dk_180 0 89 (dk_at dksX10_owed_0 20 rfl rfl)
theorem dX10_owed_23 : decode cX10_owed 23 = .ok (.bipush 10, 2) := dk_16 10 (dk_at dksX10_owed_1 0 rfl rfl)
theorem dX10_owed_25 : decode cX10_owed 25 = .ok (.if_icmp .ge 54, 3) := dk_162 0 54 (dk_at dksX10_owed_1 2 rfl rfl)
theorem dX10_owed_28 : decode cX10_owed 28 = .ok (.aload_n 0, 1) := dk_42 (dk_at dksX10_owed_1 5 rfl rfl)
theorem dX10_owed_29 : decode cX10_owed 29 = .ok (.getfield 3, 3) := dk_180 0 3 (dk_at dksX10_owed_1 6 rfl rfl)
theorem dX10_owed_32 : decode cX10_owed 32 = .ok (.getfield 28, 3) := dk_180 0 28 (dk_at dksX10_owed_1 9 rfl rfl)
theorem dX10_owed_35 : decode cX10_owed 35 = .ok (.getfield 44, 3) := dk_180 0 44 (dk_at dksX10_owed_1 12 rfl rfl)
theorem dX10_owed_38 : decode cX10_owed 38 = .ok (.aload_n 0, 1) := dk_42 (dk_at dksX10_owed_1 15 rfl rfl)
theorem dX10_owed_39 : decode cX10_owed 39 = .ok (.getfield 48, 3) := dk_180 0 48 (dk_at dksX10_owed_1 16 rfl rfl)
theorem dX10_owed_42 : decode cX10_owed 42 = .ok (.iload_n 1, 1) := dk_27 (dk_at dksX10_owed_1 19 rfl rfl)
theorem dX10_owed_43 : decode cX10_owed 43 = .ok (.invokevirtual 52, 3) := dk_182 0 52 (dk_at dksX10_owed_1 20 rfl rfl)
theorem dX10_owed_46 : decode cX10_owed 46 = .ok (.iconst (-1), 1) := dk_2 (dk_at dksX10_owed_1 23 rfl rfl)
theorem dX10_owed_47 : decode cX10_owed 47 = .ok (.if_icmp .ne 6, 3) := dk_160 0 6 (dk_at dksX10_owed_2 0 rfl rfl)
theorem dX10_owed_50 : decode cX10_owed 50 = .ok (.goto 23, 3) := dk_167 0 23 (dk_at dksX10_owed_2 3 rfl rfl)
theorem dX10_owed_53 : decode cX10_owed 53 = .ok (.aload_n 0, 1) := dk_42 (dk_at dksX10_owed_2 6 rfl rfl)
theorem dX10_owed_54 : decode cX10_owed 54 = .ok (.getfield 15, 3) := dk_180 0 15 (dk_at dksX10_owed_2 7 rfl rfl)
theorem dX10_owed_57 : decode cX10_owed 57 = .ok (.aload_n 0, 1) := dk_42 (dk_at dksX10_owed_2 10 rfl rfl)
theorem dX10_owed_58 : decode cX10_owed 58 = .ok (.getfield 89, 3) := dk_180 0 89 (dk_at dksX10_owed_2 11 rfl rfl)
theorem dX10_owed_61 : decode cX10_owed 61 = .ok (.iload_n 1, 1) := dk_27 (dk_at dksX10_owed_2 14 rfl rfl)
theorem dX10_owed_62 : decode cX10_owed 62 = .ok (.iastore, 1) := dk_79 (dk_at dksX10_owed_2 15 rfl rfl)
theorem dX10_owed_63 : decode cX10_owed 63 = .ok (.aload_n 0, 1) := dk_42 (dk_at dksX10_owed_2 16 rfl rfl)
theorem dX10_owed_64 : decode cX10_owed 64 = .ok (.dup, 1) := dk_89 (dk_at dksX10_owed_2 17 rfl rfl)
theorem dX10_owed_65 : decode cX10_owed 65 = .ok (.getfield 89, 3) := dk_180 0 89 (dk_at dksX10_owed_2 18 rfl rfl)
theorem dX10_owed_68 : decode cX10_owed 68 = .ok (.iconst 1, 1) := dk_4 (dk_at dksX10_owed_2 21 rfl rfl)
theorem dX10_owed_69 : decode cX10_owed 69 = .ok (.iadd, 1) := dk_96 (dk_at dksX10_owed_2 22 rfl rfl)
theorem dX10_owed_70 : decode cX10_owed 70 = .ok (.putfield 89, 3) := dk_181 0 89 (dk_at dksX10_owed_3 0 rfl rfl)
theorem dX10_owed_73 : decode cX10_owed 73 = .ok (.iinc 1 1, 3) := dk_132 1 1 (dk_at dksX10_owed_3 3 rfl rfl)
theorem dX10_owed_76 : decode cX10_owed 76 = .ok (.goto (-74), 3) := dk_167 255 182 (dk_at dksX10_owed_3 6 rfl rfl)
theorem dX10_owed_79 : decode cX10_owed 79 = .ok (.return_, 1) := dk_177 (dk_at dksX10_owed_3 9 rfl rfl)
abbrev cX10_goes : ByteArray := prog_2_method_8_code
def yX10_goes : MethodName := ⟨RX10, "goes", "()V"⟩
def dkwX10_goes_10 : List UInt8 := [167, 255, 137, 132, 1, 1, 167, 255, 119, 177]
abbrev dktX10_goes_10 : List UInt8 := dkwX10_goes_10 ++ []
def dkwX10_goes_9 : List UInt8 := [180, 0, 15, 21, 4, 46, 182, 0, 102, 184, 0, 82, 79, 132, 4, 1, 167, 255, 175, 132, 2, 1]
abbrev dktX10_goes_9 : List UInt8 := dkwX10_goes_9 ++ dktX10_goes_10
def dkwX10_goes_8 : List UInt8 := [180, 0, 19, 21, 5, 46, 42, 29, 42, 28, 182, 0, 95, 42, 21, 4, 182, 0, 95, 182, 0, 98, 42]
abbrev dktX10_goes_8 : List UInt8 := dkwX10_goes_8 ++ dktX10_goes_9
def dkwX10_goes_7 : List UInt8 := [167, 0, 60, 16, 10, 27, 4, 21, 4, 120, 128, 104, 21, 4, 96, 54, 5, 42, 180, 0, 19, 21, 5, 42]
abbrev dktX10_goes_7 : List UInt8 := dkwX10_goes_7 ++ dktX10_goes_8
def dkwX10_goes_6 : List UInt8 := [167, 0, 90, 3, 54, 4, 21, 4, 42, 180, 0, 89, 162, 0, 78, 27, 21, 4, 184, 0, 106, 153, 0, 6]
abbrev dktX10_goes_6 : List UInt8 := dkwX10_goes_6 ++ dktX10_goes_7
def dkwX10_goes_5 : List UInt8 := [180, 0, 89, 162, 0, 117, 42, 180, 0, 19, 16, 10, 27, 104, 28, 96, 46, 62, 29, 18, 62, 160, 0, 6]
abbrev dktX10_goes_5 : List UInt8 := dkwX10_goes_5 ++ dktX10_goes_6
def dkwX10_goes_4 : List UInt8 := [132, 1, 1, 167, 255, 209, 4, 60, 27, 4, 42, 180, 0, 89, 120, 162, 0, 133, 3, 61, 28, 42]
abbrev dktX10_goes_4 : List UInt8 := dkwX10_goes_4 ++ dktX10_goes_5
def dkwX10_goes_3 : List UInt8 := [42, 180, 0, 85, 42, 27, 182, 0, 95, 182, 0, 98, 42, 180, 0, 15, 27, 46, 182, 0, 102, 79]
abbrev dktX10_goes_3 : List UInt8 := dkwX10_goes_3 ++ dktX10_goes_4
def dkwX10_goes_2 : List UInt8 := [3, 60, 27, 42, 180, 0, 89, 162, 0, 45, 42, 180, 0, 19, 16, 10, 4, 27, 120, 104, 27, 96, 42, 3]
abbrev dktX10_goes_2 : List UInt8 := dkwX10_goes_2 ++ dktX10_goes_3
def dkwX10_goes_1 : List UInt8 := [180, 0, 19, 16, 10, 27, 104, 28, 96, 18, 62, 79, 132, 2, 1, 167, 255, 232, 132, 1, 1, 167, 255, 214]
abbrev dktX10_goes_1 : List UInt8 := dkwX10_goes_1 ++ dktX10_goes_2
def dkwX10_goes_0 : List UInt8 := [3, 60, 27, 4, 42, 180, 0, 89, 120, 162, 0, 38, 3, 61, 28, 42, 180, 0, 89, 162, 0, 22, 42]
abbrev dktX10_goes_0 : List UInt8 := dkwX10_goes_0 ++ dktX10_goes_1
theorem dksX10_goes_0 : cX10_goes.data.toList.drop 0 = dktX10_goes_0 := by decide +kernel
theorem dksX10_goes_1 : cX10_goes.data.toList.drop 23 = dktX10_goes_1 := dk_seg dksX10_goes_0 23 rfl rfl
theorem dksX10_goes_2 : cX10_goes.data.toList.drop 47 = dktX10_goes_2 := dk_seg dksX10_goes_1 24 rfl rfl
theorem dksX10_goes_3 : cX10_goes.data.toList.drop 71 = dktX10_goes_3 := dk_seg dksX10_goes_2 24 rfl rfl
theorem dksX10_goes_4 : cX10_goes.data.toList.drop 93 = dktX10_goes_4 := dk_seg dksX10_goes_3 22 rfl rfl
theorem dksX10_goes_5 : cX10_goes.data.toList.drop 115 = dktX10_goes_5 := dk_seg dksX10_goes_4 22 rfl rfl
theorem dksX10_goes_6 : cX10_goes.data.toList.drop 139 = dktX10_goes_6 := dk_seg dksX10_goes_5 24 rfl rfl
theorem dksX10_goes_7 : cX10_goes.data.toList.drop 163 = dktX10_goes_7 := dk_seg dksX10_goes_6 24 rfl rfl
theorem dksX10_goes_8 : cX10_goes.data.toList.drop 187 = dktX10_goes_8 := dk_seg dksX10_goes_7 24 rfl rfl
theorem dksX10_goes_9 : cX10_goes.data.toList.drop 210 = dktX10_goes_9 := dk_seg dksX10_goes_8 23 rfl rfl
theorem dksX10_goes_10 : cX10_goes.data.toList.drop 232 = dktX10_goes_10 := dk_seg dksX10_goes_9 22 rfl rfl
theorem dX10_goes_0 : decode cX10_goes 0 = .ok (.iconst 0, 1) := dk_3 (dk_at dksX10_goes_0 0 rfl rfl)
theorem dX10_goes_1 : decode cX10_goes 1 = .ok (.istore_n 1, 1) := dk_60 (dk_at dksX10_goes_0 1 rfl rfl)
theorem dX10_goes_2 : decode cX10_goes 2 = .ok (.iload_n 1, 1) := dk_27 (dk_at dksX10_goes_0 2 rfl rfl)
theorem dX10_goes_3 : decode cX10_goes 3 = .ok (.iconst 1, 1) := dk_4 (dk_at dksX10_goes_0 3 rfl rfl)
theorem dX10_goes_4 : decode cX10_goes 4 = .ok (.aload_n 0, 1) := dk_42 (dk_at dksX10_goes_0 4 rfl rfl)
theorem dX10_goes_5 : decode cX10_goes 5 = .ok (.getfield 89, 3) := dk_180 0 89 (dk_at dksX10_goes_0 5 rfl rfl)
theorem dX10_goes_8 : decode cX10_goes 8 = .ok (.ishl, 1) := dk_120 (dk_at dksX10_goes_0 8 rfl rfl)
theorem dX10_goes_9 : decode cX10_goes 9 = .ok (.if_icmp .ge 38, 3) := dk_162 0 38 (dk_at dksX10_goes_0 9 rfl rfl)
theorem dX10_goes_12 : decode cX10_goes 12 = .ok (.iconst 0, 1) := dk_3 (dk_at dksX10_goes_0 12 rfl rfl)
theorem dX10_goes_13 : decode cX10_goes 13 = .ok (.istore_n 2, 1) := dk_61 (dk_at dksX10_goes_0 13 rfl rfl)
theorem dX10_goes_14 : decode cX10_goes 14 = .ok (.iload_n 2, 1) := dk_28 (dk_at dksX10_goes_0 14 rfl rfl)
theorem dX10_goes_15 : decode cX10_goes 15 = .ok (.aload_n 0, 1) := dk_42 (dk_at dksX10_goes_0 15 rfl rfl)
theorem dX10_goes_16 : decode cX10_goes 16 = .ok (.getfield 89, 3) := dk_180 0 89 (dk_at dksX10_goes_0 16 rfl rfl)
theorem dX10_goes_19 : decode cX10_goes 19 = .ok (.if_icmp .ge 22, 3) := dk_162 0 22 (dk_at dksX10_goes_0 19 rfl rfl)
theorem dX10_goes_22 : decode cX10_goes 22 = .ok (.aload_n 0, 1) := dk_42 (dk_at dksX10_goes_0 22 rfl rfl)
theorem dX10_goes_23 : decode cX10_goes 23 = .ok (.getfield 19, 3) := dk_180 0 19 (dk_at dksX10_goes_1 0 rfl rfl)
theorem dX10_goes_26 : decode cX10_goes 26 = .ok (.bipush 10, 2) := dk_16 10 (dk_at dksX10_goes_1 3 rfl rfl)
theorem dX10_goes_28 : decode cX10_goes 28 = .ok (.iload_n 1, 1) := dk_27 (dk_at dksX10_goes_1 5 rfl rfl)
theorem dX10_goes_29 : decode cX10_goes 29 = .ok (.imul, 1) := dk_104 (dk_at dksX10_goes_1 6 rfl rfl)
theorem dX10_goes_30 : decode cX10_goes 30 = .ok (.iload_n 2, 1) := dk_28 (dk_at dksX10_goes_1 7 rfl rfl)
theorem dX10_goes_31 : decode cX10_goes 31 = .ok (.iadd, 1) := dk_96 (dk_at dksX10_goes_1 8 rfl rfl)
theorem dX10_goes_32 : decode cX10_goes 32 = .ok (.ldc 62, 2) := dk_18 62 (dk_at dksX10_goes_1 9 rfl rfl)
theorem dX10_goes_34 : decode cX10_goes 34 = .ok (.iastore, 1) := dk_79 (dk_at dksX10_goes_1 11 rfl rfl)
theorem dX10_goes_35 : decode cX10_goes 35 = .ok (.iinc 2 1, 3) := dk_132 2 1 (dk_at dksX10_goes_1 12 rfl rfl)
theorem dX10_goes_38 : decode cX10_goes 38 = .ok (.goto (-24), 3) := dk_167 255 232 (dk_at dksX10_goes_1 15 rfl rfl)
theorem dX10_goes_41 : decode cX10_goes 41 = .ok (.iinc 1 1, 3) := dk_132 1 1 (dk_at dksX10_goes_1 18 rfl rfl)
theorem dX10_goes_44 : decode cX10_goes 44 = .ok (.goto (-42), 3) := dk_167 255 214 (dk_at dksX10_goes_1 21 rfl rfl)
theorem dX10_goes_47 : decode cX10_goes 47 = .ok (.iconst 0, 1) := dk_3 (dk_at dksX10_goes_2 0 rfl rfl)
theorem dX10_goes_48 : decode cX10_goes 48 = .ok (.istore_n 1, 1) := dk_60 (dk_at dksX10_goes_2 1 rfl rfl)
theorem dX10_goes_49 : decode cX10_goes 49 = .ok (.iload_n 1, 1) := dk_27 (dk_at dksX10_goes_2 2 rfl rfl)
theorem dX10_goes_50 : decode cX10_goes 50 = .ok (.aload_n 0, 1) := dk_42 (dk_at dksX10_goes_2 3 rfl rfl)
theorem dX10_goes_51 : decode cX10_goes 51 = .ok (.getfield 89, 3) := dk_180 0 89 (dk_at dksX10_goes_2 4 rfl rfl)
theorem dX10_goes_54 : decode cX10_goes 54 = .ok (.if_icmp .ge 45, 3) := dk_162 0 45 (dk_at dksX10_goes_2 7 rfl rfl)
theorem dX10_goes_57 : decode cX10_goes 57 = .ok (.aload_n 0, 1) := dk_42 (dk_at dksX10_goes_2 10 rfl rfl)
theorem dX10_goes_58 : decode cX10_goes 58 = .ok (.getfield 19, 3) := dk_180 0 19 (dk_at dksX10_goes_2 11 rfl rfl)
theorem dX10_goes_61 : decode cX10_goes 61 = .ok (.bipush 10, 2) := dk_16 10 (dk_at dksX10_goes_2 14 rfl rfl)
theorem dX10_goes_63 : decode cX10_goes 63 = .ok (.iconst 1, 1) := dk_4 (dk_at dksX10_goes_2 16 rfl rfl)
theorem dX10_goes_64 : decode cX10_goes 64 = .ok (.iload_n 1, 1) := dk_27 (dk_at dksX10_goes_2 17 rfl rfl)
theorem dX10_goes_65 : decode cX10_goes 65 = .ok (.ishl, 1) := dk_120 (dk_at dksX10_goes_2 18 rfl rfl)
theorem dX10_goes_66 : decode cX10_goes 66 = .ok (.imul, 1) := dk_104 (dk_at dksX10_goes_2 19 rfl rfl)
theorem dX10_goes_67 : decode cX10_goes 67 = .ok (.iload_n 1, 1) := dk_27 (dk_at dksX10_goes_2 20 rfl rfl)
theorem dX10_goes_68 : decode cX10_goes 68 = .ok (.iadd, 1) := dk_96 (dk_at dksX10_goes_2 21 rfl rfl)
theorem dX10_goes_69 : decode cX10_goes 69 = .ok (.aload_n 0, 1) := dk_42 (dk_at dksX10_goes_2 22 rfl rfl)
theorem dX10_goes_70 : decode cX10_goes 70 = .ok (.iconst 0, 1) := dk_3 (dk_at dksX10_goes_2 23 rfl rfl)
theorem dX10_goes_71 : decode cX10_goes 71 = .ok (.aload_n 0, 1) := dk_42 (dk_at dksX10_goes_3 0 rfl rfl)
theorem dX10_goes_72 : decode cX10_goes 72 = .ok (.getfield 85, 3) := dk_180 0 85 (dk_at dksX10_goes_3 1 rfl rfl)
theorem dX10_goes_75 : decode cX10_goes 75 = .ok (.aload_n 0, 1) := dk_42 (dk_at dksX10_goes_3 4 rfl rfl)
theorem dX10_goes_76 : decode cX10_goes 76 = .ok (.iload_n 1, 1) := dk_27 (dk_at dksX10_goes_3 5 rfl rfl)
theorem dX10_goes_77 : decode cX10_goes 77 = .ok (.invokevirtual 95, 3) := dk_182 0 95 (dk_at dksX10_goes_3 6 rfl rfl)
theorem dX10_goes_80 : decode cX10_goes 80 = .ok (.invokevirtual 98, 3) := dk_182 0 98 (dk_at dksX10_goes_3 9 rfl rfl)
theorem dX10_goes_83 : decode cX10_goes 83 = .ok (.aload_n 0, 1) := dk_42 (dk_at dksX10_goes_3 12 rfl rfl)
theorem dX10_goes_84 : decode cX10_goes 84 = .ok (.getfield 15, 3) := dk_180 0 15 (dk_at dksX10_goes_3 13 rfl rfl)
theorem dX10_goes_87 : decode cX10_goes 87 = .ok (.iload_n 1, 1) := dk_27 (dk_at dksX10_goes_3 16 rfl rfl)
theorem dX10_goes_88 : decode cX10_goes 88 = .ok (.iaload, 1) := dk_46 (dk_at dksX10_goes_3 17 rfl rfl)
theorem dX10_goes_89 : decode cX10_goes 89 = .ok (.invokevirtual 102, 3) := dk_182 0 102 (dk_at dksX10_goes_3 18 rfl rfl)
theorem dX10_goes_92 : decode cX10_goes 92 = .ok (.iastore, 1) := dk_79 (dk_at dksX10_goes_3 21 rfl rfl)
theorem dX10_goes_93 : decode cX10_goes 93 = .ok (.iinc 1 1, 3) := dk_132 1 1 (dk_at dksX10_goes_4 0 rfl rfl)
theorem dX10_goes_96 : decode cX10_goes 96 = .ok (.goto (-47), 3) := dk_167 255 209 (dk_at dksX10_goes_4 3 rfl rfl)
theorem dX10_goes_99 : decode cX10_goes 99 = .ok (.iconst 1, 1) := dk_4 (dk_at dksX10_goes_4 6 rfl rfl)
theorem dX10_goes_100 : decode cX10_goes 100 = .ok (.istore_n 1, 1) := dk_60 (dk_at dksX10_goes_4 7 rfl rfl)
theorem dX10_goes_101 : decode cX10_goes 101 = .ok (.iload_n 1, 1) := dk_27 (dk_at dksX10_goes_4 8 rfl rfl)
theorem dX10_goes_102 : decode cX10_goes 102 = .ok (.iconst 1, 1) := dk_4 (dk_at dksX10_goes_4 9 rfl rfl)
theorem dX10_goes_103 : decode cX10_goes 103 = .ok (.aload_n 0, 1) := dk_42 (dk_at dksX10_goes_4 10 rfl rfl)
theorem dX10_goes_104 : decode cX10_goes 104 = .ok (.getfield 89, 3) := dk_180 0 89 (dk_at dksX10_goes_4 11 rfl rfl)
theorem dX10_goes_107 : decode cX10_goes 107 = .ok (.ishl, 1) := dk_120 (dk_at dksX10_goes_4 14 rfl rfl)
theorem dX10_goes_108 : decode cX10_goes 108 = .ok (.if_icmp .ge 133, 3) := dk_162 0 133 (dk_at dksX10_goes_4 15 rfl rfl)
theorem dX10_goes_111 : decode cX10_goes 111 = .ok (.iconst 0, 1) := dk_3 (dk_at dksX10_goes_4 18 rfl rfl)
theorem dX10_goes_112 : decode cX10_goes 112 = .ok (.istore_n 2, 1) := dk_61 (dk_at dksX10_goes_4 19 rfl rfl)
theorem dX10_goes_113 : decode cX10_goes 113 = .ok (.iload_n 2, 1) := dk_28 (dk_at dksX10_goes_4 20 rfl rfl)
theorem dX10_goes_114 : decode cX10_goes 114 = .ok (.aload_n 0, 1) := dk_42 (dk_at dksX10_goes_4 21 rfl rfl)
theorem dX10_goes_115 : decode cX10_goes 115 = .ok (.getfield 89, 3) := dk_180 0 89 (dk_at dksX10_goes_5 0 rfl rfl)
theorem dX10_goes_118 : decode cX10_goes 118 = .ok (.if_icmp .ge 117, 3) := dk_162 0 117 (dk_at dksX10_goes_5 3 rfl rfl)
theorem dX10_goes_121 : decode cX10_goes 121 = .ok (.aload_n 0, 1) := dk_42 (dk_at dksX10_goes_5 6 rfl rfl)
theorem dX10_goes_122 : decode cX10_goes 122 = .ok (.getfield 19, 3) := dk_180 0 19 (dk_at dksX10_goes_5 7 rfl rfl)
theorem dX10_goes_125 : decode cX10_goes 125 = .ok (.bipush 10, 2) := dk_16 10 (dk_at dksX10_goes_5 10 rfl rfl)
theorem dX10_goes_127 : decode cX10_goes 127 = .ok (.iload_n 1, 1) := dk_27 (dk_at dksX10_goes_5 12 rfl rfl)
theorem dX10_goes_128 : decode cX10_goes 128 = .ok (.imul, 1) := dk_104 (dk_at dksX10_goes_5 13 rfl rfl)
theorem dX10_goes_129 : decode cX10_goes 129 = .ok (.iload_n 2, 1) := dk_28 (dk_at dksX10_goes_5 14 rfl rfl)
theorem dX10_goes_130 : decode cX10_goes 130 = .ok (.iadd, 1) := dk_96 (dk_at dksX10_goes_5 15 rfl rfl)
theorem dX10_goes_131 : decode cX10_goes 131 = .ok (.iaload, 1) := dk_46 (dk_at dksX10_goes_5 16 rfl rfl)
theorem dX10_goes_132 : decode cX10_goes 132 = .ok (.istore_n 3, 1) := dk_62 (dk_at dksX10_goes_5 17 rfl rfl)
theorem dX10_goes_133 : decode cX10_goes 133 = .ok (.iload_n 3, 1) := dk_29 (dk_at dksX10_goes_5 18 rfl rfl)
theorem dX10_goes_134 : decode cX10_goes 134 = .ok (.ldc 62, 2) := dk_18 62 (dk_at dksX10_goes_5 19 rfl rfl)
theorem dX10_goes_136 : decode cX10_goes 136 = .ok (.if_icmp .ne 6, 3) := dk_160 0 6 (dk_at dksX10_goes_5 21 rfl rfl)
theorem dX10_goes_139 : decode cX10_goes 139 = .ok (.goto 90, 3) := dk_167 0 90 (dk_at dksX10_goes_6 0 rfl rfl)
theorem dX10_goes_142 : decode cX10_goes 142 = .ok (.iconst 0, 1) := dk_3 (dk_at dksX10_goes_6 3 rfl rfl)
theorem dX10_goes_143 : decode cX10_goes 143 = .ok (.istore 4, 2) := dk_54 4 (dk_at dksX10_goes_6 4 rfl rfl)
theorem dX10_goes_145 : decode cX10_goes 145 = .ok (.iload 4, 2) := dk_21 4 (dk_at dksX10_goes_6 6 rfl rfl)
theorem dX10_goes_147 : decode cX10_goes 147 = .ok (.aload_n 0, 1) := dk_42 (dk_at dksX10_goes_6 8 rfl rfl)
theorem dX10_goes_148 : decode cX10_goes 148 = .ok (.getfield 89, 3) := dk_180 0 89 (dk_at dksX10_goes_6 9 rfl rfl)
theorem dX10_goes_151 : decode cX10_goes 151 = .ok (.if_icmp .ge 78, 3) := dk_162 0 78 (dk_at dksX10_goes_6 12 rfl rfl)
theorem dX10_goes_154 : decode cX10_goes 154 = .ok (.iload_n 1, 1) := dk_27 (dk_at dksX10_goes_6 15 rfl rfl)
theorem dX10_goes_155 : decode cX10_goes 155 = .ok (.iload 4, 2) := dk_21 4 (dk_at dksX10_goes_6 16 rfl rfl)
theorem dX10_goes_157 : decode cX10_goes 157 = .ok (.invokestatic 106, 3) := dk_184 0 106 (dk_at dksX10_goes_6 18 rfl rfl)
theorem dX10_goes_160 : decode cX10_goes 160 = .ok (.ifCond .eq 6, 3) := dk_153 0 6 (dk_at dksX10_goes_6 21 rfl rfl)
theorem dX10_goes_163 : decode cX10_goes 163 = .ok (.goto 60, 3) := dk_167 0 60 (dk_at dksX10_goes_7 0 rfl rfl)
theorem dX10_goes_166 : decode cX10_goes 166 = .ok (.bipush 10, 2) := dk_16 10 (dk_at dksX10_goes_7 3 rfl rfl)
theorem dX10_goes_168 : decode cX10_goes 168 = .ok (.iload_n 1, 1) := dk_27 (dk_at dksX10_goes_7 5 rfl rfl)
theorem dX10_goes_169 : decode cX10_goes 169 = .ok (.iconst 1, 1) := dk_4 (dk_at dksX10_goes_7 6 rfl rfl)
theorem dX10_goes_170 : decode cX10_goes 170 = .ok (.iload 4, 2) := dk_21 4 (dk_at dksX10_goes_7 7 rfl rfl)
theorem dX10_goes_172 : decode cX10_goes 172 = .ok (.ishl, 1) := dk_120 (dk_at dksX10_goes_7 9 rfl rfl)
theorem dX10_goes_173 : decode cX10_goes 173 = .ok (.ior, 1) := dk_128 (dk_at dksX10_goes_7 10 rfl rfl)
theorem dX10_goes_174 : decode cX10_goes 174 = .ok (.imul, 1) := dk_104 (dk_at dksX10_goes_7 11 rfl rfl)
theorem dX10_goes_175 : decode cX10_goes 175 = .ok (.iload 4, 2) := dk_21 4 (dk_at dksX10_goes_7 12 rfl rfl)
theorem dX10_goes_177 : decode cX10_goes 177 = .ok (.iadd, 1) := dk_96 (dk_at dksX10_goes_7 14 rfl rfl)
theorem dX10_goes_178 : decode cX10_goes 178 = .ok (.istore 5, 2) := dk_54 5 (dk_at dksX10_goes_7 15 rfl rfl)
theorem dX10_goes_180 : decode cX10_goes 180 = .ok (.aload_n 0, 1) := dk_42 (dk_at dksX10_goes_7 17 rfl rfl)
theorem dX10_goes_181 : decode cX10_goes 181 = .ok (.getfield 19, 3) := dk_180 0 19 (dk_at dksX10_goes_7 18 rfl rfl)
theorem dX10_goes_184 : decode cX10_goes 184 = .ok (.iload 5, 2) := dk_21 5 (dk_at dksX10_goes_7 21 rfl rfl)
theorem dX10_goes_186 : decode cX10_goes 186 = .ok (.aload_n 0, 1) := dk_42 (dk_at dksX10_goes_7 23 rfl rfl)
theorem dX10_goes_187 : decode cX10_goes 187 = .ok (.getfield 19, 3) := dk_180 0 19 (dk_at dksX10_goes_8 0 rfl rfl)
theorem dX10_goes_190 : decode cX10_goes 190 = .ok (.iload 5, 2) := dk_21 5 (dk_at dksX10_goes_8 3 rfl rfl)
theorem dX10_goes_192 : decode cX10_goes 192 = .ok (.iaload, 1) := dk_46 (dk_at dksX10_goes_8 5 rfl rfl)
theorem dX10_goes_193 : decode cX10_goes 193 = .ok (.aload_n 0, 1) := dk_42 (dk_at dksX10_goes_8 6 rfl rfl)
theorem dX10_goes_194 : decode cX10_goes 194 = .ok (.iload_n 3, 1) := dk_29 (dk_at dksX10_goes_8 7 rfl rfl)
theorem dX10_goes_195 : decode cX10_goes 195 = .ok (.aload_n 0, 1) := dk_42 (dk_at dksX10_goes_8 8 rfl rfl)
theorem dX10_goes_196 : decode cX10_goes 196 = .ok (.iload_n 2, 1) := dk_28 (dk_at dksX10_goes_8 9 rfl rfl)
theorem dX10_goes_197 : decode cX10_goes 197 = .ok (.invokevirtual 95, 3) := dk_182 0 95 (dk_at dksX10_goes_8 10 rfl rfl)
theorem dX10_goes_200 : decode cX10_goes 200 = .ok (.aload_n 0, 1) := dk_42 (dk_at dksX10_goes_8 13 rfl rfl)
theorem dX10_goes_201 : decode cX10_goes 201 = .ok (.iload 4, 2) := dk_21 4 (dk_at dksX10_goes_8 14 rfl rfl)
theorem dX10_goes_203 : decode cX10_goes 203 = .ok (.invokevirtual 95, 3) := dk_182 0 95 (dk_at dksX10_goes_8 16 rfl rfl)
theorem dX10_goes_206 : decode cX10_goes 206 = .ok (.invokevirtual 98, 3) := dk_182 0 98 (dk_at dksX10_goes_8 19 rfl rfl)
theorem dX10_goes_209 : decode cX10_goes 209 = .ok (.aload_n 0, 1) := dk_42 (dk_at dksX10_goes_8 22 rfl rfl)
theorem dX10_goes_210 : decode cX10_goes 210 = .ok (.getfield 15, 3) := dk_180 0 15 (dk_at dksX10_goes_9 0 rfl rfl)
theorem dX10_goes_213 : decode cX10_goes 213 = .ok (.iload 4, 2) := dk_21 4 (dk_at dksX10_goes_9 3 rfl rfl)
theorem dX10_goes_215 : decode cX10_goes 215 = .ok (.iaload, 1) := dk_46 (dk_at dksX10_goes_9 5 rfl rfl)
theorem dX10_goes_216 : decode cX10_goes 216 = .ok (.invokevirtual 102, 3) := dk_182 0 102 (dk_at dksX10_goes_9 6 rfl rfl)
theorem dX10_goes_219 : decode cX10_goes 219 = .ok (.invokestatic 82, 3) := dk_184 0 82 (dk_at dksX10_goes_9 9 rfl rfl)
theorem dX10_goes_222 : decode cX10_goes 222 = .ok (.iastore, 1) := dk_79 (dk_at dksX10_goes_9 12 rfl rfl)
theorem dX10_goes_223 : decode cX10_goes 223 = .ok (.iinc 4 1, 3) := dk_132 4 1 (dk_at dksX10_goes_9 13 rfl rfl)
theorem dX10_goes_226 : decode cX10_goes 226 = .ok (.goto (-81), 3) := dk_167 255 175 (dk_at dksX10_goes_9 16 rfl rfl)
theorem dX10_goes_229 : decode cX10_goes 229 = .ok (.iinc 2 1, 3) := dk_132 2 1 (dk_at dksX10_goes_9 19 rfl rfl)
theorem dX10_goes_232 : decode cX10_goes 232 = .ok (.goto (-119), 3) := dk_167 255 137 (dk_at dksX10_goes_10 0 rfl rfl)
theorem dX10_goes_235 : decode cX10_goes 235 = .ok (.iinc 1 1, 3) := dk_132 1 1 (dk_at dksX10_goes_10 3 rfl rfl)
theorem dX10_goes_238 : decode cX10_goes 238 = .ok (.goto (-137), 3) := dk_167 255 119 (dk_at dksX10_goes_10 6 rfl rfl)
theorem dX10_goes_241 : decode cX10_goes 241 = .ok (.return_, 1) := dk_177 (dk_at dksX10_goes_10 9 rfl rfl)
abbrev cX10_at : ByteArray := prog_2_method_2_code
def yX10_at : MethodName := ⟨RX10, "at", "(I)LCardBowl$House;"⟩
def dkwX10_at_0 : List UInt8 := [42, 180, 0, 3, 180, 0, 28, 180, 0, 32, 42, 180, 0, 15, 27, 46, 182, 0, 38, 176]
abbrev dktX10_at_0 : List UInt8 := dkwX10_at_0 ++ []
theorem dksX10_at_0 : cX10_at.data.toList.drop 0 = dktX10_at_0 := by decide +kernel
theorem dX10_at_0 : decode cX10_at 0 = .ok (.aload_n 0, 1) := dk_42 (dk_at dksX10_at_0 0 rfl rfl)
theorem dX10_at_1 : decode cX10_at 1 = .ok (.getfield 3, 3) := dk_180 0 3 (dk_at dksX10_at_0 1 rfl rfl)
theorem dX10_at_4 : decode cX10_at 4 = .ok (.getfield 28, 3) := dk_180 0 28 (dk_at dksX10_at_0 4 rfl rfl)
theorem dX10_at_7 : decode cX10_at 7 = .ok (.getfield 32, 3) := dk_180 0 32 (dk_at dksX10_at_0 7 rfl rfl)
theorem dX10_at_10 : decode cX10_at 10 = .ok (.aload_n 0, 1) := dk_42 (dk_at dksX10_at_0 10 rfl rfl)
theorem dX10_at_11 : decode cX10_at 11 = .ok (.getfield 15, 3) := dk_180 0 15 (dk_at dksX10_at_0 11 rfl rfl)
theorem dX10_at_14 : decode cX10_at 14 = .ok (.iload_n 1, 1) := dk_27 (dk_at dksX10_at_0 14 rfl rfl)
theorem dX10_at_15 : decode cX10_at 15 = .ok (.iaload, 1) := dk_46 (dk_at dksX10_at_0 15 rfl rfl)
theorem dX10_at_16 : decode cX10_at 16 = .ok (.invokevirtual 38, 3) := dk_182 0 38 (dk_at dksX10_at_0 16 rfl rfl)
theorem dX10_at_19 : decode cX10_at 19 = .ok (.areturn, 1) := dk_176 (dk_at dksX10_at_0 19 rfl rfl)
abbrev cX10_after : ByteArray := prog_2_method_4_code
def yX10_after : MethodName := ⟨RX10, "after", "(III)I"⟩
def dkwX10_after_4 : List UInt8 := [21, 6, 167, 0, 5, 18, 62, 172]
abbrev dktX10_after_4 : List UInt8 := dkwX10_after_4 ++ []
def dkwX10_after_3 : List UInt8 := [184, 0, 74, 16, 15, 96, 54, 6, 21, 6, 25, 4, 180, 0, 79, 17, 0, 180, 184, 0, 82, 163, 0, 8]
abbrev dktX10_after_3 : List UInt8 := dkwX10_after_3 ++ dktX10_after_4
def dkwX10_after_2 : List UInt8 := [180, 0, 63, 16, 7, 112, 25, 4, 180, 0, 66, 159, 0, 6, 18, 62, 172, 21, 5, 25, 4, 180, 0, 71]
abbrev dktX10_after_2 : List UInt8 := dkwX10_after_2 ++ dktX10_after_3
def dkwX10_after_1 : List UInt8 := [182, 0, 58, 154, 0, 19, 21, 5, 17, 0, 180, 163, 0, 8, 21, 5, 167, 0, 5, 18, 62, 172, 42]
abbrev dktX10_after_1 : List UInt8 := dkwX10_after_1 ++ dktX10_after_2
def dkwX10_after_0 : List UInt8 := [42, 180, 0, 3, 180, 0, 28, 180, 0, 32, 29, 182, 0, 38, 58, 4, 27, 28, 96, 54, 5, 42, 29]
abbrev dktX10_after_0 : List UInt8 := dkwX10_after_0 ++ dktX10_after_1
theorem dksX10_after_0 : cX10_after.data.toList.drop 0 = dktX10_after_0 := by decide +kernel
theorem dksX10_after_1 : cX10_after.data.toList.drop 23 = dktX10_after_1 := dk_seg dksX10_after_0 23 rfl rfl
theorem dksX10_after_2 : cX10_after.data.toList.drop 46 = dktX10_after_2 := dk_seg dksX10_after_1 23 rfl rfl
theorem dksX10_after_3 : cX10_after.data.toList.drop 70 = dktX10_after_3 := dk_seg dksX10_after_2 24 rfl rfl
theorem dksX10_after_4 : cX10_after.data.toList.drop 94 = dktX10_after_4 := dk_seg dksX10_after_3 24 rfl rfl
theorem dX10_after_0 : decode cX10_after 0 = .ok (.aload_n 0, 1) := dk_42 (dk_at dksX10_after_0 0 rfl rfl)
theorem dX10_after_1 : decode cX10_after 1 = .ok (.getfield 3, 3) := dk_180 0 3 (dk_at dksX10_after_0 1 rfl rfl)
theorem dX10_after_4 : decode cX10_after 4 = .ok (.getfield 28, 3) := dk_180 0 28 (dk_at dksX10_after_0 4 rfl rfl)
theorem dX10_after_7 : decode cX10_after 7 = .ok (.getfield 32, 3) := dk_180 0 32 (dk_at dksX10_after_0 7 rfl rfl)
theorem dX10_after_10 : decode cX10_after 10 = .ok (.iload_n 3, 1) := dk_29 (dk_at dksX10_after_0 10 rfl rfl)
theorem dX10_after_11 : decode cX10_after 11 = .ok (.invokevirtual 38, 3) := dk_182 0 38 (dk_at dksX10_after_0 11 rfl rfl)
theorem dX10_after_14 : decode cX10_after 14 = .ok (.astore 4, 2) := dk_58 4 (dk_at dksX10_after_0 14 rfl rfl)
theorem dX10_after_16 : decode cX10_after 16 = .ok (.iload_n 1, 1) := dk_27 (dk_at dksX10_after_0 16 rfl rfl)
theorem dX10_after_17 : decode cX10_after 17 = .ok (.iload_n 2, 1) := dk_28 (dk_at dksX10_after_0 17 rfl rfl)
theorem dX10_after_18 : decode cX10_after 18 = .ok (.iadd, 1) := dk_96 (dk_at dksX10_after_0 18 rfl rfl)
theorem dX10_after_19 : decode cX10_after 19 = .ok (.istore 5, 2) := dk_54 5 (dk_at dksX10_after_0 19 rfl rfl)
theorem dX10_after_21 : decode cX10_after 21 = .ok (.aload_n 0, 1) := dk_42 (dk_at dksX10_after_0 21 rfl rfl)
theorem dX10_after_22 : decode cX10_after 22 = .ok (.iload_n 3, 1) := dk_29 (dk_at dksX10_after_0 22 rfl rfl)
theorem dX10_after_23 : decode cX10_after 23 = .ok (.invokevirtual 58, 3) := dk_182 0 58 (dk_at dksX10_after_1 0 rfl rfl)
theorem dX10_after_26 : decode cX10_after 26 = .ok (.ifCond .ne 19, 3) := dk_154 0 19 (dk_at dksX10_after_1 3 rfl rfl)
theorem dX10_after_29 : decode cX10_after 29 = .ok (.iload 5, 2) := dk_21 5 (dk_at dksX10_after_1 6 rfl rfl)
theorem dX10_after_31 : decode cX10_after 31 = .ok (.sipush 180, 3) := dk_17 0 180 (dk_at dksX10_after_1 8 rfl rfl)
theorem dX10_after_34 : decode cX10_after 34 = .ok (.if_icmp .gt 8, 3) := dk_163 0 8 (dk_at dksX10_after_1 11 rfl rfl)
theorem dX10_after_37 : decode cX10_after 37 = .ok (.iload 5, 2) := dk_21 5 (dk_at dksX10_after_1 14 rfl rfl)
theorem dX10_after_39 : decode cX10_after 39 = .ok (.goto 5, 3) := dk_167 0 5 (dk_at dksX10_after_1 16 rfl rfl)
theorem dX10_after_42 : decode cX10_after 42 = .ok (.ldc 62, 2) := dk_18 62 (dk_at dksX10_after_1 19 rfl rfl)
theorem dX10_after_44 : decode cX10_after 44 = .ok (.ireturn, 1) := dk_172 (dk_at dksX10_after_1 21 rfl rfl)
theorem dX10_after_45 : decode cX10_after 45 = .ok (.aload_n 0, 1) := dk_42 (dk_at dksX10_after_1 22 rfl rfl)
theorem dX10_after_46 : decode cX10_after 46 = .ok (.getfield 63, 3) := dk_180 0 63 (dk_at dksX10_after_2 0 rfl rfl)
theorem dX10_after_49 : decode cX10_after 49 = .ok (.bipush 7, 2) := dk_16 7 (dk_at dksX10_after_2 3 rfl rfl)
theorem dX10_after_51 : decode cX10_after 51 = .ok (.irem, 1) := dk_112 (dk_at dksX10_after_2 5 rfl rfl)
theorem dX10_after_52 : decode cX10_after 52 = .ok (.aload 4, 2) := dk_25 4 (dk_at dksX10_after_2 6 rfl rfl)
theorem dX10_after_54 : decode cX10_after 54 = .ok (.getfield 66, 3) := dk_180 0 66 (dk_at dksX10_after_2 8 rfl rfl)
theorem dX10_after_57 : decode cX10_after 57 = .ok (.if_icmp .eq 6, 3) := dk_159 0 6 (dk_at dksX10_after_2 11 rfl rfl)
theorem dX10_after_60 : decode cX10_after 60 = .ok (.ldc 62, 2) := dk_18 62 (dk_at dksX10_after_2 14 rfl rfl)
theorem dX10_after_62 : decode cX10_after 62 = .ok (.ireturn, 1) := dk_172 (dk_at dksX10_after_2 16 rfl rfl)
theorem dX10_after_63 : decode cX10_after 63 = .ok (.iload 5, 2) := dk_21 5 (dk_at dksX10_after_2 17 rfl rfl)
theorem dX10_after_65 : decode cX10_after 65 = .ok (.aload 4, 2) := dk_25 4 (dk_at dksX10_after_2 19 rfl rfl)
theorem dX10_after_67 : decode cX10_after 67 = .ok (.getfield 71, 3) := dk_180 0 71 (dk_at dksX10_after_2 21 rfl rfl)
theorem dX10_after_70 : decode cX10_after 70 = .ok (.invokestatic 74, 3) := dk_184 0 74 (dk_at dksX10_after_3 0 rfl rfl)
theorem dX10_after_73 : decode cX10_after 73 = .ok (.bipush 15, 2) := dk_16 15 (dk_at dksX10_after_3 3 rfl rfl)
theorem dX10_after_75 : decode cX10_after 75 = .ok (.iadd, 1) := dk_96 (dk_at dksX10_after_3 5 rfl rfl)
theorem dX10_after_76 : decode cX10_after 76 = .ok (.istore 6, 2) := dk_54 6 (dk_at dksX10_after_3 6 rfl rfl)
theorem dX10_after_78 : decode cX10_after 78 = .ok (.iload 6, 2) := dk_21 6 (dk_at dksX10_after_3 8 rfl rfl)
theorem dX10_after_80 : decode cX10_after 80 = .ok (.aload 4, 2) := dk_25 4 (dk_at dksX10_after_3 10 rfl rfl)
theorem dX10_after_82 : decode cX10_after 82 = .ok (.getfield 79, 3) := dk_180 0 79 (dk_at dksX10_after_3 12 rfl rfl)
theorem dX10_after_85 : decode cX10_after 85 = .ok (.sipush 180, 3) := dk_17 0 180 (dk_at dksX10_after_3 15 rfl rfl)
theorem dX10_after_88 : decode cX10_after 88 = .ok (.invokestatic 82, 3) := dk_184 0 82 (dk_at dksX10_after_3 18 rfl rfl)
theorem dX10_after_91 : decode cX10_after 91 = .ok (.if_icmp .gt 8, 3) := dk_163 0 8 (dk_at dksX10_after_3 21 rfl rfl)
theorem dX10_after_94 : decode cX10_after 94 = .ok (.iload 6, 2) := dk_21 6 (dk_at dksX10_after_4 0 rfl rfl)
theorem dX10_after_96 : decode cX10_after 96 = .ok (.goto 5, 3) := dk_167 0 5 (dk_at dksX10_after_4 2 rfl rfl)
theorem dX10_after_99 : decode cX10_after 99 = .ok (.ldc 62, 2) := dk_18 62 (dk_at dksX10_after_4 5 rfl rfl)
theorem dX10_after_101 : decode cX10_after 101 = .ok (.ireturn, 1) := dk_172 (dk_at dksX10_after_4 7 rfl rfl)
abbrev cX10_isCall : ByteArray := prog_2_method_3_code
def yX10_isCall : MethodName := ⟨RX10, "isCall", "(I)Z"⟩
def dkwX10_isCall_1 : List UInt8 := [167, 0, 4, 3, 172]
abbrev dktX10_isCall_1 : List UInt8 := dkwX10_isCall_1 ++ []
def dkwX10_isCall_0 : List UInt8 := [42, 180, 0, 3, 180, 0, 28, 180, 0, 44, 42, 180, 0, 48, 27, 182, 0, 52, 5, 161, 0, 7, 4]
abbrev dktX10_isCall_0 : List UInt8 := dkwX10_isCall_0 ++ dktX10_isCall_1
theorem dksX10_isCall_0 : cX10_isCall.data.toList.drop 0 = dktX10_isCall_0 := by decide +kernel
theorem dksX10_isCall_1 : cX10_isCall.data.toList.drop 23 = dktX10_isCall_1 := dk_seg dksX10_isCall_0 23 rfl rfl
theorem dX10_isCall_0 : decode cX10_isCall 0 = .ok (.aload_n 0, 1) := dk_42 (dk_at dksX10_isCall_0 0 rfl rfl)
theorem dX10_isCall_1 : decode cX10_isCall 1 = .ok (.getfield 3, 3) := dk_180 0 3 (dk_at dksX10_isCall_0 1 rfl rfl)
theorem dX10_isCall_4 : decode cX10_isCall 4 = .ok (.getfield 28, 3) := dk_180 0 28 (dk_at dksX10_isCall_0 4 rfl rfl)
theorem dX10_isCall_7 : decode cX10_isCall 7 = .ok (.getfield 44, 3) := dk_180 0 44 (dk_at dksX10_isCall_0 7 rfl rfl)
theorem dX10_isCall_10 : decode cX10_isCall 10 = .ok (.aload_n 0, 1) := dk_42 (dk_at dksX10_isCall_0 10 rfl rfl)
theorem dX10_isCall_11 : decode cX10_isCall 11 = .ok (.getfield 48, 3) := dk_180 0 48 (dk_at dksX10_isCall_0 11 rfl rfl)
theorem dX10_isCall_14 : decode cX10_isCall 14 = .ok (.iload_n 1, 1) := dk_27 (dk_at dksX10_isCall_0 14 rfl rfl)
theorem dX10_isCall_15 : decode cX10_isCall 15 = .ok (.invokevirtual 52, 3) := dk_182 0 52 (dk_at dksX10_isCall_0 15 rfl rfl)
theorem dX10_isCall_18 : decode cX10_isCall 18 = .ok (.iconst 2, 1) := dk_5 (dk_at dksX10_isCall_0 18 rfl rfl)
theorem dX10_isCall_19 : decode cX10_isCall 19 = .ok (.if_icmp .lt 7, 3) := dk_161 0 7 (dk_at dksX10_isCall_0 19 rfl rfl)
theorem dX10_isCall_22 : decode cX10_isCall 22 = .ok (.iconst 1, 1) := dk_4 (dk_at dksX10_isCall_0 22 rfl rfl)
theorem dX10_isCall_23 : decode cX10_isCall 23 = .ok (.goto 4, 3) := dk_167 0 4 (dk_at dksX10_isCall_1 0 rfl rfl)
theorem dX10_isCall_26 : decode cX10_isCall 26 = .ok (.iconst 0, 1) := dk_3 (dk_at dksX10_isCall_1 3 rfl rfl)
theorem dX10_isCall_27 : decode cX10_isCall 27 = .ok (.ireturn, 1) := dk_172 (dk_at dksX10_isCall_1 4 rfl rfl)
abbrev cX10_best : ByteArray := prog_2_method_12_code
def yX10_best : MethodName := ⟨RX10, "best", "()V"⟩
def dkwX10_best_5 : List UInt8 := [181, 0, 116, 42, 29, 181, 0, 119, 132, 1, 1, 167, 255, 144, 177]
abbrev dktX10_best_5 : List UInt8 := dkwX10_best_5 ++ []
def dkwX10_best_4 : List UInt8 := [4, 167, 0, 4, 3, 54, 4, 21, 4, 154, 0, 6, 167, 0, 18, 42, 27, 181, 0, 113, 42, 28]
abbrev dktX10_best_4 : List UInt8 := dkwX10_best_4 ++ dktX10_best_5
def dkwX10_best_3 : List UInt8 := [28, 42, 180, 0, 116, 160, 0, 23, 42, 27, 182, 0, 128, 42, 42, 180, 0, 113, 182, 0, 128, 162, 0, 7]
abbrev dktX10_best_3 : List UInt8 := dkwX10_best_3 ++ dktX10_best_4
def dkwX10_best_2 : List UInt8 := [29, 42, 180, 0, 119, 163, 0, 43, 29, 42, 180, 0, 119, 160, 0, 39, 28, 42, 180, 0, 116, 161, 0, 27]
abbrev dktX10_best_2 : List UInt8 := dkwX10_best_2 ++ dktX10_best_3
def dkwX10_best_1 : List UInt8 := [162, 0, 108, 42, 27, 182, 0, 122, 61, 28, 18, 62, 160, 0, 6, 167, 0, 87, 42, 27, 182, 0, 126, 62]
abbrev dktX10_best_1 : List UInt8 := dkwX10_best_1 ++ dktX10_best_2
def dkwX10_best_0 : List UInt8 := [42, 3, 181, 0, 113, 42, 3, 181, 0, 116, 42, 3, 181, 0, 119, 4, 60, 27, 4, 42, 180, 0, 89, 120]
abbrev dktX10_best_0 : List UInt8 := dkwX10_best_0 ++ dktX10_best_1
theorem dksX10_best_0 : cX10_best.data.toList.drop 0 = dktX10_best_0 := by decide +kernel
theorem dksX10_best_1 : cX10_best.data.toList.drop 24 = dktX10_best_1 := dk_seg dksX10_best_0 24 rfl rfl
theorem dksX10_best_2 : cX10_best.data.toList.drop 48 = dktX10_best_2 := dk_seg dksX10_best_1 24 rfl rfl
theorem dksX10_best_3 : cX10_best.data.toList.drop 72 = dktX10_best_3 := dk_seg dksX10_best_2 24 rfl rfl
theorem dksX10_best_4 : cX10_best.data.toList.drop 96 = dktX10_best_4 := dk_seg dksX10_best_3 24 rfl rfl
theorem dksX10_best_5 : cX10_best.data.toList.drop 118 = dktX10_best_5 := dk_seg dksX10_best_4 22 rfl rfl
theorem dX10_best_0 : decode cX10_best 0 = .ok (.aload_n 0, 1) := dk_42 (dk_at dksX10_best_0 0 rfl rfl)
theorem dX10_best_1 : decode cX10_best 1 = .ok (.iconst 0, 1) := dk_3 (dk_at dksX10_best_0 1 rfl rfl)
theorem dX10_best_2 : decode cX10_best 2 = .ok (.putfield 113, 3) := dk_181 0 113 (dk_at dksX10_best_0 2 rfl rfl)
theorem dX10_best_5 : decode cX10_best 5 = .ok (.aload_n 0, 1) := dk_42 (dk_at dksX10_best_0 5 rfl rfl)
theorem dX10_best_6 : decode cX10_best 6 = .ok (.iconst 0, 1) := dk_3 (dk_at dksX10_best_0 6 rfl rfl)
theorem dX10_best_7 : decode cX10_best 7 = .ok (.putfield 116, 3) := dk_181 0 116 (dk_at dksX10_best_0 7 rfl rfl)
theorem dX10_best_10 : decode cX10_best 10 = .ok (.aload_n 0, 1) := dk_42 (dk_at dksX10_best_0 10 rfl rfl)
theorem dX10_best_11 : decode cX10_best 11 = .ok (.iconst 0, 1) := dk_3 (dk_at dksX10_best_0 11 rfl rfl)
theorem dX10_best_12 : decode cX10_best 12 = .ok (.putfield 119, 3) := dk_181 0 119 (dk_at dksX10_best_0 12 rfl rfl)
theorem dX10_best_15 : decode cX10_best 15 = .ok (.iconst 1, 1) := dk_4 (dk_at dksX10_best_0 15 rfl rfl)
theorem dX10_best_16 : decode cX10_best 16 = .ok (.istore_n 1, 1) := dk_60 (dk_at dksX10_best_0 16 rfl rfl)
theorem dX10_best_17 : decode cX10_best 17 = .ok (.iload_n 1, 1) := dk_27 (dk_at dksX10_best_0 17 rfl rfl)
theorem dX10_best_18 : decode cX10_best 18 = .ok (.iconst 1, 1) := dk_4 (dk_at dksX10_best_0 18 rfl rfl)
theorem dX10_best_19 : decode cX10_best 19 = .ok (.aload_n 0, 1) := dk_42 (dk_at dksX10_best_0 19 rfl rfl)
theorem dX10_best_20 : decode cX10_best 20 = .ok (.getfield 89, 3) := dk_180 0 89 (dk_at dksX10_best_0 20 rfl rfl)
theorem dX10_best_23 : decode cX10_best 23 = .ok (.ishl, 1) := dk_120 (dk_at dksX10_best_0 23 rfl rfl)
theorem dX10_best_24 : decode cX10_best 24 = .ok (.if_icmp .ge 108, 3) := dk_162 0 108 (dk_at dksX10_best_1 0 rfl rfl)
theorem dX10_best_27 : decode cX10_best 27 = .ok (.aload_n 0, 1) := dk_42 (dk_at dksX10_best_1 3 rfl rfl)
theorem dX10_best_28 : decode cX10_best 28 = .ok (.iload_n 1, 1) := dk_27 (dk_at dksX10_best_1 4 rfl rfl)
theorem dX10_best_29 : decode cX10_best 29 = .ok (.invokevirtual 122, 3) := dk_182 0 122 (dk_at dksX10_best_1 5 rfl rfl)
theorem dX10_best_32 : decode cX10_best 32 = .ok (.istore_n 2, 1) := dk_61 (dk_at dksX10_best_1 8 rfl rfl)
theorem dX10_best_33 : decode cX10_best 33 = .ok (.iload_n 2, 1) := dk_28 (dk_at dksX10_best_1 9 rfl rfl)
theorem dX10_best_34 : decode cX10_best 34 = .ok (.ldc 62, 2) := dk_18 62 (dk_at dksX10_best_1 10 rfl rfl)
theorem dX10_best_36 : decode cX10_best 36 = .ok (.if_icmp .ne 6, 3) := dk_160 0 6 (dk_at dksX10_best_1 12 rfl rfl)
theorem dX10_best_39 : decode cX10_best 39 = .ok (.goto 87, 3) := dk_167 0 87 (dk_at dksX10_best_1 15 rfl rfl)
theorem dX10_best_42 : decode cX10_best 42 = .ok (.aload_n 0, 1) := dk_42 (dk_at dksX10_best_1 18 rfl rfl)
theorem dX10_best_43 : decode cX10_best 43 = .ok (.iload_n 1, 1) := dk_27 (dk_at dksX10_best_1 19 rfl rfl)
theorem dX10_best_44 : decode cX10_best 44 = .ok (.invokevirtual 126, 3) := dk_182 0 126 (dk_at dksX10_best_1 20 rfl rfl)
theorem dX10_best_47 : decode cX10_best 47 = .ok (.istore_n 3, 1) := dk_62 (dk_at dksX10_best_1 23 rfl rfl)
theorem dX10_best_48 : decode cX10_best 48 = .ok (.iload_n 3, 1) := dk_29 (dk_at dksX10_best_2 0 rfl rfl)
theorem dX10_best_49 : decode cX10_best 49 = .ok (.aload_n 0, 1) := dk_42 (dk_at dksX10_best_2 1 rfl rfl)
theorem dX10_best_50 : decode cX10_best 50 = .ok (.getfield 119, 3) := dk_180 0 119 (dk_at dksX10_best_2 2 rfl rfl)
theorem dX10_best_53 : decode cX10_best 53 = .ok (.if_icmp .gt 43, 3) := dk_163 0 43 (dk_at dksX10_best_2 5 rfl rfl)
theorem dX10_best_56 : decode cX10_best 56 = .ok (.iload_n 3, 1) := dk_29 (dk_at dksX10_best_2 8 rfl rfl)
theorem dX10_best_57 : decode cX10_best 57 = .ok (.aload_n 0, 1) := dk_42 (dk_at dksX10_best_2 9 rfl rfl)
theorem dX10_best_58 : decode cX10_best 58 = .ok (.getfield 119, 3) := dk_180 0 119 (dk_at dksX10_best_2 10 rfl rfl)
theorem dX10_best_61 : decode cX10_best 61 = .ok (.if_icmp .ne 39, 3) := dk_160 0 39 (dk_at dksX10_best_2 13 rfl rfl)
theorem dX10_best_64 : decode cX10_best 64 = .ok (.iload_n 2, 1) := dk_28 (dk_at dksX10_best_2 16 rfl rfl)
theorem dX10_best_65 : decode cX10_best 65 = .ok (.aload_n 0, 1) := dk_42 (dk_at dksX10_best_2 17 rfl rfl)
theorem dX10_best_66 : decode cX10_best 66 = .ok (.getfield 116, 3) := dk_180 0 116 (dk_at dksX10_best_2 18 rfl rfl)
theorem dX10_best_69 : decode cX10_best 69 = .ok (.if_icmp .lt 27, 3) := dk_161 0 27 (dk_at dksX10_best_2 21 rfl rfl)
theorem dX10_best_72 : decode cX10_best 72 = .ok (.iload_n 2, 1) := dk_28 (dk_at dksX10_best_3 0 rfl rfl)
theorem dX10_best_73 : decode cX10_best 73 = .ok (.aload_n 0, 1) := dk_42 (dk_at dksX10_best_3 1 rfl rfl)
theorem dX10_best_74 : decode cX10_best 74 = .ok (.getfield 116, 3) := dk_180 0 116 (dk_at dksX10_best_3 2 rfl rfl)
theorem dX10_best_77 : decode cX10_best 77 = .ok (.if_icmp .ne 23, 3) := dk_160 0 23 (dk_at dksX10_best_3 5 rfl rfl)
theorem dX10_best_80 : decode cX10_best 80 = .ok (.aload_n 0, 1) := dk_42 (dk_at dksX10_best_3 8 rfl rfl)
theorem dX10_best_81 : decode cX10_best 81 = .ok (.iload_n 1, 1) := dk_27 (dk_at dksX10_best_3 9 rfl rfl)
theorem dX10_best_82 : decode cX10_best 82 = .ok (.invokevirtual 128, 3) := dk_182 0 128 (dk_at dksX10_best_3 10 rfl rfl)
theorem dX10_best_85 : decode cX10_best 85 = .ok (.aload_n 0, 1) := dk_42 (dk_at dksX10_best_3 13 rfl rfl)
theorem dX10_best_86 : decode cX10_best 86 = .ok (.aload_n 0, 1) := dk_42 (dk_at dksX10_best_3 14 rfl rfl)
theorem dX10_best_87 : decode cX10_best 87 = .ok (.getfield 113, 3) := dk_180 0 113 (dk_at dksX10_best_3 15 rfl rfl)
theorem dX10_best_90 : decode cX10_best 90 = .ok (.invokevirtual 128, 3) := dk_182 0 128 (dk_at dksX10_best_3 18 rfl rfl)
theorem dX10_best_93 : decode cX10_best 93 = .ok (.if_icmp .ge 7, 3) := dk_162 0 7 (dk_at dksX10_best_3 21 rfl rfl)
theorem dX10_best_96 : decode cX10_best 96 = .ok (.iconst 1, 1) := dk_4 (dk_at dksX10_best_4 0 rfl rfl)
theorem dX10_best_97 : decode cX10_best 97 = .ok (.goto 4, 3) := dk_167 0 4 (dk_at dksX10_best_4 1 rfl rfl)
theorem dX10_best_100 : decode cX10_best 100 = .ok (.iconst 0, 1) := dk_3 (dk_at dksX10_best_4 4 rfl rfl)
theorem dX10_best_101 : decode cX10_best 101 = .ok (.istore 4, 2) := dk_54 4 (dk_at dksX10_best_4 5 rfl rfl)
theorem dX10_best_103 : decode cX10_best 103 = .ok (.iload 4, 2) := dk_21 4 (dk_at dksX10_best_4 7 rfl rfl)
theorem dX10_best_105 : decode cX10_best 105 = .ok (.ifCond .ne 6, 3) := dk_154 0 6 (dk_at dksX10_best_4 9 rfl rfl)
theorem dX10_best_108 : decode cX10_best 108 = .ok (.goto 18, 3) := dk_167 0 18 (dk_at dksX10_best_4 12 rfl rfl)
theorem dX10_best_111 : decode cX10_best 111 = .ok (.aload_n 0, 1) := dk_42 (dk_at dksX10_best_4 15 rfl rfl)
theorem dX10_best_112 : decode cX10_best 112 = .ok (.iload_n 1, 1) := dk_27 (dk_at dksX10_best_4 16 rfl rfl)
theorem dX10_best_113 : decode cX10_best 113 = .ok (.putfield 113, 3) := dk_181 0 113 (dk_at dksX10_best_4 17 rfl rfl)
theorem dX10_best_116 : decode cX10_best 116 = .ok (.aload_n 0, 1) := dk_42 (dk_at dksX10_best_4 20 rfl rfl)
theorem dX10_best_117 : decode cX10_best 117 = .ok (.iload_n 2, 1) := dk_28 (dk_at dksX10_best_4 21 rfl rfl)
theorem dX10_best_118 : decode cX10_best 118 = .ok (.putfield 116, 3) := dk_181 0 116 (dk_at dksX10_best_5 0 rfl rfl)
theorem dX10_best_121 : decode cX10_best 121 = .ok (.aload_n 0, 1) := dk_42 (dk_at dksX10_best_5 3 rfl rfl)
theorem dX10_best_122 : decode cX10_best 122 = .ok (.iload_n 3, 1) := dk_29 (dk_at dksX10_best_5 4 rfl rfl)
theorem dX10_best_123 : decode cX10_best 123 = .ok (.putfield 119, 3) := dk_181 0 119 (dk_at dksX10_best_5 5 rfl rfl)
theorem dX10_best_126 : decode cX10_best 126 = .ok (.iinc 1 1, 3) := dk_132 1 1 (dk_at dksX10_best_5 8 rfl rfl)
theorem dX10_best_129 : decode cX10_best 129 = .ok (.goto (-112), 3) := dk_167 255 144 (dk_at dksX10_best_5 11 rfl rfl)
theorem dX10_best_132 : decode cX10_best 132 = .ok (.return_, 1) := dk_177 (dk_at dksX10_best_5 14 rfl rfl)
abbrev cX10_over : ByteArray := prog_2_method_9_code
def yX10_over : MethodName := ⟨RX10, "over", "(I)I"⟩
def dkwX10_over_1 : List UInt8 := [16, 10, 27, 104, 29, 96, 46, 184, 0, 82, 61, 132, 3, 1, 167, 255, 229, 28, 172]
abbrev dktX10_over_1 : List UInt8 := dkwX10_over_1 ++ []
def dkwX10_over_0 : List UInt8 := [27, 154, 0, 5, 3, 172, 18, 62, 61, 3, 62, 29, 42, 180, 0, 89, 162, 0, 25, 28, 42, 180, 0, 19]
abbrev dktX10_over_0 : List UInt8 := dkwX10_over_0 ++ dktX10_over_1
theorem dksX10_over_0 : cX10_over.data.toList.drop 0 = dktX10_over_0 := by decide +kernel
theorem dksX10_over_1 : cX10_over.data.toList.drop 24 = dktX10_over_1 := dk_seg dksX10_over_0 24 rfl rfl
theorem dX10_over_0 : decode cX10_over 0 = .ok (.iload_n 1, 1) := dk_27 (dk_at dksX10_over_0 0 rfl rfl)
theorem dX10_over_1 : decode cX10_over 1 = .ok (.ifCond .ne 5, 3) := dk_154 0 5 (dk_at dksX10_over_0 1 rfl rfl)
theorem dX10_over_4 : decode cX10_over 4 = .ok (.iconst 0, 1) := dk_3 (dk_at dksX10_over_0 4 rfl rfl)
theorem dX10_over_5 : decode cX10_over 5 = .ok (.ireturn, 1) := dk_172 (dk_at dksX10_over_0 5 rfl rfl)
theorem dX10_over_6 : decode cX10_over 6 = .ok (.ldc 62, 2) := dk_18 62 (dk_at dksX10_over_0 6 rfl rfl)
theorem dX10_over_8 : decode cX10_over 8 = .ok (.istore_n 2, 1) := dk_61 (dk_at dksX10_over_0 8 rfl rfl)
theorem dX10_over_9 : decode cX10_over 9 = .ok (.iconst 0, 1) := dk_3 (dk_at dksX10_over_0 9 rfl rfl)
theorem dX10_over_10 : decode cX10_over 10 = .ok (.istore_n 3, 1) := dk_62 (dk_at dksX10_over_0 10 rfl rfl)
theorem dX10_over_11 : decode cX10_over 11 = .ok (.iload_n 3, 1) := dk_29 (dk_at dksX10_over_0 11 rfl rfl)
theorem dX10_over_12 : decode cX10_over 12 = .ok (.aload_n 0, 1) := dk_42 (dk_at dksX10_over_0 12 rfl rfl)
theorem dX10_over_13 : decode cX10_over 13 = .ok (.getfield 89, 3) := dk_180 0 89 (dk_at dksX10_over_0 13 rfl rfl)
theorem dX10_over_16 : decode cX10_over 16 = .ok (.if_icmp .ge 25, 3) := dk_162 0 25 (dk_at dksX10_over_0 16 rfl rfl)
theorem dX10_over_19 : decode cX10_over 19 = .ok (.iload_n 2, 1) := dk_28 (dk_at dksX10_over_0 19 rfl rfl)
theorem dX10_over_20 : decode cX10_over 20 = .ok (.aload_n 0, 1) := dk_42 (dk_at dksX10_over_0 20 rfl rfl)
theorem dX10_over_21 : decode cX10_over 21 = .ok (.getfield 19, 3) := dk_180 0 19 (dk_at dksX10_over_0 21 rfl rfl)
theorem dX10_over_24 : decode cX10_over 24 = .ok (.bipush 10, 2) := dk_16 10 (dk_at dksX10_over_1 0 rfl rfl)
theorem dX10_over_26 : decode cX10_over 26 = .ok (.iload_n 1, 1) := dk_27 (dk_at dksX10_over_1 2 rfl rfl)
theorem dX10_over_27 : decode cX10_over 27 = .ok (.imul, 1) := dk_104 (dk_at dksX10_over_1 3 rfl rfl)
theorem dX10_over_28 : decode cX10_over 28 = .ok (.iload_n 3, 1) := dk_29 (dk_at dksX10_over_1 4 rfl rfl)
theorem dX10_over_29 : decode cX10_over 29 = .ok (.iadd, 1) := dk_96 (dk_at dksX10_over_1 5 rfl rfl)
theorem dX10_over_30 : decode cX10_over 30 = .ok (.iaload, 1) := dk_46 (dk_at dksX10_over_1 6 rfl rfl)
theorem dX10_over_31 : decode cX10_over 31 = .ok (.invokestatic 82, 3) := dk_184 0 82 (dk_at dksX10_over_1 7 rfl rfl)
theorem dX10_over_34 : decode cX10_over 34 = .ok (.istore_n 2, 1) := dk_61 (dk_at dksX10_over_1 10 rfl rfl)
theorem dX10_over_35 : decode cX10_over 35 = .ok (.iinc 3 1, 3) := dk_132 3 1 (dk_at dksX10_over_1 11 rfl rfl)
theorem dX10_over_38 : decode cX10_over 38 = .ok (.goto (-27), 3) := dk_167 255 229 (dk_at dksX10_over_1 14 rfl rfl)
theorem dX10_over_41 : decode cX10_over 41 = .ok (.iload_n 2, 1) := dk_28 (dk_at dksX10_over_1 17 rfl rfl)
theorem dX10_over_42 : decode cX10_over 42 = .ok (.ireturn, 1) := dk_172 (dk_at dksX10_over_1 18 rfl rfl)
abbrev cX10_worth : ByteArray := prog_2_method_11_code
def yX10_worth : MethodName := ⟨RX10, "worth", "(I)I"⟩
def dkwX10_worth_2 : List UInt8 := [167, 0, 4, 3, 96, 61, 132, 3, 1, 167, 255, 207, 28, 172]
abbrev dktX10_worth_2 : List UInt8 := dkwX10_worth_2 ++ []
def dkwX10_worth_1 : List UInt8 := [180, 0, 3, 180, 0, 28, 180, 0, 44, 42, 180, 0, 48, 42, 180, 0, 15, 29, 46, 182, 0, 110]
abbrev dktX10_worth_1 : List UInt8 := dkwX10_worth_1 ++ dktX10_worth_2
def dkwX10_worth_0 : List UInt8 := [3, 61, 3, 62, 29, 42, 180, 0, 89, 162, 0, 47, 28, 27, 29, 184, 0, 106, 153, 0, 29, 42]
abbrev dktX10_worth_0 : List UInt8 := dkwX10_worth_0 ++ dktX10_worth_1
theorem dksX10_worth_0 : cX10_worth.data.toList.drop 0 = dktX10_worth_0 := by decide +kernel
theorem dksX10_worth_1 : cX10_worth.data.toList.drop 22 = dktX10_worth_1 := dk_seg dksX10_worth_0 22 rfl rfl
theorem dksX10_worth_2 : cX10_worth.data.toList.drop 44 = dktX10_worth_2 := dk_seg dksX10_worth_1 22 rfl rfl
theorem dX10_worth_0 : decode cX10_worth 0 = .ok (.iconst 0, 1) := dk_3 (dk_at dksX10_worth_0 0 rfl rfl)
theorem dX10_worth_1 : decode cX10_worth 1 = .ok (.istore_n 2, 1) := dk_61 (dk_at dksX10_worth_0 1 rfl rfl)
theorem dX10_worth_2 : decode cX10_worth 2 = .ok (.iconst 0, 1) := dk_3 (dk_at dksX10_worth_0 2 rfl rfl)
theorem dX10_worth_3 : decode cX10_worth 3 = .ok (.istore_n 3, 1) := dk_62 (dk_at dksX10_worth_0 3 rfl rfl)
theorem dX10_worth_4 : decode cX10_worth 4 = .ok (.iload_n 3, 1) := dk_29 (dk_at dksX10_worth_0 4 rfl rfl)
theorem dX10_worth_5 : decode cX10_worth 5 = .ok (.aload_n 0, 1) := dk_42 (dk_at dksX10_worth_0 5 rfl rfl)
theorem dX10_worth_6 : decode cX10_worth 6 = .ok (.getfield 89, 3) := dk_180 0 89 (dk_at dksX10_worth_0 6 rfl rfl)
theorem dX10_worth_9 : decode cX10_worth 9 = .ok (.if_icmp .ge 47, 3) := dk_162 0 47 (dk_at dksX10_worth_0 9 rfl rfl)
theorem dX10_worth_12 : decode cX10_worth 12 = .ok (.iload_n 2, 1) := dk_28 (dk_at dksX10_worth_0 12 rfl rfl)
theorem dX10_worth_13 : decode cX10_worth 13 = .ok (.iload_n 1, 1) := dk_27 (dk_at dksX10_worth_0 13 rfl rfl)
theorem dX10_worth_14 : decode cX10_worth 14 = .ok (.iload_n 3, 1) := dk_29 (dk_at dksX10_worth_0 14 rfl rfl)
theorem dX10_worth_15 : decode cX10_worth 15 = .ok (.invokestatic 106, 3) := dk_184 0 106 (dk_at dksX10_worth_0 15 rfl rfl)
theorem dX10_worth_18 : decode cX10_worth 18 = .ok (.ifCond .eq 29, 3) := dk_153 0 29 (dk_at dksX10_worth_0 18 rfl rfl)
theorem dX10_worth_21 : decode cX10_worth 21 = .ok (.aload_n 0, 1) := dk_42 (dk_at dksX10_worth_0 21 rfl rfl)
theorem dX10_worth_22 : decode cX10_worth 22 = .ok (.getfield 3, 3) := dk_180 0 3 (dk_at dksX10_worth_1 0 rfl rfl)
theorem dX10_worth_25 : decode cX10_worth 25 = .ok (.getfield 28, 3) := dk_180 0 28 (dk_at dksX10_worth_1 3 rfl rfl)
theorem dX10_worth_28 : decode cX10_worth 28 = .ok (.getfield 44, 3) := dk_180 0 44 (dk_at dksX10_worth_1 6 rfl rfl)
theorem dX10_worth_31 : decode cX10_worth 31 = .ok (.aload_n 0, 1) := dk_42 (dk_at dksX10_worth_1 9 rfl rfl)
theorem dX10_worth_32 : decode cX10_worth 32 = .ok (.getfield 48, 3) := dk_180 0 48 (dk_at dksX10_worth_1 10 rfl rfl)
theorem dX10_worth_35 : decode cX10_worth 35 = .ok (.aload_n 0, 1) := dk_42 (dk_at dksX10_worth_1 13 rfl rfl)
theorem dX10_worth_36 : decode cX10_worth 36 = .ok (.getfield 15, 3) := dk_180 0 15 (dk_at dksX10_worth_1 14 rfl rfl)
theorem dX10_worth_39 : decode cX10_worth 39 = .ok (.iload_n 3, 1) := dk_29 (dk_at dksX10_worth_1 17 rfl rfl)
theorem dX10_worth_40 : decode cX10_worth 40 = .ok (.iaload, 1) := dk_46 (dk_at dksX10_worth_1 18 rfl rfl)
theorem dX10_worth_41 : decode cX10_worth 41 = .ok (.invokevirtual 110, 3) := dk_182 0 110 (dk_at dksX10_worth_1 19 rfl rfl)
theorem dX10_worth_44 : decode cX10_worth 44 = .ok (.goto 4, 3) := dk_167 0 4 (dk_at dksX10_worth_2 0 rfl rfl)
theorem dX10_worth_47 : decode cX10_worth 47 = .ok (.iconst 0, 1) := dk_3 (dk_at dksX10_worth_2 3 rfl rfl)
theorem dX10_worth_48 : decode cX10_worth 48 = .ok (.iadd, 1) := dk_96 (dk_at dksX10_worth_2 4 rfl rfl)
theorem dX10_worth_49 : decode cX10_worth 49 = .ok (.istore_n 2, 1) := dk_61 (dk_at dksX10_worth_2 5 rfl rfl)
theorem dX10_worth_50 : decode cX10_worth 50 = .ok (.iinc 3 1, 3) := dk_132 3 1 (dk_at dksX10_worth_2 6 rfl rfl)
theorem dX10_worth_53 : decode cX10_worth 53 = .ok (.goto (-49), 3) := dk_167 255 207 (dk_at dksX10_worth_2 9 rfl rfl)
theorem dX10_worth_56 : decode cX10_worth 56 = .ok (.iload_n 2, 1) := dk_28 (dk_at dksX10_worth_2 12 rfl rfl)
theorem dX10_worth_57 : decode cX10_worth 57 = .ok (.ireturn, 1) := dk_172 (dk_at dksX10_worth_2 13 rfl rfl)
abbrev cX10_bits : ByteArray := prog_2_method_10_code
def yX10_bits : MethodName := ⟨RX10, "bits", "(I)I"⟩
def dkwX10_bits_1 : List UInt8 := [180, 0, 15, 29, 46, 120, 167, 0, 4, 3, 128, 61, 132, 3, 1, 167, 255, 222, 28, 172]
abbrev dktX10_bits_1 : List UInt8 := dkwX10_bits_1 ++ []
def dkwX10_bits_0 : List UInt8 := [3, 61, 3, 62, 29, 42, 180, 0, 89, 162, 0, 32, 28, 27, 29, 184, 0, 106, 153, 0, 14, 4, 42]
abbrev dktX10_bits_0 : List UInt8 := dkwX10_bits_0 ++ dktX10_bits_1
theorem dksX10_bits_0 : cX10_bits.data.toList.drop 0 = dktX10_bits_0 := by decide +kernel
theorem dksX10_bits_1 : cX10_bits.data.toList.drop 23 = dktX10_bits_1 := dk_seg dksX10_bits_0 23 rfl rfl
theorem dX10_bits_0 : decode cX10_bits 0 = .ok (.iconst 0, 1) := dk_3 (dk_at dksX10_bits_0 0 rfl rfl)
theorem dX10_bits_1 : decode cX10_bits 1 = .ok (.istore_n 2, 1) := dk_61 (dk_at dksX10_bits_0 1 rfl rfl)
theorem dX10_bits_2 : decode cX10_bits 2 = .ok (.iconst 0, 1) := dk_3 (dk_at dksX10_bits_0 2 rfl rfl)
theorem dX10_bits_3 : decode cX10_bits 3 = .ok (.istore_n 3, 1) := dk_62 (dk_at dksX10_bits_0 3 rfl rfl)
theorem dX10_bits_4 : decode cX10_bits 4 = .ok (.iload_n 3, 1) := dk_29 (dk_at dksX10_bits_0 4 rfl rfl)
theorem dX10_bits_5 : decode cX10_bits 5 = .ok (.aload_n 0, 1) := dk_42 (dk_at dksX10_bits_0 5 rfl rfl)
theorem dX10_bits_6 : decode cX10_bits 6 = .ok (.getfield 89, 3) := dk_180 0 89 (dk_at dksX10_bits_0 6 rfl rfl)
theorem dX10_bits_9 : decode cX10_bits 9 = .ok (.if_icmp .ge 32, 3) := dk_162 0 32 (dk_at dksX10_bits_0 9 rfl rfl)
theorem dX10_bits_12 : decode cX10_bits 12 = .ok (.iload_n 2, 1) := dk_28 (dk_at dksX10_bits_0 12 rfl rfl)
theorem dX10_bits_13 : decode cX10_bits 13 = .ok (.iload_n 1, 1) := dk_27 (dk_at dksX10_bits_0 13 rfl rfl)
theorem dX10_bits_14 : decode cX10_bits 14 = .ok (.iload_n 3, 1) := dk_29 (dk_at dksX10_bits_0 14 rfl rfl)
theorem dX10_bits_15 : decode cX10_bits 15 = .ok (.invokestatic 106, 3) := dk_184 0 106 (dk_at dksX10_bits_0 15 rfl rfl)
theorem dX10_bits_18 : decode cX10_bits 18 = .ok (.ifCond .eq 14, 3) := dk_153 0 14 (dk_at dksX10_bits_0 18 rfl rfl)
theorem dX10_bits_21 : decode cX10_bits 21 = .ok (.iconst 1, 1) := dk_4 (dk_at dksX10_bits_0 21 rfl rfl)
theorem dX10_bits_22 : decode cX10_bits 22 = .ok (.aload_n 0, 1) := dk_42 (dk_at dksX10_bits_0 22 rfl rfl)
theorem dX10_bits_23 : decode cX10_bits 23 = .ok (.getfield 15, 3) := dk_180 0 15 (dk_at dksX10_bits_1 0 rfl rfl)
theorem dX10_bits_26 : decode cX10_bits 26 = .ok (.iload_n 3, 1) := dk_29 (dk_at dksX10_bits_1 3 rfl rfl)
theorem dX10_bits_27 : decode cX10_bits 27 = .ok (.iaload, 1) := dk_46 (dk_at dksX10_bits_1 4 rfl rfl)
theorem dX10_bits_28 : decode cX10_bits 28 = .ok (.ishl, 1) := dk_120 (dk_at dksX10_bits_1 5 rfl rfl)
theorem dX10_bits_29 : decode cX10_bits 29 = .ok (.goto 4, 3) := dk_167 0 4 (dk_at dksX10_bits_1 6 rfl rfl)
theorem dX10_bits_32 : decode cX10_bits 32 = .ok (.iconst 0, 1) := dk_3 (dk_at dksX10_bits_1 9 rfl rfl)
theorem dX10_bits_33 : decode cX10_bits 33 = .ok (.ior, 1) := dk_128 (dk_at dksX10_bits_1 10 rfl rfl)
theorem dX10_bits_34 : decode cX10_bits 34 = .ok (.istore_n 2, 1) := dk_61 (dk_at dksX10_bits_1 11 rfl rfl)
theorem dX10_bits_35 : decode cX10_bits 35 = .ok (.iinc 3 1, 3) := dk_132 3 1 (dk_at dksX10_bits_1 12 rfl rfl)
theorem dX10_bits_38 : decode cX10_bits 38 = .ok (.goto (-34), 3) := dk_167 255 222 (dk_at dksX10_bits_1 15 rfl rfl)
theorem dX10_bits_41 : decode cX10_bits 41 = .ok (.iload_n 2, 1) := dk_28 (dk_at dksX10_bits_1 18 rfl rfl)
theorem dX10_bits_42 : decode cX10_bits 42 = .ok (.ireturn, 1) := dk_172 (dk_at dksX10_bits_1 19 rfl rfl)
abbrev cX10_rows : ByteArray := prog_2_method_13_code
def yX10_rows : MethodName := ⟨RX10, "rows", "()V"⟩
def dkwX10_rows_15 : List UInt8 := [120, 128, 61, 21, 7, 62, 132, 5, 1, 167, 255, 96, 177]
abbrev dktX10_rows_15 : List UInt8 := dkwX10_rows_15 ++ []
def dkwX10_rows_14 : List UInt8 := [21, 6, 4, 100, 54, 4, 42, 180, 0, 25, 21, 5, 42, 180, 0, 15, 21, 4, 46, 79, 28, 4, 21, 4]
abbrev dktX10_rows_14 : List UInt8 := dkwX10_rows_14 ++ dktX10_rows_15
def dkwX10_rows_13 : List UInt8 := [120, 128, 104, 21, 6, 96, 46, 163, 0, 7, 4, 167, 0, 4, 3, 54, 8, 132, 6, 1, 167, 255, 147]
abbrev dktX10_rows_13 : List UInt8 := dkwX10_rows_13 ++ dktX10_rows_14
def dkwX10_rows_12 : List UInt8 := [42, 180, 0, 15, 21, 6, 46, 182, 0, 102, 54, 7, 21, 7, 42, 180, 0, 22, 16, 10, 28, 4, 21, 6]
abbrev dktX10_rows_12 : List UInt8 := dkwX10_rows_12 ++ dktX10_rows_13
def dkwX10_rows_11 : List UInt8 := [182, 0, 95, 182, 0, 98, 167, 0, 18, 42, 21, 4, 182, 0, 95, 42, 21, 6, 182, 0, 95, 182, 0, 98]
abbrev dktX10_rows_11 : List UInt8 := dkwX10_rows_11 ++ dktX10_rows_12
def dkwX10_rows_10 : List UInt8 := [184, 0, 106, 153, 0, 6, 167, 0, 83, 42, 29, 21, 4, 2, 160, 0, 19, 42, 180, 0, 85, 42, 21, 6]
abbrev dktX10_rows_10 : List UInt8 := dkwX10_rows_10 ++ dktX10_rows_11
def dkwX10_rows_9 : List UInt8 := [54, 7, 3, 54, 8, 21, 8, 154, 0, 110, 27, 21, 6, 184, 0, 106, 153, 0, 95, 28, 21, 6]
abbrev dktX10_rows_9 : List UInt8 := dkwX10_rows_9 ++ dktX10_rows_10
def dkwX10_rows_8 : List UInt8 := [167, 255, 86, 3, 61, 3, 62, 2, 54, 4, 3, 54, 5, 28, 27, 159, 0, 161, 3, 54, 6, 18, 62]
abbrev dktX10_rows_8 : List UInt8 := dkwX10_rows_8 ++ dktX10_rows_9
def dkwX10_rows_7 : List UInt8 := [42, 180, 0, 22, 16, 10, 28, 104, 29, 96, 21, 4, 79, 132, 3, 1, 167, 255, 109, 132, 2, 255]
abbrev dktX10_rows_7 : List UInt8 := dkwX10_rows_7 ++ dktX10_rows_8
def dkwX10_rows_6 : List UInt8 := [182, 0, 98, 42, 180, 0, 15, 21, 5, 46, 182, 0, 131, 184, 0, 74, 54, 4, 132, 5, 1, 167, 255, 154]
abbrev dktX10_rows_6 : List UInt8 := dkwX10_rows_6 ++ dktX10_rows_7
def dkwX10_rows_5 : List UInt8 := [28, 4, 21, 5, 120, 128, 104, 21, 5, 96, 46, 42, 29, 182, 0, 95, 42, 21, 5, 182, 0, 95]
abbrev dktX10_rows_5 : List UInt8 := dkwX10_rows_5 ++ dktX10_rows_6
def dkwX10_rows_4 : List UInt8 := [21, 5, 120, 128, 104, 21, 5, 96, 46, 156, 0, 6, 167, 0, 52, 21, 4, 42, 42, 180, 0, 22, 16, 10]
abbrev dktX10_rows_4 : List UInt8 := dkwX10_rows_4 ++ dktX10_rows_5
def dkwX10_rows_3 : List UInt8 := [184, 0, 106, 153, 0, 84, 28, 21, 5, 184, 0, 106, 154, 0, 75, 42, 180, 0, 22, 16, 10, 28, 4]
abbrev dktX10_rows_3 : List UInt8 := dkwX10_rows_3 ++ dktX10_rows_4
def dkwX10_rows_2 : List UInt8 := [180, 0, 116, 167, 0, 4, 2, 54, 4, 3, 54, 5, 21, 5, 42, 180, 0, 89, 162, 0, 99, 27, 21, 5]
abbrev dktX10_rows_2 : List UInt8 := dkwX10_rows_2 ++ dktX10_rows_3
def dkwX10_rows_1 : List UInt8 := [153, 0, 6, 167, 0, 155, 3, 62, 29, 42, 180, 0, 89, 162, 0, 145, 28, 27, 160, 0, 10, 42]
abbrev dktX10_rows_1 : List UInt8 := dkwX10_rows_1 ++ dktX10_rows_2
def dkwX10_rows_0 : List UInt8 := [42, 180, 0, 113, 60, 4, 42, 180, 0, 89, 120, 4, 100, 61, 28, 158, 0, 172, 28, 27, 2, 130, 126]
abbrev dktX10_rows_0 : List UInt8 := dkwX10_rows_0 ++ dktX10_rows_1
theorem dksX10_rows_0 : cX10_rows.data.toList.drop 0 = dktX10_rows_0 := by decide +kernel
theorem dksX10_rows_1 : cX10_rows.data.toList.drop 23 = dktX10_rows_1 := dk_seg dksX10_rows_0 23 rfl rfl
theorem dksX10_rows_2 : cX10_rows.data.toList.drop 45 = dktX10_rows_2 := dk_seg dksX10_rows_1 22 rfl rfl
theorem dksX10_rows_3 : cX10_rows.data.toList.drop 69 = dktX10_rows_3 := dk_seg dksX10_rows_2 24 rfl rfl
theorem dksX10_rows_4 : cX10_rows.data.toList.drop 92 = dktX10_rows_4 := dk_seg dksX10_rows_3 23 rfl rfl
theorem dksX10_rows_5 : cX10_rows.data.toList.drop 116 = dktX10_rows_5 := dk_seg dksX10_rows_4 24 rfl rfl
theorem dksX10_rows_6 : cX10_rows.data.toList.drop 138 = dktX10_rows_6 := dk_seg dksX10_rows_5 22 rfl rfl
theorem dksX10_rows_7 : cX10_rows.data.toList.drop 162 = dktX10_rows_7 := dk_seg dksX10_rows_6 24 rfl rfl
theorem dksX10_rows_8 : cX10_rows.data.toList.drop 184 = dktX10_rows_8 := dk_seg dksX10_rows_7 22 rfl rfl
theorem dksX10_rows_9 : cX10_rows.data.toList.drop 207 = dktX10_rows_9 := dk_seg dksX10_rows_8 23 rfl rfl
theorem dksX10_rows_10 : cX10_rows.data.toList.drop 229 = dktX10_rows_10 := dk_seg dksX10_rows_9 22 rfl rfl
theorem dksX10_rows_11 : cX10_rows.data.toList.drop 253 = dktX10_rows_11 := dk_seg dksX10_rows_10 24 rfl rfl
theorem dksX10_rows_12 : cX10_rows.data.toList.drop 277 = dktX10_rows_12 := dk_seg dksX10_rows_11 24 rfl rfl
theorem dksX10_rows_13 : cX10_rows.data.toList.drop 301 = dktX10_rows_13 := dk_seg dksX10_rows_12 24 rfl rfl
theorem dksX10_rows_14 : cX10_rows.data.toList.drop 324 = dktX10_rows_14 := dk_seg dksX10_rows_13 23 rfl rfl
theorem dksX10_rows_15 : cX10_rows.data.toList.drop 348 = dktX10_rows_15 := dk_seg dksX10_rows_14 24 rfl rfl
theorem dX10_rows_0 : decode cX10_rows 0 = .ok (.aload_n 0, 1) := dk_42 (dk_at dksX10_rows_0 0 rfl rfl)
theorem dX10_rows_1 : decode cX10_rows 1 = .ok (.getfield 113, 3) := dk_180 0 113 (dk_at dksX10_rows_0 1 rfl rfl)
theorem dX10_rows_4 : decode cX10_rows 4 = .ok (.istore_n 1, 1) := dk_60 (dk_at dksX10_rows_0 4 rfl rfl)
theorem dX10_rows_5 : decode cX10_rows 5 = .ok (.iconst 1, 1) := dk_4 (dk_at dksX10_rows_0 5 rfl rfl)
theorem dX10_rows_6 : decode cX10_rows 6 = .ok (.aload_n 0, 1) := dk_42 (dk_at dksX10_rows_0 6 rfl rfl)
theorem dX10_rows_7 : decode cX10_rows 7 = .ok (.getfield 89, 3) := dk_180 0 89 (dk_at dksX10_rows_0 7 rfl rfl)
theorem dX10_rows_10 : decode cX10_rows 10 = .ok (.ishl, 1) := dk_120 (dk_at dksX10_rows_0 10 rfl rfl)
theorem dX10_rows_11 : decode cX10_rows 11 = .ok (.iconst 1, 1) := dk_4 (dk_at dksX10_rows_0 11 rfl rfl)
theorem dX10_rows_12 : decode cX10_rows 12 = .ok (.isub, 1) := dk_100 (dk_at dksX10_rows_0 12 rfl rfl)
theorem dX10_rows_13 : decode cX10_rows 13 = .ok (.istore_n 2, 1) := dk_61 (dk_at dksX10_rows_0 13 rfl rfl)
theorem dX10_rows_14 : decode cX10_rows 14 = .ok (.iload_n 2, 1) := dk_28 (dk_at dksX10_rows_0 14 rfl rfl)
theorem dX10_rows_15 : decode cX10_rows 15 = .ok (.ifCond .le 172, 3) := dk_158 0 172 (dk_at dksX10_rows_0 15 rfl rfl)
theorem dX10_rows_18 : decode cX10_rows 18 = .ok (.iload_n 2, 1) := dk_28 (dk_at dksX10_rows_0 18 rfl rfl)
theorem dX10_rows_19 : decode cX10_rows 19 = .ok (.iload_n 1, 1) := dk_27 (dk_at dksX10_rows_0 19 rfl rfl)
theorem dX10_rows_20 : decode cX10_rows 20 = .ok (.iconst (-1), 1) := dk_2 (dk_at dksX10_rows_0 20 rfl rfl)
theorem dX10_rows_21 : decode cX10_rows 21 = .ok (.ixor, 1) := dk_130 (dk_at dksX10_rows_0 21 rfl rfl)
theorem dX10_rows_22 : decode cX10_rows 22 = .ok (.iand, 1) := dk_126 (dk_at dksX10_rows_0 22 rfl rfl)
theorem dX10_rows_23 : decode cX10_rows 23 = .ok (.ifCond .eq 6, 3) := dk_153 0 6 (dk_at dksX10_rows_1 0 rfl rfl)
theorem dX10_rows_26 : decode cX10_rows 26 = .ok (.goto 155, 3) := dk_167 0 155 (dk_at dksX10_rows_1 3 rfl rfl)
theorem dX10_rows_29 : decode cX10_rows 29 = .ok (.iconst 0, 1) := dk_3 (dk_at dksX10_rows_1 6 rfl rfl)
theorem dX10_rows_30 : decode cX10_rows 30 = .ok (.istore_n 3, 1) := dk_62 (dk_at dksX10_rows_1 7 rfl rfl)
theorem dX10_rows_31 : decode cX10_rows 31 = .ok (.iload_n 3, 1) := dk_29 (dk_at dksX10_rows_1 8 rfl rfl)
theorem dX10_rows_32 : decode cX10_rows 32 = .ok (.aload_n 0, 1) := dk_42 (dk_at dksX10_rows_1 9 rfl rfl)
theorem dX10_rows_33 : decode cX10_rows 33 = .ok (.getfield 89, 3) := dk_180 0 89 (dk_at dksX10_rows_1 10 rfl rfl)
theorem dX10_rows_36 : decode cX10_rows 36 = .ok (.if_icmp .ge 145, 3) := dk_162 0 145 (dk_at dksX10_rows_1 13 rfl rfl)
theorem dX10_rows_39 : decode cX10_rows 39 = .ok (.iload_n 2, 1) := dk_28 (dk_at dksX10_rows_1 16 rfl rfl)
theorem dX10_rows_40 : decode cX10_rows 40 = .ok (.iload_n 1, 1) := dk_27 (dk_at dksX10_rows_1 17 rfl rfl)
theorem dX10_rows_41 : decode cX10_rows 41 = .ok (.if_icmp .ne 10, 3) := dk_160 0 10 (dk_at dksX10_rows_1 18 rfl rfl)
theorem dX10_rows_44 : decode cX10_rows 44 = .ok (.aload_n 0, 1) := dk_42 (dk_at dksX10_rows_1 21 rfl rfl)
theorem dX10_rows_45 : decode cX10_rows 45 = .ok (.getfield 116, 3) := dk_180 0 116 (dk_at dksX10_rows_2 0 rfl rfl)
theorem dX10_rows_48 : decode cX10_rows 48 = .ok (.goto 4, 3) := dk_167 0 4 (dk_at dksX10_rows_2 3 rfl rfl)
theorem dX10_rows_51 : decode cX10_rows 51 = .ok (.iconst (-1), 1) := dk_2 (dk_at dksX10_rows_2 6 rfl rfl)
theorem dX10_rows_52 : decode cX10_rows 52 = .ok (.istore 4, 2) := dk_54 4 (dk_at dksX10_rows_2 7 rfl rfl)
theorem dX10_rows_54 : decode cX10_rows 54 = .ok (.iconst 0, 1) := dk_3 (dk_at dksX10_rows_2 9 rfl rfl)
theorem dX10_rows_55 : decode cX10_rows 55 = .ok (.istore 5, 2) := dk_54 5 (dk_at dksX10_rows_2 10 rfl rfl)
theorem dX10_rows_57 : decode cX10_rows 57 = .ok (.iload 5, 2) := dk_21 5 (dk_at dksX10_rows_2 12 rfl rfl)
theorem dX10_rows_59 : decode cX10_rows 59 = .ok (.aload_n 0, 1) := dk_42 (dk_at dksX10_rows_2 14 rfl rfl)
theorem dX10_rows_60 : decode cX10_rows 60 = .ok (.getfield 89, 3) := dk_180 0 89 (dk_at dksX10_rows_2 15 rfl rfl)
theorem dX10_rows_63 : decode cX10_rows 63 = .ok (.if_icmp .ge 99, 3) := dk_162 0 99 (dk_at dksX10_rows_2 18 rfl rfl)
theorem dX10_rows_66 : decode cX10_rows 66 = .ok (.iload_n 1, 1) := dk_27 (dk_at dksX10_rows_2 21 rfl rfl)
theorem dX10_rows_67 : decode cX10_rows 67 = .ok (.iload 5, 2) := dk_21 5 (dk_at dksX10_rows_2 22 rfl rfl)
theorem dX10_rows_69 : decode cX10_rows 69 = .ok (.invokestatic 106, 3) := dk_184 0 106 (dk_at dksX10_rows_3 0 rfl rfl)
theorem dX10_rows_72 : decode cX10_rows 72 = .ok (.ifCond .eq 84, 3) := dk_153 0 84 (dk_at dksX10_rows_3 3 rfl rfl)
theorem dX10_rows_75 : decode cX10_rows 75 = .ok (.iload_n 2, 1) := dk_28 (dk_at dksX10_rows_3 6 rfl rfl)
theorem dX10_rows_76 : decode cX10_rows 76 = .ok (.iload 5, 2) := dk_21 5 (dk_at dksX10_rows_3 7 rfl rfl)
theorem dX10_rows_78 : decode cX10_rows 78 = .ok (.invokestatic 106, 3) := dk_184 0 106 (dk_at dksX10_rows_3 9 rfl rfl)
theorem dX10_rows_81 : decode cX10_rows 81 = .ok (.ifCond .ne 75, 3) := dk_154 0 75 (dk_at dksX10_rows_3 12 rfl rfl)
theorem dX10_rows_84 : decode cX10_rows 84 = .ok (.aload_n 0, 1) := dk_42 (dk_at dksX10_rows_3 15 rfl rfl)
theorem dX10_rows_85 : decode cX10_rows 85 = .ok (.getfield 22, 3) := dk_180 0 22 (dk_at dksX10_rows_3 16 rfl rfl)
theorem dX10_rows_88 : decode cX10_rows 88 = .ok (.bipush 10, 2) := dk_16 10 (dk_at dksX10_rows_3 19 rfl rfl)
theorem dX10_rows_90 : decode cX10_rows 90 = .ok (.iload_n 2, 1) := dk_28 (dk_at dksX10_rows_3 21 rfl rfl)
theorem dX10_rows_91 : decode cX10_rows 91 = .ok (.iconst 1, 1) := dk_4 (dk_at dksX10_rows_3 22 rfl rfl)
theorem dX10_rows_92 : decode cX10_rows 92 = .ok (.iload 5, 2) := dk_21 5 (dk_at dksX10_rows_4 0 rfl rfl)
theorem dX10_rows_94 : decode cX10_rows 94 = .ok (.ishl, 1) := dk_120 (dk_at dksX10_rows_4 2 rfl rfl)
theorem dX10_rows_95 : decode cX10_rows 95 = .ok (.ior, 1) := dk_128 (dk_at dksX10_rows_4 3 rfl rfl)
theorem dX10_rows_96 : decode cX10_rows 96 = .ok (.imul, 1) := dk_104 (dk_at dksX10_rows_4 4 rfl rfl)
theorem dX10_rows_97 : decode cX10_rows 97 = .ok (.iload 5, 2) := dk_21 5 (dk_at dksX10_rows_4 5 rfl rfl)
theorem dX10_rows_99 : decode cX10_rows 99 = .ok (.iadd, 1) := dk_96 (dk_at dksX10_rows_4 7 rfl rfl)
theorem dX10_rows_100 : decode cX10_rows 100 = .ok (.iaload, 1) := dk_46 (dk_at dksX10_rows_4 8 rfl rfl)
theorem dX10_rows_101 : decode cX10_rows 101 = .ok (.ifCond .ge 6, 3) := dk_156 0 6 (dk_at dksX10_rows_4 9 rfl rfl)
theorem dX10_rows_104 : decode cX10_rows 104 = .ok (.goto 52, 3) := dk_167 0 52 (dk_at dksX10_rows_4 12 rfl rfl)
theorem dX10_rows_107 : decode cX10_rows 107 = .ok (.iload 4, 2) := dk_21 4 (dk_at dksX10_rows_4 15 rfl rfl)
theorem dX10_rows_109 : decode cX10_rows 109 = .ok (.aload_n 0, 1) := dk_42 (dk_at dksX10_rows_4 17 rfl rfl)
theorem dX10_rows_110 : decode cX10_rows 110 = .ok (.aload_n 0, 1) := dk_42 (dk_at dksX10_rows_4 18 rfl rfl)
theorem dX10_rows_111 : decode cX10_rows 111 = .ok (.getfield 22, 3) := dk_180 0 22 (dk_at dksX10_rows_4 19 rfl rfl)
theorem dX10_rows_114 : decode cX10_rows 114 = .ok (.bipush 10, 2) := dk_16 10 (dk_at dksX10_rows_4 22 rfl rfl)
theorem dX10_rows_116 : decode cX10_rows 116 = .ok (.iload_n 2, 1) := dk_28 (dk_at dksX10_rows_5 0 rfl rfl)
theorem dX10_rows_117 : decode cX10_rows 117 = .ok (.iconst 1, 1) := dk_4 (dk_at dksX10_rows_5 1 rfl rfl)
theorem dX10_rows_118 : decode cX10_rows 118 = .ok (.iload 5, 2) := dk_21 5 (dk_at dksX10_rows_5 2 rfl rfl)
theorem dX10_rows_120 : decode cX10_rows 120 = .ok (.ishl, 1) := dk_120 (dk_at dksX10_rows_5 4 rfl rfl)
theorem dX10_rows_121 : decode cX10_rows 121 = .ok (.ior, 1) := dk_128 (dk_at dksX10_rows_5 5 rfl rfl)
theorem dX10_rows_122 : decode cX10_rows 122 = .ok (.imul, 1) := dk_104 (dk_at dksX10_rows_5 6 rfl rfl)
theorem dX10_rows_123 : decode cX10_rows 123 = .ok (.iload 5, 2) := dk_21 5 (dk_at dksX10_rows_5 7 rfl rfl)
theorem dX10_rows_125 : decode cX10_rows 125 = .ok (.iadd, 1) := dk_96 (dk_at dksX10_rows_5 9 rfl rfl)
theorem dX10_rows_126 : decode cX10_rows 126 = .ok (.iaload, 1) := dk_46 (dk_at dksX10_rows_5 10 rfl rfl)
theorem dX10_rows_127 : decode cX10_rows 127 = .ok (.aload_n 0, 1) := dk_42 (dk_at dksX10_rows_5 11 rfl rfl)
theorem dX10_rows_128 : decode cX10_rows 128 = .ok (.iload_n 3, 1) := dk_29 (dk_at dksX10_rows_5 12 rfl rfl)
theorem dX10_rows_129 : decode cX10_rows 129 = .ok (.invokevirtual 95, 3) := dk_182 0 95 (dk_at dksX10_rows_5 13 rfl rfl)
theorem dX10_rows_132 : decode cX10_rows 132 = .ok (.aload_n 0, 1) := dk_42 (dk_at dksX10_rows_5 16 rfl rfl)
theorem dX10_rows_133 : decode cX10_rows 133 = .ok (.iload 5, 2) := dk_21 5 (dk_at dksX10_rows_5 17 rfl rfl)
theorem dX10_rows_135 : decode cX10_rows 135 = .ok (.invokevirtual 95, 3) := dk_182 0 95 (dk_at dksX10_rows_5 19 rfl rfl)
theorem dX10_rows_138 : decode cX10_rows 138 = .ok (.invokevirtual 98, 3) := dk_182 0 98 (dk_at dksX10_rows_6 0 rfl rfl)
theorem dX10_rows_141 : decode cX10_rows 141 = .ok (.aload_n 0, 1) := dk_42 (dk_at dksX10_rows_6 3 rfl rfl)
theorem dX10_rows_142 : decode cX10_rows 142 = .ok (.getfield 15, 3) := dk_180 0 15 (dk_at dksX10_rows_6 4 rfl rfl)
theorem dX10_rows_145 : decode cX10_rows 145 = .ok (.iload 5, 2) := dk_21 5 (dk_at dksX10_rows_6 7 rfl rfl)
theorem dX10_rows_147 : decode cX10_rows 147 = .ok (.iaload, 1) := dk_46 (dk_at dksX10_rows_6 9 rfl rfl)
theorem dX10_rows_148 : decode cX10_rows 148 = .ok (.invokevirtual 131, 3) := dk_182 0 131 (dk_at dksX10_rows_6 10 rfl rfl)
theorem dX10_rows_151 : decode cX10_rows 151 = .ok (.invokestatic 74, 3) := dk_184 0 74 (dk_at dksX10_rows_6 13 rfl rfl)
theorem dX10_rows_154 : decode cX10_rows 154 = .ok (.istore 4, 2) := dk_54 4 (dk_at dksX10_rows_6 16 rfl rfl)
theorem dX10_rows_156 : decode cX10_rows 156 = .ok (.iinc 5 1, 3) := dk_132 5 1 (dk_at dksX10_rows_6 18 rfl rfl)
theorem dX10_rows_159 : decode cX10_rows 159 = .ok (.goto (-102), 3) := dk_167 255 154 (dk_at dksX10_rows_6 21 rfl rfl)
theorem dX10_rows_162 : decode cX10_rows 162 = .ok (.aload_n 0, 1) := dk_42 (dk_at dksX10_rows_7 0 rfl rfl)
theorem dX10_rows_163 : decode cX10_rows 163 = .ok (.getfield 22, 3) := dk_180 0 22 (dk_at dksX10_rows_7 1 rfl rfl)
theorem dX10_rows_166 : decode cX10_rows 166 = .ok (.bipush 10, 2) := dk_16 10 (dk_at dksX10_rows_7 4 rfl rfl)
theorem dX10_rows_168 : decode cX10_rows 168 = .ok (.iload_n 2, 1) := dk_28 (dk_at dksX10_rows_7 6 rfl rfl)
theorem dX10_rows_169 : decode cX10_rows 169 = .ok (.imul, 1) := dk_104 (dk_at dksX10_rows_7 7 rfl rfl)
theorem dX10_rows_170 : decode cX10_rows 170 = .ok (.iload_n 3, 1) := dk_29 (dk_at dksX10_rows_7 8 rfl rfl)
theorem dX10_rows_171 : decode cX10_rows 171 = .ok (.iadd, 1) := dk_96 (dk_at dksX10_rows_7 9 rfl rfl)
theorem dX10_rows_172 : decode cX10_rows 172 = .ok (.iload 4, 2) := dk_21 4 (dk_at dksX10_rows_7 10 rfl rfl)
theorem dX10_rows_174 : decode cX10_rows 174 = .ok (.iastore, 1) := dk_79 (dk_at dksX10_rows_7 12 rfl rfl)
theorem dX10_rows_175 : decode cX10_rows 175 = .ok (.iinc 3 1, 3) := dk_132 3 1 (dk_at dksX10_rows_7 13 rfl rfl)
theorem dX10_rows_178 : decode cX10_rows 178 = .ok (.goto (-147), 3) := dk_167 255 109 (dk_at dksX10_rows_7 16 rfl rfl)
theorem dX10_rows_181 : decode cX10_rows 181 = .ok (.iinc 2 (-1), 3) := dk_132 2 255 (dk_at dksX10_rows_7 19 rfl rfl)
theorem dX10_rows_184 : decode cX10_rows 184 = .ok (.goto (-170), 3) := dk_167 255 86 (dk_at dksX10_rows_8 0 rfl rfl)
theorem dX10_rows_187 : decode cX10_rows 187 = .ok (.iconst 0, 1) := dk_3 (dk_at dksX10_rows_8 3 rfl rfl)
theorem dX10_rows_188 : decode cX10_rows 188 = .ok (.istore_n 2, 1) := dk_61 (dk_at dksX10_rows_8 4 rfl rfl)
theorem dX10_rows_189 : decode cX10_rows 189 = .ok (.iconst 0, 1) := dk_3 (dk_at dksX10_rows_8 5 rfl rfl)
theorem dX10_rows_190 : decode cX10_rows 190 = .ok (.istore_n 3, 1) := dk_62 (dk_at dksX10_rows_8 6 rfl rfl)
theorem dX10_rows_191 : decode cX10_rows 191 = .ok (.iconst (-1), 1) := dk_2 (dk_at dksX10_rows_8 7 rfl rfl)
theorem dX10_rows_192 : decode cX10_rows 192 = .ok (.istore 4, 2) := dk_54 4 (dk_at dksX10_rows_8 8 rfl rfl)
theorem dX10_rows_194 : decode cX10_rows 194 = .ok (.iconst 0, 1) := dk_3 (dk_at dksX10_rows_8 10 rfl rfl)
theorem dX10_rows_195 : decode cX10_rows 195 = .ok (.istore 5, 2) := dk_54 5 (dk_at dksX10_rows_8 11 rfl rfl)
theorem dX10_rows_197 : decode cX10_rows 197 = .ok (.iload_n 2, 1) := dk_28 (dk_at dksX10_rows_8 13 rfl rfl)
theorem dX10_rows_198 : decode cX10_rows 198 = .ok (.iload_n 1, 1) := dk_27 (dk_at dksX10_rows_8 14 rfl rfl)
theorem dX10_rows_199 : decode cX10_rows 199 = .ok (.if_icmp .eq 161, 3) := dk_159 0 161 (dk_at dksX10_rows_8 15 rfl rfl)
theorem dX10_rows_202 : decode cX10_rows 202 = .ok (.iconst 0, 1) := dk_3 (dk_at dksX10_rows_8 18 rfl rfl)
theorem dX10_rows_203 : decode cX10_rows 203 = .ok (.istore 6, 2) := dk_54 6 (dk_at dksX10_rows_8 19 rfl rfl)
theorem dX10_rows_205 : decode cX10_rows 205 = .ok (.ldc 62, 2) := dk_18 62 (dk_at dksX10_rows_8 21 rfl rfl)
theorem dX10_rows_207 : decode cX10_rows 207 = .ok (.istore 7, 2) := dk_54 7 (dk_at dksX10_rows_9 0 rfl rfl)
theorem dX10_rows_209 : decode cX10_rows 209 = .ok (.iconst 0, 1) := dk_3 (dk_at dksX10_rows_9 2 rfl rfl)
theorem dX10_rows_210 : decode cX10_rows 210 = .ok (.istore 8, 2) := dk_54 8 (dk_at dksX10_rows_9 3 rfl rfl)
theorem dX10_rows_212 : decode cX10_rows 212 = .ok (.iload 8, 2) := dk_21 8 (dk_at dksX10_rows_9 5 rfl rfl)
theorem dX10_rows_214 : decode cX10_rows 214 = .ok (.ifCond .ne 110, 3) := dk_154 0 110 (dk_at dksX10_rows_9 7 rfl rfl)
theorem dX10_rows_217 : decode cX10_rows 217 = .ok (.iload_n 1, 1) := dk_27 (dk_at dksX10_rows_9 10 rfl rfl)
theorem dX10_rows_218 : decode cX10_rows 218 = .ok (.iload 6, 2) := dk_21 6 (dk_at dksX10_rows_9 11 rfl rfl)
theorem dX10_rows_220 : decode cX10_rows 220 = .ok (.invokestatic 106, 3) := dk_184 0 106 (dk_at dksX10_rows_9 13 rfl rfl)
theorem dX10_rows_223 : decode cX10_rows 223 = .ok (.ifCond .eq 95, 3) := dk_153 0 95 (dk_at dksX10_rows_9 16 rfl rfl)
theorem dX10_rows_226 : decode cX10_rows 226 = .ok (.iload_n 2, 1) := dk_28 (dk_at dksX10_rows_9 19 rfl rfl)
theorem dX10_rows_227 : decode cX10_rows 227 = .ok (.iload 6, 2) := dk_21 6 (dk_at dksX10_rows_9 20 rfl rfl)
theorem dX10_rows_229 : decode cX10_rows 229 = .ok (.invokestatic 106, 3) := dk_184 0 106 (dk_at dksX10_rows_10 0 rfl rfl)
theorem dX10_rows_232 : decode cX10_rows 232 = .ok (.ifCond .eq 6, 3) := dk_153 0 6 (dk_at dksX10_rows_10 3 rfl rfl)
theorem dX10_rows_235 : decode cX10_rows 235 = .ok (.goto 83, 3) := dk_167 0 83 (dk_at dksX10_rows_10 6 rfl rfl)
theorem dX10_rows_238 : decode cX10_rows 238 = .ok (.aload_n 0, 1) := dk_42 (dk_at dksX10_rows_10 9 rfl rfl)
theorem dX10_rows_239 : decode cX10_rows 239 = .ok (.iload_n 3, 1) := dk_29 (dk_at dksX10_rows_10 10 rfl rfl)
theorem dX10_rows_240 : decode cX10_rows 240 = .ok (.iload 4, 2) := dk_21 4 (dk_at dksX10_rows_10 11 rfl rfl)
theorem dX10_rows_242 : decode cX10_rows 242 = .ok (.iconst (-1), 1) := dk_2 (dk_at dksX10_rows_10 13 rfl rfl)
theorem dX10_rows_243 : decode cX10_rows 243 = .ok (.if_icmp .ne 19, 3) := dk_160 0 19 (dk_at dksX10_rows_10 14 rfl rfl)
theorem dX10_rows_246 : decode cX10_rows 246 = .ok (.aload_n 0, 1) := dk_42 (dk_at dksX10_rows_10 17 rfl rfl)
theorem dX10_rows_247 : decode cX10_rows 247 = .ok (.getfield 85, 3) := dk_180 0 85 (dk_at dksX10_rows_10 18 rfl rfl)
theorem dX10_rows_250 : decode cX10_rows 250 = .ok (.aload_n 0, 1) := dk_42 (dk_at dksX10_rows_10 21 rfl rfl)
theorem dX10_rows_251 : decode cX10_rows 251 = .ok (.iload 6, 2) := dk_21 6 (dk_at dksX10_rows_10 22 rfl rfl)
theorem dX10_rows_253 : decode cX10_rows 253 = .ok (.invokevirtual 95, 3) := dk_182 0 95 (dk_at dksX10_rows_11 0 rfl rfl)
theorem dX10_rows_256 : decode cX10_rows 256 = .ok (.invokevirtual 98, 3) := dk_182 0 98 (dk_at dksX10_rows_11 3 rfl rfl)
theorem dX10_rows_259 : decode cX10_rows 259 = .ok (.goto 18, 3) := dk_167 0 18 (dk_at dksX10_rows_11 6 rfl rfl)
theorem dX10_rows_262 : decode cX10_rows 262 = .ok (.aload_n 0, 1) := dk_42 (dk_at dksX10_rows_11 9 rfl rfl)
theorem dX10_rows_263 : decode cX10_rows 263 = .ok (.iload 4, 2) := dk_21 4 (dk_at dksX10_rows_11 10 rfl rfl)
theorem dX10_rows_265 : decode cX10_rows 265 = .ok (.invokevirtual 95, 3) := dk_182 0 95 (dk_at dksX10_rows_11 12 rfl rfl)
theorem dX10_rows_268 : decode cX10_rows 268 = .ok (.aload_n 0, 1) := dk_42 (dk_at dksX10_rows_11 15 rfl rfl)
theorem dX10_rows_269 : decode cX10_rows 269 = .ok (.iload 6, 2) := dk_21 6 (dk_at dksX10_rows_11 16 rfl rfl)
theorem dX10_rows_271 : decode cX10_rows 271 = .ok (.invokevirtual 95, 3) := dk_182 0 95 (dk_at dksX10_rows_11 18 rfl rfl)
theorem dX10_rows_274 : decode cX10_rows 274 = .ok (.invokevirtual 98, 3) := dk_182 0 98 (dk_at dksX10_rows_11 21 rfl rfl)
theorem dX10_rows_277 : decode cX10_rows 277 = .ok (.aload_n 0, 1) := dk_42 (dk_at dksX10_rows_12 0 rfl rfl)
theorem dX10_rows_278 : decode cX10_rows 278 = .ok (.getfield 15, 3) := dk_180 0 15 (dk_at dksX10_rows_12 1 rfl rfl)
theorem dX10_rows_281 : decode cX10_rows 281 = .ok (.iload 6, 2) := dk_21 6 (dk_at dksX10_rows_12 4 rfl rfl)
theorem dX10_rows_283 : decode cX10_rows 283 = .ok (.iaload, 1) := dk_46 (dk_at dksX10_rows_12 6 rfl rfl)
theorem dX10_rows_284 : decode cX10_rows 284 = .ok (.invokevirtual 102, 3) := dk_182 0 102 (dk_at dksX10_rows_12 7 rfl rfl)
theorem dX10_rows_287 : decode cX10_rows 287 = .ok (.istore 7, 2) := dk_54 7 (dk_at dksX10_rows_12 10 rfl rfl)
theorem dX10_rows_289 : decode cX10_rows 289 = .ok (.iload 7, 2) := dk_21 7 (dk_at dksX10_rows_12 12 rfl rfl)
theorem dX10_rows_291 : decode cX10_rows 291 = .ok (.aload_n 0, 1) := dk_42 (dk_at dksX10_rows_12 14 rfl rfl)
theorem dX10_rows_292 : decode cX10_rows 292 = .ok (.getfield 22, 3) := dk_180 0 22 (dk_at dksX10_rows_12 15 rfl rfl)
theorem dX10_rows_295 : decode cX10_rows 295 = .ok (.bipush 10, 2) := dk_16 10 (dk_at dksX10_rows_12 18 rfl rfl)
theorem dX10_rows_297 : decode cX10_rows 297 = .ok (.iload_n 2, 1) := dk_28 (dk_at dksX10_rows_12 20 rfl rfl)
theorem dX10_rows_298 : decode cX10_rows 298 = .ok (.iconst 1, 1) := dk_4 (dk_at dksX10_rows_12 21 rfl rfl)
theorem dX10_rows_299 : decode cX10_rows 299 = .ok (.iload 6, 2) := dk_21 6 (dk_at dksX10_rows_12 22 rfl rfl)
theorem dX10_rows_301 : decode cX10_rows 301 = .ok (.ishl, 1) := dk_120 (dk_at dksX10_rows_13 0 rfl rfl)
theorem dX10_rows_302 : decode cX10_rows 302 = .ok (.ior, 1) := dk_128 (dk_at dksX10_rows_13 1 rfl rfl)
theorem dX10_rows_303 : decode cX10_rows 303 = .ok (.imul, 1) := dk_104 (dk_at dksX10_rows_13 2 rfl rfl)
theorem dX10_rows_304 : decode cX10_rows 304 = .ok (.iload 6, 2) := dk_21 6 (dk_at dksX10_rows_13 3 rfl rfl)
theorem dX10_rows_306 : decode cX10_rows 306 = .ok (.iadd, 1) := dk_96 (dk_at dksX10_rows_13 5 rfl rfl)
theorem dX10_rows_307 : decode cX10_rows 307 = .ok (.iaload, 1) := dk_46 (dk_at dksX10_rows_13 6 rfl rfl)
theorem dX10_rows_308 : decode cX10_rows 308 = .ok (.if_icmp .gt 7, 3) := dk_163 0 7 (dk_at dksX10_rows_13 7 rfl rfl)
theorem dX10_rows_311 : decode cX10_rows 311 = .ok (.iconst 1, 1) := dk_4 (dk_at dksX10_rows_13 10 rfl rfl)
theorem dX10_rows_312 : decode cX10_rows 312 = .ok (.goto 4, 3) := dk_167 0 4 (dk_at dksX10_rows_13 11 rfl rfl)
theorem dX10_rows_315 : decode cX10_rows 315 = .ok (.iconst 0, 1) := dk_3 (dk_at dksX10_rows_13 14 rfl rfl)
theorem dX10_rows_316 : decode cX10_rows 316 = .ok (.istore 8, 2) := dk_54 8 (dk_at dksX10_rows_13 15 rfl rfl)
theorem dX10_rows_318 : decode cX10_rows 318 = .ok (.iinc 6 1, 3) := dk_132 6 1 (dk_at dksX10_rows_13 17 rfl rfl)
theorem dX10_rows_321 : decode cX10_rows 321 = .ok (.goto (-109), 3) := dk_167 255 147 (dk_at dksX10_rows_13 20 rfl rfl)
theorem dX10_rows_324 : decode cX10_rows 324 = .ok (.iload 6, 2) := dk_21 6 (dk_at dksX10_rows_14 0 rfl rfl)
theorem dX10_rows_326 : decode cX10_rows 326 = .ok (.iconst 1, 1) := dk_4 (dk_at dksX10_rows_14 2 rfl rfl)
theorem dX10_rows_327 : decode cX10_rows 327 = .ok (.isub, 1) := dk_100 (dk_at dksX10_rows_14 3 rfl rfl)
theorem dX10_rows_328 : decode cX10_rows 328 = .ok (.istore 4, 2) := dk_54 4 (dk_at dksX10_rows_14 4 rfl rfl)
theorem dX10_rows_330 : decode cX10_rows 330 = .ok (.aload_n 0, 1) := dk_42 (dk_at dksX10_rows_14 6 rfl rfl)
theorem dX10_rows_331 : decode cX10_rows 331 = .ok (.getfield 25, 3) := dk_180 0 25 (dk_at dksX10_rows_14 7 rfl rfl)
theorem dX10_rows_334 : decode cX10_rows 334 = .ok (.iload 5, 2) := dk_21 5 (dk_at dksX10_rows_14 10 rfl rfl)
theorem dX10_rows_336 : decode cX10_rows 336 = .ok (.aload_n 0, 1) := dk_42 (dk_at dksX10_rows_14 12 rfl rfl)
theorem dX10_rows_337 : decode cX10_rows 337 = .ok (.getfield 15, 3) := dk_180 0 15 (dk_at dksX10_rows_14 13 rfl rfl)
theorem dX10_rows_340 : decode cX10_rows 340 = .ok (.iload 4, 2) := dk_21 4 (dk_at dksX10_rows_14 16 rfl rfl)
theorem dX10_rows_342 : decode cX10_rows 342 = .ok (.iaload, 1) := dk_46 (dk_at dksX10_rows_14 18 rfl rfl)
theorem dX10_rows_343 : decode cX10_rows 343 = .ok (.iastore, 1) := dk_79 (dk_at dksX10_rows_14 19 rfl rfl)
theorem dX10_rows_344 : decode cX10_rows 344 = .ok (.iload_n 2, 1) := dk_28 (dk_at dksX10_rows_14 20 rfl rfl)
theorem dX10_rows_345 : decode cX10_rows 345 = .ok (.iconst 1, 1) := dk_4 (dk_at dksX10_rows_14 21 rfl rfl)
theorem dX10_rows_346 : decode cX10_rows 346 = .ok (.iload 4, 2) := dk_21 4 (dk_at dksX10_rows_14 22 rfl rfl)
theorem dX10_rows_348 : decode cX10_rows 348 = .ok (.ishl, 1) := dk_120 (dk_at dksX10_rows_15 0 rfl rfl)
theorem dX10_rows_349 : decode cX10_rows 349 = .ok (.ior, 1) := dk_128 (dk_at dksX10_rows_15 1 rfl rfl)
theorem dX10_rows_350 : decode cX10_rows 350 = .ok (.istore_n 2, 1) := dk_61 (dk_at dksX10_rows_15 2 rfl rfl)
theorem dX10_rows_351 : decode cX10_rows 351 = .ok (.iload 7, 2) := dk_21 7 (dk_at dksX10_rows_15 3 rfl rfl)
theorem dX10_rows_353 : decode cX10_rows 353 = .ok (.istore_n 3, 1) := dk_62 (dk_at dksX10_rows_15 5 rfl rfl)
theorem dX10_rows_354 : decode cX10_rows 354 = .ok (.iinc 5 1, 3) := dk_132 5 1 (dk_at dksX10_rows_15 6 rfl rfl)
theorem dX10_rows_357 : decode cX10_rows 357 = .ok (.goto (-160), 3) := dk_167 255 96 (dk_at dksX10_rows_15 9 rfl rfl)
theorem dX10_rows_360 : decode cX10_rows 360 = .ok (.return_, 1) := dk_177 (dk_at dksX10_rows_15 12 rfl rfl)
abbrev cX10_ahead : ByteArray := prog_2_method_5_code
def yX10_ahead : MethodName := ⟨RX10, "ahead", "(III)I"⟩
def dkwX10_ahead_3 : List UInt8 := [16, 15, 100, 25, 4, 180, 0, 71, 162, 0, 7, 2, 167, 0, 10, 21, 5, 16, 15, 100, 28, 100, 172]
abbrev dktX10_ahead_3 : List UInt8 := dkwX10_ahead_3 ++ []
def dkwX10_ahead_2 : List UInt8 := [159, 0, 5, 2, 172, 27, 25, 4, 180, 0, 79, 17, 0, 180, 184, 0, 82, 184, 0, 82, 54, 5, 21, 5]
abbrev dktX10_ahead_2 : List UInt8 := dkwX10_ahead_2 ++ dktX10_ahead_3
def dkwX10_ahead_1 : List UInt8 := [27, 17, 0, 180, 184, 0, 82, 28, 100, 172, 42, 180, 0, 63, 16, 7, 112, 25, 4, 180, 0, 66]
abbrev dktX10_ahead_1 : List UInt8 := dkwX10_ahead_1 ++ dktX10_ahead_2
def dkwX10_ahead_0 : List UInt8 := [42, 180, 0, 3, 180, 0, 28, 180, 0, 32, 29, 182, 0, 38, 58, 4, 42, 29, 182, 0, 58, 154, 0, 13]
abbrev dktX10_ahead_0 : List UInt8 := dkwX10_ahead_0 ++ dktX10_ahead_1
theorem dksX10_ahead_0 : cX10_ahead.data.toList.drop 0 = dktX10_ahead_0 := by decide +kernel
theorem dksX10_ahead_1 : cX10_ahead.data.toList.drop 24 = dktX10_ahead_1 := dk_seg dksX10_ahead_0 24 rfl rfl
theorem dksX10_ahead_2 : cX10_ahead.data.toList.drop 46 = dktX10_ahead_2 := dk_seg dksX10_ahead_1 22 rfl rfl
theorem dksX10_ahead_3 : cX10_ahead.data.toList.drop 70 = dktX10_ahead_3 := dk_seg dksX10_ahead_2 24 rfl rfl
theorem dX10_ahead_0 : decode cX10_ahead 0 = .ok (.aload_n 0, 1) := dk_42 (dk_at dksX10_ahead_0 0 rfl rfl)
theorem dX10_ahead_1 : decode cX10_ahead 1 = .ok (.getfield 3, 3) := dk_180 0 3 (dk_at dksX10_ahead_0 1 rfl rfl)
theorem dX10_ahead_4 : decode cX10_ahead 4 = .ok (.getfield 28, 3) := dk_180 0 28 (dk_at dksX10_ahead_0 4 rfl rfl)
theorem dX10_ahead_7 : decode cX10_ahead 7 = .ok (.getfield 32, 3) := dk_180 0 32 (dk_at dksX10_ahead_0 7 rfl rfl)
theorem dX10_ahead_10 : decode cX10_ahead 10 = .ok (.iload_n 3, 1) := dk_29 (dk_at dksX10_ahead_0 10 rfl rfl)
theorem dX10_ahead_11 : decode cX10_ahead 11 = .ok (.invokevirtual 38, 3) := dk_182 0 38 (dk_at dksX10_ahead_0 11 rfl rfl)
theorem dX10_ahead_14 : decode cX10_ahead 14 = .ok (.astore 4, 2) := dk_58 4 (dk_at dksX10_ahead_0 14 rfl rfl)
theorem dX10_ahead_16 : decode cX10_ahead 16 = .ok (.aload_n 0, 1) := dk_42 (dk_at dksX10_ahead_0 16 rfl rfl)
theorem dX10_ahead_17 : decode cX10_ahead 17 = .ok (.iload_n 3, 1) := dk_29 (dk_at dksX10_ahead_0 17 rfl rfl)
theorem dX10_ahead_18 : decode cX10_ahead 18 = .ok (.invokevirtual 58, 3) := dk_182 0 58 (dk_at dksX10_ahead_0 18 rfl rfl)
theorem dX10_ahead_21 : decode cX10_ahead 21 = .ok (.ifCond .ne 13, 3) := dk_154 0 13 (dk_at dksX10_ahead_0 21 rfl rfl)
theorem dX10_ahead_24 : decode cX10_ahead 24 = .ok (.iload_n 1, 1) := dk_27 (dk_at dksX10_ahead_1 0 rfl rfl)
theorem dX10_ahead_25 : decode cX10_ahead 25 = .ok (.sipush 180, 3) := dk_17 0 180 (dk_at dksX10_ahead_1 1 rfl rfl)
theorem dX10_ahead_28 : decode cX10_ahead 28 = .ok (.invokestatic 82, 3) := dk_184 0 82 (dk_at dksX10_ahead_1 4 rfl rfl)
theorem dX10_ahead_31 : decode cX10_ahead 31 = .ok (.iload_n 2, 1) := dk_28 (dk_at dksX10_ahead_1 7 rfl rfl)
theorem dX10_ahead_32 : decode cX10_ahead 32 = .ok (.isub, 1) := dk_100 (dk_at dksX10_ahead_1 8 rfl rfl)
theorem dX10_ahead_33 : decode cX10_ahead 33 = .ok (.ireturn, 1) := dk_172 (dk_at dksX10_ahead_1 9 rfl rfl)
theorem dX10_ahead_34 : decode cX10_ahead 34 = .ok (.aload_n 0, 1) := dk_42 (dk_at dksX10_ahead_1 10 rfl rfl)
theorem dX10_ahead_35 : decode cX10_ahead 35 = .ok (.getfield 63, 3) := dk_180 0 63 (dk_at dksX10_ahead_1 11 rfl rfl)
theorem dX10_ahead_38 : decode cX10_ahead 38 = .ok (.bipush 7, 2) := dk_16 7 (dk_at dksX10_ahead_1 14 rfl rfl)
theorem dX10_ahead_40 : decode cX10_ahead 40 = .ok (.irem, 1) := dk_112 (dk_at dksX10_ahead_1 16 rfl rfl)
theorem dX10_ahead_41 : decode cX10_ahead 41 = .ok (.aload 4, 2) := dk_25 4 (dk_at dksX10_ahead_1 17 rfl rfl)
theorem dX10_ahead_43 : decode cX10_ahead 43 = .ok (.getfield 66, 3) := dk_180 0 66 (dk_at dksX10_ahead_1 19 rfl rfl)
theorem dX10_ahead_46 : decode cX10_ahead 46 = .ok (.if_icmp .eq 5, 3) := dk_159 0 5 (dk_at dksX10_ahead_2 0 rfl rfl)
theorem dX10_ahead_49 : decode cX10_ahead 49 = .ok (.iconst (-1), 1) := dk_2 (dk_at dksX10_ahead_2 3 rfl rfl)
theorem dX10_ahead_50 : decode cX10_ahead 50 = .ok (.ireturn, 1) := dk_172 (dk_at dksX10_ahead_2 4 rfl rfl)
theorem dX10_ahead_51 : decode cX10_ahead 51 = .ok (.iload_n 1, 1) := dk_27 (dk_at dksX10_ahead_2 5 rfl rfl)
theorem dX10_ahead_52 : decode cX10_ahead 52 = .ok (.aload 4, 2) := dk_25 4 (dk_at dksX10_ahead_2 6 rfl rfl)
theorem dX10_ahead_54 : decode cX10_ahead 54 = .ok (.getfield 79, 3) := dk_180 0 79 (dk_at dksX10_ahead_2 8 rfl rfl)
theorem dX10_ahead_57 : decode cX10_ahead 57 = .ok (.sipush 180, 3) := dk_17 0 180 (dk_at dksX10_ahead_2 11 rfl rfl)
theorem dX10_ahead_60 : decode cX10_ahead 60 = .ok (.invokestatic 82, 3) := dk_184 0 82 (dk_at dksX10_ahead_2 14 rfl rfl)
theorem dX10_ahead_63 : decode cX10_ahead 63 = .ok (.invokestatic 82, 3) := dk_184 0 82 (dk_at dksX10_ahead_2 17 rfl rfl)
theorem dX10_ahead_66 : decode cX10_ahead 66 = .ok (.istore 5, 2) := dk_54 5 (dk_at dksX10_ahead_2 20 rfl rfl)
theorem dX10_ahead_68 : decode cX10_ahead 68 = .ok (.iload 5, 2) := dk_21 5 (dk_at dksX10_ahead_2 22 rfl rfl)
theorem dX10_ahead_70 : decode cX10_ahead 70 = .ok (.bipush 15, 2) := dk_16 15 (dk_at dksX10_ahead_3 0 rfl rfl)
theorem dX10_ahead_72 : decode cX10_ahead 72 = .ok (.isub, 1) := dk_100 (dk_at dksX10_ahead_3 2 rfl rfl)
theorem dX10_ahead_73 : decode cX10_ahead 73 = .ok (.aload 4, 2) := dk_25 4 (dk_at dksX10_ahead_3 3 rfl rfl)
theorem dX10_ahead_75 : decode cX10_ahead 75 = .ok (.getfield 71, 3) := dk_180 0 71 (dk_at dksX10_ahead_3 5 rfl rfl)
theorem dX10_ahead_78 : decode cX10_ahead 78 = .ok (.if_icmp .ge 7, 3) := dk_162 0 7 (dk_at dksX10_ahead_3 8 rfl rfl)
theorem dX10_ahead_81 : decode cX10_ahead 81 = .ok (.iconst (-1), 1) := dk_2 (dk_at dksX10_ahead_3 11 rfl rfl)
theorem dX10_ahead_82 : decode cX10_ahead 82 = .ok (.goto 10, 3) := dk_167 0 10 (dk_at dksX10_ahead_3 12 rfl rfl)
theorem dX10_ahead_85 : decode cX10_ahead 85 = .ok (.iload 5, 2) := dk_21 5 (dk_at dksX10_ahead_3 15 rfl rfl)
theorem dX10_ahead_87 : decode cX10_ahead 87 = .ok (.bipush 15, 2) := dk_16 15 (dk_at dksX10_ahead_3 17 rfl rfl)
theorem dX10_ahead_89 : decode cX10_ahead 89 = .ok (.isub, 1) := dk_100 (dk_at dksX10_ahead_3 19 rfl rfl)
theorem dX10_ahead_90 : decode cX10_ahead 90 = .ok (.iload_n 2, 1) := dk_28 (dk_at dksX10_ahead_3 20 rfl rfl)
theorem dX10_ahead_91 : decode cX10_ahead 91 = .ok (.isub, 1) := dk_100 (dk_at dksX10_ahead_3 21 rfl rfl)
theorem dX10_ahead_92 : decode cX10_ahead 92 = .ok (.ireturn, 1) := dk_172 (dk_at dksX10_ahead_3 22 rfl rfl)
theorem q124 : (Jvm.Cond.initialized "CardBowl$Afternoon") ∈ lw_all := lw_g (lw_at lw_m1 15 rfl) rfl
theorem q514 : (Jvm.Cond.fieldLinkNest "CardBowl$Afternoon" (32 : Nat) "CardBowl$State" "town" "LCardBowl$Town;" "CardBowl") ∈ lw_tbl := lw_at lw_m2 165 rfl
theorem q517 : (Jvm.Cond.fieldLinkNest "CardBowl$Afternoon" (44 : Nat) "CardBowl$State" "ledger" "LCardBowl$Ledger;" "CardBowl") ∈ lw_tbl := lw_at lw_m2 168 rfl
theorem q567 : (Jvm.Cond.instantiable "CardBowl$Afternoon" (12 : Nat)) ∈ lw_all := lw_g (lw_at lw_m2 218 rfl) rfl
theorem q569 : (Jvm.Cond.instanceMethod ({ cls := "CardBowl$Afternoon", name := "<init>", desc := "(LCardBowl;)V" } : Jvm.MethodName)) ∈ lw_all := lw_g (lw_at lw_m2 220 rfl) rfl
theorem q570 : (Jvm.Cond.code ({ cls := "CardBowl$Afternoon", name := "<init>", desc := "(LCardBowl;)V" } : Jvm.MethodName) prog_2_method_1_code (2 : Nat) (Option.none : Option Jvm.ClassFile.FieldType)) ∈ lw_all := lw_g (lw_at lw_m2 221 rfl) rfl
theorem q571 : (Jvm.Cond.methodLink "CardBowl$Afternoon" (9 : Nat) ({ cls := "java/lang/Object", name := "<init>", desc := "()V" } : Jvm.MethodName)) ∈ lw_all := lw_g (lw_at lw_m2 222 rfl) rfl
theorem q572 : (Jvm.Cond.fieldLink "CardBowl$Afternoon" (15 : Nat) "CardBowl$Afternoon" "seen" "[I") ∈ lw_all := lw_g (lw_at lw_m2 223 rfl) rfl
theorem q574 : (Jvm.Cond.fieldLink "CardBowl$Afternoon" (19 : Nat) "CardBowl$Afternoon" "early" "[I") ∈ lw_all := lw_g (lw_at lw_m2 225 rfl) rfl
theorem q575 : (Jvm.Cond.fieldLink "CardBowl$Afternoon" (22 : Nat) "CardBowl$Afternoon" "late" "[I") ∈ lw_all := lw_g (lw_at lw_m2 226 rfl) rfl
theorem q576 : (Jvm.Cond.fieldLink "CardBowl$Afternoon" (25 : Nat) "CardBowl$Afternoon" "path" "[I") ∈ lw_all := lw_g (lw_at lw_m2 227 rfl) rfl
theorem q578 : (Jvm.Cond.fieldLink "CardBowl$Afternoon" (89 : Nat) "CardBowl$Afternoon" "many" "I") ∈ lw_all := lw_g (lw_at lw_m2 229 rfl) rfl
theorem q580 : (Jvm.Cond.fieldLink "CardBowl$Afternoon" (63 : Nat) "CardBowl$Afternoon" "day" "I") ∈ lw_all := lw_g (lw_at lw_m2 231 rfl) rfl
theorem q582 : (Jvm.Cond.fieldLink "CardBowl$Afternoon" (113 : Nat) "CardBowl$Afternoon" "bestMask" "I") ∈ lw_all := lw_g (lw_at lw_m2 233 rfl) rfl
theorem q584 : (Jvm.Cond.fieldLink "CardBowl$Afternoon" (116 : Nat) "CardBowl$Afternoon" "bestOver" "I") ∈ lw_all := lw_g (lw_at lw_m2 235 rfl) rfl
theorem q586 : (Jvm.Cond.fieldLink "CardBowl$Afternoon" (119 : Nat) "CardBowl$Afternoon" "bestWorth" "I") ∈ lw_all := lw_g (lw_at lw_m2 237 rfl) rfl
theorem q588 : (Jvm.Cond.fieldLink "CardBowl$Afternoon" (85 : Nat) "CardBowl$Afternoon" "self" "LCardBowl$House;") ∈ lw_all := lw_g (lw_at lw_m2 239 rfl) rfl
theorem q589 : (Jvm.Cond.fieldLink "CardBowl$Afternoon" (48 : Nat) "CardBowl$Afternoon" "owner" "I") ∈ lw_all := lw_g (lw_at lw_m3 0 rfl) rfl
theorem q590 : (Jvm.Cond.fieldLink "CardBowl$Afternoon" (3 : Nat) "CardBowl$Afternoon" "this$0" "LCardBowl;") ∈ lw_all := lw_g (lw_at lw_m3 1 rfl) rfl
theorem q591 : (Jvm.Cond.laysFinal "CardBowl$Afternoon" "CardBowl$Afternoon" "seen" "[I") ∈ lw_all := lw_g (lw_at lw_m3 2 rfl) rfl
theorem q592 : (Jvm.Cond.soleField "CardBowl$Afternoon" "seen") ∈ lw_all := lw_g (lw_at lw_m3 3 rfl) rfl
theorem q593 : (Jvm.Cond.laysFinal "CardBowl$Afternoon" "CardBowl$Afternoon" "early" "[I") ∈ lw_all := lw_g (lw_at lw_m3 4 rfl) rfl
theorem q594 : (Jvm.Cond.soleField "CardBowl$Afternoon" "early") ∈ lw_all := lw_g (lw_at lw_m3 5 rfl) rfl
theorem q595 : (Jvm.Cond.laysFinal "CardBowl$Afternoon" "CardBowl$Afternoon" "late" "[I") ∈ lw_all := lw_g (lw_at lw_m3 6 rfl) rfl
theorem q596 : (Jvm.Cond.soleField "CardBowl$Afternoon" "late") ∈ lw_all := lw_g (lw_at lw_m3 7 rfl) rfl
theorem q597 : (Jvm.Cond.laysFinal "CardBowl$Afternoon" "CardBowl$Afternoon" "path" "[I") ∈ lw_all := lw_g (lw_at lw_m3 8 rfl) rfl
theorem q598 : (Jvm.Cond.soleField "CardBowl$Afternoon" "path") ∈ lw_all := lw_g (lw_at lw_m3 9 rfl) rfl
theorem q599 : (Jvm.Cond.lays "CardBowl$Afternoon" "CardBowl$Afternoon" "many" "I") ∈ lw_all := lw_g (lw_at lw_m3 10 rfl) rfl
theorem q600 : (Jvm.Cond.soleField "CardBowl$Afternoon" "many") ∈ lw_all := lw_g (lw_at lw_m3 11 rfl) rfl
theorem q601 : (Jvm.Cond.lays "CardBowl$Afternoon" "CardBowl$Afternoon" "day" "I") ∈ lw_all := lw_g (lw_at lw_m3 12 rfl) rfl
theorem q602 : (Jvm.Cond.soleField "CardBowl$Afternoon" "day") ∈ lw_all := lw_g (lw_at lw_m3 13 rfl) rfl
theorem q603 : (Jvm.Cond.lays "CardBowl$Afternoon" "CardBowl$Afternoon" "bestMask" "I") ∈ lw_all := lw_g (lw_at lw_m3 14 rfl) rfl
theorem q604 : (Jvm.Cond.soleField "CardBowl$Afternoon" "bestMask") ∈ lw_all := lw_g (lw_at lw_m3 15 rfl) rfl
theorem q605 : (Jvm.Cond.lays "CardBowl$Afternoon" "CardBowl$Afternoon" "bestOver" "I") ∈ lw_all := lw_g (lw_at lw_m3 16 rfl) rfl
theorem q606 : (Jvm.Cond.soleField "CardBowl$Afternoon" "bestOver") ∈ lw_all := lw_g (lw_at lw_m3 17 rfl) rfl
theorem q607 : (Jvm.Cond.lays "CardBowl$Afternoon" "CardBowl$Afternoon" "bestWorth" "I") ∈ lw_all := lw_g (lw_at lw_m3 18 rfl) rfl
theorem q608 : (Jvm.Cond.soleField "CardBowl$Afternoon" "bestWorth") ∈ lw_all := lw_g (lw_at lw_m3 19 rfl) rfl
theorem q609 : (Jvm.Cond.lays "CardBowl$Afternoon" "CardBowl$Afternoon" "self" "LCardBowl$House;") ∈ lw_all := lw_g (lw_at lw_m3 20 rfl) rfl
theorem q610 : (Jvm.Cond.soleField "CardBowl$Afternoon" "self") ∈ lw_all := lw_g (lw_at lw_m3 21 rfl) rfl
theorem q611 : (Jvm.Cond.lays "CardBowl$Afternoon" "CardBowl$Afternoon" "owner" "I") ∈ lw_all := lw_g (lw_at lw_m3 22 rfl) rfl
theorem q612 : (Jvm.Cond.soleField "CardBowl$Afternoon" "owner") ∈ lw_all := lw_g (lw_at lw_m3 23 rfl) rfl
theorem q613 : (Jvm.Cond.laysFinal "CardBowl$Afternoon" "CardBowl$Afternoon" "this$0" "LCardBowl;") ∈ lw_all := lw_g (lw_at lw_m3 24 rfl) rfl
theorem q614 : (Jvm.Cond.soleField "CardBowl$Afternoon" "this$0") ∈ lw_all := lw_g (lw_at lw_m3 25 rfl) rfl
theorem q615 : (Jvm.Cond.superclass "CardBowl$Afternoon" "java/lang/Object") ∈ lw_all := lw_g (lw_at lw_m3 26 rfl) rfl
theorem q627 : (Jvm.Cond.fieldLinkNest "CardBowl$Afternoon" (28 : Nat) "CardBowl" "now" "LCardBowl$State;" "CardBowl") ∈ lw_tbl := lw_at lw_m3 38 rfl
theorem q1033 : (Jvm.Cond.selects "CardBowl$Afternoon" ({ cls := "java/lang/Object", name := "getClass", desc := "()Ljava/lang/Class;" } : Jvm.MethodName) ({ cls := "java/lang/Object", name := "getClass", desc := "()Ljava/lang/Class;" } : Jvm.MethodName)) ∈ lw_all := lw_g (lw_at lw_m4 204 rfl) rfl
theorem q1089 : (Jvm.Cond.fieldLinkNest "CardBowl$Afternoon" (66 : Nat) "CardBowl$House" "weekday" "I" "CardBowl") ∈ lw_tbl := lw_at lw_m5 20 rfl
theorem q1092 : (Jvm.Cond.fieldLinkNest "CardBowl$Afternoon" (71 : Nat) "CardBowl$House" "from" "I" "CardBowl") ∈ lw_tbl := lw_at lw_m5 23 rfl
theorem q1095 : (Jvm.Cond.fieldLinkNest "CardBowl$Afternoon" (79 : Nat) "CardBowl$House" "to" "I" "CardBowl") ∈ lw_tbl := lw_at lw_m5 26 rfl
theorem q1474 : (Jvm.Cond.instanceMethod ({ cls := "CardBowl$Afternoon", name := "begins", desc := "(II)V" } : Jvm.MethodName)) ∈ lw_all := lw_g (lw_at lw_m6 165 rfl) rfl
theorem q1475 : (Jvm.Cond.selects "CardBowl$Afternoon" ({ cls := "CardBowl$Afternoon", name := "begins", desc := "(II)V" } : Jvm.MethodName) ({ cls := "CardBowl$Afternoon", name := "begins", desc := "(II)V" } : Jvm.MethodName)) ∈ lw_all := lw_g (lw_at lw_m6 166 rfl) rfl
theorem q1476 : (Jvm.Cond.code ({ cls := "CardBowl$Afternoon", name := "begins", desc := "(II)V" } : Jvm.MethodName) prog_2_method_6_code (3 : Nat) (Option.none : Option Jvm.ClassFile.FieldType)) ∈ lw_all := lw_g (lw_at lw_m6 167 rfl) rfl
theorem q1477 : (Jvm.Cond.methodLink "CardBowl$Afternoon" (38 : Nat) ({ cls := "CardBowl$Town", name := "house", desc := "(I)LCardBowl$House;" } : Jvm.MethodName)) ∈ lw_all := lw_g (lw_at lw_m6 168 rfl) rfl
theorem q1479 : (Jvm.Cond.instanceMethod ({ cls := "CardBowl$Afternoon", name := "owed", desc := "()V" } : Jvm.MethodName)) ∈ lw_all := lw_g (lw_at lw_m6 170 rfl) rfl
theorem q1480 : (Jvm.Cond.selects "CardBowl$Afternoon" ({ cls := "CardBowl$Afternoon", name := "owed", desc := "()V" } : Jvm.MethodName) ({ cls := "CardBowl$Afternoon", name := "owed", desc := "()V" } : Jvm.MethodName)) ∈ lw_all := lw_g (lw_at lw_m6 171 rfl) rfl
theorem q1481 : (Jvm.Cond.code ({ cls := "CardBowl$Afternoon", name := "owed", desc := "()V" } : Jvm.MethodName) prog_2_method_7_code (2 : Nat) (Option.none : Option Jvm.ClassFile.FieldType)) ∈ lw_all := lw_g (lw_at lw_m6 172 rfl) rfl
theorem q1482 : (Jvm.Cond.methodLink "CardBowl$Afternoon" (92 : Nat) ({ cls := "CardBowl$Town", name := "many", desc := "()I" } : Jvm.MethodName)) ∈ lw_all := lw_g (lw_at lw_m6 173 rfl) rfl
theorem q1483 : (Jvm.Cond.methodLink "CardBowl$Afternoon" (52 : Nat) ({ cls := "CardBowl$Ledger", name := "greatest", desc := "(II)I" } : Jvm.MethodName)) ∈ lw_all := lw_g (lw_at lw_m6 174 rfl) rfl
theorem q1489 : (Jvm.Cond.instanceMethod ({ cls := "CardBowl$Afternoon", name := "goes", desc := "()V" } : Jvm.MethodName)) ∈ lw_all := lw_g (lw_at lw_m6 180 rfl) rfl
theorem q1490 : (Jvm.Cond.selects "CardBowl$Afternoon" ({ cls := "CardBowl$Afternoon", name := "goes", desc := "()V" } : Jvm.MethodName) ({ cls := "CardBowl$Afternoon", name := "goes", desc := "()V" } : Jvm.MethodName)) ∈ lw_all := lw_g (lw_at lw_m6 181 rfl) rfl
theorem q1491 : (Jvm.Cond.code ({ cls := "CardBowl$Afternoon", name := "goes", desc := "()V" } : Jvm.MethodName) prog_2_method_8_code (6 : Nat) (Option.none : Option Jvm.ClassFile.FieldType)) ∈ lw_all := lw_g (lw_at lw_m6 182 rfl) rfl
theorem q1492 : (Jvm.Cond.constant "CardBowl$Afternoon" (62 : Nat) (100000 : Int32)) ∈ lw_all := lw_g (lw_at lw_m6 183 rfl) rfl
theorem q1493 : (Jvm.Cond.methodLink "CardBowl$Afternoon" (95 : Nat) ({ cls := "CardBowl$Afternoon", name := "at", desc := "(I)LCardBowl$House;" } : Jvm.MethodName)) ∈ lw_all := lw_g (lw_at lw_m6 184 rfl) rfl
theorem q1494 : (Jvm.Cond.privateMethod ({ cls := "CardBowl$Afternoon", name := "at", desc := "(I)LCardBowl$House;" } : Jvm.MethodName)) ∈ lw_tbl := lw_at lw_m6 185 rfl
theorem q1495 : (Jvm.Cond.instanceMethod ({ cls := "CardBowl$Afternoon", name := "at", desc := "(I)LCardBowl$House;" } : Jvm.MethodName)) ∈ lw_all := lw_g (lw_at lw_m6 186 rfl) rfl
theorem q1496 : (Jvm.Cond.code ({ cls := "CardBowl$Afternoon", name := "at", desc := "(I)LCardBowl$House;" } : Jvm.MethodName) prog_2_method_2_code (2 : Nat) (Option.some (Jvm.ClassFile.FieldType.object "CardBowl$House"))) ∈ lw_all := lw_g (lw_at lw_m6 187 rfl) rfl
theorem q1497 : (Jvm.Cond.methodLink "CardBowl$Afternoon" (98 : Nat) ({ cls := "CardBowl$House", name := "far", desc := "(LCardBowl$House;)I" } : Jvm.MethodName)) ∈ lw_all := lw_g (lw_at lw_m6 188 rfl) rfl
theorem q1504 : (Jvm.Cond.methodLink "CardBowl$Afternoon" (102 : Nat) ({ cls := "CardBowl$Afternoon", name := "after", desc := "(III)I" } : Jvm.MethodName)) ∈ lw_all := lw_g (lw_at lw_m6 195 rfl) rfl
theorem q1505 : (Jvm.Cond.privateMethod ({ cls := "CardBowl$Afternoon", name := "after", desc := "(III)I" } : Jvm.MethodName)) ∈ lw_tbl := lw_at lw_m6 196 rfl
theorem q1506 : (Jvm.Cond.instanceMethod ({ cls := "CardBowl$Afternoon", name := "after", desc := "(III)I" } : Jvm.MethodName)) ∈ lw_all := lw_g (lw_at lw_m6 197 rfl) rfl
theorem q1507 : (Jvm.Cond.code ({ cls := "CardBowl$Afternoon", name := "after", desc := "(III)I" } : Jvm.MethodName) prog_2_method_4_code (7 : Nat) (Option.some Jvm.ClassFile.FieldType.int)) ∈ lw_all := lw_g (lw_at lw_m6 198 rfl) rfl
theorem q1508 : (Jvm.Cond.methodLink "CardBowl$Afternoon" (58 : Nat) ({ cls := "CardBowl$Afternoon", name := "isCall", desc := "(I)Z" } : Jvm.MethodName)) ∈ lw_all := lw_g (lw_at lw_m6 199 rfl) rfl
theorem q1509 : (Jvm.Cond.privateMethod ({ cls := "CardBowl$Afternoon", name := "isCall", desc := "(I)Z" } : Jvm.MethodName)) ∈ lw_tbl := lw_at lw_m6 200 rfl
theorem q1510 : (Jvm.Cond.instanceMethod ({ cls := "CardBowl$Afternoon", name := "isCall", desc := "(I)Z" } : Jvm.MethodName)) ∈ lw_all := lw_g (lw_at lw_m6 201 rfl) rfl
theorem q1511 : (Jvm.Cond.code ({ cls := "CardBowl$Afternoon", name := "isCall", desc := "(I)Z" } : Jvm.MethodName) prog_2_method_3_code (2 : Nat) (Option.some Jvm.ClassFile.FieldType.boolean)) ∈ lw_all := lw_g (lw_at lw_m6 202 rfl) rfl
theorem q1512 : (Jvm.Cond.methodLink "CardBowl$Afternoon" (74 : Nat) ({ cls := "java/lang/Math", name := "max", desc := "(II)I" } : Jvm.MethodName)) ∈ lw_all := lw_g (lw_at lw_m6 203 rfl) rfl
theorem q1513 : (Jvm.Cond.methodLink "CardBowl$Afternoon" (82 : Nat) ({ cls := "java/lang/Math", name := "min", desc := "(II)I" } : Jvm.MethodName)) ∈ lw_all := lw_g (lw_at lw_m6 204 rfl) rfl
theorem q1514 : (Jvm.Cond.methodLinkNest "CardBowl$Afternoon" (106 : Nat) ({ cls := "CardBowl", name := "has", desc := "(II)Z" } : Jvm.MethodName) "CardBowl") ∈ lw_tbl := lw_at lw_m6 205 rfl
theorem q1516 : (Jvm.Cond.instanceMethod ({ cls := "CardBowl$Afternoon", name := "best", desc := "()V" } : Jvm.MethodName)) ∈ lw_all := lw_g (lw_at lw_m6 207 rfl) rfl
theorem q1517 : (Jvm.Cond.selects "CardBowl$Afternoon" ({ cls := "CardBowl$Afternoon", name := "best", desc := "()V" } : Jvm.MethodName) ({ cls := "CardBowl$Afternoon", name := "best", desc := "()V" } : Jvm.MethodName)) ∈ lw_all := lw_g (lw_at lw_m6 208 rfl) rfl
theorem q1518 : (Jvm.Cond.code ({ cls := "CardBowl$Afternoon", name := "best", desc := "()V" } : Jvm.MethodName) prog_2_method_12_code (5 : Nat) (Option.none : Option Jvm.ClassFile.FieldType)) ∈ lw_all := lw_g (lw_at lw_m6 209 rfl) rfl
theorem q1519 : (Jvm.Cond.methodLink "CardBowl$Afternoon" (122 : Nat) ({ cls := "CardBowl$Afternoon", name := "over", desc := "(I)I" } : Jvm.MethodName)) ∈ lw_all := lw_g (lw_at lw_m6 210 rfl) rfl
theorem q1520 : (Jvm.Cond.instanceMethod ({ cls := "CardBowl$Afternoon", name := "over", desc := "(I)I" } : Jvm.MethodName)) ∈ lw_all := lw_g (lw_at lw_m6 211 rfl) rfl
theorem q1521 : (Jvm.Cond.selects "CardBowl$Afternoon" ({ cls := "CardBowl$Afternoon", name := "over", desc := "(I)I" } : Jvm.MethodName) ({ cls := "CardBowl$Afternoon", name := "over", desc := "(I)I" } : Jvm.MethodName)) ∈ lw_all := lw_g (lw_at lw_m6 212 rfl) rfl
theorem q1522 : (Jvm.Cond.code ({ cls := "CardBowl$Afternoon", name := "over", desc := "(I)I" } : Jvm.MethodName) prog_2_method_9_code (4 : Nat) (Option.some Jvm.ClassFile.FieldType.int)) ∈ lw_all := lw_g (lw_at lw_m6 213 rfl) rfl
theorem q1523 : (Jvm.Cond.methodLink "CardBowl$Afternoon" (126 : Nat) ({ cls := "CardBowl$Afternoon", name := "worth", desc := "(I)I" } : Jvm.MethodName)) ∈ lw_all := lw_g (lw_at lw_m6 214 rfl) rfl
theorem q1524 : (Jvm.Cond.privateMethod ({ cls := "CardBowl$Afternoon", name := "worth", desc := "(I)I" } : Jvm.MethodName)) ∈ lw_tbl := lw_at lw_m6 215 rfl
theorem q1525 : (Jvm.Cond.instanceMethod ({ cls := "CardBowl$Afternoon", name := "worth", desc := "(I)I" } : Jvm.MethodName)) ∈ lw_all := lw_g (lw_at lw_m6 216 rfl) rfl
theorem q1526 : (Jvm.Cond.code ({ cls := "CardBowl$Afternoon", name := "worth", desc := "(I)I" } : Jvm.MethodName) prog_2_method_11_code (4 : Nat) (Option.some Jvm.ClassFile.FieldType.int)) ∈ lw_all := lw_g (lw_at lw_m6 217 rfl) rfl
theorem q1527 : (Jvm.Cond.methodLink "CardBowl$Afternoon" (110 : Nat) ({ cls := "CardBowl$Ledger", name := "worth", desc := "(II)I" } : Jvm.MethodName)) ∈ lw_all := lw_g (lw_at lw_m6 218 rfl) rfl
theorem q1531 : (Jvm.Cond.methodLink "CardBowl$Afternoon" (128 : Nat) ({ cls := "CardBowl$Afternoon", name := "bits", desc := "(I)I" } : Jvm.MethodName)) ∈ lw_all := lw_g (lw_at lw_m6 222 rfl) rfl
theorem q1532 : (Jvm.Cond.privateMethod ({ cls := "CardBowl$Afternoon", name := "bits", desc := "(I)I" } : Jvm.MethodName)) ∈ lw_tbl := lw_at lw_m6 223 rfl
theorem q1533 : (Jvm.Cond.instanceMethod ({ cls := "CardBowl$Afternoon", name := "bits", desc := "(I)I" } : Jvm.MethodName)) ∈ lw_all := lw_g (lw_at lw_m6 224 rfl) rfl
theorem q1534 : (Jvm.Cond.code ({ cls := "CardBowl$Afternoon", name := "bits", desc := "(I)I" } : Jvm.MethodName) prog_2_method_10_code (4 : Nat) (Option.some Jvm.ClassFile.FieldType.int)) ∈ lw_all := lw_g (lw_at lw_m6 225 rfl) rfl
theorem q1544 : (Jvm.Cond.instanceMethod ({ cls := "CardBowl$Afternoon", name := "rows", desc := "()V" } : Jvm.MethodName)) ∈ lw_all := lw_g (lw_at lw_m6 235 rfl) rfl
theorem q1545 : (Jvm.Cond.selects "CardBowl$Afternoon" ({ cls := "CardBowl$Afternoon", name := "rows", desc := "()V" } : Jvm.MethodName) ({ cls := "CardBowl$Afternoon", name := "rows", desc := "()V" } : Jvm.MethodName)) ∈ lw_all := lw_g (lw_at lw_m6 236 rfl) rfl
theorem q1546 : (Jvm.Cond.code ({ cls := "CardBowl$Afternoon", name := "rows", desc := "()V" } : Jvm.MethodName) prog_2_method_13_code (9 : Nat) (Option.none : Option Jvm.ClassFile.FieldType)) ∈ lw_all := lw_g (lw_at lw_m6 237 rfl) rfl
theorem q1547 : (Jvm.Cond.methodLink "CardBowl$Afternoon" (131 : Nat) ({ cls := "CardBowl$Afternoon", name := "ahead", desc := "(III)I" } : Jvm.MethodName)) ∈ lw_all := lw_g (lw_at lw_m6 238 rfl) rfl
theorem q1548 : (Jvm.Cond.privateMethod ({ cls := "CardBowl$Afternoon", name := "ahead", desc := "(III)I" } : Jvm.MethodName)) ∈ lw_tbl := lw_at lw_m6 239 rfl
theorem q1549 : (Jvm.Cond.instanceMethod ({ cls := "CardBowl$Afternoon", name := "ahead", desc := "(III)I" } : Jvm.MethodName)) ∈ lw_all := lw_g (lw_at lw_m7 0 rfl) rfl
theorem q1550 : (Jvm.Cond.code ({ cls := "CardBowl$Afternoon", name := "ahead", desc := "(III)I" } : Jvm.MethodName) prog_2_method_5_code (6 : Nat) (Option.some Jvm.ClassFile.FieldType.int)) ∈ lw_all := lw_g (lw_at lw_m7 1 rfl) rfl
theorem q2285 : (Jvm.Cond.castable "CardBowl$Afternoon" "java/lang/Object") ∈ lw_tbl := lw_at lw_m10 16 rfl
theorem in_X10 : ∀ w ∈ wsX100, w ∈ lw_all := lw_in wsX100 [591, 593, 595, 597, 599, 601, 603, 605, 607, 609, 611, 613] (by decide +kernel) (by decide +kernel)
/-! CardBowl$Slot -/
set_option maxRecDepth 100000
def RX11 : String := "CardBowl$Slot"
def TX11 : u_T := fun k => match k with
  | _ => ("CardBowl$Slot", "held", "Ljava/lang/Object;", false)
def tyX11 : Nat → FieldType := fun k => match k with
  | _ => .object "java/lang/Object"
abbrev wsX110 : List Cond := u_ws RX11 TX11 1
theorem nmX11 : ∀ a, a < 1 → ∀ b, b < 1 → a ≠ b → (TX11 a).2.1 ≠ (TX11 b).2.1 := by decide +kernel
theorem tyX11_ok : ∀ k, k < 1 → parseFieldDescriptor (TX11 k).2.2.1 = some (tyX11 k) := by decide +kernel
abbrev cX11_begins : ByteArray := prog_18_method_2_code
def yX11_begins : MethodName := ⟨RX11, "begins", "(II)Z"⟩
def dkwX11_begins_3 : List UInt8 := [181, 0, 9, 167, 0, 10, 42, 28, 188, 11, 181, 0, 9, 167, 0, 6, 78, 3, 172, 4, 172]
abbrev dktX11_begins_3 : List UInt8 := dkwX11_begins_3 ++ []
def dkwX11_begins_2 : List UInt8 := [42, 28, 188, 8, 181, 0, 9, 167, 0, 30, 42, 28, 188, 9, 181, 0, 9, 167, 0, 20, 42, 28, 188, 10]
abbrev dktX11_begins_2 : List UInt8 := dkwX11_begins_2 ++ dktX11_begins_3
def dkwX11_begins_1 : List UInt8 := [170, 0, 0, 0, 0, 0, 57, 0, 0, 0, 0, 0, 0, 0, 2, 0, 0, 0, 27, 0, 0, 0, 37, 0, 0, 0, 47]
abbrev dktX11_begins_1 : List UInt8 := dkwX11_begins_1 ++ dktX11_begins_2
def dkwX11_begins_0 : List UInt8 := [27]
abbrev dktX11_begins_0 : List UInt8 := dkwX11_begins_0 ++ dktX11_begins_1
theorem dksX11_begins_0 : cX11_begins.data.toList.drop 0 = dktX11_begins_0 := by decide +kernel
theorem dksX11_begins_1 : cX11_begins.data.toList.drop 1 = dktX11_begins_1 := dk_seg dksX11_begins_0 1 rfl rfl
theorem dksX11_begins_2 : cX11_begins.data.toList.drop 28 = dktX11_begins_2 := dk_seg dksX11_begins_1 27 rfl rfl
theorem dksX11_begins_3 : cX11_begins.data.toList.drop 52 = dktX11_begins_3 := dk_seg dksX11_begins_2 24 rfl rfl
theorem dX11_begins_0 : decode cX11_begins 0 = .ok (.iload_n 1, 1) := dk_27 (dk_at dksX11_begins_0 0 rfl rfl)
theorem dX11_begins_1 : decode cX11_begins 1 = .ok (.tableswitch 57 0 2 #[27, 37, 47], 27) := by decide +kernel
theorem dX11_begins_28 : decode cX11_begins 28 = .ok (.aload_n 0, 1) := dk_42 (dk_at dksX11_begins_2 0 rfl rfl)
theorem dX11_begins_29 : decode cX11_begins 29 = .ok (.iload_n 2, 1) := dk_28 (dk_at dksX11_begins_2 1 rfl rfl)
theorem dX11_begins_30 : decode cX11_begins 30 = .ok (.newarray .byte, 2) := dk_188_8 (dk_at dksX11_begins_2 2 rfl rfl)
theorem dX11_begins_32 : decode cX11_begins 32 = .ok (.putfield 9, 3) := dk_181 0 9 (dk_at dksX11_begins_2 4 rfl rfl)
theorem dX11_begins_35 : decode cX11_begins 35 = .ok (.goto 30, 3) := dk_167 0 30 (dk_at dksX11_begins_2 7 rfl rfl)
theorem dX11_begins_38 : decode cX11_begins 38 = .ok (.aload_n 0, 1) := dk_42 (dk_at dksX11_begins_2 10 rfl rfl)
theorem dX11_begins_39 : decode cX11_begins 39 = .ok (.iload_n 2, 1) := dk_28 (dk_at dksX11_begins_2 11 rfl rfl)
theorem dX11_begins_40 : decode cX11_begins 40 = .ok (.newarray .short, 2) := dk_188_9 (dk_at dksX11_begins_2 12 rfl rfl)
theorem dX11_begins_42 : decode cX11_begins 42 = .ok (.putfield 9, 3) := dk_181 0 9 (dk_at dksX11_begins_2 14 rfl rfl)
theorem dX11_begins_45 : decode cX11_begins 45 = .ok (.goto 20, 3) := dk_167 0 20 (dk_at dksX11_begins_2 17 rfl rfl)
theorem dX11_begins_48 : decode cX11_begins 48 = .ok (.aload_n 0, 1) := dk_42 (dk_at dksX11_begins_2 20 rfl rfl)
theorem dX11_begins_49 : decode cX11_begins 49 = .ok (.iload_n 2, 1) := dk_28 (dk_at dksX11_begins_2 21 rfl rfl)
theorem dX11_begins_50 : decode cX11_begins 50 = .ok (.newarray .int, 2) := dk_188_10 (dk_at dksX11_begins_2 22 rfl rfl)
theorem dX11_begins_52 : decode cX11_begins 52 = .ok (.putfield 9, 3) := dk_181 0 9 (dk_at dksX11_begins_3 0 rfl rfl)
theorem dX11_begins_55 : decode cX11_begins 55 = .ok (.goto 10, 3) := dk_167 0 10 (dk_at dksX11_begins_3 3 rfl rfl)
theorem dX11_begins_58 : decode cX11_begins 58 = .ok (.aload_n 0, 1) := dk_42 (dk_at dksX11_begins_3 6 rfl rfl)
theorem dX11_begins_59 : decode cX11_begins 59 = .ok (.iload_n 2, 1) := dk_28 (dk_at dksX11_begins_3 7 rfl rfl)
theorem dX11_begins_60 : decode cX11_begins 60 = .ok (.newarray .long, 2) := dk_188_11 (dk_at dksX11_begins_3 8 rfl rfl)
theorem dX11_begins_62 : decode cX11_begins 62 = .ok (.putfield 9, 3) := dk_181 0 9 (dk_at dksX11_begins_3 10 rfl rfl)
theorem dX11_begins_65 : decode cX11_begins 65 = .ok (.goto 6, 3) := dk_167 0 6 (dk_at dksX11_begins_3 13 rfl rfl)
theorem dX11_begins_68 : decode cX11_begins 68 = .ok (.astore_n 3, 1) := dk_78 (dk_at dksX11_begins_3 16 rfl rfl)
theorem dX11_begins_69 : decode cX11_begins 69 = .ok (.iconst 0, 1) := dk_3 (dk_at dksX11_begins_3 17 rfl rfl)
theorem dX11_begins_70 : decode cX11_begins 70 = .ok (.ireturn, 1) := dk_172 (dk_at dksX11_begins_3 18 rfl rfl)
theorem dX11_begins_71 : decode cX11_begins 71 = .ok (.iconst 1, 1) := dk_4 (dk_at dksX11_begins_3 19 rfl rfl)
theorem dX11_begins_72 : decode cX11_begins 72 = .ok (.ireturn, 1) := dk_172 (dk_at dksX11_begins_3 20 rfl rfl)
abbrev cX11_puts : ByteArray := prog_18_method_5_code
def yX11_puts : MethodName := ⟨RX11, "puts", "(IJ)I"⟩
def dkwX11_puts_0 : List UInt8 := [42, 27, 32, 182, 0, 25, 167, 0, 13, 58, 4, 16, 250, 172, 58, 4, 16, 249, 172, 3, 172]
abbrev dktX11_puts_0 : List UInt8 := dkwX11_puts_0 ++ []
theorem dksX11_puts_0 : cX11_puts.data.toList.drop 0 = dktX11_puts_0 := by decide +kernel
theorem dX11_puts_0 : decode cX11_puts 0 = .ok (.aload_n 0, 1) := dk_42 (dk_at dksX11_puts_0 0 rfl rfl)
theorem dX11_puts_1 : decode cX11_puts 1 = .ok (.iload_n 1, 1) := dk_27 (dk_at dksX11_puts_0 1 rfl rfl)
theorem dX11_puts_2 : decode cX11_puts 2 = .ok (.lload_n 2, 1) := dk_32 (dk_at dksX11_puts_0 2 rfl rfl)
theorem dX11_puts_3 : decode cX11_puts 3 = .ok (.invokevirtual 25, 3) := dk_182 0 25 (dk_at dksX11_puts_0 3 rfl rfl)
theorem dX11_puts_6 : decode cX11_puts 6 = .ok (.goto 13, 3) := dk_167 0 13 (dk_at dksX11_puts_0 6 rfl rfl)
theorem dX11_puts_9 : decode cX11_puts 9 = .ok (.astore 4, 2) := dk_58 4 (dk_at dksX11_puts_0 9 rfl rfl)
theorem dX11_puts_11 : decode cX11_puts 11 = .ok (.bipush (-6), 2) := dk_16 250 (dk_at dksX11_puts_0 11 rfl rfl)
theorem dX11_puts_13 : decode cX11_puts 13 = .ok (.ireturn, 1) := dk_172 (dk_at dksX11_puts_0 13 rfl rfl)
theorem dX11_puts_14 : decode cX11_puts 14 = .ok (.astore 4, 2) := dk_58 4 (dk_at dksX11_puts_0 14 rfl rfl)
theorem dX11_puts_16 : decode cX11_puts 16 = .ok (.bipush (-7), 2) := dk_16 249 (dk_at dksX11_puts_0 16 rfl rfl)
theorem dX11_puts_18 : decode cX11_puts 18 = .ok (.ireturn, 1) := dk_172 (dk_at dksX11_puts_0 18 rfl rfl)
theorem dX11_puts_19 : decode cX11_puts 19 = .ok (.iconst 0, 1) := dk_3 (dk_at dksX11_puts_0 19 rfl rfl)
theorem dX11_puts_20 : decode cX11_puts 20 = .ok (.ireturn, 1) := dk_172 (dk_at dksX11_puts_0 20 rfl rfl)
abbrev cX11_put : ByteArray := prog_18_method_6_code
def yX11_put : MethodName := ⟨RX11, "put", "(IJ)V"⟩
def dkwX11_put_2 : List UInt8 := [25, 4, 27, 32, 136, 147, 86, 167, 0, 9, 42, 27, 32, 182, 0, 33, 177]
abbrev dktX11_put_2 : List UInt8 := dkwX11_put_2 ++ []
def dkwX11_put_1 : List UInt8 := [145, 84, 167, 0, 38, 42, 180, 0, 9, 193, 0, 19, 153, 0, 22, 42, 180, 0, 9, 192, 0, 19, 58, 4]
abbrev dktX11_put_1 : List UInt8 := dkwX11_put_1 ++ dktX11_put_2
def dkwX11_put_0 : List UInt8 := [42, 180, 0, 9, 193, 0, 17, 153, 0, 22, 42, 180, 0, 9, 192, 0, 17, 58, 4, 25, 4, 27, 32, 136]
abbrev dktX11_put_0 : List UInt8 := dkwX11_put_0 ++ dktX11_put_1
theorem dksX11_put_0 : cX11_put.data.toList.drop 0 = dktX11_put_0 := by decide +kernel
theorem dksX11_put_1 : cX11_put.data.toList.drop 24 = dktX11_put_1 := dk_seg dksX11_put_0 24 rfl rfl
theorem dksX11_put_2 : cX11_put.data.toList.drop 48 = dktX11_put_2 := dk_seg dksX11_put_1 24 rfl rfl
theorem dX11_put_0 : decode cX11_put 0 = .ok (.aload_n 0, 1) := dk_42 (dk_at dksX11_put_0 0 rfl rfl)
theorem dX11_put_1 : decode cX11_put 1 = .ok (.getfield 9, 3) := dk_180 0 9 (dk_at dksX11_put_0 1 rfl rfl)
theorem dX11_put_4 : decode cX11_put 4 = .ok (.instanceof 17, 3) := dk_193 0 17 (dk_at dksX11_put_0 4 rfl rfl)
theorem dX11_put_7 : decode cX11_put 7 = .ok (.ifCond .eq 22, 3) := dk_153 0 22 (dk_at dksX11_put_0 7 rfl rfl)
theorem dX11_put_10 : decode cX11_put 10 = .ok (.aload_n 0, 1) := dk_42 (dk_at dksX11_put_0 10 rfl rfl)
theorem dX11_put_11 : decode cX11_put 11 = .ok (.getfield 9, 3) := dk_180 0 9 (dk_at dksX11_put_0 11 rfl rfl)
theorem dX11_put_14 : decode cX11_put 14 = .ok (.checkcast 17, 3) := dk_192 0 17 (dk_at dksX11_put_0 14 rfl rfl)
theorem dX11_put_17 : decode cX11_put 17 = .ok (.astore 4, 2) := dk_58 4 (dk_at dksX11_put_0 17 rfl rfl)
theorem dX11_put_19 : decode cX11_put 19 = .ok (.aload 4, 2) := dk_25 4 (dk_at dksX11_put_0 19 rfl rfl)
theorem dX11_put_21 : decode cX11_put 21 = .ok (.iload_n 1, 1) := dk_27 (dk_at dksX11_put_0 21 rfl rfl)
theorem dX11_put_22 : decode cX11_put 22 = .ok (.lload_n 2, 1) := dk_32 (dk_at dksX11_put_0 22 rfl rfl)
theorem dX11_put_23 : decode cX11_put 23 = .ok (.l2i, 1) := dk_136 (dk_at dksX11_put_0 23 rfl rfl)
theorem dX11_put_24 : decode cX11_put 24 = .ok (.i2b, 1) := dk_145 (dk_at dksX11_put_1 0 rfl rfl)
theorem dX11_put_25 : decode cX11_put 25 = .ok (.bastore, 1) := dk_84 (dk_at dksX11_put_1 1 rfl rfl)
theorem dX11_put_26 : decode cX11_put 26 = .ok (.goto 38, 3) := dk_167 0 38 (dk_at dksX11_put_1 2 rfl rfl)
theorem dX11_put_29 : decode cX11_put 29 = .ok (.aload_n 0, 1) := dk_42 (dk_at dksX11_put_1 5 rfl rfl)
theorem dX11_put_30 : decode cX11_put 30 = .ok (.getfield 9, 3) := dk_180 0 9 (dk_at dksX11_put_1 6 rfl rfl)
theorem dX11_put_33 : decode cX11_put 33 = .ok (.instanceof 19, 3) := dk_193 0 19 (dk_at dksX11_put_1 9 rfl rfl)
theorem dX11_put_36 : decode cX11_put 36 = .ok (.ifCond .eq 22, 3) := dk_153 0 22 (dk_at dksX11_put_1 12 rfl rfl)
theorem dX11_put_39 : decode cX11_put 39 = .ok (.aload_n 0, 1) := dk_42 (dk_at dksX11_put_1 15 rfl rfl)
theorem dX11_put_40 : decode cX11_put 40 = .ok (.getfield 9, 3) := dk_180 0 9 (dk_at dksX11_put_1 16 rfl rfl)
theorem dX11_put_43 : decode cX11_put 43 = .ok (.checkcast 19, 3) := dk_192 0 19 (dk_at dksX11_put_1 19 rfl rfl)
theorem dX11_put_46 : decode cX11_put 46 = .ok (.astore 4, 2) := dk_58 4 (dk_at dksX11_put_1 22 rfl rfl)
theorem dX11_put_48 : decode cX11_put 48 = .ok (.aload 4, 2) := dk_25 4 (dk_at dksX11_put_2 0 rfl rfl)
theorem dX11_put_50 : decode cX11_put 50 = .ok (.iload_n 1, 1) := dk_27 (dk_at dksX11_put_2 2 rfl rfl)
theorem dX11_put_51 : decode cX11_put 51 = .ok (.lload_n 2, 1) := dk_32 (dk_at dksX11_put_2 3 rfl rfl)
theorem dX11_put_52 : decode cX11_put 52 = .ok (.l2i, 1) := dk_136 (dk_at dksX11_put_2 4 rfl rfl)
theorem dX11_put_53 : decode cX11_put 53 = .ok (.i2s, 1) := dk_147 (dk_at dksX11_put_2 5 rfl rfl)
theorem dX11_put_54 : decode cX11_put 54 = .ok (.sastore, 1) := dk_86 (dk_at dksX11_put_2 6 rfl rfl)
theorem dX11_put_55 : decode cX11_put 55 = .ok (.goto 9, 3) := dk_167 0 9 (dk_at dksX11_put_2 7 rfl rfl)
theorem dX11_put_58 : decode cX11_put 58 = .ok (.aload_n 0, 1) := dk_42 (dk_at dksX11_put_2 10 rfl rfl)
theorem dX11_put_59 : decode cX11_put 59 = .ok (.iload_n 1, 1) := dk_27 (dk_at dksX11_put_2 11 rfl rfl)
theorem dX11_put_60 : decode cX11_put 60 = .ok (.lload_n 2, 1) := dk_32 (dk_at dksX11_put_2 12 rfl rfl)
theorem dX11_put_61 : decode cX11_put 61 = .ok (.invokevirtual 33, 3) := dk_182 0 33 (dk_at dksX11_put_2 13 rfl rfl)
theorem dX11_put_64 : decode cX11_put 64 = .ok (.return_, 1) := dk_177 (dk_at dksX11_put_2 16 rfl rfl)
abbrev cX11_putWider : ByteArray := prog_18_method_7_code
def yX11_putWider : MethodName := ⟨RX11, "putWider", "(IJ)V"⟩
def dkwX11_putWider_1 : List UInt8 := [192, 0, 23, 58, 5, 25, 5, 27, 32, 80, 177]
abbrev dktX11_putWider_1 : List UInt8 := dkwX11_putWider_1 ++ []
def dkwX11_putWider_0 : List UInt8 := [42, 180, 0, 9, 192, 0, 21, 58, 4, 25, 4, 27, 32, 136, 79, 167, 0, 19, 58, 4, 42, 180, 0, 9]
abbrev dktX11_putWider_0 : List UInt8 := dkwX11_putWider_0 ++ dktX11_putWider_1
theorem dksX11_putWider_0 : cX11_putWider.data.toList.drop 0 = dktX11_putWider_0 := by decide +kernel
theorem dksX11_putWider_1 : cX11_putWider.data.toList.drop 24 = dktX11_putWider_1 := dk_seg dksX11_putWider_0 24 rfl rfl
theorem dX11_putWider_0 : decode cX11_putWider 0 = .ok (.aload_n 0, 1) := dk_42 (dk_at dksX11_putWider_0 0 rfl rfl)
theorem dX11_putWider_1 : decode cX11_putWider 1 = .ok (.getfield 9, 3) := dk_180 0 9 (dk_at dksX11_putWider_0 1 rfl rfl)
theorem dX11_putWider_4 : decode cX11_putWider 4 = .ok (.checkcast 21, 3) := dk_192 0 21 (dk_at dksX11_putWider_0 4 rfl rfl)
theorem dX11_putWider_7 : decode cX11_putWider 7 = .ok (.astore 4, 2) := dk_58 4 (dk_at dksX11_putWider_0 7 rfl rfl)
theorem dX11_putWider_9 : decode cX11_putWider 9 = .ok (.aload 4, 2) := dk_25 4 (dk_at dksX11_putWider_0 9 rfl rfl)
theorem dX11_putWider_11 : decode cX11_putWider 11 = .ok (.iload_n 1, 1) := dk_27 (dk_at dksX11_putWider_0 11 rfl rfl)
theorem dX11_putWider_12 : decode cX11_putWider 12 = .ok (.lload_n 2, 1) := dk_32 (dk_at dksX11_putWider_0 12 rfl rfl)
theorem dX11_putWider_13 : decode cX11_putWider 13 = .ok (.l2i, 1) := dk_136 (dk_at dksX11_putWider_0 13 rfl rfl)
theorem dX11_putWider_14 : decode cX11_putWider 14 = .ok (.iastore, 1) := dk_79 (dk_at dksX11_putWider_0 14 rfl rfl)
theorem dX11_putWider_15 : decode cX11_putWider 15 = .ok (.goto 19, 3) := dk_167 0 19 (dk_at dksX11_putWider_0 15 rfl rfl)
theorem dX11_putWider_18 : decode cX11_putWider 18 = .ok (.astore 4, 2) := dk_58 4 (dk_at dksX11_putWider_0 18 rfl rfl)
theorem dX11_putWider_20 : decode cX11_putWider 20 = .ok (.aload_n 0, 1) := dk_42 (dk_at dksX11_putWider_0 20 rfl rfl)
theorem dX11_putWider_21 : decode cX11_putWider 21 = .ok (.getfield 9, 3) := dk_180 0 9 (dk_at dksX11_putWider_0 21 rfl rfl)
theorem dX11_putWider_24 : decode cX11_putWider 24 = .ok (.checkcast 23, 3) := dk_192 0 23 (dk_at dksX11_putWider_1 0 rfl rfl)
theorem dX11_putWider_27 : decode cX11_putWider 27 = .ok (.astore 5, 2) := dk_58 5 (dk_at dksX11_putWider_1 3 rfl rfl)
theorem dX11_putWider_29 : decode cX11_putWider 29 = .ok (.aload 5, 2) := dk_25 5 (dk_at dksX11_putWider_1 5 rfl rfl)
theorem dX11_putWider_31 : decode cX11_putWider 31 = .ok (.iload_n 1, 1) := dk_27 (dk_at dksX11_putWider_1 7 rfl rfl)
theorem dX11_putWider_32 : decode cX11_putWider 32 = .ok (.lload_n 2, 1) := dk_32 (dk_at dksX11_putWider_1 8 rfl rfl)
theorem dX11_putWider_33 : decode cX11_putWider 33 = .ok (.lastore, 1) := dk_80 (dk_at dksX11_putWider_1 9 rfl rfl)
theorem dX11_putWider_34 : decode cX11_putWider 34 = .ok (.return_, 1) := dk_177 (dk_at dksX11_putWider_1 10 rfl rfl)
abbrev cX11_pastes : ByteArray := prog_18_method_9_code
def yX11_pastes : MethodName := ⟨RX11, "pastes", "(ILCardBowl$Slot;II)I"⟩
def dkwX11_pastes_2 : List UInt8 := [167, 0, 8, 58, 5, 16, 249, 172, 3, 172]
abbrev dktX11_pastes_2 : List UInt8 := dkwX11_pastes_2 ++ []
def dkwX11_pastes_1 : List UInt8 := [182, 0, 38, 159, 0, 6, 16, 248, 172, 42, 180, 0, 9, 27, 44, 180, 0, 9, 29, 21, 4, 184, 0, 42]
abbrev dktX11_pastes_1 : List UInt8 := dkwX11_pastes_1 ++ dktX11_pastes_2
def dkwX11_pastes_0 : List UInt8 := [42, 180, 0, 9, 198, 0, 10, 44, 180, 0, 9, 199, 0, 6, 16, 250, 172, 42, 182, 0, 38, 44]
abbrev dktX11_pastes_0 : List UInt8 := dkwX11_pastes_0 ++ dktX11_pastes_1
theorem dksX11_pastes_0 : cX11_pastes.data.toList.drop 0 = dktX11_pastes_0 := by decide +kernel
theorem dksX11_pastes_1 : cX11_pastes.data.toList.drop 22 = dktX11_pastes_1 := dk_seg dksX11_pastes_0 22 rfl rfl
theorem dksX11_pastes_2 : cX11_pastes.data.toList.drop 46 = dktX11_pastes_2 := dk_seg dksX11_pastes_1 24 rfl rfl
theorem dX11_pastes_0 : decode cX11_pastes 0 = .ok (.aload_n 0, 1) := dk_42 (dk_at dksX11_pastes_0 0 rfl rfl)
theorem dX11_pastes_1 : decode cX11_pastes 1 = .ok (.getfield 9, 3) := dk_180 0 9 (dk_at dksX11_pastes_0 1 rfl rfl)
theorem dX11_pastes_4 : decode cX11_pastes 4 = .ok (.ifnull 10, 3) := dk_198 0 10 (dk_at dksX11_pastes_0 4 rfl rfl)
theorem dX11_pastes_7 : decode cX11_pastes 7 = .ok (.aload_n 2, 1) := dk_44 (dk_at dksX11_pastes_0 7 rfl rfl)
theorem dX11_pastes_8 : decode cX11_pastes 8 = .ok (.getfield 9, 3) := dk_180 0 9 (dk_at dksX11_pastes_0 8 rfl rfl)
theorem dX11_pastes_11 : decode cX11_pastes 11 = .ok (.ifnonnull 6, 3) := dk_199 0 6 (dk_at dksX11_pastes_0 11 rfl rfl)
theorem dX11_pastes_14 : decode cX11_pastes 14 = .ok (.bipush (-6), 2) := dk_16 250 (dk_at dksX11_pastes_0 14 rfl rfl)
theorem dX11_pastes_16 : decode cX11_pastes 16 = .ok (.ireturn, 1) := dk_172 (dk_at dksX11_pastes_0 16 rfl rfl)
theorem dX11_pastes_17 : decode cX11_pastes 17 = .ok (.aload_n 0, 1) := dk_42 (dk_at dksX11_pastes_0 17 rfl rfl)
theorem dX11_pastes_18 : decode cX11_pastes 18 = .ok (.invokevirtual 38, 3) := dk_182 0 38 (dk_at dksX11_pastes_0 18 rfl rfl)
theorem dX11_pastes_21 : decode cX11_pastes 21 = .ok (.aload_n 2, 1) := dk_44 (dk_at dksX11_pastes_0 21 rfl rfl)
theorem dX11_pastes_22 : decode cX11_pastes 22 = .ok (.invokevirtual 38, 3) := dk_182 0 38 (dk_at dksX11_pastes_1 0 rfl rfl)
theorem dX11_pastes_25 : decode cX11_pastes 25 = .ok (.if_icmp .eq 6, 3) := dk_159 0 6 (dk_at dksX11_pastes_1 3 rfl rfl)
theorem dX11_pastes_28 : decode cX11_pastes 28 = .ok (.bipush (-8), 2) := dk_16 248 (dk_at dksX11_pastes_1 6 rfl rfl)
theorem dX11_pastes_30 : decode cX11_pastes 30 = .ok (.ireturn, 1) := dk_172 (dk_at dksX11_pastes_1 8 rfl rfl)
theorem dX11_pastes_31 : decode cX11_pastes 31 = .ok (.aload_n 0, 1) := dk_42 (dk_at dksX11_pastes_1 9 rfl rfl)
theorem dX11_pastes_32 : decode cX11_pastes 32 = .ok (.getfield 9, 3) := dk_180 0 9 (dk_at dksX11_pastes_1 10 rfl rfl)
theorem dX11_pastes_35 : decode cX11_pastes 35 = .ok (.iload_n 1, 1) := dk_27 (dk_at dksX11_pastes_1 13 rfl rfl)
theorem dX11_pastes_36 : decode cX11_pastes 36 = .ok (.aload_n 2, 1) := dk_44 (dk_at dksX11_pastes_1 14 rfl rfl)
theorem dX11_pastes_37 : decode cX11_pastes 37 = .ok (.getfield 9, 3) := dk_180 0 9 (dk_at dksX11_pastes_1 15 rfl rfl)
theorem dX11_pastes_40 : decode cX11_pastes 40 = .ok (.iload_n 3, 1) := dk_29 (dk_at dksX11_pastes_1 18 rfl rfl)
theorem dX11_pastes_41 : decode cX11_pastes 41 = .ok (.iload 4, 2) := dk_21 4 (dk_at dksX11_pastes_1 19 rfl rfl)
theorem dX11_pastes_43 : decode cX11_pastes 43 = .ok (.invokestatic 42, 3) := dk_184 0 42 (dk_at dksX11_pastes_1 21 rfl rfl)
theorem dX11_pastes_46 : decode cX11_pastes 46 = .ok (.goto 8, 3) := dk_167 0 8 (dk_at dksX11_pastes_2 0 rfl rfl)
theorem dX11_pastes_49 : decode cX11_pastes 49 = .ok (.astore 5, 2) := dk_58 5 (dk_at dksX11_pastes_2 3 rfl rfl)
theorem dX11_pastes_51 : decode cX11_pastes 51 = .ok (.bipush (-7), 2) := dk_16 249 (dk_at dksX11_pastes_2 5 rfl rfl)
theorem dX11_pastes_53 : decode cX11_pastes 53 = .ok (.ireturn, 1) := dk_172 (dk_at dksX11_pastes_2 7 rfl rfl)
theorem dX11_pastes_54 : decode cX11_pastes 54 = .ok (.iconst 0, 1) := dk_3 (dk_at dksX11_pastes_2 8 rfl rfl)
theorem dX11_pastes_55 : decode cX11_pastes 55 = .ok (.ireturn, 1) := dk_172 (dk_at dksX11_pastes_2 9 rfl rfl)
abbrev cX11_width : ByteArray := prog_18_method_8_code
def yX11_width : MethodName := ⟨RX11, "width", "()I"⟩
def dkwX11_width_1 : List UInt8 := [4, 167, 0, 18, 42, 180, 0, 9, 193, 0, 21, 153, 0, 7, 5, 167, 0, 4, 6, 172]
abbrev dktX11_width_1 : List UInt8 := dkwX11_width_1 ++ []
def dkwX11_width_0 : List UInt8 := [42, 180, 0, 9, 193, 0, 17, 153, 0, 7, 3, 167, 0, 32, 42, 180, 0, 9, 193, 0, 19, 153, 0, 7]
abbrev dktX11_width_0 : List UInt8 := dkwX11_width_0 ++ dktX11_width_1
theorem dksX11_width_0 : cX11_width.data.toList.drop 0 = dktX11_width_0 := by decide +kernel
theorem dksX11_width_1 : cX11_width.data.toList.drop 24 = dktX11_width_1 := dk_seg dksX11_width_0 24 rfl rfl
theorem dX11_width_0 : decode cX11_width 0 = .ok (.aload_n 0, 1) := dk_42 (dk_at dksX11_width_0 0 rfl rfl)
theorem dX11_width_1 : decode cX11_width 1 = .ok (.getfield 9, 3) := dk_180 0 9 (dk_at dksX11_width_0 1 rfl rfl)
theorem dX11_width_4 : decode cX11_width 4 = .ok (.instanceof 17, 3) := dk_193 0 17 (dk_at dksX11_width_0 4 rfl rfl)
theorem dX11_width_7 : decode cX11_width 7 = .ok (.ifCond .eq 7, 3) := dk_153 0 7 (dk_at dksX11_width_0 7 rfl rfl)
theorem dX11_width_10 : decode cX11_width 10 = .ok (.iconst 0, 1) := dk_3 (dk_at dksX11_width_0 10 rfl rfl)
theorem dX11_width_11 : decode cX11_width 11 = .ok (.goto 32, 3) := dk_167 0 32 (dk_at dksX11_width_0 11 rfl rfl)
theorem dX11_width_14 : decode cX11_width 14 = .ok (.aload_n 0, 1) := dk_42 (dk_at dksX11_width_0 14 rfl rfl)
theorem dX11_width_15 : decode cX11_width 15 = .ok (.getfield 9, 3) := dk_180 0 9 (dk_at dksX11_width_0 15 rfl rfl)
theorem dX11_width_18 : decode cX11_width 18 = .ok (.instanceof 19, 3) := dk_193 0 19 (dk_at dksX11_width_0 18 rfl rfl)
theorem dX11_width_21 : decode cX11_width 21 = .ok (.ifCond .eq 7, 3) := dk_153 0 7 (dk_at dksX11_width_0 21 rfl rfl)
theorem dX11_width_24 : decode cX11_width 24 = .ok (.iconst 1, 1) := dk_4 (dk_at dksX11_width_1 0 rfl rfl)
theorem dX11_width_25 : decode cX11_width 25 = .ok (.goto 18, 3) := dk_167 0 18 (dk_at dksX11_width_1 1 rfl rfl)
theorem dX11_width_28 : decode cX11_width 28 = .ok (.aload_n 0, 1) := dk_42 (dk_at dksX11_width_1 4 rfl rfl)
theorem dX11_width_29 : decode cX11_width 29 = .ok (.getfield 9, 3) := dk_180 0 9 (dk_at dksX11_width_1 5 rfl rfl)
theorem dX11_width_32 : decode cX11_width 32 = .ok (.instanceof 21, 3) := dk_193 0 21 (dk_at dksX11_width_1 8 rfl rfl)
theorem dX11_width_35 : decode cX11_width 35 = .ok (.ifCond .eq 7, 3) := dk_153 0 7 (dk_at dksX11_width_1 11 rfl rfl)
theorem dX11_width_38 : decode cX11_width 38 = .ok (.iconst 2, 1) := dk_5 (dk_at dksX11_width_1 14 rfl rfl)
theorem dX11_width_39 : decode cX11_width 39 = .ok (.goto 4, 3) := dk_167 0 4 (dk_at dksX11_width_1 15 rfl rfl)
theorem dX11_width_42 : decode cX11_width 42 = .ok (.iconst 3, 1) := dk_6 (dk_at dksX11_width_1 18 rfl rfl)
theorem dX11_width_43 : decode cX11_width 43 = .ok (.ireturn, 1) := dk_172 (dk_at dksX11_width_1 19 rfl rfl)
abbrev cX11_init : ByteArray := prog_18_method_1_code
def yX11_init : MethodName := ⟨RX11, "<init>", "()V"⟩
theorem dX11_init_0 : decode cX11_init 0 = .ok (.aload_n 0, 1) := by decide +kernel
theorem dX11_init_1 : decode cX11_init 1 = .ok (.invokespecial 3, 3) := by decide +kernel
theorem dX11_init_4 : decode cX11_init 4 = .ok (.return_, 1) := by decide +kernel
abbrev cX11_many : ByteArray := prog_18_method_3_code
def yX11_many : MethodName := ⟨RX11, "many", "()I"⟩
def dkwX11_many_2 : List UInt8 := [153, 0, 14, 42, 180, 0, 9, 192, 0, 21, 190, 167, 0, 11, 42, 180, 0, 9, 192, 0, 23, 190, 172]
abbrev dktX11_many_2 : List UInt8 := dkwX11_many_2 ++ []
def dkwX11_many_1 : List UInt8 := [193, 0, 19, 153, 0, 12, 42, 180, 0, 9, 192, 0, 19, 190, 172, 42, 180, 0, 9, 193, 0, 21]
abbrev dktX11_many_1 : List UInt8 := dkwX11_many_1 ++ dktX11_many_2
def dkwX11_many_0 : List UInt8 := [42, 180, 0, 9, 193, 0, 17, 153, 0, 12, 42, 180, 0, 9, 192, 0, 17, 190, 172, 42, 180, 0, 9]
abbrev dktX11_many_0 : List UInt8 := dkwX11_many_0 ++ dktX11_many_1
theorem dksX11_many_0 : cX11_many.data.toList.drop 0 = dktX11_many_0 := by decide +kernel
theorem dksX11_many_1 : cX11_many.data.toList.drop 23 = dktX11_many_1 := dk_seg dksX11_many_0 23 rfl rfl
theorem dksX11_many_2 : cX11_many.data.toList.drop 45 = dktX11_many_2 := dk_seg dksX11_many_1 22 rfl rfl
theorem dX11_many_0 : decode cX11_many 0 = .ok (.aload_n 0, 1) := dk_42 (dk_at dksX11_many_0 0 rfl rfl)
theorem dX11_many_1 : decode cX11_many 1 = .ok (.getfield 9, 3) := dk_180 0 9 (dk_at dksX11_many_0 1 rfl rfl)
theorem dX11_many_4 : decode cX11_many 4 = .ok (.instanceof 17, 3) := dk_193 0 17 (dk_at dksX11_many_0 4 rfl rfl)
theorem dX11_many_7 : decode cX11_many 7 = .ok (.ifCond .eq 12, 3) := dk_153 0 12 (dk_at dksX11_many_0 7 rfl rfl)
theorem dX11_many_10 : decode cX11_many 10 = .ok (.aload_n 0, 1) := dk_42 (dk_at dksX11_many_0 10 rfl rfl)
theorem dX11_many_11 : decode cX11_many 11 = .ok (.getfield 9, 3) := dk_180 0 9 (dk_at dksX11_many_0 11 rfl rfl)
theorem dX11_many_14 : decode cX11_many 14 = .ok (.checkcast 17, 3) := dk_192 0 17 (dk_at dksX11_many_0 14 rfl rfl)
theorem dX11_many_17 : decode cX11_many 17 = .ok (.arraylength, 1) := dk_190 (dk_at dksX11_many_0 17 rfl rfl)
theorem dX11_many_18 : decode cX11_many 18 = .ok (.ireturn, 1) := dk_172 (dk_at dksX11_many_0 18 rfl rfl)
theorem dX11_many_19 : decode cX11_many 19 = .ok (.aload_n 0, 1) := dk_42 (dk_at dksX11_many_0 19 rfl rfl)
theorem dX11_many_20 : decode cX11_many 20 = .ok (.getfield 9, 3) := dk_180 0 9 (dk_at dksX11_many_0 20 rfl rfl)
theorem dX11_many_23 : decode cX11_many 23 = .ok (.instanceof 19, 3) := dk_193 0 19 (dk_at dksX11_many_1 0 rfl rfl)
theorem dX11_many_26 : decode cX11_many 26 = .ok (.ifCond .eq 12, 3) := dk_153 0 12 (dk_at dksX11_many_1 3 rfl rfl)
theorem dX11_many_29 : decode cX11_many 29 = .ok (.aload_n 0, 1) := dk_42 (dk_at dksX11_many_1 6 rfl rfl)
theorem dX11_many_30 : decode cX11_many 30 = .ok (.getfield 9, 3) := dk_180 0 9 (dk_at dksX11_many_1 7 rfl rfl)
theorem dX11_many_33 : decode cX11_many 33 = .ok (.checkcast 19, 3) := dk_192 0 19 (dk_at dksX11_many_1 10 rfl rfl)
theorem dX11_many_36 : decode cX11_many 36 = .ok (.arraylength, 1) := dk_190 (dk_at dksX11_many_1 13 rfl rfl)
theorem dX11_many_37 : decode cX11_many 37 = .ok (.ireturn, 1) := dk_172 (dk_at dksX11_many_1 14 rfl rfl)
theorem dX11_many_38 : decode cX11_many 38 = .ok (.aload_n 0, 1) := dk_42 (dk_at dksX11_many_1 15 rfl rfl)
theorem dX11_many_39 : decode cX11_many 39 = .ok (.getfield 9, 3) := dk_180 0 9 (dk_at dksX11_many_1 16 rfl rfl)
theorem dX11_many_42 : decode cX11_many 42 = .ok (.instanceof 21, 3) := dk_193 0 21 (dk_at dksX11_many_1 19 rfl rfl)
theorem dX11_many_45 : decode cX11_many 45 = .ok (.ifCond .eq 14, 3) := dk_153 0 14 (dk_at dksX11_many_2 0 rfl rfl)
theorem dX11_many_48 : decode cX11_many 48 = .ok (.aload_n 0, 1) := dk_42 (dk_at dksX11_many_2 3 rfl rfl)
theorem dX11_many_49 : decode cX11_many 49 = .ok (.getfield 9, 3) := dk_180 0 9 (dk_at dksX11_many_2 4 rfl rfl)
theorem dX11_many_52 : decode cX11_many 52 = .ok (.checkcast 21, 3) := dk_192 0 21 (dk_at dksX11_many_2 7 rfl rfl)
theorem dX11_many_55 : decode cX11_many 55 = .ok (.arraylength, 1) := dk_190 (dk_at dksX11_many_2 10 rfl rfl)
theorem dX11_many_56 : decode cX11_many 56 = .ok (.goto 11, 3) := dk_167 0 11 (dk_at dksX11_many_2 11 rfl rfl)
theorem dX11_many_59 : decode cX11_many 59 = .ok (.aload_n 0, 1) := dk_42 (dk_at dksX11_many_2 14 rfl rfl)
theorem dX11_many_60 : decode cX11_many 60 = .ok (.getfield 9, 3) := dk_180 0 9 (dk_at dksX11_many_2 15 rfl rfl)
theorem dX11_many_63 : decode cX11_many 63 = .ok (.checkcast 23, 3) := dk_192 0 23 (dk_at dksX11_many_2 18 rfl rfl)
theorem dX11_many_66 : decode cX11_many 66 = .ok (.arraylength, 1) := dk_190 (dk_at dksX11_many_2 21 rfl rfl)
theorem dX11_many_67 : decode cX11_many 67 = .ok (.ireturn, 1) := dk_172 (dk_at dksX11_many_2 22 rfl rfl)
abbrev cX11_number : ByteArray := prog_18_method_4_code
def yX11_number : MethodName := ⟨RX11, "number", "(I)J"⟩
def dkwX11_number_3 : List UInt8 := [192, 0, 23, 27, 47, 173]
abbrev dktX11_number_3 : List UInt8 := dkwX11_number_3 ++ []
def dkwX11_number_2 : List UInt8 := [193, 0, 21, 153, 0, 16, 42, 180, 0, 9, 192, 0, 21, 27, 46, 133, 167, 0, 12, 42, 180, 0, 9]
abbrev dktX11_number_2 : List UInt8 := dkwX11_number_2 ++ dktX11_number_3
def dkwX11_number_1 : List UInt8 := [180, 0, 9, 193, 0, 19, 153, 0, 14, 42, 180, 0, 9, 192, 0, 19, 27, 53, 133, 173, 42, 180, 0, 9]
abbrev dktX11_number_1 : List UInt8 := dkwX11_number_1 ++ dktX11_number_2
def dkwX11_number_0 : List UInt8 := [42, 180, 0, 9, 193, 0, 17, 153, 0, 14, 42, 180, 0, 9, 192, 0, 17, 27, 51, 133, 173, 42]
abbrev dktX11_number_0 : List UInt8 := dkwX11_number_0 ++ dktX11_number_1
theorem dksX11_number_0 : cX11_number.data.toList.drop 0 = dktX11_number_0 := by decide +kernel
theorem dksX11_number_1 : cX11_number.data.toList.drop 22 = dktX11_number_1 := dk_seg dksX11_number_0 22 rfl rfl
theorem dksX11_number_2 : cX11_number.data.toList.drop 46 = dktX11_number_2 := dk_seg dksX11_number_1 24 rfl rfl
theorem dksX11_number_3 : cX11_number.data.toList.drop 69 = dktX11_number_3 := dk_seg dksX11_number_2 23 rfl rfl
theorem dX11_number_0 : decode cX11_number 0 = .ok (.aload_n 0, 1) := dk_42 (dk_at dksX11_number_0 0 rfl rfl)
theorem dX11_number_1 : decode cX11_number 1 = .ok (.getfield 9, 3) := dk_180 0 9 (dk_at dksX11_number_0 1 rfl rfl)
theorem dX11_number_4 : decode cX11_number 4 = .ok (.instanceof 17, 3) := dk_193 0 17 (dk_at dksX11_number_0 4 rfl rfl)
theorem dX11_number_7 : decode cX11_number 7 = .ok (.ifCond .eq 14, 3) := dk_153 0 14 (dk_at dksX11_number_0 7 rfl rfl)
theorem dX11_number_10 : decode cX11_number 10 = .ok (.aload_n 0, 1) := dk_42 (dk_at dksX11_number_0 10 rfl rfl)
theorem dX11_number_11 : decode cX11_number 11 = .ok (.getfield 9, 3) := dk_180 0 9 (dk_at dksX11_number_0 11 rfl rfl)
theorem dX11_number_14 : decode cX11_number 14 = .ok (.checkcast 17, 3) := dk_192 0 17 (dk_at dksX11_number_0 14 rfl rfl)
theorem dX11_number_17 : decode cX11_number 17 = .ok (.iload_n 1, 1) := dk_27 (dk_at dksX11_number_0 17 rfl rfl)
theorem dX11_number_18 : decode cX11_number 18 = .ok (.baload, 1) := dk_51 (dk_at dksX11_number_0 18 rfl rfl)
theorem dX11_number_19 : decode cX11_number 19 = .ok (.i2l, 1) := dk_133 (dk_at dksX11_number_0 19 rfl rfl)
theorem dX11_number_20 : decode cX11_number 20 = .ok (.lreturn, 1) := dk_173 (dk_at dksX11_number_0 20 rfl rfl)
theorem dX11_number_21 : decode cX11_number 21 = .ok (.aload_n 0, 1) := dk_42 (dk_at dksX11_number_0 21 rfl rfl)
theorem dX11_number_22 : decode cX11_number 22 = .ok (.getfield 9, 3) := dk_180 0 9 (dk_at dksX11_number_1 0 rfl rfl)
theorem dX11_number_25 : decode cX11_number 25 = .ok (.instanceof 19, 3) := dk_193 0 19 (dk_at dksX11_number_1 3 rfl rfl)
theorem dX11_number_28 : decode cX11_number 28 = .ok (.ifCond .eq 14, 3) := dk_153 0 14 (dk_at dksX11_number_1 6 rfl rfl)
theorem dX11_number_31 : decode cX11_number 31 = .ok (.aload_n 0, 1) := dk_42 (dk_at dksX11_number_1 9 rfl rfl)
theorem dX11_number_32 : decode cX11_number 32 = .ok (.getfield 9, 3) := dk_180 0 9 (dk_at dksX11_number_1 10 rfl rfl)
theorem dX11_number_35 : decode cX11_number 35 = .ok (.checkcast 19, 3) := dk_192 0 19 (dk_at dksX11_number_1 13 rfl rfl)
theorem dX11_number_38 : decode cX11_number 38 = .ok (.iload_n 1, 1) := dk_27 (dk_at dksX11_number_1 16 rfl rfl)
theorem dX11_number_39 : decode cX11_number 39 = .ok (.saload, 1) := dk_53 (dk_at dksX11_number_1 17 rfl rfl)
theorem dX11_number_40 : decode cX11_number 40 = .ok (.i2l, 1) := dk_133 (dk_at dksX11_number_1 18 rfl rfl)
theorem dX11_number_41 : decode cX11_number 41 = .ok (.lreturn, 1) := dk_173 (dk_at dksX11_number_1 19 rfl rfl)
theorem dX11_number_42 : decode cX11_number 42 = .ok (.aload_n 0, 1) := dk_42 (dk_at dksX11_number_1 20 rfl rfl)
theorem dX11_number_43 : decode cX11_number 43 = .ok (.getfield 9, 3) := dk_180 0 9 (dk_at dksX11_number_1 21 rfl rfl)
theorem dX11_number_46 : decode cX11_number 46 = .ok (.instanceof 21, 3) := dk_193 0 21 (dk_at dksX11_number_2 0 rfl rfl)
theorem dX11_number_49 : decode cX11_number 49 = .ok (.ifCond .eq 16, 3) := dk_153 0 16 (dk_at dksX11_number_2 3 rfl rfl)
theorem dX11_number_52 : decode cX11_number 52 = .ok (.aload_n 0, 1) := dk_42 (dk_at dksX11_number_2 6 rfl rfl)
theorem dX11_number_53 : decode cX11_number 53 = .ok (.getfield 9, 3) := dk_180 0 9 (dk_at dksX11_number_2 7 rfl rfl)
theorem dX11_number_56 : decode cX11_number 56 = .ok (.checkcast 21, 3) := dk_192 0 21 (dk_at dksX11_number_2 10 rfl rfl)
theorem dX11_number_59 : decode cX11_number 59 = .ok (.iload_n 1, 1) := dk_27 (dk_at dksX11_number_2 13 rfl rfl)
theorem dX11_number_60 : decode cX11_number 60 = .ok (.iaload, 1) := dk_46 (dk_at dksX11_number_2 14 rfl rfl)
theorem dX11_number_61 : decode cX11_number 61 = .ok (.i2l, 1) := dk_133 (dk_at dksX11_number_2 15 rfl rfl)
theorem dX11_number_62 : decode cX11_number 62 = .ok (.goto 12, 3) := dk_167 0 12 (dk_at dksX11_number_2 16 rfl rfl)
theorem dX11_number_65 : decode cX11_number 65 = .ok (.aload_n 0, 1) := dk_42 (dk_at dksX11_number_2 19 rfl rfl)
theorem dX11_number_66 : decode cX11_number 66 = .ok (.getfield 9, 3) := dk_180 0 9 (dk_at dksX11_number_2 20 rfl rfl)
theorem dX11_number_69 : decode cX11_number 69 = .ok (.checkcast 23, 3) := dk_192 0 23 (dk_at dksX11_number_3 0 rfl rfl)
theorem dX11_number_72 : decode cX11_number 72 = .ok (.iload_n 1, 1) := dk_27 (dk_at dksX11_number_3 3 rfl rfl)
theorem dX11_number_73 : decode cX11_number 73 = .ok (.laload, 1) := dk_47 (dk_at dksX11_number_3 4 rfl rfl)
theorem dX11_number_74 : decode cX11_number 74 = .ok (.lreturn, 1) := dk_173 (dk_at dksX11_number_3 5 rfl rfl)
theorem q125 : (Jvm.Cond.initialized "CardBowl$Slot") ∈ lw_all := lw_g (lw_at lw_m1 16 rfl) rfl
theorem q167 : (Jvm.Cond.instanceMethod ({ cls := "CardBowl$Slot", name := "begins", desc := "(II)Z" } : Jvm.MethodName)) ∈ lw_all := lw_g (lw_at lw_m1 58 rfl) rfl
theorem q168 : (Jvm.Cond.selects "CardBowl$Slot" ({ cls := "CardBowl$Slot", name := "begins", desc := "(II)Z" } : Jvm.MethodName) ({ cls := "CardBowl$Slot", name := "begins", desc := "(II)Z" } : Jvm.MethodName)) ∈ lw_all := lw_g (lw_at lw_m1 59 rfl) rfl
theorem q169 : (Jvm.Cond.codeWith ({ cls := "CardBowl$Slot", name := "begins", desc := "(II)Z" } : Jvm.MethodName) prog_18_method_2_code (4 : Nat) (Option.some Jvm.ClassFile.FieldType.boolean) [((0 : Nat), (65 : Nat), (68 : Nat), (15 : Nat))]) ∈ lw_all := lw_g (lw_at lw_m1 60 rfl) rfl
theorem q170 : (Jvm.Cond.classLink "CardBowl$Slot" (15 : Nat) "java/lang/NegativeArraySizeException") ∈ lw_all := lw_g (lw_at lw_m1 61 rfl) rfl
theorem q266 : (Jvm.Cond.instanceMethod ({ cls := "CardBowl$Slot", name := "puts", desc := "(IJ)I" } : Jvm.MethodName)) ∈ lw_all := lw_g (lw_at lw_m1 157 rfl) rfl
theorem q267 : (Jvm.Cond.selects "CardBowl$Slot" ({ cls := "CardBowl$Slot", name := "puts", desc := "(IJ)I" } : Jvm.MethodName) ({ cls := "CardBowl$Slot", name := "puts", desc := "(IJ)I" } : Jvm.MethodName)) ∈ lw_all := lw_g (lw_at lw_m1 158 rfl) rfl
theorem q268 : (Jvm.Cond.codeWith ({ cls := "CardBowl$Slot", name := "puts", desc := "(IJ)I" } : Jvm.MethodName) prog_18_method_5_code (5 : Nat) (Option.some Jvm.ClassFile.FieldType.int) [((0 : Nat), (6 : Nat), (9 : Nat), (29 : Nat)), ((0 : Nat), (6 : Nat), (14 : Nat), (31 : Nat))]) ∈ lw_all := lw_g (lw_at lw_m1 159 rfl) rfl
theorem q269 : (Jvm.Cond.classLink "CardBowl$Slot" (29 : Nat) "java/lang/NullPointerException") ∈ lw_all := lw_g (lw_at lw_m1 160 rfl) rfl
theorem q294 : (Jvm.Cond.classLink "CardBowl$Slot" (31 : Nat) "java/lang/ArrayIndexOutOfBoundsException") ∈ lw_all := lw_g (lw_at lw_m1 185 rfl) rfl
theorem q313 : (Jvm.Cond.methodLink "CardBowl$Slot" (25 : Nat) ({ cls := "CardBowl$Slot", name := "put", desc := "(IJ)V" } : Jvm.MethodName)) ∈ lw_all := lw_g (lw_at lw_m1 204 rfl) rfl
theorem q314 : (Jvm.Cond.privateMethod ({ cls := "CardBowl$Slot", name := "put", desc := "(IJ)V" } : Jvm.MethodName)) ∈ lw_tbl := lw_at lw_m1 205 rfl
theorem q315 : (Jvm.Cond.instanceMethod ({ cls := "CardBowl$Slot", name := "put", desc := "(IJ)V" } : Jvm.MethodName)) ∈ lw_all := lw_g (lw_at lw_m1 206 rfl) rfl
theorem q316 : (Jvm.Cond.instantiable "CardBowl$Slot" (1 : Nat)) ∈ lw_all := lw_g (lw_at lw_m1 207 rfl) rfl
theorem q317 : (Jvm.Cond.code ({ cls := "CardBowl$Slot", name := "put", desc := "(IJ)V" } : Jvm.MethodName) prog_18_method_6_code (5 : Nat) (Option.none : Option Jvm.ClassFile.FieldType)) ∈ lw_all := lw_g (lw_at lw_m1 208 rfl) rfl
theorem q318 : (Jvm.Cond.classLink "CardBowl$Slot" (17 : Nat) "[B") ∈ lw_all := lw_g (lw_at lw_m1 209 rfl) rfl
theorem q319 : (Jvm.Cond.classLink "CardBowl$Slot" (19 : Nat) "[S") ∈ lw_all := lw_g (lw_at lw_m1 210 rfl) rfl
theorem q320 : (Jvm.Cond.methodLink "CardBowl$Slot" (33 : Nat) ({ cls := "CardBowl$Slot", name := "putWider", desc := "(IJ)V" } : Jvm.MethodName)) ∈ lw_all := lw_g (lw_at lw_m1 211 rfl) rfl
theorem q321 : (Jvm.Cond.privateMethod ({ cls := "CardBowl$Slot", name := "putWider", desc := "(IJ)V" } : Jvm.MethodName)) ∈ lw_tbl := lw_at lw_m1 212 rfl
theorem q322 : (Jvm.Cond.instanceMethod ({ cls := "CardBowl$Slot", name := "putWider", desc := "(IJ)V" } : Jvm.MethodName)) ∈ lw_all := lw_g (lw_at lw_m1 213 rfl) rfl
theorem q323 : (Jvm.Cond.codeWith ({ cls := "CardBowl$Slot", name := "putWider", desc := "(IJ)V" } : Jvm.MethodName) prog_18_method_7_code (6 : Nat) (Option.none : Option Jvm.ClassFile.FieldType) [((0 : Nat), (15 : Nat), (18 : Nat), (36 : Nat))]) ∈ lw_all := lw_g (lw_at lw_m1 214 rfl) rfl
theorem q324 : (Jvm.Cond.classLink "CardBowl$Slot" (36 : Nat) "java/lang/ClassCastException") ∈ lw_all := lw_g (lw_at lw_m1 215 rfl) rfl
theorem q338 : (Jvm.Cond.classLink "CardBowl$Slot" (21 : Nat) "[I") ∈ lw_all := lw_g (lw_at lw_m1 229 rfl) rfl
theorem q339 : (Jvm.Cond.classLink "CardBowl$Slot" (23 : Nat) "[J") ∈ lw_all := lw_g (lw_at lw_m1 230 rfl) rfl
theorem q345 : (Jvm.Cond.instanceMethod ({ cls := "CardBowl$Slot", name := "pastes", desc := "(ILCardBowl$Slot;II)I" } : Jvm.MethodName)) ∈ lw_all := lw_g (lw_at lw_m1 236 rfl) rfl
theorem q346 : (Jvm.Cond.selects "CardBowl$Slot" ({ cls := "CardBowl$Slot", name := "pastes", desc := "(ILCardBowl$Slot;II)I" } : Jvm.MethodName) ({ cls := "CardBowl$Slot", name := "pastes", desc := "(ILCardBowl$Slot;II)I" } : Jvm.MethodName)) ∈ lw_all := lw_g (lw_at lw_m1 237 rfl) rfl
theorem q347 : (Jvm.Cond.codeWith ({ cls := "CardBowl$Slot", name := "pastes", desc := "(ILCardBowl$Slot;II)I" } : Jvm.MethodName) prog_18_method_9_code (6 : Nat) (Option.some Jvm.ClassFile.FieldType.int) [((31 : Nat), (46 : Nat), (49 : Nat), (48 : Nat))]) ∈ lw_all := lw_g (lw_at lw_m1 238 rfl) rfl
theorem q348 : (Jvm.Cond.classLink "CardBowl$Slot" (48 : Nat) "java/lang/IndexOutOfBoundsException") ∈ lw_all := lw_g (lw_at lw_m1 239 rfl) rfl
theorem q349 : (Jvm.Cond.methodLink "CardBowl$Slot" (38 : Nat) ({ cls := "CardBowl$Slot", name := "width", desc := "()I" } : Jvm.MethodName)) ∈ lw_all := lw_g (lw_at lw_m2 0 rfl) rfl
theorem q350 : (Jvm.Cond.privateMethod ({ cls := "CardBowl$Slot", name := "width", desc := "()I" } : Jvm.MethodName)) ∈ lw_tbl := lw_at lw_m2 1 rfl
theorem q351 : (Jvm.Cond.instanceMethod ({ cls := "CardBowl$Slot", name := "width", desc := "()I" } : Jvm.MethodName)) ∈ lw_all := lw_g (lw_at lw_m2 2 rfl) rfl
theorem q352 : (Jvm.Cond.code ({ cls := "CardBowl$Slot", name := "width", desc := "()I" } : Jvm.MethodName) prog_18_method_8_code (1 : Nat) (Option.some Jvm.ClassFile.FieldType.int)) ∈ lw_all := lw_g (lw_at lw_m2 3 rfl) rfl
theorem q353 : (Jvm.Cond.methodLink "CardBowl$Slot" (42 : Nat) ({ cls := "java/lang/System", name := "arraycopy", desc := "(Ljava/lang/Object;ILjava/lang/Object;II)V" } : Jvm.MethodName)) ∈ lw_all := lw_g (lw_at lw_m2 4 rfl) rfl
theorem q618 : (Jvm.Cond.instanceMethod ({ cls := "CardBowl$Slot", name := "<init>", desc := "()V" } : Jvm.MethodName)) ∈ lw_all := lw_g (lw_at lw_m3 29 rfl) rfl
theorem q619 : (Jvm.Cond.code ({ cls := "CardBowl$Slot", name := "<init>", desc := "()V" } : Jvm.MethodName) prog_18_method_1_code (1 : Nat) (Option.none : Option Jvm.ClassFile.FieldType)) ∈ lw_all := lw_g (lw_at lw_m3 30 rfl) rfl
theorem q620 : (Jvm.Cond.methodLink "CardBowl$Slot" (3 : Nat) ({ cls := "java/lang/Object", name := "<init>", desc := "()V" } : Jvm.MethodName)) ∈ lw_all := lw_g (lw_at lw_m3 31 rfl) rfl
theorem q621 : (Jvm.Cond.fieldLink "CardBowl$Slot" (9 : Nat) "CardBowl$Slot" "held" "Ljava/lang/Object;") ∈ lw_all := lw_g (lw_at lw_m3 32 rfl) rfl
theorem q623 : (Jvm.Cond.lays "CardBowl$Slot" "CardBowl$Slot" "held" "Ljava/lang/Object;") ∈ lw_all := lw_g (lw_at lw_m3 34 rfl) rfl
theorem q624 : (Jvm.Cond.soleField "CardBowl$Slot" "held") ∈ lw_all := lw_g (lw_at lw_m3 35 rfl) rfl
theorem q625 : (Jvm.Cond.superclass "CardBowl$Slot" "java/lang/Object") ∈ lw_all := lw_g (lw_at lw_m3 36 rfl) rfl
theorem q1048 : (Jvm.Cond.selects "CardBowl$Slot" ({ cls := "java/lang/Object", name := "getClass", desc := "()Ljava/lang/Class;" } : Jvm.MethodName) ({ cls := "java/lang/Object", name := "getClass", desc := "()Ljava/lang/Class;" } : Jvm.MethodName)) ∈ lw_all := lw_g (lw_at lw_m4 219 rfl) rfl
theorem q1411 : (Jvm.Cond.instanceMethod ({ cls := "CardBowl$Slot", name := "many", desc := "()I" } : Jvm.MethodName)) ∈ lw_all := lw_g (lw_at lw_m6 102 rfl) rfl
theorem q1412 : (Jvm.Cond.selects "CardBowl$Slot" ({ cls := "CardBowl$Slot", name := "many", desc := "()I" } : Jvm.MethodName) ({ cls := "CardBowl$Slot", name := "many", desc := "()I" } : Jvm.MethodName)) ∈ lw_all := lw_g (lw_at lw_m6 103 rfl) rfl
theorem q1413 : (Jvm.Cond.code ({ cls := "CardBowl$Slot", name := "many", desc := "()I" } : Jvm.MethodName) prog_18_method_3_code (1 : Nat) (Option.some Jvm.ClassFile.FieldType.int)) ∈ lw_all := lw_g (lw_at lw_m6 104 rfl) rfl
theorem q1415 : (Jvm.Cond.instanceMethod ({ cls := "CardBowl$Slot", name := "number", desc := "(I)J" } : Jvm.MethodName)) ∈ lw_all := lw_g (lw_at lw_m6 106 rfl) rfl
theorem q1416 : (Jvm.Cond.selects "CardBowl$Slot" ({ cls := "CardBowl$Slot", name := "number", desc := "(I)J" } : Jvm.MethodName) ({ cls := "CardBowl$Slot", name := "number", desc := "(I)J" } : Jvm.MethodName)) ∈ lw_all := lw_g (lw_at lw_m6 107 rfl) rfl
theorem q1417 : (Jvm.Cond.code ({ cls := "CardBowl$Slot", name := "number", desc := "(I)J" } : Jvm.MethodName) prog_18_method_4_code (2 : Nat) (Option.some Jvm.ClassFile.FieldType.long)) ∈ lw_all := lw_g (lw_at lw_m6 108 rfl) rfl
theorem q2272 : (Jvm.Cond.castable "CardBowl$Slot" "java/lang/Object") ∈ lw_tbl := lw_at lw_m10 3 rfl
theorem in_X11 : ∀ w ∈ wsX110, w ∈ lw_all := lw_in wsX110 [623] (by decide +kernel) (by decide +kernel)
