/-! a slot's methods: 0 X11_width, 1 X11_begins, 2 X11_pastes, 3 X11_puts -/
set_option maxRecDepth 100000
def kT0 (pc : Nat) : Option ZI := (bif Nat.blt pc 24 then (bif Nat.blt pc 11 then (bif Nat.blt pc 4 then (bif Nat.blt pc 1 then (bif Nat.beq pc 0 then some (.inl (z_aload 0 1)) else none) else (bif Nat.beq pc 1 then some (.inl (z_getR 11 0 4)) else none)) else (bif Nat.blt pc 7 then (bif Nat.beq pc 4 then some (.inl (z_inst 52 7)) else none) else (bif Nat.blt pc 10 then (bif Nat.beq pc 7 then some (.inl (z_ifeq 14 10)) else none) else (bif Nat.beq pc 10 then some (.inl (z_push (.int (nI 0)) 11)) else none)))) else (bif Nat.blt pc 15 then (bif Nat.blt pc 14 then (bif Nat.beq pc 11 then some (.inl (z_goto 43)) else none) else (bif Nat.beq pc 14 then some (.inl (z_aload 0 15)) else none)) else (bif Nat.blt pc 18 then (bif Nat.beq pc 15 then some (.inl (z_getR 11 0 18)) else none) else (bif Nat.blt pc 21 then (bif Nat.beq pc 18 then some (.inl (z_inst 53 21)) else none) else (bif Nat.beq pc 21 then some (.inl (z_ifeq 28 24)) else none))))) else (bif Nat.blt pc 35 then (bif Nat.blt pc 28 then (bif Nat.blt pc 25 then (bif Nat.beq pc 24 then some (.inl (z_push (.int (nI 1)) 25)) else none) else (bif Nat.beq pc 25 then some (.inl (z_goto 43)) else none)) else (bif Nat.blt pc 29 then (bif Nat.beq pc 28 then some (.inl (z_aload 0 29)) else none) else (bif Nat.blt pc 32 then (bif Nat.beq pc 29 then some (.inl (z_getR 11 0 32)) else none) else (bif Nat.beq pc 32 then some (.inl (z_inst 50 35)) else none)))) else (bif Nat.blt pc 39 then (bif Nat.blt pc 38 then (bif Nat.beq pc 35 then some (.inl (z_ifeq 42 38)) else none) else (bif Nat.beq pc 38 then some (.inl (z_push (.int (nI 2)) 39)) else none)) else (bif Nat.blt pc 42 then (bif Nat.beq pc 39 then some (.inl (z_goto 43)) else none) else (bif Nat.blt pc 43 then (bif Nat.beq pc 42 then some (.inl (z_push (.int (nI 3)) 43)) else none) else (bif Nat.beq pc 43 then some (.inr (.inr 0)) else none))))))
def kT1 (pc : Nat) : Option ZI := (bif Nat.blt pc 49 then (bif Nat.blt pc 35 then (bif Nat.blt pc 29 then (bif Nat.blt pc 1 then (bif Nat.beq pc 0 then some (.inl (z_iload 1 1)) else none) else (bif Nat.blt pc 28 then (bif Nat.beq pc 1 then some (.inl (z_tsw [28, 38, 48] 58)) else none) else (bif Nat.beq pc 28 then some (.inl (z_aload 0 29)) else none))) else (bif Nat.blt pc 30 then (bif Nat.beq pc 29 then some (.inl (z_iload 2 30)) else none) else (bif Nat.blt pc 32 then (bif Nat.beq pc 30 then some (.inl (z_newX 52 68 32)) else none) else (bif Nat.beq pc 32 then some (.inl (z_putR 11 0 35)) else none)))) else (bif Nat.blt pc 40 then (bif Nat.blt pc 38 then (bif Nat.beq pc 35 then some (.inl (z_goto 65)) else none) else (bif Nat.blt pc 39 then (bif Nat.beq pc 38 then some (.inl (z_aload 0 39)) else none) else (bif Nat.beq pc 39 then some (.inl (z_iload 2 40)) else none))) else (bif Nat.blt pc 45 then (bif Nat.blt pc 42 then (bif Nat.beq pc 40 then some (.inl (z_newX 53 68 42)) else none) else (bif Nat.beq pc 42 then some (.inl (z_putR 11 0 45)) else none)) else (bif Nat.blt pc 48 then (bif Nat.beq pc 45 then some (.inl (z_goto 65)) else none) else (bif Nat.beq pc 48 then some (.inl (z_aload 0 49)) else none))))) else (bif Nat.blt pc 62 then (bif Nat.blt pc 55 then (bif Nat.blt pc 50 then (bif Nat.beq pc 49 then some (.inl (z_iload 2 50)) else none) else (bif Nat.blt pc 52 then (bif Nat.beq pc 50 then some (.inl (z_newX 50 68 52)) else none) else (bif Nat.beq pc 52 then some (.inl (z_putR 11 0 55)) else none))) else (bif Nat.blt pc 59 then (bif Nat.blt pc 58 then (bif Nat.beq pc 55 then some (.inl (z_goto 65)) else none) else (bif Nat.beq pc 58 then some (.inl (z_aload 0 59)) else none)) else (bif Nat.blt pc 60 then (bif Nat.beq pc 59 then some (.inl (z_iload 2 60)) else none) else (bif Nat.beq pc 60 then some (.inl (z_newX 51 68 62)) else none)))) else (bif Nat.blt pc 69 then (bif Nat.blt pc 65 then (bif Nat.beq pc 62 then some (.inl (z_putR 11 0 65)) else none) else (bif Nat.blt pc 68 then (bif Nat.beq pc 65 then some (.inl (z_goto 71)) else none) else (bif Nat.beq pc 68 then some (.inl (z_astx 3 69)) else none))) else (bif Nat.blt pc 71 then (bif Nat.blt pc 70 then (bif Nat.beq pc 69 then some (.inl (z_push (.int (nI 0)) 70)) else none) else (bif Nat.beq pc 70 then some (.inr (.inr 3)) else none)) else (bif Nat.blt pc 72 then (bif Nat.beq pc 71 then some (.inl (z_push (.int (nI 1)) 72)) else none) else (bif Nat.beq pc 72 then some (.inr (.inr 3)) else none))))))
def kT2 (pc : Nat) : Option ZI := (bif Nat.blt pc 30 then (bif Nat.blt pc 16 then (bif Nat.blt pc 7 then (bif Nat.blt pc 1 then (bif Nat.beq pc 0 then some (.inl (z_aload 0 1)) else none) else (bif Nat.blt pc 4 then (bif Nat.beq pc 1 then some (.inl (z_getR 11 0 4)) else none) else (bif Nat.beq pc 4 then some (.inl (z_ifnull 14 7)) else none))) else (bif Nat.blt pc 11 then (bif Nat.blt pc 8 then (bif Nat.beq pc 7 then some (.inl (z_aload 2 8)) else none) else (bif Nat.beq pc 8 then some (.inl (z_getR 11 0 11)) else none)) else (bif Nat.blt pc 14 then (bif Nat.beq pc 11 then some (.inl (z_ifnon 17 14)) else none) else (bif Nat.beq pc 14 then some (.inl (z_push (.int (-6)) 16)) else none)))) else (bif Nat.blt pc 21 then (bif Nat.blt pc 17 then (bif Nat.beq pc 16 then some (.inr (.inr 0)) else none) else (bif Nat.blt pc 18 then (bif Nat.beq pc 17 then some (.inl (z_aload 0 18)) else none) else (bif Nat.beq pc 18 then some (.inr (.inl (21, sV0 11 0))) else none))) else (bif Nat.blt pc 25 then (bif Nat.blt pc 22 then (bif Nat.beq pc 21 then some (.inl (z_aload 2 22)) else none) else (bif Nat.beq pc 22 then some (.inr (.inl (25, sV0 11 0))) else none)) else (bif Nat.blt pc 28 then (bif Nat.beq pc 25 then some (.inl (z_iceq 31 28)) else none) else (bif Nat.beq pc 28 then some (.inl (z_push (.int (-8)) 30)) else none))))) else (bif Nat.blt pc 41 then (bif Nat.blt pc 35 then (bif Nat.blt pc 31 then (bif Nat.beq pc 30 then some (.inr (.inr 0)) else none) else (bif Nat.blt pc 32 then (bif Nat.beq pc 31 then some (.inl (z_aload 0 32)) else none) else (bif Nat.beq pc 32 then some (.inl (z_getR 11 0 35)) else none))) else (bif Nat.blt pc 37 then (bif Nat.blt pc 36 then (bif Nat.beq pc 35 then some (.inl (z_iload 1 36)) else none) else (bif Nat.beq pc 36 then some (.inl (z_aload 2 37)) else none)) else (bif Nat.blt pc 40 then (bif Nat.beq pc 37 then some (.inl (z_getR 11 0 40)) else none) else (bif Nat.beq pc 40 then some (.inl (z_iload 3 41)) else none)))) else (bif Nat.blt pc 51 then (bif Nat.blt pc 46 then (bif Nat.blt pc 43 then (bif Nat.beq pc 41 then some (.inl (z_iload 4 43)) else none) else (bif Nat.beq pc 43 then some (.inl (z_cpyX 49 46)) else none)) else (bif Nat.blt pc 49 then (bif Nat.beq pc 46 then some (.inl (z_goto 54)) else none) else (bif Nat.beq pc 49 then some (.inl (z_astx 5 51)) else none))) else (bif Nat.blt pc 54 then (bif Nat.blt pc 53 then (bif Nat.beq pc 51 then some (.inl (z_push (.int (-7)) 53)) else none) else (bif Nat.beq pc 53 then some (.inr (.inr 0)) else none)) else (bif Nat.blt pc 55 then (bif Nat.beq pc 54 then some (.inl (z_push (.int (nI 0)) 55)) else none) else (bif Nat.beq pc 55 then some (.inr (.inr 0)) else none))))))
def kT3 (pc : Nat) : Option ZI := (bif Nat.blt pc 11 then (bif Nat.blt pc 3 then (bif Nat.blt pc 1 then (bif Nat.beq pc 0 then some (.inl (z_aload 0 1)) else none) else (bif Nat.blt pc 2 then (bif Nat.beq pc 1 then some (.inl (z_iload 1 2)) else none) else (bif Nat.beq pc 2 then some (.inl (z_lload 2 3)) else none))) else (bif Nat.blt pc 6 then (bif Nat.beq pc 3 then some (.inl (z_putX 9 14 6)) else none) else (bif Nat.blt pc 9 then (bif Nat.beq pc 6 then some (.inl (z_goto 19)) else none) else (bif Nat.beq pc 9 then some (.inl (z_astx 4 11)) else none)))) else (bif Nat.blt pc 16 then (bif Nat.blt pc 13 then (bif Nat.beq pc 11 then some (.inl (z_push (.int (-6)) 13)) else none) else (bif Nat.blt pc 14 then (bif Nat.beq pc 13 then some (.inr (.inr 0)) else none) else (bif Nat.beq pc 14 then some (.inl (z_astx 4 16)) else none))) else (bif Nat.blt pc 19 then (bif Nat.blt pc 18 then (bif Nat.beq pc 16 then some (.inl (z_push (.int (-7)) 18)) else none) else (bif Nat.beq pc 18 then some (.inr (.inr 0)) else none)) else (bif Nat.blt pc 20 then (bif Nat.beq pc 19 then some (.inl (z_push (.int (nI 0)) 20)) else none) else (bif Nat.beq pc 20 then some (.inr (.inr 0)) else none)))))
def kTab (k pc : Nat) : Option ZI := (bif Nat.blt k 2 then (bif Nat.blt k 1 then (bif Nat.beq k 0 then kT0 pc else none) else (bif Nat.beq k 1 then kT1 pc else none)) else (bif Nat.blt k 3 then (bif Nat.beq k 2 then kT2 pc else none) else (bif Nat.beq k 3 then kT3 pc else none)))
def kMl (k : Nat) : Nat := (bif Nat.blt k 2 then (bif Nat.blt k 1 then 1 else 4) else (bif Nat.blt k 3 then 6 else 5))
def kHd (_ _ : Nat) : Option Nat := none
def zK : ZP := (kTab, kMl, kHd)
set_option maxRecDepth 100000
section ZSITE
variable {d : Nat} {st : List Value} {z : ZH} {Q : ZQ}
/-- X11_width ()I -/
theorem ek0 {r0 : Nat} : ZC zK d 0 [.ref r0] z Q = ZW zK d 0 0 [.ref r0] [] z Q := rfl
theorem k0_0 {x0 : Value} : ZW zK d 0 0 [x0] st z Q = (zir x0 = true ∧ ZW zK d 0 1 [x0] (x0 :: st) z Q) := zw_cond (f := z_aload 0 1) rfl rfl
theorem k0_1 {ls : List Value} {r : Nat} : ZW zK d 0 1 ls (.ref r :: st) z Q = ((zcls z r = 11 ∧ zir (zfr z r 0) = true) ∧ ZW zK d 0 4 ls (zfr z r 0 :: st) (z) Q) := zw_getR rfl
theorem k0_4 {ls : List Value} : ZW zK d 0 4 ls (.null :: st) z Q = ZW zK d 0 7 ls (.int 0 :: st) z Q := zw_inst0 rfl
theorem k0_4r {ls : List Value} {r : Nat} : ZW zK d 0 4 ls (.ref r :: st) z Q = ((50 ≤ zcls z r ∧ zcls z r < 54) ∧ ZW zK d 0 7 ls (.int (if zcls z r = 52 then 1 else 0) :: st) z Q) := zw_inst1 rfl
theorem k0_7 {ls : List Value} {a : Int32} : ZW zK d 0 7 ls (.int a :: st) z Q = if a = 0 then ZW zK d 0 14 ls st z Q else ZW zK d 0 10 ls st z Q := zw_ifeq rfl
theorem k0_10 {ls : List Value}  : ZW zK d 0 10 ls (st) z Q = ZW zK d 0 11 ls ((.int (nI 0)) :: st) z Q := zw_push rfl
theorem k0_11 {ls : List Value}  : ZW zK d 0 11 ls (st) z Q = ZW zK d 0 43 ls st z Q := zw_goto rfl
theorem k0_14 {x0 : Value} : ZW zK d 0 14 [x0] st z Q = (zir x0 = true ∧ ZW zK d 0 15 [x0] (x0 :: st) z Q) := zw_cond (f := z_aload 0 15) rfl rfl
theorem k0_15 {ls : List Value} {r : Nat} : ZW zK d 0 15 ls (.ref r :: st) z Q = ((zcls z r = 11 ∧ zir (zfr z r 0) = true) ∧ ZW zK d 0 18 ls (zfr z r 0 :: st) (z) Q) := zw_getR rfl
theorem k0_18 {ls : List Value} : ZW zK d 0 18 ls (.null :: st) z Q = ZW zK d 0 21 ls (.int 0 :: st) z Q := zw_inst0 rfl
theorem k0_18r {ls : List Value} {r : Nat} : ZW zK d 0 18 ls (.ref r :: st) z Q = ((50 ≤ zcls z r ∧ zcls z r < 54) ∧ ZW zK d 0 21 ls (.int (if zcls z r = 53 then 1 else 0) :: st) z Q) := zw_inst1 rfl
theorem k0_21 {ls : List Value} {a : Int32} : ZW zK d 0 21 ls (.int a :: st) z Q = if a = 0 then ZW zK d 0 28 ls st z Q else ZW zK d 0 24 ls st z Q := zw_ifeq rfl
theorem k0_24 {ls : List Value}  : ZW zK d 0 24 ls (st) z Q = ZW zK d 0 25 ls ((.int (nI 1)) :: st) z Q := zw_push rfl
theorem k0_25 {ls : List Value}  : ZW zK d 0 25 ls (st) z Q = ZW zK d 0 43 ls st z Q := zw_goto rfl
theorem k0_28 {x0 : Value} : ZW zK d 0 28 [x0] st z Q = (zir x0 = true ∧ ZW zK d 0 29 [x0] (x0 :: st) z Q) := zw_cond (f := z_aload 0 29) rfl rfl
theorem k0_29 {ls : List Value} {r : Nat} : ZW zK d 0 29 ls (.ref r :: st) z Q = ((zcls z r = 11 ∧ zir (zfr z r 0) = true) ∧ ZW zK d 0 32 ls (zfr z r 0 :: st) (z) Q) := zw_getR rfl
theorem k0_32 {ls : List Value} : ZW zK d 0 32 ls (.null :: st) z Q = ZW zK d 0 35 ls (.int 0 :: st) z Q := zw_inst0 rfl
theorem k0_32r {ls : List Value} {r : Nat} : ZW zK d 0 32 ls (.ref r :: st) z Q = ((50 ≤ zcls z r ∧ zcls z r < 54) ∧ ZW zK d 0 35 ls (.int (if zcls z r = 50 then 1 else 0) :: st) z Q) := zw_inst1 rfl
theorem k0_35 {ls : List Value} {a : Int32} : ZW zK d 0 35 ls (.int a :: st) z Q = if a = 0 then ZW zK d 0 42 ls st z Q else ZW zK d 0 38 ls st z Q := zw_ifeq rfl
theorem k0_38 {ls : List Value}  : ZW zK d 0 38 ls (st) z Q = ZW zK d 0 39 ls ((.int (nI 2)) :: st) z Q := zw_push rfl
theorem k0_39 {ls : List Value}  : ZW zK d 0 39 ls (st) z Q = ZW zK d 0 43 ls st z Q := zw_goto rfl
theorem k0_42 {ls : List Value}  : ZW zK d 0 42 ls (st) z Q = ZW zK d 0 43 ls ((.int (nI 3)) :: st) z Q := zw_push rfl
theorem k0_43 {ls : List Value} {a : Int32} : ZW zK d 0 43 ls ([.int a]) z Q = Q (.inl (some (.int a))) z := zw_reti rfl
/-- X11_begins (II)Z -/
theorem ek1 {r0 : Nat} {v0 : Int32} {v1 : Int32} : ZC zK d 1 [.ref r0, .int v0, .int v1] z Q = ZW zK d 1 0 [.ref r0, .int v0, .int v1, zdum] [] z Q := rfl
theorem k1_0 {x0 x2 x3 : Value} {a : Int32} : ZW zK d 1 0 [x0, .int a, x2, x3] st z Q = ZW zK d 1 1 [x0, .int a, x2, x3] (.int a :: st) z Q := zw_next (f := z_iload 1 1) rfl rfl
theorem k1_1 {ls : List Value} {a : Int32} : ZW zK d 1 1 ls (.int a :: st) z Q = ZW zK d 1 (ztsw [28, 38, 48] 58 a) ls st z Q := zw_tsw rfl
theorem k1_28 {x0 x1 x2 x3 : Value} : ZW zK d 1 28 [x0, x1, x2, x3] st z Q = (zir x0 = true ∧ ZW zK d 1 29 [x0, x1, x2, x3] (x0 :: st) z Q) := zw_cond (f := z_aload 0 29) rfl rfl
theorem k1_29 {x0 x1 x3 : Value} {a : Int32} : ZW zK d 1 29 [x0, x1, .int a, x3] st z Q = ZW zK d 1 30 [x0, x1, .int a, x3] (.int a :: st) z Q := zw_next (f := z_iload 2 30) rfl rfl
theorem k1_30 {ls : List Value} {a : Int32} : ZW zK d 1 30 ls (.int a :: st) z Q = (zcs st = true ∧ if a < 0 then ZW zK d 1 68 ls [.float 0] (spay z 20 400) Q else (zin a 1000000 = true ∧ ZW zK d 1 32 ls (.ref (zn z) :: st) (sarr z 52 (zx a)) Q)) := zw_newX rfl
theorem k1_32 {ls : List Value} {v : Value} {r : Nat} : ZW zK d 1 32 ls (v :: .ref r :: st) z Q = ((zcls z r = 11 ∧ zir v = true) ∧ ZW zK d 1 35 ls (st) (sfr z r 0 v) Q) := zw_putR rfl
theorem k1_35 {ls : List Value}  : ZW zK d 1 35 ls (st) z Q = ZW zK d 1 65 ls st z Q := zw_goto rfl
theorem k1_38 {x0 x1 x2 x3 : Value} : ZW zK d 1 38 [x0, x1, x2, x3] st z Q = (zir x0 = true ∧ ZW zK d 1 39 [x0, x1, x2, x3] (x0 :: st) z Q) := zw_cond (f := z_aload 0 39) rfl rfl
theorem k1_39 {x0 x1 x3 : Value} {a : Int32} : ZW zK d 1 39 [x0, x1, .int a, x3] st z Q = ZW zK d 1 40 [x0, x1, .int a, x3] (.int a :: st) z Q := zw_next (f := z_iload 2 40) rfl rfl
theorem k1_40 {ls : List Value} {a : Int32} : ZW zK d 1 40 ls (.int a :: st) z Q = (zcs st = true ∧ if a < 0 then ZW zK d 1 68 ls [.float 0] (spay z 20 400) Q else (zin a 1000000 = true ∧ ZW zK d 1 42 ls (.ref (zn z) :: st) (sarr z 53 (zx a)) Q)) := zw_newX rfl
theorem k1_42 {ls : List Value} {v : Value} {r : Nat} : ZW zK d 1 42 ls (v :: .ref r :: st) z Q = ((zcls z r = 11 ∧ zir v = true) ∧ ZW zK d 1 45 ls (st) (sfr z r 0 v) Q) := zw_putR rfl
theorem k1_45 {ls : List Value}  : ZW zK d 1 45 ls (st) z Q = ZW zK d 1 65 ls st z Q := zw_goto rfl
theorem k1_48 {x0 x1 x2 x3 : Value} : ZW zK d 1 48 [x0, x1, x2, x3] st z Q = (zir x0 = true ∧ ZW zK d 1 49 [x0, x1, x2, x3] (x0 :: st) z Q) := zw_cond (f := z_aload 0 49) rfl rfl
theorem k1_49 {x0 x1 x3 : Value} {a : Int32} : ZW zK d 1 49 [x0, x1, .int a, x3] st z Q = ZW zK d 1 50 [x0, x1, .int a, x3] (.int a :: st) z Q := zw_next (f := z_iload 2 50) rfl rfl
theorem k1_50 {ls : List Value} {a : Int32} : ZW zK d 1 50 ls (.int a :: st) z Q = (zcs st = true ∧ if a < 0 then ZW zK d 1 68 ls [.float 0] (spay z 20 400) Q else (zin a 1000000 = true ∧ ZW zK d 1 52 ls (.ref (zn z) :: st) (sarr z 50 (zx a)) Q)) := zw_newX rfl
theorem k1_52 {ls : List Value} {v : Value} {r : Nat} : ZW zK d 1 52 ls (v :: .ref r :: st) z Q = ((zcls z r = 11 ∧ zir v = true) ∧ ZW zK d 1 55 ls (st) (sfr z r 0 v) Q) := zw_putR rfl
theorem k1_55 {ls : List Value}  : ZW zK d 1 55 ls (st) z Q = ZW zK d 1 65 ls st z Q := zw_goto rfl
theorem k1_58 {x0 x1 x2 x3 : Value} : ZW zK d 1 58 [x0, x1, x2, x3] st z Q = (zir x0 = true ∧ ZW zK d 1 59 [x0, x1, x2, x3] (x0 :: st) z Q) := zw_cond (f := z_aload 0 59) rfl rfl
theorem k1_59 {x0 x1 x3 : Value} {a : Int32} : ZW zK d 1 59 [x0, x1, .int a, x3] st z Q = ZW zK d 1 60 [x0, x1, .int a, x3] (.int a :: st) z Q := zw_next (f := z_iload 2 60) rfl rfl
theorem k1_60 {ls : List Value} {a : Int32} : ZW zK d 1 60 ls (.int a :: st) z Q = (zcs st = true ∧ if a < 0 then ZW zK d 1 68 ls [.float 0] (spay z 20 400) Q else (zin a 1000000 = true ∧ ZW zK d 1 62 ls (.ref (zn z) :: st) (sarr z 51 (zx a)) Q)) := zw_newX rfl
theorem k1_62 {ls : List Value} {v : Value} {r : Nat} : ZW zK d 1 62 ls (v :: .ref r :: st) z Q = ((zcls z r = 11 ∧ zir v = true) ∧ ZW zK d 1 65 ls (st) (sfr z r 0 v) Q) := zw_putR rfl
theorem k1_65 {ls : List Value}  : ZW zK d 1 65 ls (st) z Q = ZW zK d 1 71 ls st z Q := zw_goto rfl
theorem k1_69 {ls : List Value}  : ZW zK d 1 69 ls (st) z Q = ZW zK d 1 70 ls ((.int (nI 0)) :: st) z Q := zw_push rfl
theorem k1_70 {ls : List Value} {a : Int32} : ZW zK d 1 70 ls ([.int a]) z Q = ((a = 0 ∨ a = 1) ∧ Q (.inl (some (.int a))) z) := zw_retz rfl
theorem k1_71 {ls : List Value}  : ZW zK d 1 71 ls (st) z Q = ZW zK d 1 72 ls ((.int (nI 1)) :: st) z Q := zw_push rfl
theorem k1_72 {ls : List Value} {a : Int32} : ZW zK d 1 72 ls ([.int a]) z Q = ((a = 0 ∨ a = 1) ∧ Q (.inl (some (.int a))) z) := zw_retz rfl
/-- X11_pastes (ILCardBowl$Slot;II)I -/
theorem ek2 {r0 : Nat} {v0 : Int32} {v1 : Nat} {v2 : Int32} {v3 : Int32} : ZC zK d 2 [.ref r0, .int v0, .ref v1, .int v2, .int v3] z Q = ZW zK d 2 0 [.ref r0, .int v0, .ref v1, .int v2, .int v3, zdum] [] z Q := rfl
theorem k2_0 {x0 x1 x2 x3 x4 x5 : Value} : ZW zK d 2 0 [x0, x1, x2, x3, x4, x5] st z Q = (zir x0 = true ∧ ZW zK d 2 1 [x0, x1, x2, x3, x4, x5] (x0 :: st) z Q) := zw_cond (f := z_aload 0 1) rfl rfl
theorem k2_1 {ls : List Value} {r : Nat} : ZW zK d 2 1 ls (.ref r :: st) z Q = ((zcls z r = 11 ∧ zir (zfr z r 0) = true) ∧ ZW zK d 2 4 ls (zfr z r 0 :: st) (z) Q) := zw_getR rfl
theorem k2_4 {ls : List Value} : ZW zK d 2 4 ls (.null :: st) z Q = ZW zK d 2 14 ls st z Q := zw_ifnull0 rfl
theorem k2_4r {ls : List Value} {r : Nat} : ZW zK d 2 4 ls (.ref r :: st) z Q = ZW zK d 2 7 ls st z Q := zw_ifnull1 rfl
theorem k2_7 {x0 x1 x2 x3 x4 x5 : Value} : ZW zK d 2 7 [x0, x1, x2, x3, x4, x5] st z Q = (zir x2 = true ∧ ZW zK d 2 8 [x0, x1, x2, x3, x4, x5] (x2 :: st) z Q) := zw_cond (f := z_aload 2 8) rfl rfl
theorem k2_8 {ls : List Value} {r : Nat} : ZW zK d 2 8 ls (.ref r :: st) z Q = ((zcls z r = 11 ∧ zir (zfr z r 0) = true) ∧ ZW zK d 2 11 ls (zfr z r 0 :: st) (z) Q) := zw_getR rfl
theorem k2_11 {ls : List Value} : ZW zK d 2 11 ls (.null :: st) z Q = ZW zK d 2 14 ls st z Q := zw_ifnon0 rfl
theorem k2_11r {ls : List Value} {r : Nat} : ZW zK d 2 11 ls (.ref r :: st) z Q = ZW zK d 2 17 ls st z Q := zw_ifnon1 rfl
theorem k2_14 {ls : List Value}  : ZW zK d 2 14 ls (st) z Q = ZW zK d 2 16 ls ((.int (-6)) :: st) z Q := zw_push rfl
theorem k2_16 {ls : List Value} {a : Int32} : ZW zK d 2 16 ls ([.int a]) z Q = Q (.inl (some (.int a))) z := zw_reti rfl
theorem k2_17 {x0 x1 x2 x3 x4 x5 : Value} : ZW zK d 2 17 [x0, x1, x2, x3, x4, x5] st z Q = (zir x0 = true ∧ ZW zK d 2 18 [x0, x1, x2, x3, x4, x5] (x0 :: st) z Q) := zw_cond (f := z_aload 0 18) rfl rfl
theorem k2_18 {ls : List Value}  {r : Nat} : ZW zK (d + 1) 2 18 ls (.ref r :: st) z Q = (zcls z r = 11 ∧ zcs st = true ∧ ZC zK d 0 [.ref r] z (zk zK (d + 1) 2 (none) 21 ls st Q)) := zc_V0 rfl (Nat.le_of_ble_eq_true rfl)
theorem k2_21 {x0 x1 x2 x3 x4 x5 : Value} : ZW zK d 2 21 [x0, x1, x2, x3, x4, x5] st z Q = (zir x2 = true ∧ ZW zK d 2 22 [x0, x1, x2, x3, x4, x5] (x2 :: st) z Q) := zw_cond (f := z_aload 2 22) rfl rfl
theorem k2_22 {ls : List Value}  {r : Nat} : ZW zK (d + 1) 2 22 ls (.ref r :: st) z Q = (zcls z r = 11 ∧ zcs st = true ∧ ZC zK d 0 [.ref r] z (zk zK (d + 1) 2 (none) 25 ls st Q)) := zc_V0 rfl (Nat.le_of_ble_eq_true rfl)
theorem k2_25 {ls : List Value} {a b : Int32} : ZW zK d 2 25 ls (.int b :: .int a :: st) z Q = if a = b then ZW zK d 2 31 ls st z Q else ZW zK d 2 28 ls st z Q := zw_iceq rfl
theorem k2_28 {ls : List Value}  : ZW zK d 2 28 ls (st) z Q = ZW zK d 2 30 ls ((.int (-8)) :: st) z Q := zw_push rfl
theorem k2_30 {ls : List Value} {a : Int32} : ZW zK d 2 30 ls ([.int a]) z Q = Q (.inl (some (.int a))) z := zw_reti rfl
theorem k2_31 {x0 x1 x2 x3 x4 x5 : Value} : ZW zK d 2 31 [x0, x1, x2, x3, x4, x5] st z Q = (zir x0 = true ∧ ZW zK d 2 32 [x0, x1, x2, x3, x4, x5] (x0 :: st) z Q) := zw_cond (f := z_aload 0 32) rfl rfl
theorem k2_32 {ls : List Value} {r : Nat} : ZW zK d 2 32 ls (.ref r :: st) z Q = ((zcls z r = 11 ∧ zir (zfr z r 0) = true) ∧ ZW zK d 2 35 ls (zfr z r 0 :: st) (z) Q) := zw_getR rfl
theorem k2_35 {x0 x2 x3 x4 x5 : Value} {a : Int32} : ZW zK d 2 35 [x0, .int a, x2, x3, x4, x5] st z Q = ZW zK d 2 36 [x0, .int a, x2, x3, x4, x5] (.int a :: st) z Q := zw_next (f := z_iload 1 36) rfl rfl
theorem k2_36 {x0 x1 x2 x3 x4 x5 : Value} : ZW zK d 2 36 [x0, x1, x2, x3, x4, x5] st z Q = (zir x2 = true ∧ ZW zK d 2 37 [x0, x1, x2, x3, x4, x5] (x2 :: st) z Q) := zw_cond (f := z_aload 2 37) rfl rfl
theorem k2_37 {ls : List Value} {r : Nat} : ZW zK d 2 37 ls (.ref r :: st) z Q = ((zcls z r = 11 ∧ zir (zfr z r 0) = true) ∧ ZW zK d 2 40 ls (zfr z r 0 :: st) (z) Q) := zw_getR rfl
theorem k2_40 {x0 x1 x2 x4 x5 : Value} {a : Int32} : ZW zK d 2 40 [x0, x1, x2, .int a, x4, x5] st z Q = ZW zK d 2 41 [x0, x1, x2, .int a, x4, x5] (.int a :: st) z Q := zw_next (f := z_iload 3 41) rfl rfl
theorem k2_41 {x0 x1 x2 x3 x5 : Value} {a : Int32} : ZW zK d 2 41 [x0, x1, x2, x3, .int a, x5] st z Q = ZW zK d 2 43 [x0, x1, x2, x3, .int a, x5] (.int a :: st) z Q := zw_next (f := z_iload 4 43) rfl rfl
theorem k2_43 {ls : List Value} {n1 a b : Int32} {u w : Nat} : ZW zK d 2 43 ls (.int n1 :: .int b :: .ref w :: .int a :: .ref u :: st) z Q = ((zcs st = true ∧ (50 ≤ zcls z u ∧ zcls z u < 54) ∧ zcls z u = zcls z w ∧ zlen z u ≤ 1000 ∧ zlen z w ≤ 1000 ∧ zfitA z u = true) ∧ if (¬ a < 0 ∧ ¬ b < 0 ∧ ¬ n1 < 0) ∧ zx a + zx n1 ≤ zlen z u ∧ zx b + zx n1 ≤ zlen z w then ZW zK d 2 46 ls st (scpy z u w (zx a) (zx b) (zx n1)) Q else ZW zK d 2 49 ls [.float 0] (spay z 40 800) Q) := zw_cpyX rfl
theorem k2_46 {ls : List Value}  : ZW zK d 2 46 ls (st) z Q = ZW zK d 2 54 ls st z Q := zw_goto rfl
theorem k2_51 {ls : List Value}  : ZW zK d 2 51 ls (st) z Q = ZW zK d 2 53 ls ((.int (-7)) :: st) z Q := zw_push rfl
theorem k2_53 {ls : List Value} {a : Int32} : ZW zK d 2 53 ls ([.int a]) z Q = Q (.inl (some (.int a))) z := zw_reti rfl
theorem k2_54 {ls : List Value}  : ZW zK d 2 54 ls (st) z Q = ZW zK d 2 55 ls ((.int (nI 0)) :: st) z Q := zw_push rfl
theorem k2_55 {ls : List Value} {a : Int32} : ZW zK d 2 55 ls ([.int a]) z Q = Q (.inl (some (.int a))) z := zw_reti rfl
/-- X11_puts (IJ)I -/
theorem ek3 {r0 : Nat} {v0 : Int32} {v1 : Int64} : ZC zK d 3 [.ref r0, .int v0, .long v1] z Q = ZW zK d 3 0 [.ref r0, .int v0, .long v1, zdum, zdum] [] z Q := rfl
theorem k3_0 {x0 x1 x2 x3 x4 : Value} : ZW zK d 3 0 [x0, x1, x2, x3, x4] st z Q = (zir x0 = true ∧ ZW zK d 3 1 [x0, x1, x2, x3, x4] (x0 :: st) z Q) := zw_cond (f := z_aload 0 1) rfl rfl
theorem k3_1 {x0 x2 x3 x4 : Value} {a : Int32} : ZW zK d 3 1 [x0, .int a, x2, x3, x4] st z Q = ZW zK d 3 2 [x0, .int a, x2, x3, x4] (.int a :: st) z Q := zw_next (f := z_iload 1 2) rfl rfl
theorem k3_2 {x0 x1 x3 x4 : Value} {a : Int64} : ZW zK d 3 2 [x0, x1, .long a, x3, x4] st z Q = ZW zK d 3 3 [x0, x1, .long a, x3, x4] (.long a :: st) z Q := zw_next (f := z_lload 2 3) rfl rfl
theorem k3_3 {ls : List Value} {x : Int64} {a : Int32} {r : Nat} : ZW zK d 3 3 ls (.long x :: .int a :: .ref r :: st) z Q = ((zcs st = true ∧ zheldB z r = true) ∧ if (zputs z r a x).1 = 0 then ZW zK d 3 6 ls st (zputs z r a x).2 Q else ZW zK d 3 (if (zputs z r a x).1 = -6 then 9 else 14) ls [.float 0] (zputs z r a x).2 Q) := zw_putX rfl
theorem k3_6 {ls : List Value}  : ZW zK d 3 6 ls (st) z Q = ZW zK d 3 19 ls st z Q := zw_goto rfl
theorem k3_11 {ls : List Value}  : ZW zK d 3 11 ls (st) z Q = ZW zK d 3 13 ls ((.int (-6)) :: st) z Q := zw_push rfl
theorem k3_13 {ls : List Value} {a : Int32} : ZW zK d 3 13 ls ([.int a]) z Q = Q (.inl (some (.int a))) z := zw_reti rfl
theorem k3_16 {ls : List Value}  : ZW zK d 3 16 ls (st) z Q = ZW zK d 3 18 ls ((.int (-7)) :: st) z Q := zw_push rfl
theorem k3_18 {ls : List Value} {a : Int32} : ZW zK d 3 18 ls ([.int a]) z Q = Q (.inl (some (.int a))) z := zw_reti rfl
theorem k3_19 {ls : List Value}  : ZW zK d 3 19 ls (st) z Q = ZW zK d 3 20 ls ((.int (nI 0)) :: st) z Q := zw_push rfl
theorem k3_20 {ls : List Value} {a : Int32} : ZW zK d 3 20 ls ([.int a]) z Q = Q (.inl (some (.int a))) z := zw_reti rfl
theorem k1_68 {x0 x1 x2 x3 : Value} {f : UInt32} : ZW zK d 1 68 [x0, x1, x2, x3] (.float f :: st) z Q = ZW zK d 1 69 [x0, x1, zclr x2, .float f] st z Q := zw_next (f := z_astx 3 69) rfl rfl
theorem k2_49 {x0 x1 x2 x3 x4 x5 : Value} {f : UInt32} : ZW zK d 2 49 [x0, x1, x2, x3, x4, x5] (.float f :: st) z Q = ZW zK d 2 51 [x0, x1, x2, x3, zclr x4, .float f] st z Q := zw_next (f := z_astx 5 51) rfl rfl
theorem k3_9 {x0 x1 x2 x3 x4 : Value} {f : UInt32} : ZW zK d 3 9 [x0, x1, x2, x3, x4] (.float f :: st) z Q = ZW zK d 3 11 [x0, x1, x2, zclr x3, .float f] st z Q := zw_next (f := z_astx 4 11) rfl rfl
theorem k3_14 {x0 x1 x2 x3 x4 : Value} {f : UInt32} : ZW zK d 3 14 [x0, x1, x2, x3, x4] (.float f :: st) z Q = ZW zK d 3 16 [x0, x1, x2, zclr x3, .float f] st z Q := zw_next (f := z_astx 4 16) rfl rfl
end ZSITE

abbrev kI0 : ZInf := (cX11_width, yX11_width, 1, (Option.some Jvm.ClassFile.FieldType.int), [])
abbrev kI1 : ZInf := (cX11_begins, yX11_begins, 4, (Option.some Jvm.ClassFile.FieldType.boolean), [((0 : Nat), (65 : Nat), (68 : Nat), (15 : Nat))])
abbrev kI2 : ZInf := (cX11_pastes, yX11_pastes, 6, (Option.some Jvm.ClassFile.FieldType.int), [((31 : Nat), (46 : Nat), (49 : Nat), (48 : Nat))])
abbrev kI3 : ZInf := (cX11_puts, yX11_puts, 5, (Option.some Jvm.ClassFile.FieldType.int), [((0 : Nat), (6 : Nat), (9 : Nat), (29 : Nat)), ((0 : Nat), (6 : Nat), (14 : Nat), (31 : Nat))])
def kInfo (k : Nat) : ZInf := (bif Nat.blt k 2 then (bif Nat.blt k 1 then kI0 else kI1) else (bif Nat.blt k 3 then kI2 else kI3))
theorem kleaf {zI : Nat → ZInf} {inf : ZInf} {k c pc : Nat} {i I : ZI} (h : (bif Nat.beq pc c then some I else none) = some i) (ok : zSiteOK zI inf (kHd k c) c I) : zSiteOK zI inf (kHd k pc) pc i := by
  cases hb : Nat.beq pc c with
  | true =>
    rw [hb] at h
    have h : some I = some i := h
    cases h
    have := Nat.eq_of_beq_eq_true hb
    subst this
    exact ok
  | false => rw [hb] at h; cases h
theorem ko0_0 : zSiteOK kInfo kI0 (kHd 0 0) 0 (.inl (z_aload 0 1)) := zs_p (ok_aload_n (inf := kI0) dX11_width_0 rfl)
theorem ko0_1 : zSiteOK kInfo kI0 (kHd 0 1) 1 (.inl (z_getR 11 0 4)) := zs_p (ok_getR (inf := kI0) (C := RX11) (T := TX11) (N := 1) dX11_width_1 rfl (by decide) in_X11 (by decide) rfl rfl q621 rfl)
theorem ko0_4 : zSiteOK kInfo kI0 (kHd 0 4) 4 (.inl (z_inst 52 7)) := zs_p (ok_inst52 (inf := kI0) dX11_width_4 q318)
theorem ko0_7 : zSiteOK kInfo kI0 (kHd 0 7) 7 (.inl (z_ifeq 14 10)) := zs_p (ok_ifeq (inf := kI0) dX11_width_7 (by decide))
theorem ko0_10 : zSiteOK kInfo kI0 (kHd 0 10) 10 (.inl (z_push (.int (nI 0)) 11)) := zs_p (ok_iconst (inf := kI0) dX11_width_10 (by decide +kernel))
theorem ko0_11 : zSiteOK kInfo kI0 (kHd 0 11) 11 (.inl (z_goto 43)) := zs_p (ok_goto (inf := kI0) dX11_width_11 (by decide))
theorem ko0_14 : zSiteOK kInfo kI0 (kHd 0 14) 14 (.inl (z_aload 0 15)) := zs_p (ok_aload_n (inf := kI0) dX11_width_14 rfl)
theorem ko0_15 : zSiteOK kInfo kI0 (kHd 0 15) 15 (.inl (z_getR 11 0 18)) := zs_p (ok_getR (inf := kI0) (C := RX11) (T := TX11) (N := 1) dX11_width_15 rfl (by decide) in_X11 (by decide) rfl rfl q621 rfl)
theorem ko0_18 : zSiteOK kInfo kI0 (kHd 0 18) 18 (.inl (z_inst 53 21)) := zs_p (ok_inst53 (inf := kI0) dX11_width_18 q319)
theorem ko0_21 : zSiteOK kInfo kI0 (kHd 0 21) 21 (.inl (z_ifeq 28 24)) := zs_p (ok_ifeq (inf := kI0) dX11_width_21 (by decide))
theorem ko0_24 : zSiteOK kInfo kI0 (kHd 0 24) 24 (.inl (z_push (.int (nI 1)) 25)) := zs_p (ok_iconst (inf := kI0) dX11_width_24 (by decide +kernel))
theorem ko0_25 : zSiteOK kInfo kI0 (kHd 0 25) 25 (.inl (z_goto 43)) := zs_p (ok_goto (inf := kI0) dX11_width_25 (by decide))
theorem ko0_28 : zSiteOK kInfo kI0 (kHd 0 28) 28 (.inl (z_aload 0 29)) := zs_p (ok_aload_n (inf := kI0) dX11_width_28 rfl)
theorem ko0_29 : zSiteOK kInfo kI0 (kHd 0 29) 29 (.inl (z_getR 11 0 32)) := zs_p (ok_getR (inf := kI0) (C := RX11) (T := TX11) (N := 1) dX11_width_29 rfl (by decide) in_X11 (by decide) rfl rfl q621 rfl)
theorem ko0_32 : zSiteOK kInfo kI0 (kHd 0 32) 32 (.inl (z_inst 50 35)) := zs_p (ok_inst50 (inf := kI0) dX11_width_32 q338)
theorem ko0_35 : zSiteOK kInfo kI0 (kHd 0 35) 35 (.inl (z_ifeq 42 38)) := zs_p (ok_ifeq (inf := kI0) dX11_width_35 (by decide))
theorem ko0_38 : zSiteOK kInfo kI0 (kHd 0 38) 38 (.inl (z_push (.int (nI 2)) 39)) := zs_p (ok_iconst (inf := kI0) dX11_width_38 (by decide +kernel))
theorem ko0_39 : zSiteOK kInfo kI0 (kHd 0 39) 39 (.inl (z_goto 43)) := zs_p (ok_goto (inf := kI0) dX11_width_39 (by decide))
theorem ko0_42 : zSiteOK kInfo kI0 (kHd 0 42) 42 (.inl (z_push (.int (nI 3)) 43)) := zs_p (ok_iconst (inf := kI0) dX11_width_42 (by decide +kernel))
theorem ko0_43 : zSiteOK kInfo kI0 (kHd 0 43) 43 (.inr (.inr 0)) := zs_r (show zROK kI0 43 0 from ⟨dX11_width_43, rfl⟩)
theorem kok0 (pc : Nat) (i : ZI) : kT0 pc = some i → zSiteOK kInfo kI0 (kHd 0 pc) pc i := (fun h => zbif h (fun h => zbif h (fun h => zbif h (fun h => zbif h (fun h => kleaf h ko0_0) (fun h => kleaf h ko0_1)) (fun h => zbif h (fun h => kleaf h ko0_4) (fun h => zbif h (fun h => kleaf h ko0_7) (fun h => kleaf h ko0_10)))) (fun h => zbif h (fun h => zbif h (fun h => kleaf h ko0_11) (fun h => kleaf h ko0_14)) (fun h => zbif h (fun h => kleaf h ko0_15) (fun h => zbif h (fun h => kleaf h ko0_18) (fun h => kleaf h ko0_21))))) (fun h => zbif h (fun h => zbif h (fun h => zbif h (fun h => kleaf h ko0_24) (fun h => kleaf h ko0_25)) (fun h => zbif h (fun h => kleaf h ko0_28) (fun h => zbif h (fun h => kleaf h ko0_29) (fun h => kleaf h ko0_32)))) (fun h => zbif h (fun h => zbif h (fun h => kleaf h ko0_35) (fun h => kleaf h ko0_38)) (fun h => zbif h (fun h => kleaf h ko0_39) (fun h => zbif h (fun h => kleaf h ko0_42) (fun h => kleaf h ko0_43))))))
theorem ko1_0 : zSiteOK kInfo kI1 (kHd 1 0) 0 (.inl (z_iload 1 1)) := zs_p (ok_iload_n (inf := kI1) dX11_begins_0 rfl)
theorem ko1_1 : zSiteOK kInfo kI1 (kHd 1 1) 1 (.inl (z_tsw [28, 38, 48] 58)) := zs_p (ok_tsw (inf := kI1) (hi := 2) dX11_begins_1 rfl (by decide) (fun j hj => match j, hj with | 0, _ => ⟨_, rfl, by decide⟩ | 1, _ => ⟨_, rfl, by decide⟩ | 2, _ => ⟨_, rfl, by decide⟩ | j + 3, hj => absurd hj (by omega)))
theorem ko1_28 : zSiteOK kInfo kI1 (kHd 1 28) 28 (.inl (z_aload 0 29)) := zs_p (ok_aload_n (inf := kI1) dX11_begins_28 rfl)
theorem ko1_29 : zSiteOK kInfo kI1 (kHd 1 29) 29 (.inl (z_iload 2 30)) := zs_p (ok_iload_n (inf := kI1) dX11_begins_29 rfl)
theorem ko1_30 : zSiteOK kInfo kI1 (kHd 1 30) 30 (.inl (z_newX 52 68 32)) := zs_p (ok_newX52 (inf := kI1) dX11_begins_30 rfl rfl (by decide) (by decide) q170)
theorem ko1_32 : zSiteOK kInfo kI1 (kHd 1 32) 32 (.inl (z_putR 11 0 35)) := zs_p (ok_putR (inf := kI1) (C := RX11) (T := TX11) (N := 1) dX11_begins_32 rfl (by decide) in_X11 (by decide) rfl rfl q621 rfl tyX11_ok nmX11 rfl (tyX11_ok 0 (by decide)) (Or.inl ⟨_, rfl⟩))
theorem ko1_35 : zSiteOK kInfo kI1 (kHd 1 35) 35 (.inl (z_goto 65)) := zs_p (ok_goto (inf := kI1) dX11_begins_35 (by decide))
theorem ko1_38 : zSiteOK kInfo kI1 (kHd 1 38) 38 (.inl (z_aload 0 39)) := zs_p (ok_aload_n (inf := kI1) dX11_begins_38 rfl)
theorem ko1_39 : zSiteOK kInfo kI1 (kHd 1 39) 39 (.inl (z_iload 2 40)) := zs_p (ok_iload_n (inf := kI1) dX11_begins_39 rfl)
theorem ko1_40 : zSiteOK kInfo kI1 (kHd 1 40) 40 (.inl (z_newX 53 68 42)) := zs_p (ok_newX53 (inf := kI1) dX11_begins_40 rfl rfl (by decide) (by decide) q170)
theorem ko1_42 : zSiteOK kInfo kI1 (kHd 1 42) 42 (.inl (z_putR 11 0 45)) := zs_p (ok_putR (inf := kI1) (C := RX11) (T := TX11) (N := 1) dX11_begins_42 rfl (by decide) in_X11 (by decide) rfl rfl q621 rfl tyX11_ok nmX11 rfl (tyX11_ok 0 (by decide)) (Or.inl ⟨_, rfl⟩))
theorem ko1_45 : zSiteOK kInfo kI1 (kHd 1 45) 45 (.inl (z_goto 65)) := zs_p (ok_goto (inf := kI1) dX11_begins_45 (by decide))
theorem ko1_48 : zSiteOK kInfo kI1 (kHd 1 48) 48 (.inl (z_aload 0 49)) := zs_p (ok_aload_n (inf := kI1) dX11_begins_48 rfl)
theorem ko1_49 : zSiteOK kInfo kI1 (kHd 1 49) 49 (.inl (z_iload 2 50)) := zs_p (ok_iload_n (inf := kI1) dX11_begins_49 rfl)
theorem ko1_50 : zSiteOK kInfo kI1 (kHd 1 50) 50 (.inl (z_newX 50 68 52)) := zs_p (ok_newX50 (inf := kI1) dX11_begins_50 rfl rfl (by decide) (by decide) q170)
theorem ko1_52 : zSiteOK kInfo kI1 (kHd 1 52) 52 (.inl (z_putR 11 0 55)) := zs_p (ok_putR (inf := kI1) (C := RX11) (T := TX11) (N := 1) dX11_begins_52 rfl (by decide) in_X11 (by decide) rfl rfl q621 rfl tyX11_ok nmX11 rfl (tyX11_ok 0 (by decide)) (Or.inl ⟨_, rfl⟩))
theorem ko1_55 : zSiteOK kInfo kI1 (kHd 1 55) 55 (.inl (z_goto 65)) := zs_p (ok_goto (inf := kI1) dX11_begins_55 (by decide))
theorem ko1_58 : zSiteOK kInfo kI1 (kHd 1 58) 58 (.inl (z_aload 0 59)) := zs_p (ok_aload_n (inf := kI1) dX11_begins_58 rfl)
theorem ko1_59 : zSiteOK kInfo kI1 (kHd 1 59) 59 (.inl (z_iload 2 60)) := zs_p (ok_iload_n (inf := kI1) dX11_begins_59 rfl)
theorem ko1_60 : zSiteOK kInfo kI1 (kHd 1 60) 60 (.inl (z_newX 51 68 62)) := zs_p (ok_newX51 (inf := kI1) dX11_begins_60 rfl rfl (by decide) (by decide) q170)
theorem ko1_62 : zSiteOK kInfo kI1 (kHd 1 62) 62 (.inl (z_putR 11 0 65)) := zs_p (ok_putR (inf := kI1) (C := RX11) (T := TX11) (N := 1) dX11_begins_62 rfl (by decide) in_X11 (by decide) rfl rfl q621 rfl tyX11_ok nmX11 rfl (tyX11_ok 0 (by decide)) (Or.inl ⟨_, rfl⟩))
theorem ko1_65 : zSiteOK kInfo kI1 (kHd 1 65) 65 (.inl (z_goto 71)) := zs_p (ok_goto (inf := kI1) dX11_begins_65 (by decide))
theorem ko1_68 : zSiteOK kInfo kI1 (kHd 1 68) 68 (.inl (z_astx 3 69)) := zs_p (ok_astx_n (inf := kI1) dX11_begins_68 rfl)
theorem ko1_69 : zSiteOK kInfo kI1 (kHd 1 69) 69 (.inl (z_push (.int (nI 0)) 70)) := zs_p (ok_iconst (inf := kI1) dX11_begins_69 (by decide +kernel))
theorem ko1_70 : zSiteOK kInfo kI1 (kHd 1 70) 70 (.inr (.inr 3)) := zs_r (show zROK kI1 70 3 from ⟨dX11_begins_70, rfl⟩)
theorem ko1_71 : zSiteOK kInfo kI1 (kHd 1 71) 71 (.inl (z_push (.int (nI 1)) 72)) := zs_p (ok_iconst (inf := kI1) dX11_begins_71 (by decide +kernel))
theorem ko1_72 : zSiteOK kInfo kI1 (kHd 1 72) 72 (.inr (.inr 3)) := zs_r (show zROK kI1 72 3 from ⟨dX11_begins_72, rfl⟩)
theorem kok1 (pc : Nat) (i : ZI) : kT1 pc = some i → zSiteOK kInfo kI1 (kHd 1 pc) pc i := (fun h => zbif h (fun h => zbif h (fun h => zbif h (fun h => zbif h (fun h => kleaf h ko1_0) (fun h => zbif h (fun h => kleaf h ko1_1) (fun h => kleaf h ko1_28))) (fun h => zbif h (fun h => kleaf h ko1_29) (fun h => zbif h (fun h => kleaf h ko1_30) (fun h => kleaf h ko1_32)))) (fun h => zbif h (fun h => zbif h (fun h => kleaf h ko1_35) (fun h => zbif h (fun h => kleaf h ko1_38) (fun h => kleaf h ko1_39))) (fun h => zbif h (fun h => zbif h (fun h => kleaf h ko1_40) (fun h => kleaf h ko1_42)) (fun h => zbif h (fun h => kleaf h ko1_45) (fun h => kleaf h ko1_48))))) (fun h => zbif h (fun h => zbif h (fun h => zbif h (fun h => kleaf h ko1_49) (fun h => zbif h (fun h => kleaf h ko1_50) (fun h => kleaf h ko1_52))) (fun h => zbif h (fun h => zbif h (fun h => kleaf h ko1_55) (fun h => kleaf h ko1_58)) (fun h => zbif h (fun h => kleaf h ko1_59) (fun h => kleaf h ko1_60)))) (fun h => zbif h (fun h => zbif h (fun h => kleaf h ko1_62) (fun h => zbif h (fun h => kleaf h ko1_65) (fun h => kleaf h ko1_68))) (fun h => zbif h (fun h => zbif h (fun h => kleaf h ko1_69) (fun h => kleaf h ko1_70)) (fun h => zbif h (fun h => kleaf h ko1_71) (fun h => kleaf h ko1_72))))))
theorem ko2_0 : zSiteOK kInfo kI2 (kHd 2 0) 0 (.inl (z_aload 0 1)) := zs_p (ok_aload_n (inf := kI2) dX11_pastes_0 rfl)
theorem ko2_1 : zSiteOK kInfo kI2 (kHd 2 1) 1 (.inl (z_getR 11 0 4)) := zs_p (ok_getR (inf := kI2) (C := RX11) (T := TX11) (N := 1) dX11_pastes_1 rfl (by decide) in_X11 (by decide) rfl rfl q621 rfl)
theorem ko2_4 : zSiteOK kInfo kI2 (kHd 2 4) 4 (.inl (z_ifnull 14 7)) := zs_p (ok_ifnull (inf := kI2) dX11_pastes_4 (by decide))
theorem ko2_7 : zSiteOK kInfo kI2 (kHd 2 7) 7 (.inl (z_aload 2 8)) := zs_p (ok_aload_n (inf := kI2) dX11_pastes_7 rfl)
theorem ko2_8 : zSiteOK kInfo kI2 (kHd 2 8) 8 (.inl (z_getR 11 0 11)) := zs_p (ok_getR (inf := kI2) (C := RX11) (T := TX11) (N := 1) dX11_pastes_8 rfl (by decide) in_X11 (by decide) rfl rfl q621 rfl)
theorem ko2_11 : zSiteOK kInfo kI2 (kHd 2 11) 11 (.inl (z_ifnon 17 14)) := zs_p (ok_ifnon (inf := kI2) dX11_pastes_11 (by decide))
theorem ko2_14 : zSiteOK kInfo kI2 (kHd 2 14) 14 (.inl (z_push (.int (-6)) 16)) := zs_p (ok_bipush (inf := kI2) dX11_pastes_14 (by decide +kernel))
theorem ko2_16 : zSiteOK kInfo kI2 (kHd 2 16) 16 (.inr (.inr 0)) := zs_r (show zROK kI2 16 0 from ⟨dX11_pastes_16, rfl⟩)
theorem ko2_17 : zSiteOK kInfo kI2 (kHd 2 17) 17 (.inl (z_aload 0 18)) := zs_p (ok_aload_n (inf := kI2) dX11_pastes_17 rfl)
theorem ko2_18 : zSiteOK kInfo kI2 (kHd 2 18) 18 (.inr (.inl (21, sV0 11 0))) := zs_c rfl (cok_V (inf := kI2) (n := 0) (C := RX11) (T := TX11) (N := 1) dX11_pastes_18 rfl (by decide) rfl selV0 q349 q351 qs4 q125 q352 rfl (by decide +kernel))
theorem ko2_21 : zSiteOK kInfo kI2 (kHd 2 21) 21 (.inl (z_aload 2 22)) := zs_p (ok_aload_n (inf := kI2) dX11_pastes_21 rfl)
theorem ko2_22 : zSiteOK kInfo kI2 (kHd 2 22) 22 (.inr (.inl (25, sV0 11 0))) := zs_c rfl (cok_V (inf := kI2) (n := 0) (C := RX11) (T := TX11) (N := 1) dX11_pastes_22 rfl (by decide) rfl selV0 q349 q351 qs4 q125 q352 rfl (by decide +kernel))
theorem ko2_25 : zSiteOK kInfo kI2 (kHd 2 25) 25 (.inl (z_iceq 31 28)) := zs_p (ok_iceq (inf := kI2) dX11_pastes_25 (by decide))
theorem ko2_28 : zSiteOK kInfo kI2 (kHd 2 28) 28 (.inl (z_push (.int (-8)) 30)) := zs_p (ok_bipush (inf := kI2) dX11_pastes_28 (by decide +kernel))
theorem ko2_30 : zSiteOK kInfo kI2 (kHd 2 30) 30 (.inr (.inr 0)) := zs_r (show zROK kI2 30 0 from ⟨dX11_pastes_30, rfl⟩)
theorem ko2_31 : zSiteOK kInfo kI2 (kHd 2 31) 31 (.inl (z_aload 0 32)) := zs_p (ok_aload_n (inf := kI2) dX11_pastes_31 rfl)
theorem ko2_32 : zSiteOK kInfo kI2 (kHd 2 32) 32 (.inl (z_getR 11 0 35)) := zs_p (ok_getR (inf := kI2) (C := RX11) (T := TX11) (N := 1) dX11_pastes_32 rfl (by decide) in_X11 (by decide) rfl rfl q621 rfl)
theorem ko2_35 : zSiteOK kInfo kI2 (kHd 2 35) 35 (.inl (z_iload 1 36)) := zs_p (ok_iload_n (inf := kI2) dX11_pastes_35 rfl)
theorem ko2_36 : zSiteOK kInfo kI2 (kHd 2 36) 36 (.inl (z_aload 2 37)) := zs_p (ok_aload_n (inf := kI2) dX11_pastes_36 rfl)
theorem ko2_37 : zSiteOK kInfo kI2 (kHd 2 37) 37 (.inl (z_getR 11 0 40)) := zs_p (ok_getR (inf := kI2) (C := RX11) (T := TX11) (N := 1) dX11_pastes_37 rfl (by decide) in_X11 (by decide) rfl rfl q621 rfl)
theorem ko2_40 : zSiteOK kInfo kI2 (kHd 2 40) 40 (.inl (z_iload 3 41)) := zs_p (ok_iload_n (inf := kI2) dX11_pastes_40 rfl)
theorem ko2_41 : zSiteOK kInfo kI2 (kHd 2 41) 41 (.inl (z_iload 4 43)) := zs_p (ok_iload (inf := kI2) dX11_pastes_41)
theorem ko2_43 : zSiteOK kInfo kI2 (kHd 2 43) 43 (.inl (z_cpyX 49 46)) := zs_p (ok_cpyX (inf := kI2) dX11_pastes_43 rfl rfl (by decide) (by decide) q348 q353)
theorem ko2_46 : zSiteOK kInfo kI2 (kHd 2 46) 46 (.inl (z_goto 54)) := zs_p (ok_goto (inf := kI2) dX11_pastes_46 (by decide))
theorem ko2_49 : zSiteOK kInfo kI2 (kHd 2 49) 49 (.inl (z_astx 5 51)) := zs_p (ok_astx (inf := kI2) dX11_pastes_49)
theorem ko2_51 : zSiteOK kInfo kI2 (kHd 2 51) 51 (.inl (z_push (.int (-7)) 53)) := zs_p (ok_bipush (inf := kI2) dX11_pastes_51 (by decide +kernel))
theorem ko2_53 : zSiteOK kInfo kI2 (kHd 2 53) 53 (.inr (.inr 0)) := zs_r (show zROK kI2 53 0 from ⟨dX11_pastes_53, rfl⟩)
theorem ko2_54 : zSiteOK kInfo kI2 (kHd 2 54) 54 (.inl (z_push (.int (nI 0)) 55)) := zs_p (ok_iconst (inf := kI2) dX11_pastes_54 (by decide +kernel))
theorem ko2_55 : zSiteOK kInfo kI2 (kHd 2 55) 55 (.inr (.inr 0)) := zs_r (show zROK kI2 55 0 from ⟨dX11_pastes_55, rfl⟩)
theorem kok2 (pc : Nat) (i : ZI) : kT2 pc = some i → zSiteOK kInfo kI2 (kHd 2 pc) pc i := (fun h => zbif h (fun h => zbif h (fun h => zbif h (fun h => zbif h (fun h => kleaf h ko2_0) (fun h => zbif h (fun h => kleaf h ko2_1) (fun h => kleaf h ko2_4))) (fun h => zbif h (fun h => zbif h (fun h => kleaf h ko2_7) (fun h => kleaf h ko2_8)) (fun h => zbif h (fun h => kleaf h ko2_11) (fun h => kleaf h ko2_14)))) (fun h => zbif h (fun h => zbif h (fun h => kleaf h ko2_16) (fun h => zbif h (fun h => kleaf h ko2_17) (fun h => kleaf h ko2_18))) (fun h => zbif h (fun h => zbif h (fun h => kleaf h ko2_21) (fun h => kleaf h ko2_22)) (fun h => zbif h (fun h => kleaf h ko2_25) (fun h => kleaf h ko2_28))))) (fun h => zbif h (fun h => zbif h (fun h => zbif h (fun h => kleaf h ko2_30) (fun h => zbif h (fun h => kleaf h ko2_31) (fun h => kleaf h ko2_32))) (fun h => zbif h (fun h => zbif h (fun h => kleaf h ko2_35) (fun h => kleaf h ko2_36)) (fun h => zbif h (fun h => kleaf h ko2_37) (fun h => kleaf h ko2_40)))) (fun h => zbif h (fun h => zbif h (fun h => zbif h (fun h => kleaf h ko2_41) (fun h => kleaf h ko2_43)) (fun h => zbif h (fun h => kleaf h ko2_46) (fun h => kleaf h ko2_49))) (fun h => zbif h (fun h => zbif h (fun h => kleaf h ko2_51) (fun h => kleaf h ko2_53)) (fun h => zbif h (fun h => kleaf h ko2_54) (fun h => kleaf h ko2_55))))))
theorem ko3_0 : zSiteOK kInfo kI3 (kHd 3 0) 0 (.inl (z_aload 0 1)) := zs_p (ok_aload_n (inf := kI3) dX11_puts_0 rfl)
theorem ko3_1 : zSiteOK kInfo kI3 (kHd 3 1) 1 (.inl (z_iload 1 2)) := zs_p (ok_iload_n (inf := kI3) dX11_puts_1 rfl)
theorem ko3_2 : zSiteOK kInfo kI3 (kHd 3 2) 2 (.inl (z_lload 2 3)) := zs_p (ok_lload_n (inf := kI3) dX11_puts_2 rfl)
theorem ko3_3 : zSiteOK kInfo kI3 (kHd 3 3) 3 (.inl (z_putX 9 14 6)) := zs_p (ok_putX (inf := kI3) dX11_puts_3 rfl (by decide +kernel) rfl q313 q269 q294)
theorem ko3_6 : zSiteOK kInfo kI3 (kHd 3 6) 6 (.inl (z_goto 19)) := zs_p (ok_goto (inf := kI3) dX11_puts_6 (by decide))
theorem ko3_9 : zSiteOK kInfo kI3 (kHd 3 9) 9 (.inl (z_astx 4 11)) := zs_p (ok_astx (inf := kI3) dX11_puts_9)
theorem ko3_11 : zSiteOK kInfo kI3 (kHd 3 11) 11 (.inl (z_push (.int (-6)) 13)) := zs_p (ok_bipush (inf := kI3) dX11_puts_11 (by decide +kernel))
theorem ko3_13 : zSiteOK kInfo kI3 (kHd 3 13) 13 (.inr (.inr 0)) := zs_r (show zROK kI3 13 0 from ⟨dX11_puts_13, rfl⟩)
theorem ko3_14 : zSiteOK kInfo kI3 (kHd 3 14) 14 (.inl (z_astx 4 16)) := zs_p (ok_astx (inf := kI3) dX11_puts_14)
theorem ko3_16 : zSiteOK kInfo kI3 (kHd 3 16) 16 (.inl (z_push (.int (-7)) 18)) := zs_p (ok_bipush (inf := kI3) dX11_puts_16 (by decide +kernel))
theorem ko3_18 : zSiteOK kInfo kI3 (kHd 3 18) 18 (.inr (.inr 0)) := zs_r (show zROK kI3 18 0 from ⟨dX11_puts_18, rfl⟩)
theorem ko3_19 : zSiteOK kInfo kI3 (kHd 3 19) 19 (.inl (z_push (.int (nI 0)) 20)) := zs_p (ok_iconst (inf := kI3) dX11_puts_19 (by decide +kernel))
theorem ko3_20 : zSiteOK kInfo kI3 (kHd 3 20) 20 (.inr (.inr 0)) := zs_r (show zROK kI3 20 0 from ⟨dX11_puts_20, rfl⟩)
theorem kok3 (pc : Nat) (i : ZI) : kT3 pc = some i → zSiteOK kInfo kI3 (kHd 3 pc) pc i := (fun h => zbif h (fun h => zbif h (fun h => zbif h (fun h => kleaf h ko3_0) (fun h => zbif h (fun h => kleaf h ko3_1) (fun h => kleaf h ko3_2))) (fun h => zbif h (fun h => kleaf h ko3_3) (fun h => zbif h (fun h => kleaf h ko3_6) (fun h => kleaf h ko3_9)))) (fun h => zbif h (fun h => zbif h (fun h => kleaf h ko3_11) (fun h => zbif h (fun h => kleaf h ko3_13) (fun h => kleaf h ko3_14))) (fun h => zbif h (fun h => zbif h (fun h => kleaf h ko3_16) (fun h => kleaf h ko3_18)) (fun h => zbif h (fun h => kleaf h ko3_19) (fun h => kleaf h ko3_20)))))
theorem kAllSites (k pc : Nat) (i : ZI) : kTab k pc = some i → zSiteOK kInfo (kInfo k) (kHd k pc) pc i := (fun h => zbif h (fun h => zbif h (fun h => zleafK (pc := pc) (P := fun k => zSiteOK kInfo (kInfo k) (kHd k pc) pc i) h (kok0 pc i)) (fun h => zleafK (pc := pc) (P := fun k => zSiteOK kInfo (kInfo k) (kHd k pc) pc i) h (kok1 pc i))) (fun h => zbif h (fun h => zleafK (pc := pc) (P := fun k => zSiteOK kInfo (kInfo k) (kHd k pc) pc i) h (kok2 pc i)) (fun h => zleafK (pc := pc) (P := fun k => zSiteOK kInfo (kInfo k) (kHd k pc) pc i) h (kok3 pc i))))
theorem kTabLt (k pc : Nat) (i : ZI) : kTab k pc = some i → k < 4 := (fun h => zbif h (fun h => zbif h (fun h => zleafK (pc := pc) (P := fun k => k < 4) h (fun _ => Nat.le_of_ble_eq_true rfl)) (fun h => zleafK (pc := pc) (P := fun k => k < 4) h (fun _ => Nat.le_of_ble_eq_true rfl))) (fun h => zbif h (fun h => zleafK (pc := pc) (P := fun k => k < 4) h (fun _ => Nat.le_of_ble_eq_true rfl)) (fun h => zleafK (pc := pc) (P := fun k => k < 4) h (fun _ => Nat.le_of_ble_eq_true rfl))))
theorem kInfoOK : ∀ k, k < 4 → (((kInfo k).2.2.1 = kMl k ∧ plainName (kInfo k).2.1.cls = true ∧ kMl k ≤ 20) ∧ zMain (kInfo k) = false ∧ 27 + zLev (kInfo k) ≤ 31) := by decide +kernel
theorem kIOK {k pc : Nat} {i : ZI} (h : zK.1 k pc = some i) : zIOK zK 31 kInfo k := by
  have h0 := kInfoOK k (kTabLt k pc i h)
  exact ⟨h0.1.1, h0.1.2.1, h0.1.2.2, by decide, (fun hm => by rw [h0.2.1] at hm; cases hm), fun _ => h0.2.2⟩
theorem zSK : ∀ n, zBody zK 31 kInfo n := zSound zK 31 kInfo (fun k pc i h => kIOK h) (fun k pc i h => kAllSites k pc i h) q844

