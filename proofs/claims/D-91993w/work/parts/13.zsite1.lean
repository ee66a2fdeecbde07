set_option maxRecDepth 100000
section ZSITE
variable {d : Nat} {st : List Value} {z : ZH} {Q : ZQ}
/-- X0_row (III)I -/
theorem e0 {r0 : Nat} {v0 : Int32} {v1 : Int32} {v2 : Int32} : ZC zG d 0 [.ref r0, .int v0, .int v1, .int v2] z Q = ZW zG d 0 0 [.ref r0, .int v0, .int v1, .int v2] [] z Q := rfl
theorem s0_0 {x0 x2 x3 : Value} {a : Int32} : ZW zG d 0 0 [x0, .int a, x2, x3] st z Q = ZW zG d 0 1 [x0, .int a, x2, x3] (.int a :: st) z Q := zw_next (f := z_iload 1 1) rfl rfl
theorem s0_1 {ls : List Value} {w0 : Int32} : ZW zG (d + 1) 0 1 ls (.int w0 :: st) z Q = (zcs st = true ∧ ZC zG d 1 [.int w0] z (zk zG (d + 1) 0 (none) 4 ls st Q)) := zc_S1 rfl (Nat.le_of_ble_eq_true rfl)
theorem s0_4 {ls : List Value} {a : Int32} : ZW zG d 0 4 ls (.int a :: st) z Q = if a = 0 then ZW zG d 0 25 ls st z Q else ZW zG d 0 7 ls st z Q := zw_ifeq rfl
theorem s0_7 {x0 x1 x3 : Value} {a : Int32} : ZW zG d 0 7 [x0, x1, .int a, x3] st z Q = ZW zG d 0 8 [x0, x1, .int a, x3] (.int a :: st) z Q := zw_next (f := z_iload 2 8) rfl rfl
theorem s0_8 {ls : List Value} {a : Int32} : ZW zG d 0 8 ls (.int a :: st) z Q = ZW zG d 0 9 ls (.long a.toInt64 :: st) z Q := zw_i2l rfl
theorem s0_9 {ls : List Value}  : ZW zG d 0 9 ls (st) z Q = ZW zG d 0 10 ls ((.long (lN 0)) :: st) z Q := zw_push rfl
theorem s0_10 {ls : List Value}  : ZW zG d 0 10 ls (st) z Q = ZW zG d 0 13 ls ((.long (lN 3)) :: st) z Q := zw_push rfl
theorem s0_13 {ls : List Value} {w0 : Int64} {w1 : Int64} {w2 : Int64} : ZW zG (d + 1) 0 13 ls (.long w2 :: .long w1 :: .long w0 :: st) z Q = (zcs st = true ∧ ZC zG d 2 [.long w0, .long w1, .long w2] z (zk zG (d + 1) 0 (none) 16 ls st Q)) := zc_S3 rfl (Nat.le_of_ble_eq_true rfl)
theorem s0_16 {ls : List Value} {a : Int32} : ZW zG d 0 16 ls (.int a :: st) z Q = if a = 0 then ZW zG d 0 25 ls st z Q else ZW zG d 0 19 ls st z Q := zw_ifeq rfl
theorem s0_19 {x0 x1 x2 : Value} {a : Int32} : ZW zG d 0 19 [x0, x1, x2, .int a] st z Q = ZW zG d 0 20 [x0, x1, x2, .int a] (.int a :: st) z Q := zw_next (f := z_iload 3 20) rfl rfl
theorem s0_20 {ls : List Value}  : ZW zG d 0 20 ls (st) z Q = ZW zG d 0 22 ls ((.int (nI 60)) :: st) z Q := zw_push rfl
theorem s0_22 {ls : List Value} {a b : Int32} : ZW zG d 0 22 ls (.int b :: .int a :: st) z Q = if a ≤ b then ZW zG d 0 28 ls st z Q else ZW zG d 0 25 ls st z Q := zw_icle rfl
theorem s0_25 {ls : List Value}  : ZW zG d 0 25 ls (st) z Q = ZW zG d 0 27 ls ((.int (-2)) :: st) z Q := zw_push rfl
theorem s0_27 {ls : List Value} {a : Int32} : ZW zG d 0 27 ls ([.int a]) z Q = Q (.inl (some (.int a))) z := zw_reti rfl
theorem s0_28 {x0 x1 x2 x3 : Value} : ZW zG d 0 28 [x0, x1, x2, x3] st z Q = (zir x0 = true ∧ ZW zG d 0 29 [x0, x1, x2, x3] (x0 :: st) z Q) := zw_cond (f := z_aload 0 29) rfl rfl
theorem s0_29 {ls : List Value} {r : Nat} : ZW zG d 0 29 ls (.ref r :: st) z Q = ((zcls z r = 0 ∧ zir (zfr z r 0) = true) ∧ ZW zG d 0 32 ls (zfr z r 0 :: st) (z) Q) := zw_getR rfl
theorem s0_32 {x0 x2 x3 : Value} {a : Int32} : ZW zG d 0 32 [x0, .int a, x2, x3] st z Q = ZW zG d 0 33 [x0, .int a, x2, x3] (.int a :: st) z Q := zw_next (f := z_iload 1 33) rfl rfl
theorem s0_33 {ls : List Value} {a : Int32} {r : Nat} : ZW zG d 0 33 ls (.int a :: .ref r :: st) z Q = ((zcls z r = 60 ∧ zin a (zlen z r) = true ∧ zir (zra z r (zx a)) = true) ∧ ZW zG d 0 34 ls (zra z r (zx a) :: st) (z) Q) := zw_aald rfl
theorem s0_34 {x0 x1 x3 : Value} {a : Int32} : ZW zG d 0 34 [x0, x1, .int a, x3] st z Q = ZW zG d 0 35 [x0, x1, .int a, x3] (.int a :: st) z Q := zw_next (f := z_iload 2 35) rfl rfl
theorem s0_35 {x0 x1 x2 : Value} {a : Int32} : ZW zG d 0 35 [x0, x1, x2, .int a] st z Q = ZW zG d 0 36 [x0, x1, x2, .int a] (.int a :: st) z Q := zw_next (f := z_iload 3 36) rfl rfl
theorem s0_36 {ls : List Value} {r : Nat} {a b : Int32} (hs : zcs st = true) (hb : b ≤ 1000) (hc : zcls z r = 11) : ZW zG d 0 36 ls (.int b :: .int a :: .ref r :: st) z Q = if b < 0 then ZW zG d 0 39 ls (.int 0 :: st) (spay z 20 400) Q else ZW zG d 0 39 ls (.int 1 :: st) (sfr (sarr z (zwk a) (zx b)) r 0 (.ref (zn z))) Q := zw_begins rfl hs hb hc
theorem s0_39 {ls : List Value} {a : Int32} : ZW zG d 0 39 ls (.int a :: st) z Q = if a = 0 then ZW zG d 0 46 ls st z Q else ZW zG d 0 42 ls st z Q := zw_ifeq rfl
theorem s0_42 {ls : List Value}  : ZW zG d 0 42 ls (st) z Q = ZW zG d 0 43 ls ((.int (nI 0)) :: st) z Q := zw_push rfl
theorem s0_43 {ls : List Value}  : ZW zG d 0 43 ls (st) z Q = ZW zG d 0 48 ls st z Q := zw_goto rfl
theorem s0_46 {ls : List Value}  : ZW zG d 0 46 ls (st) z Q = ZW zG d 0 48 ls ((.int (-3)) :: st) z Q := zw_push rfl
theorem s0_48 {ls : List Value} {a : Int32} : ZW zG d 0 48 ls ([.int a]) z Q = Q (.inl (some (.int a))) z := zw_reti rfl
/-- X0_isSlot (I)Z -/
theorem e1 {v0 : Int32} : ZC zG d 1 [.int v0] z Q = ZW zG d 1 0 [.int v0] [] z Q := rfl
theorem s1_0 {a : Int32} : ZW zG d 1 0 [.int a] st z Q = ZW zG d 1 1 [.int a] (.int a :: st) z Q := zw_next (f := z_iload 0 1) rfl rfl
theorem s1_1 {ls : List Value} {a : Int32} : ZW zG d 1 1 ls (.int a :: st) z Q = ZW zG d 1 2 ls (.long a.toInt64 :: st) z Q := zw_i2l rfl
theorem s1_2 {ls : List Value}  : ZW zG d 1 2 ls (st) z Q = ZW zG d 1 3 ls ((.long (lN 0)) :: st) z Q := zw_push rfl
theorem s1_3 {ls : List Value}  : ZW zG d 1 3 ls (st) z Q = ZW zG d 1 6 ls ((.long (lN 3)) :: st) z Q := zw_push rfl
theorem s1_6 {ls : List Value} {w0 : Int64} {w1 : Int64} {w2 : Int64} : ZW zG (d + 1) 1 6 ls (.long w2 :: .long w1 :: .long w0 :: st) z Q = (zcs st = true ∧ ZC zG d 2 [.long w0, .long w1, .long w2] z (zk zG (d + 1) 1 (none) 9 ls st Q)) := zc_S3 rfl (Nat.le_of_ble_eq_true rfl)
theorem s1_9 {ls : List Value} {a : Int32} : ZW zG d 1 9 ls ([.int a]) z Q = ((a = 0 ∨ a = 1) ∧ Q (.inl (some (.int a))) z) := zw_retz rfl
/-- X0_in (JJJ)Z -/
theorem e2 {v0 : Int64} {v1 : Int64} {v2 : Int64} : ZC zG d 2 [.long v0, .long v1, .long v2] z Q = ZW zG d 2 0 [.long v0, zdum, .long v1, zdum, .long v2, zdum] [] z Q := rfl
theorem s2_0 {x1 x2 x3 x4 x5 : Value} {a : Int64} : ZW zG d 2 0 [.long a, x1, x2, x3, x4, x5] st z Q = ZW zG d 2 1 [.long a, x1, x2, x3, x4, x5] (.long a :: st) z Q := zw_next (f := z_lload 0 1) rfl rfl
theorem s2_1 {x0 x1 x3 x4 x5 : Value} {a : Int64} : ZW zG d 2 1 [x0, x1, .long a, x3, x4, x5] st z Q = ZW zG d 2 2 [x0, x1, .long a, x3, x4, x5] (.long a :: st) z Q := zw_next (f := z_lload 2 2) rfl rfl
theorem s2_2 {ls : List Value} {x y : Int64} : ZW zG d 2 2 ls (.long y :: .long x :: st) z Q = ZW zG d 2 3 ls (.int (lg_cmp x y) :: st) z Q := zw_lcmp rfl
theorem s2_3 {ls : List Value} {a : Int32} : ZW zG d 2 3 ls (.int a :: st) z Q = if a < 0 then ZW zG d 2 17 ls st z Q else ZW zG d 2 6 ls st z Q := zw_iflt rfl
theorem s2_6 {x1 x2 x3 x4 x5 : Value} {a : Int64} : ZW zG d 2 6 [.long a, x1, x2, x3, x4, x5] st z Q = ZW zG d 2 7 [.long a, x1, x2, x3, x4, x5] (.long a :: st) z Q := zw_next (f := z_lload 0 7) rfl rfl
theorem s2_7 {x0 x1 x2 x3 x5 : Value} {a : Int64} : ZW zG d 2 7 [x0, x1, x2, x3, .long a, x5] st z Q = ZW zG d 2 9 [x0, x1, x2, x3, .long a, x5] (.long a :: st) z Q := zw_next (f := z_lload 4 9) rfl rfl
theorem s2_9 {ls : List Value} {x y : Int64} : ZW zG d 2 9 ls (.long y :: .long x :: st) z Q = ZW zG d 2 10 ls (.int (lg_cmp x y) :: st) z Q := zw_lcmp rfl
theorem s2_10 {ls : List Value} {a : Int32} : ZW zG d 2 10 ls (.int a :: st) z Q = if 0 < a then ZW zG d 2 17 ls st z Q else ZW zG d 2 13 ls st z Q := zw_ifgt rfl
theorem s2_13 {ls : List Value}  : ZW zG d 2 13 ls (st) z Q = ZW zG d 2 14 ls ((.int (nI 1)) :: st) z Q := zw_push rfl
theorem s2_14 {ls : List Value}  : ZW zG d 2 14 ls (st) z Q = ZW zG d 2 18 ls st z Q := zw_goto rfl
theorem s2_17 {ls : List Value}  : ZW zG d 2 17 ls (st) z Q = ZW zG d 2 18 ls ((.int (nI 0)) :: st) z Q := zw_push rfl
theorem s2_18 {ls : List Value} {a : Int32} : ZW zG d 2 18 ls ([.int a]) z Q = ((a = 0 ∨ a = 1) ∧ Q (.inl (some (.int a))) z) := zw_retz rfl
/-- X0_write (IIJ)I -/
theorem e3 {r0 : Nat} {v0 : Int32} {v1 : Int32} {v2 : Int64} : ZC zG d 3 [.ref r0, .int v0, .int v1, .long v2] z Q = ZW zG d 3 0 [.ref r0, .int v0, .int v1, .long v2, zdum] [] z Q := rfl
theorem s3_0 {x0 x2 x3 x4 : Value} {a : Int32} : ZW zG d 3 0 [x0, .int a, x2, x3, x4] st z Q = ZW zG d 3 1 [x0, .int a, x2, x3, x4] (.int a :: st) z Q := zw_next (f := z_iload 1 1) rfl rfl
theorem s3_1 {ls : List Value} {w0 : Int32} : ZW zG (d + 1) 3 1 ls (.int w0 :: st) z Q = (zcs st = true ∧ ZC zG d 1 [.int w0] z (zk zG (d + 1) 3 (none) 4 ls st Q)) := zc_S1 rfl (Nat.le_of_ble_eq_true rfl)
theorem s3_4 {ls : List Value} {a : Int32} : ZW zG d 3 4 ls (.int a :: st) z Q = if a = 0 then ZW zG d 3 21 ls st z Q else ZW zG d 3 7 ls st z Q := zw_ifeq rfl
theorem s3_7 {x0 x1 x2 x3 x4 : Value} : ZW zG d 3 7 [x0, x1, x2, x3, x4] st z Q = (zir x0 = true ∧ ZW zG d 3 8 [x0, x1, x2, x3, x4] (x0 :: st) z Q) := zw_cond (f := z_aload 0 8) rfl rfl
theorem s3_8 {ls : List Value} {r : Nat} : ZW zG d 3 8 ls (.ref r :: st) z Q = ((zcls z r = 0 ∧ zir (zfr z r 0) = true) ∧ ZW zG d 3 11 ls (zfr z r 0 :: st) (z) Q) := zw_getR rfl
theorem s3_11 {x0 x2 x3 x4 : Value} {a : Int32} : ZW zG d 3 11 [x0, .int a, x2, x3, x4] st z Q = ZW zG d 3 12 [x0, .int a, x2, x3, x4] (.int a :: st) z Q := zw_next (f := z_iload 1 12) rfl rfl
theorem s3_12 {ls : List Value} {a : Int32} {r : Nat} : ZW zG d 3 12 ls (.int a :: .ref r :: st) z Q = ((zcls z r = 60 ∧ zin a (zlen z r) = true ∧ zir (zra z r (zx a)) = true) ∧ ZW zG d 3 13 ls (zra z r (zx a) :: st) (z) Q) := zw_aald rfl
theorem s3_13 {x0 x1 x3 x4 : Value} {a : Int32} : ZW zG d 3 13 [x0, x1, .int a, x3, x4] st z Q = ZW zG d 3 14 [x0, x1, .int a, x3, x4] (.int a :: st) z Q := zw_next (f := z_iload 2 14) rfl rfl
theorem s3_14 {x0 x1 x2 x4 : Value} {a : Int64} : ZW zG d 3 14 [x0, x1, x2, .long a, x4] st z Q = ZW zG d 3 15 [x0, x1, x2, .long a, x4] (.long a :: st) z Q := zw_next (f := z_lload 3 15) rfl rfl
theorem s3_15 {ls : List Value} {a : Int32} {x : Int64} {r : Nat} : ZW zG d 3 15 ls (.long x :: .int a :: .ref r :: st) z Q = ((zcs st = true ∧ zheldB z r = true) ∧ ZW zG d 3 18 ls (.int (zputs z r a x).1 :: st) ((zputs z r a x).2) Q) := zw_puts rfl
theorem s3_18 {ls : List Value}  : ZW zG d 3 18 ls (st) z Q = ZW zG d 3 23 ls st z Q := zw_goto rfl
theorem s3_21 {ls : List Value}  : ZW zG d 3 21 ls (st) z Q = ZW zG d 3 23 ls ((.int (-2)) :: st) z Q := zw_push rfl
theorem s3_23 {ls : List Value} {a : Int32} : ZW zG d 3 23 ls ([.int a]) z Q = Q (.inl (some (.int a))) z := zw_reti rfl
/-- X0_paste (IIIII)I -/
theorem e4 {r0 : Nat} {v0 : Int32} {v1 : Int32} {v2 : Int32} {v3 : Int32} {v4 : Int32} : ZC zG d 4 [.ref r0, .int v0, .int v1, .int v2, .int v3, .int v4] z Q = ZW zG d 4 0 [.ref r0, .int v0, .int v1, .int v2, .int v3, .int v4] [] z Q := rfl
theorem s4_0 {x0 x2 x3 x4 x5 : Value} {a : Int32} : ZW zG d 4 0 [x0, .int a, x2, x3, x4, x5] st z Q = ZW zG d 4 1 [x0, .int a, x2, x3, x4, x5] (.int a :: st) z Q := zw_next (f := z_iload 1 1) rfl rfl
theorem s4_1 {ls : List Value} {w0 : Int32} : ZW zG (d + 1) 4 1 ls (.int w0 :: st) z Q = (zcs st = true ∧ ZC zG d 1 [.int w0] z (zk zG (d + 1) 4 (none) 4 ls st Q)) := zc_S1 rfl (Nat.le_of_ble_eq_true rfl)
theorem s4_4 {ls : List Value} {a : Int32} : ZW zG d 4 4 ls (.int a :: st) z Q = if a = 0 then ZW zG d 4 37 ls st z Q else ZW zG d 4 7 ls st z Q := zw_ifeq rfl
theorem s4_7 {x0 x1 x2 x4 x5 : Value} {a : Int32} : ZW zG d 4 7 [x0, x1, x2, .int a, x4, x5] st z Q = ZW zG d 4 8 [x0, x1, x2, .int a, x4, x5] (.int a :: st) z Q := zw_next (f := z_iload 3 8) rfl rfl
theorem s4_8 {ls : List Value} {w0 : Int32} : ZW zG (d + 1) 4 8 ls (.int w0 :: st) z Q = (zcs st = true ∧ ZC zG d 1 [.int w0] z (zk zG (d + 1) 4 (none) 11 ls st Q)) := zc_S1 rfl (Nat.le_of_ble_eq_true rfl)
theorem s4_11 {ls : List Value} {a : Int32} : ZW zG d 4 11 ls (.int a :: st) z Q = if a = 0 then ZW zG d 4 37 ls st z Q else ZW zG d 4 14 ls st z Q := zw_ifeq rfl
theorem s4_14 {x0 x1 x2 x3 x4 x5 : Value} : ZW zG d 4 14 [x0, x1, x2, x3, x4, x5] st z Q = (zir x0 = true ∧ ZW zG d 4 15 [x0, x1, x2, x3, x4, x5] (x0 :: st) z Q) := zw_cond (f := z_aload 0 15) rfl rfl
theorem s4_15 {ls : List Value} {r : Nat} : ZW zG d 4 15 ls (.ref r :: st) z Q = ((zcls z r = 0 ∧ zir (zfr z r 0) = true) ∧ ZW zG d 4 18 ls (zfr z r 0 :: st) (z) Q) := zw_getR rfl
theorem s4_18 {x0 x2 x3 x4 x5 : Value} {a : Int32} : ZW zG d 4 18 [x0, .int a, x2, x3, x4, x5] st z Q = ZW zG d 4 19 [x0, .int a, x2, x3, x4, x5] (.int a :: st) z Q := zw_next (f := z_iload 1 19) rfl rfl
theorem s4_19 {ls : List Value} {a : Int32} {r : Nat} : ZW zG d 4 19 ls (.int a :: .ref r :: st) z Q = ((zcls z r = 60 ∧ zin a (zlen z r) = true ∧ zir (zra z r (zx a)) = true) ∧ ZW zG d 4 20 ls (zra z r (zx a) :: st) (z) Q) := zw_aald rfl
theorem s4_20 {x0 x1 x3 x4 x5 : Value} {a : Int32} : ZW zG d 4 20 [x0, x1, .int a, x3, x4, x5] st z Q = ZW zG d 4 21 [x0, x1, .int a, x3, x4, x5] (.int a :: st) z Q := zw_next (f := z_iload 2 21) rfl rfl
theorem s4_21 {x0 x1 x2 x3 x4 x5 : Value} : ZW zG d 4 21 [x0, x1, x2, x3, x4, x5] st z Q = (zir x0 = true ∧ ZW zG d 4 22 [x0, x1, x2, x3, x4, x5] (x0 :: st) z Q) := zw_cond (f := z_aload 0 22) rfl rfl
theorem s4_22 {ls : List Value} {r : Nat} : ZW zG d 4 22 ls (.ref r :: st) z Q = ((zcls z r = 0 ∧ zir (zfr z r 0) = true) ∧ ZW zG d 4 25 ls (zfr z r 0 :: st) (z) Q) := zw_getR rfl
theorem s4_25 {x0 x1 x2 x4 x5 : Value} {a : Int32} : ZW zG d 4 25 [x0, x1, x2, .int a, x4, x5] st z Q = ZW zG d 4 26 [x0, x1, x2, .int a, x4, x5] (.int a :: st) z Q := zw_next (f := z_iload 3 26) rfl rfl
theorem s4_26 {ls : List Value} {a : Int32} {r : Nat} : ZW zG d 4 26 ls (.int a :: .ref r :: st) z Q = ((zcls z r = 60 ∧ zin a (zlen z r) = true ∧ zir (zra z r (zx a)) = true) ∧ ZW zG d 4 27 ls (zra z r (zx a) :: st) (z) Q) := zw_aald rfl
theorem s4_27 {x0 x1 x2 x3 x5 : Value} {a : Int32} : ZW zG d 4 27 [x0, x1, x2, x3, .int a, x5] st z Q = ZW zG d 4 29 [x0, x1, x2, x3, .int a, x5] (.int a :: st) z Q := zw_next (f := z_iload 4 29) rfl rfl
theorem s4_29 {x0 x1 x2 x3 x4 : Value} {a : Int32} : ZW zG d 4 29 [x0, x1, x2, x3, x4, .int a] st z Q = ZW zG d 4 31 [x0, x1, x2, x3, x4, .int a] (.int a :: st) z Q := zw_next (f := z_iload 5 31) rfl rfl
theorem s4_31 {ls : List Value} {n1 a b : Int32} {r s : Nat} : ZW zG d 4 31 ls (.int n1 :: .int b :: .ref s :: .int a :: .ref r :: st) z Q = ((zcs st = true ∧ zheldB z r = true ∧ zheldB z s = true ∧ zfitB z r = true) ∧ ZW zG d 4 34 ls (.int (zpastes z r a s b n1).1 :: st) ((zpastes z r a s b n1).2) Q) := zw_pastes rfl
theorem s4_34 {ls : List Value}  : ZW zG d 4 34 ls (st) z Q = ZW zG d 4 39 ls st z Q := zw_goto rfl
theorem s4_37 {ls : List Value}  : ZW zG d 4 37 ls (st) z Q = ZW zG d 4 39 ls ((.int (-2)) :: st) z Q := zw_push rfl
theorem s4_39 {ls : List Value} {a : Int32} : ZW zG d 4 39 ls ([.int a]) z Q = Q (.inl (some (.int a))) z := zw_reti rfl
/-- X0_init ()V -/
theorem e5 {r0 : Nat} : ZC zG d 5 [.ref r0] z Q = ZW zG d 5 0 [.ref r0, zdum] [] z Q := rfl
theorem s5_0 {x0 x1 : Value} : ZW zG d 5 0 [x0, x1] st z Q = (zir x0 = true ∧ ZW zG d 5 1 [x0, x1] (x0 :: st) z Q) := zw_cond (f := z_aload 0 1) rfl rfl
theorem s5_1 {ls : List Value} {r : Nat} : ZW zG d 5 1 ls (.ref r :: st) z Q = ((zcs st = true) ∧ ZW zG d 5 4 ls (st) (z) Q) := zw_oinit rfl
theorem s5_4 {x0 x1 : Value} : ZW zG d 5 4 [x0, x1] st z Q = (zir x0 = true ∧ ZW zG d 5 5 [x0, x1] (x0 :: st) z Q) := zw_cond (f := z_aload 0 5) rfl rfl
theorem s5_5 {ls : List Value}  : ZW zG d 5 5 ls (st) z Q = ZW zG d 5 6 ls ((.int (nI 4)) :: st) z Q := zw_push rfl
theorem s5_6 {ls : List Value} {a : Int32} : ZW zG d 5 6 ls (.int a :: st) z Q = ((zin a 1000000 = true) ∧ ZW zG d 5 9 ls (.ref (zn z) :: st) (sarr z 60 (zx a)) Q) := zw_newa rfl
theorem s5_9 {ls : List Value} {v : Value} {r : Nat} : ZW zG d 5 9 ls (v :: .ref r :: st) z Q = ((zcls z r = 0 ∧ zir v = true) ∧ ZW zG d 5 12 ls (st) (sfr z r 0 v) Q) := zw_putR rfl
theorem s5_12 {x0 x1 : Value} : ZW zG d 5 12 [x0, x1] st z Q = (zir x0 = true ∧ ZW zG d 5 13 [x0, x1] (x0 :: st) z Q) := zw_cond (f := z_aload 0 13) rfl rfl
theorem s5_13 {ls : List Value}  : ZW zG d 5 13 ls (st) z Q = ZW zG d 5 16 ls (.ref (zn z) :: st) (snew z 1 4) Q := zw_new rfl
theorem s5_16 {ls : List Value} {r : Nat} : ZW zG d 5 16 ls (.ref r :: st) z Q = ZW zG d 5 17 ls (.ref r :: .ref r :: st) z Q := zw_dupr rfl
theorem s5_17 {ls : List Value}  {r : Nat} : ZW zG (d + 1) 5 17 ls (.ref r :: st) z Q = (zcs st = true ∧ ZC zG d 59 [.ref r] z (zk zG (d + 1) 5 (none) 20 ls st Q)) := zc_I0 rfl (Nat.le_of_ble_eq_true rfl)
theorem s5_20 {ls : List Value} {v : Value} {r : Nat} : ZW zG d 5 20 ls (v :: .ref r :: st) z Q = ((zcls z r = 0 ∧ zir v = true) ∧ ZW zG d 5 23 ls (st) (sfr z r 1 v) Q) := zw_putR rfl
theorem s5_23 {x0 x1 : Value} : ZW zG d 5 23 [x0, x1] st z Q = (zir x0 = true ∧ ZW zG d 5 24 [x0, x1] (x0 :: st) z Q) := zw_cond (f := z_aload 0 24) rfl rfl
theorem s5_24 {ls : List Value}  : ZW zG d 5 24 ls (st) z Q = ZW zG d 5 25 ls ((.int (nI 3)) :: st) z Q := zw_push rfl
theorem s5_25 {ls : List Value} {a : Int32} : ZW zG d 5 25 ls (.int a :: st) z Q = ((zin a 1000000 = true) ∧ ZW zG d 5 28 ls (.ref (zn z) :: st) (sarr z 61 (zx a)) Q) := zw_newa rfl
theorem s5_28 {ls : List Value} {v : Value} {r : Nat} : ZW zG d 5 28 ls (v :: .ref r :: st) z Q = ((zcls z r = 0 ∧ zir v = true) ∧ ZW zG d 5 31 ls (st) (sfr z r 2 v) Q) := zw_putR rfl
theorem s5_31 {x0 x1 : Value} : ZW zG d 5 31 [x0, x1] st z Q = (zir x0 = true ∧ ZW zG d 5 32 [x0, x1] (x0 :: st) z Q) := zw_cond (f := z_aload 0 32) rfl rfl
theorem s5_32 {ls : List Value}  : ZW zG d 5 32 ls (st) z Q = ZW zG d 5 33 ls ((.int (nI 4)) :: st) z Q := zw_push rfl
theorem s5_33 {ls : List Value} {a : Int32} : ZW zG d 5 33 ls (.int a :: st) z Q = ((zin a 1000000 = true) ∧ ZW zG d 5 36 ls (.ref (zn z) :: st) (sarr z 62 (zx a)) Q) := zw_newa rfl
theorem s5_36 {ls : List Value} {r : Nat} : ZW zG d 5 36 ls (.ref r :: st) z Q = ZW zG d 5 37 ls (.ref r :: .ref r :: st) z Q := zw_dupr rfl
theorem s5_37 {ls : List Value}  : ZW zG d 5 37 ls (st) z Q = ZW zG d 5 38 ls ((.int (nI 0)) :: st) z Q := zw_push rfl
theorem s5_38 {ls : List Value}  : ZW zG d 5 38 ls (st) z Q = ZW zG d 5 41 ls (.ref (zn z) :: st) (snew z 6 0) Q := zw_new rfl
theorem s5_41 {ls : List Value} {r : Nat} : ZW zG d 5 41 ls (.ref r :: st) z Q = ZW zG d 5 42 ls (.ref r :: .ref r :: st) z Q := zw_dupr rfl
theorem s5_42 {ls : List Value}  {r : Nat} : ZW zG (d + 1) 5 42 ls (.ref r :: st) z Q = (zcs st = true ∧ ZC zG d 85 [.ref r] z (zk zG (d + 1) 5 (none) 45 ls st Q)) := zc_I0 rfl (Nat.le_of_ble_eq_true rfl)
theorem s5_45 {ls : List Value} {a : Int32} {v : Value} {r : Nat} : ZW zG d 5 45 ls (v :: .int a :: .ref r :: st) z Q = ((zcls z r = 62 ∧ zin a (zlen z r) = true ∧ zael z 62 v = true) ∧ ZW zG d 5 46 ls (st) (sra z r (zx a) v) Q) := zw_aast rfl
theorem s5_46 {ls : List Value} {r : Nat} : ZW zG d 5 46 ls (.ref r :: st) z Q = ZW zG d 5 47 ls (.ref r :: .ref r :: st) z Q := zw_dupr rfl
theorem s5_47 {ls : List Value}  : ZW zG d 5 47 ls (st) z Q = ZW zG d 5 48 ls ((.int (nI 1)) :: st) z Q := zw_push rfl
theorem s5_48 {ls : List Value}  : ZW zG d 5 48 ls (st) z Q = ZW zG d 5 51 ls (.ref (zn z) :: st) (snew z 7 0) Q := zw_new rfl
theorem s5_51 {ls : List Value} {r : Nat} : ZW zG d 5 51 ls (.ref r :: st) z Q = ZW zG d 5 52 ls (.ref r :: .ref r :: st) z Q := zw_dupr rfl
theorem s5_52 {ls : List Value}  {r : Nat} : ZW zG (d + 1) 5 52 ls (.ref r :: st) z Q = (zcs st = true ∧ ZC zG d 87 [.ref r] z (zk zG (d + 1) 5 (none) 55 ls st Q)) := zc_I0 rfl (Nat.le_of_ble_eq_true rfl)
theorem s5_55 {ls : List Value} {a : Int32} {v : Value} {r : Nat} : ZW zG d 5 55 ls (v :: .int a :: .ref r :: st) z Q = ((zcls z r = 62 ∧ zin a (zlen z r) = true ∧ zael z 62 v = true) ∧ ZW zG d 5 56 ls (st) (sra z r (zx a) v) Q) := zw_aast rfl
theorem s5_56 {ls : List Value} {r : Nat} : ZW zG d 5 56 ls (.ref r :: st) z Q = ZW zG d 5 57 ls (.ref r :: .ref r :: st) z Q := zw_dupr rfl
theorem s5_57 {ls : List Value}  : ZW zG d 5 57 ls (st) z Q = ZW zG d 5 58 ls ((.int (nI 2)) :: st) z Q := zw_push rfl
theorem s5_58 {ls : List Value}  : ZW zG d 5 58 ls (st) z Q = ZW zG d 5 61 ls (.ref (zn z) :: st) (snew z 8 0) Q := zw_new rfl
theorem s5_61 {ls : List Value} {r : Nat} : ZW zG d 5 61 ls (.ref r :: st) z Q = ZW zG d 5 62 ls (.ref r :: .ref r :: st) z Q := zw_dupr rfl
theorem s5_62 {ls : List Value}  {r : Nat} : ZW zG (d + 1) 5 62 ls (.ref r :: st) z Q = (zcs st = true ∧ ZC zG d 89 [.ref r] z (zk zG (d + 1) 5 (none) 65 ls st Q)) := zc_I0 rfl (Nat.le_of_ble_eq_true rfl)
theorem s5_65 {ls : List Value} {a : Int32} {v : Value} {r : Nat} : ZW zG d 5 65 ls (v :: .int a :: .ref r :: st) z Q = ((zcls z r = 62 ∧ zin a (zlen z r) = true ∧ zael z 62 v = true) ∧ ZW zG d 5 66 ls (st) (sra z r (zx a) v) Q) := zw_aast rfl
theorem s5_66 {ls : List Value} {r : Nat} : ZW zG d 5 66 ls (.ref r :: st) z Q = ZW zG d 5 67 ls (.ref r :: .ref r :: st) z Q := zw_dupr rfl
theorem s5_67 {ls : List Value}  : ZW zG d 5 67 ls (st) z Q = ZW zG d 5 68 ls ((.int (nI 3)) :: st) z Q := zw_push rfl
theorem s5_68 {ls : List Value}  : ZW zG d 5 68 ls (st) z Q = ZW zG d 5 71 ls (.ref (zn z) :: st) (snew z 9 0) Q := zw_new rfl
theorem s5_71 {ls : List Value} {r : Nat} : ZW zG d 5 71 ls (.ref r :: st) z Q = ZW zG d 5 72 ls (.ref r :: .ref r :: st) z Q := zw_dupr rfl
theorem s5_72 {ls : List Value}  {r : Nat} : ZW zG (d + 1) 5 72 ls (.ref r :: st) z Q = (zcs st = true ∧ ZC zG d 93 [.ref r] z (zk zG (d + 1) 5 (none) 75 ls st Q)) := zc_I0 rfl (Nat.le_of_ble_eq_true rfl)
theorem s5_75 {ls : List Value} {a : Int32} {v : Value} {r : Nat} : ZW zG d 5 75 ls (v :: .int a :: .ref r :: st) z Q = ((zcls z r = 62 ∧ zin a (zlen z r) = true ∧ zael z 62 v = true) ∧ ZW zG d 5 76 ls (st) (sra z r (zx a) v) Q) := zw_aast rfl
theorem s5_76 {ls : List Value} {v : Value} {r : Nat} : ZW zG d 5 76 ls (v :: .ref r :: st) z Q = ((zcls z r = 0 ∧ zir v = true) ∧ ZW zG d 5 79 ls (st) (sfr z r 3 v) Q) := zw_putR rfl
theorem s5_79 {x0 x1 : Value} : ZW zG d 5 79 [x0, x1] st z Q = (zir x0 = true ∧ ZW zG d 5 80 [x0, x1] (x0 :: st) z Q) := zw_cond (f := z_aload 0 80) rfl rfl
theorem s5_80 {ls : List Value}  : ZW zG d 5 80 ls (st) z Q = ZW zG d 5 83 ls (.ref (zn z) :: st) (snew z 10 12) Q := zw_new rfl
theorem s5_83 {ls : List Value} {r : Nat} : ZW zG d 5 83 ls (.ref r :: st) z Q = ZW zG d 5 84 ls (.ref r :: .ref r :: st) z Q := zw_dupr rfl
theorem s5_84 {x0 x1 : Value} : ZW zG d 5 84 [x0, x1] st z Q = (zir x0 = true ∧ ZW zG d 5 85 [x0, x1] (x0 :: st) z Q) := zw_cond (f := z_aload 0 85) rfl rfl
theorem s5_85 {ls : List Value} {w0 : Nat} {r : Nat} : ZW zG (d + 1) 5 85 ls (.ref w0 :: .ref r :: st) z Q = (zcs st = true ∧ ZC zG d 95 [.ref r, .ref w0] z (zk zG (d + 1) 5 (none) 88 ls st Q)) := zc_I1 rfl (Nat.le_of_ble_eq_true rfl)
theorem s5_88 {ls : List Value} {v : Value} {r : Nat} : ZW zG d 5 88 ls (v :: .ref r :: st) z Q = ((zcls z r = 0 ∧ zir v = true) ∧ ZW zG d 5 91 ls (st) (sfr z r 4 v) Q) := zw_putR rfl
theorem s5_91 {x0 x1 : Value} : ZW zG d 5 91 [x0, x1] st z Q = (zir x0 = true ∧ ZW zG d 5 92 [x0, x1] (x0 :: st) z Q) := zw_cond (f := z_aload 0 92) rfl rfl
theorem s5_92 {ls : List Value}  : ZW zG d 5 92 ls (st) z Q = ZW zG d 5 95 ls ((.int (nI 1400)) :: st) z Q := zw_push rfl
theorem s5_95 {ls : List Value} {a : Int32} : ZW zG d 5 95 ls (.int a :: st) z Q = ((zin a 1000000 = true) ∧ ZW zG d 5 97 ls (.ref (zn z) :: st) (sarr z 52 (zx a)) Q) := zw_newa rfl
theorem s5_97 {ls : List Value} {v : Value} {r : Nat} : ZW zG d 5 97 ls (v :: .ref r :: st) z Q = ((zcls z r = 0 ∧ zir v = true) ∧ ZW zG d 5 100 ls (st) (sfr z r 5 v) Q) := zw_putR rfl
theorem s5_100 {x0 x1 : Value} : ZW zG d 5 100 [x0, x1] st z Q = (zir x0 = true ∧ ZW zG d 5 101 [x0, x1] (x0 :: st) z Q) := zw_cond (f := z_aload 0 101) rfl rfl
theorem s5_101 {ls : List Value}  : ZW zG d 5 101 ls (st) z Q = ZW zG d 5 102 ls ((.int (-1)) :: st) z Q := zw_push rfl
theorem s5_102 {ls : List Value} {a : Int32} {r : Nat} : ZW zG d 5 102 ls (.int a :: .ref r :: st) z Q = ((zcls z r = 0) ∧ ZW zG d 5 105 ls (st) (sfi z r 8 a) Q) := zw_putI rfl
theorem s5_105 {x0 x1 : Value} : ZW zG d 5 105 [x0, x1] st z Q = (zir x0 = true ∧ ZW zG d 5 106 [x0, x1] (x0 :: st) z Q) := zw_cond (f := z_aload 0 106) rfl rfl
theorem s5_106 {ls : List Value}  : ZW zG d 5 106 ls (st) z Q = ZW zG d 5 109 ls ((.int (nI 1024)) :: st) z Q := zw_push rfl
theorem s5_109 {ls : List Value} {a : Int32} : ZW zG d 5 109 ls (.int a :: st) z Q = ((zin a 1000000 = true) ∧ ZW zG d 5 111 ls (.ref (zn z) :: st) (sarr z 50 (zx a)) Q) := zw_newa rfl
theorem s5_111 {ls : List Value} {v : Value} {r : Nat} : ZW zG d 5 111 ls (v :: .ref r :: st) z Q = ((zcls z r = 0 ∧ zir v = true) ∧ ZW zG d 5 114 ls (st) (sfr z r 9 v) Q) := zw_putR rfl
theorem s5_114 {x0 x1 : Value} : ZW zG d 5 114 [x0, x1] st z Q = (zir x0 = true ∧ ZW zG d 5 115 [x0, x1] (x0 :: st) z Q) := zw_cond (f := z_aload 0 115) rfl rfl
theorem s5_115 {ls : List Value}  : ZW zG d 5 115 ls (st) z Q = ZW zG d 5 118 ls ((.int (nI 1024)) :: st) z Q := zw_push rfl
theorem s5_118 {ls : List Value} {a : Int32} : ZW zG d 5 118 ls (.int a :: st) z Q = ((zin a 1000000 = true) ∧ ZW zG d 5 120 ls (.ref (zn z) :: st) (sarr z 50 (zx a)) Q) := zw_newa rfl
theorem s5_120 {ls : List Value} {v : Value} {r : Nat} : ZW zG d 5 120 ls (v :: .ref r :: st) z Q = ((zcls z r = 0 ∧ zir v = true) ∧ ZW zG d 5 123 ls (st) (sfr z r 10 v) Q) := zw_putR rfl
theorem s5_123 {x0 x1 : Value} : ZW zG d 5 123 [x0, x1] st z Q = (zir x0 = true ∧ ZW zG d 5 124 [x0, x1] (x0 :: st) z Q) := zw_cond (f := z_aload 0 124) rfl rfl
theorem s5_124 {ls : List Value}  : ZW zG d 5 124 ls (st) z Q = ZW zG d 5 126 ls ((.int (nI 65536)) :: st) z Q := zw_push rfl
theorem s5_126 {ls : List Value} {a : Int32} : ZW zG d 5 126 ls (.int a :: st) z Q = ((zin a 1000000 = true) ∧ ZW zG d 5 128 ls (.ref (zn z) :: st) (sarr z 50 (zx a)) Q) := zw_newa rfl
theorem s5_128 {ls : List Value} {v : Value} {r : Nat} : ZW zG d 5 128 ls (v :: .ref r :: st) z Q = ((zcls z r = 0 ∧ zir v = true) ∧ ZW zG d 5 131 ls (st) (sfr z r 11 v) Q) := zw_putR rfl
theorem s5_131 {ls : List Value}  : ZW zG d 5 131 ls (st) z Q = ZW zG d 5 132 ls ((.int (nI 0)) :: st) z Q := zw_push rfl
theorem s5_132 {x0 x1 : Value} {a : Int32} : ZW zG d 5 132 [x0, x1] (.int a :: st) z Q = ZW zG d 5 133 [zclr x0, .int a] st z Q := zw_next (f := z_istore 1 133) rfl rfl
theorem s5_133 {x0 : Value} {a : Int32} : ZW zG d 5 133 [x0, .int a] st z Q = ZW zG d 5 134 [x0, .int a] (.int a :: st) z Q := zw_next (f := z_iload 1 134) rfl rfl
theorem s5_134 {ls : List Value}  : ZW zG d 5 134 ls (st) z Q = ZW zG d 5 135 ls ((.int (nI 4)) :: st) z Q := zw_push rfl
theorem s5_135 {ls : List Value} {a b : Int32} : ZW zG d 5 135 ls (.int b :: .int a :: st) z Q = if b ≤ a then ZW zG d 5 157 ls st z Q else ZW zG d 5 138 ls st z Q := zw_icge rfl
theorem s5_138 {x0 x1 : Value} : ZW zG d 5 138 [x0, x1] st z Q = (zir x0 = true ∧ ZW zG d 5 139 [x0, x1] (x0 :: st) z Q) := zw_cond (f := z_aload 0 139) rfl rfl
theorem s5_139 {ls : List Value} {r : Nat} : ZW zG d 5 139 ls (.ref r :: st) z Q = ((zcls z r = 0 ∧ zir (zfr z r 0) = true) ∧ ZW zG d 5 142 ls (zfr z r 0 :: st) (z) Q) := zw_getR rfl
theorem s5_142 {x0 : Value} {a : Int32} : ZW zG d 5 142 [x0, .int a] st z Q = ZW zG d 5 143 [x0, .int a] (.int a :: st) z Q := zw_next (f := z_iload 1 143) rfl rfl
theorem s5_143 {ls : List Value}  : ZW zG d 5 143 ls (st) z Q = ZW zG d 5 146 ls (.ref (zn z) :: st) (snew z 11 1) Q := zw_new rfl
theorem s5_146 {ls : List Value} {r : Nat} : ZW zG d 5 146 ls (.ref r :: st) z Q = ZW zG d 5 147 ls (.ref r :: .ref r :: st) z Q := zw_dupr rfl
theorem s5_147 {ls : List Value}  {r : Nat} : ZW zG (d + 1) 5 147 ls (.ref r :: st) z Q = (zcs st = true ∧ ZC zG d 109 [.ref r] z (zk zG (d + 1) 5 (none) 150 ls st Q)) := zc_I0 rfl (Nat.le_of_ble_eq_true rfl)
theorem s5_150 {ls : List Value} {a : Int32} {v : Value} {r : Nat} : ZW zG d 5 150 ls (v :: .int a :: .ref r :: st) z Q = ((zcls z r = 60 ∧ zin a (zlen z r) = true ∧ zael z 60 v = true) ∧ ZW zG d 5 151 ls (st) (sra z r (zx a) v) Q) := zw_aast rfl
theorem s5_151 {x0 : Value} {a : Int32} : ZW zG d 5 151 [x0, .int a] st z Q = ZW zG d 5 154 [zclr x0, .int (a + (nI 1))] st z Q := zw_next (f := z_iinc 1 (nI 1) 154) rfl rfl
theorem s5_154 {ls : List Value}  : ZW zG d 5 154 ls (st) z Q = ZW zG d 5 133 ls st z Q := zw_goto rfl
theorem s5_157 {ls : List Value}  : ZW zG d 5 157 ls ([]) z Q = Q (.inl none) z := zw_ret rfl
/-- X0_feed (IIIII)I -/
theorem e6 {r0 : Nat} {v0 : Int32} {v1 : Int32} {v2 : Int32} {v3 : Int32} {v4 : Int32} : ZC zG d 6 [.ref r0, .int v0, .int v1, .int v2, .int v3, .int v4] z Q = ZW zG d 6 0 [.ref r0, .int v0, .int v1, .int v2, .int v3, .int v4] [] z Q := rfl
theorem s6_0 {x0 x1 x2 x3 x4 x5 : Value} : ZW zG d 6 0 [x0, x1, x2, x3, x4, x5] st z Q = (zir x0 = true ∧ ZW zG d 6 1 [x0, x1, x2, x3, x4, x5] (x0 :: st) z Q) := zw_cond (f := z_aload 0 1) rfl rfl
theorem s6_1 {ls : List Value} {r : Nat} : ZW zG d 6 1 ls (.ref r :: st) z Q = ((zcls z r = 0) ∧ ZW zG d 6 4 ls (.int (zfi z r 6) :: st) (z) Q) := zw_getI rfl
theorem s6_4 {ls : List Value}  : ZW zG d 6 4 ls (st) z Q = ZW zG d 6 6 ls ((.int (nI 20)) :: st) z Q := zw_push rfl
theorem s6_6 {ls : List Value} {a b : Int32} : ZW zG d 6 6 ls (.int b :: .int a :: st) z Q = ZW zG d 6 7 ls (.int (a + b) :: st) z Q := zw_iadd rfl
theorem s6_7 {ls : List Value}  : ZW zG d 6 7 ls (st) z Q = ZW zG d 6 10 ls ((.int (nI 1400)) :: st) z Q := zw_push rfl
theorem s6_10 {ls : List Value} {a b : Int32} : ZW zG d 6 10 ls (.int b :: .int a :: st) z Q = if a ≤ b then ZW zG d 6 15 ls st z Q else ZW zG d 6 13 ls st z Q := zw_icle rfl
theorem s6_13 {ls : List Value}  : ZW zG d 6 13 ls (st) z Q = ZW zG d 6 14 ls ((.int (-1)) :: st) z Q := zw_push rfl
theorem s6_14 {ls : List Value} {a : Int32} : ZW zG d 6 14 ls ([.int a]) z Q = Q (.inl (some (.int a))) z := zw_reti rfl
theorem s6_15 {x0 x1 x2 x3 x4 x5 : Value} : ZW zG d 6 15 [x0, x1, x2, x3, x4, x5] st z Q = (zir x0 = true ∧ ZW zG d 6 16 [x0, x1, x2, x3, x4, x5] (x0 :: st) z Q) := zw_cond (f := z_aload 0 16) rfl rfl
theorem s6_16 {x0 x2 x3 x4 x5 : Value} {a : Int32} : ZW zG d 6 16 [x0, .int a, x2, x3, x4, x5] st z Q = ZW zG d 6 17 [x0, .int a, x2, x3, x4, x5] (.int a :: st) z Q := zw_next (f := z_iload 1 17) rfl rfl
theorem s6_17 {ls : List Value} {w0 : Int32} {r : Nat} : ZW zG (d + 1) 6 17 ls (.int w0 :: .ref r :: st) z Q = (zcls z r = 0 ∧ zcs st = true ∧ ZC zG d 7 [.ref r, .int w0] z (zk zG (d + 1) 6 (none) 20 ls st Q)) := zc_V1 rfl (Nat.le_of_ble_eq_true rfl)
theorem s6_20 {x0 x1 x2 x3 x4 x5 : Value} : ZW zG d 6 20 [x0, x1, x2, x3, x4, x5] st z Q = (zir x0 = true ∧ ZW zG d 6 21 [x0, x1, x2, x3, x4, x5] (x0 :: st) z Q) := zw_cond (f := z_aload 0 21) rfl rfl
theorem s6_21 {x0 x1 x3 x4 x5 : Value} {a : Int32} : ZW zG d 6 21 [x0, x1, .int a, x3, x4, x5] st z Q = ZW zG d 6 22 [x0, x1, .int a, x3, x4, x5] (.int a :: st) z Q := zw_next (f := z_iload 2 22) rfl rfl
theorem s6_22 {ls : List Value} {w0 : Int32} {r : Nat} : ZW zG (d + 1) 6 22 ls (.int w0 :: .ref r :: st) z Q = (zcls z r = 0 ∧ zcs st = true ∧ ZC zG d 7 [.ref r, .int w0] z (zk zG (d + 1) 6 (none) 25 ls st Q)) := zc_V1 rfl (Nat.le_of_ble_eq_true rfl)
theorem s6_25 {x0 x1 x2 x3 x4 x5 : Value} : ZW zG d 6 25 [x0, x1, x2, x3, x4, x5] st z Q = (zir x0 = true ∧ ZW zG d 6 26 [x0, x1, x2, x3, x4, x5] (x0 :: st) z Q) := zw_cond (f := z_aload 0 26) rfl rfl
theorem s6_26 {x0 x1 x2 x4 x5 : Value} {a : Int32} : ZW zG d 6 26 [x0, x1, x2, .int a, x4, x5] st z Q = ZW zG d 6 27 [x0, x1, x2, .int a, x4, x5] (.int a :: st) z Q := zw_next (f := z_iload 3 27) rfl rfl
theorem s6_27 {ls : List Value} {w0 : Int32} {r : Nat} : ZW zG (d + 1) 6 27 ls (.int w0 :: .ref r :: st) z Q = (zcls z r = 0 ∧ zcs st = true ∧ ZC zG d 7 [.ref r, .int w0] z (zk zG (d + 1) 6 (none) 30 ls st Q)) := zc_V1 rfl (Nat.le_of_ble_eq_true rfl)
theorem s6_30 {x0 x1 x2 x3 x4 x5 : Value} : ZW zG d 6 30 [x0, x1, x2, x3, x4, x5] st z Q = (zir x0 = true ∧ ZW zG d 6 31 [x0, x1, x2, x3, x4, x5] (x0 :: st) z Q) := zw_cond (f := z_aload 0 31) rfl rfl
theorem s6_31 {x0 x1 x2 x3 x5 : Value} {a : Int32} : ZW zG d 6 31 [x0, x1, x2, x3, .int a, x5] st z Q = ZW zG d 6 33 [x0, x1, x2, x3, .int a, x5] (.int a :: st) z Q := zw_next (f := z_iload 4 33) rfl rfl
theorem s6_33 {ls : List Value} {w0 : Int32} {r : Nat} : ZW zG (d + 1) 6 33 ls (.int w0 :: .ref r :: st) z Q = (zcls z r = 0 ∧ zcs st = true ∧ ZC zG d 7 [.ref r, .int w0] z (zk zG (d + 1) 6 (none) 36 ls st Q)) := zc_V1 rfl (Nat.le_of_ble_eq_true rfl)
theorem s6_36 {x0 x1 x2 x3 x4 x5 : Value} : ZW zG d 6 36 [x0, x1, x2, x3, x4, x5] st z Q = (zir x0 = true ∧ ZW zG d 6 37 [x0, x1, x2, x3, x4, x5] (x0 :: st) z Q) := zw_cond (f := z_aload 0 37) rfl rfl
theorem s6_37 {x0 x1 x2 x3 x4 : Value} {a : Int32} : ZW zG d 6 37 [x0, x1, x2, x3, x4, .int a] st z Q = ZW zG d 6 39 [x0, x1, x2, x3, x4, .int a] (.int a :: st) z Q := zw_next (f := z_iload 5 39) rfl rfl
theorem s6_39 {ls : List Value} {w0 : Int32} {r : Nat} : ZW zG (d + 1) 6 39 ls (.int w0 :: .ref r :: st) z Q = (zcls z r = 0 ∧ zcs st = true ∧ ZC zG d 7 [.ref r, .int w0] z (zk zG (d + 1) 6 (none) 42 ls st Q)) := zc_V1 rfl (Nat.le_of_ble_eq_true rfl)
theorem s6_42 {x0 x1 x2 x3 x4 x5 : Value} : ZW zG d 6 42 [x0, x1, x2, x3, x4, x5] st z Q = (zir x0 = true ∧ ZW zG d 6 43 [x0, x1, x2, x3, x4, x5] (x0 :: st) z Q) := zw_cond (f := z_aload 0 43) rfl rfl
theorem s6_43 {ls : List Value} {r : Nat} : ZW zG d 6 43 ls (.ref r :: st) z Q = ((zcls z r = 0) ∧ ZW zG d 6 46 ls (.int (zfi z r 6) :: st) (z) Q) := zw_getI rfl
theorem s6_46 {ls : List Value} {a : Int32} : ZW zG d 6 46 ls ([.int a]) z Q = Q (.inl (some (.int a))) z := zw_reti rfl
/-- X0_puts (I)V -/
theorem e7 {r0 : Nat} {v0 : Int32} : ZC zG d 7 [.ref r0, .int v0] z Q = ZW zG d 7 0 [.ref r0, .int v0, zdum] [] z Q := rfl
theorem s7_0 {ls : List Value}  : ZW zG d 7 0 ls (st) z Q = ZW zG d 7 2 ls ((.int (nI 24)) :: st) z Q := zw_push rfl
theorem s7_2 {x0 x1 x2 : Value} {a : Int32} : ZW zG d 7 2 [x0, x1, x2] (.int a :: st) z Q = ZW zG d 7 3 [x0, zclr x1, .int a] st z Q := zw_next (f := z_istore 2 3) rfl rfl
theorem s7_3 {x0 x1 : Value} {a : Int32} : ZW zG d 7 3 [x0, x1, .int a] st z Q = ZW zG d 7 4 [x0, x1, .int a] (.int a :: st) z Q := zw_next (f := z_iload 2 4) rfl rfl
theorem s7_4 {ls : List Value} {a : Int32} : ZW zG d 7 4 ls (.int a :: st) z Q = if a < 0 then ZW zG d 7 36 ls st z Q else ZW zG d 7 7 ls st z Q := zw_iflt rfl
theorem s7_7 {x0 x1 x2 : Value} : ZW zG d 7 7 [x0, x1, x2] st z Q = (zir x0 = true ∧ ZW zG d 7 8 [x0, x1, x2] (x0 :: st) z Q) := zw_cond (f := z_aload 0 8) rfl rfl
theorem s7_8 {ls : List Value} {r : Nat} : ZW zG d 7 8 ls (.ref r :: st) z Q = ((zcls z r = 0 ∧ zir (zfr z r 5) = true) ∧ ZW zG d 7 11 ls (zfr z r 5 :: st) (z) Q) := zw_getR rfl
theorem s7_11 {x0 x1 x2 : Value} : ZW zG d 7 11 [x0, x1, x2] st z Q = (zir x0 = true ∧ ZW zG d 7 12 [x0, x1, x2] (x0 :: st) z Q) := zw_cond (f := z_aload 0 12) rfl rfl
theorem s7_12 {ls : List Value} {r : Nat} : ZW zG d 7 12 ls (.ref r :: st) z Q = ((zcls z r = 0) ∧ ZW zG d 7 15 ls (.int (zfi z r 6) :: st) (z) Q) := zw_getI rfl
theorem s7_15 {x0 x2 : Value} {a : Int32} : ZW zG d 7 15 [x0, .int a, x2] st z Q = ZW zG d 7 16 [x0, .int a, x2] (.int a :: st) z Q := zw_next (f := z_iload 1 16) rfl rfl
theorem s7_16 {x0 x1 : Value} {a : Int32} : ZW zG d 7 16 [x0, x1, .int a] st z Q = ZW zG d 7 17 [x0, x1, .int a] (.int a :: st) z Q := zw_next (f := z_iload 2 17) rfl rfl
theorem s7_17 {ls : List Value} {a b : Int32} : ZW zG d 7 17 ls (.int b :: .int a :: st) z Q = ZW zG d 7 18 ls (.int (a >>> (b &&& 31)) :: st) z Q := zw_ishr rfl
theorem s7_18 {ls : List Value} {a : Int32} : ZW zG d 7 18 ls (.int a :: st) z Q = ZW zG d 7 19 ls (.int a.toInt8.toInt32 :: st) z Q := zw_i2b rfl
theorem s7_19 {ls : List Value} {a b : Int32} {r : Nat} : ZW zG d 7 19 ls (.int b :: .int a :: .ref r :: st) z Q = ((zcls z r = 52 ∧ zin a (zlen z r) = true) ∧ ZW zG d 7 20 ls (st) (sia z r (zx a) (znar 52 b)) Q) := zw_iast rfl
theorem s7_20 {x0 x1 x2 : Value} : ZW zG d 7 20 [x0, x1, x2] st z Q = (zir x0 = true ∧ ZW zG d 7 21 [x0, x1, x2] (x0 :: st) z Q) := zw_cond (f := z_aload 0 21) rfl rfl
theorem s7_21 {ls : List Value} {r : Nat} : ZW zG d 7 21 ls (.ref r :: st) z Q = ZW zG d 7 22 ls (.ref r :: .ref r :: st) z Q := zw_dupr rfl
theorem s7_22 {ls : List Value} {r : Nat} : ZW zG d 7 22 ls (.ref r :: st) z Q = ((zcls z r = 0) ∧ ZW zG d 7 25 ls (.int (zfi z r 6) :: st) (z) Q) := zw_getI rfl
theorem s7_25 {ls : List Value}  : ZW zG d 7 25 ls (st) z Q = ZW zG d 7 26 ls ((.int (nI 1)) :: st) z Q := zw_push rfl
theorem s7_26 {ls : List Value} {a b : Int32} : ZW zG d 7 26 ls (.int b :: .int a :: st) z Q = ZW zG d 7 27 ls (.int (a + b) :: st) z Q := zw_iadd rfl
theorem s7_27 {ls : List Value} {a : Int32} {r : Nat} : ZW zG d 7 27 ls (.int a :: .ref r :: st) z Q = ((zcls z r = 0) ∧ ZW zG d 7 30 ls (st) (sfi z r 6 a) Q) := zw_putI rfl
theorem s7_30 {x0 x1 : Value} {a : Int32} : ZW zG d 7 30 [x0, x1, .int a] st z Q = ZW zG d 7 33 [x0, zclr x1, .int (a + (-8))] st z Q := zw_next (f := z_iinc 2 (-8) 33) rfl rfl
theorem s7_33 {ls : List Value}  : ZW zG d 7 33 ls (st) z Q = ZW zG d 7 3 ls st z Q := zw_goto rfl
theorem s7_36 {ls : List Value}  : ZW zG d 7 36 ls ([]) z Q = Q (.inl none) z := zw_ret rfl
/-- X0_end (I)I -/
theorem e8 {r0 : Nat} {v0 : Int32} : ZC zG d 8 [.ref r0, .int v0] z Q = ZW zG d 8 0 [.ref r0, .int v0] [] z Q := rfl
theorem s8_0 {x0 : Value} {a : Int32} : ZW zG d 8 0 [x0, .int a] st z Q = ZW zG d 8 1 [x0, .int a] (.int a :: st) z Q := zw_next (f := z_iload 1 1) rfl rfl
theorem s8_1 {ls : List Value} {a : Int32} : ZW zG d 8 1 ls (.int a :: st) z Q = ZW zG d 8 2 ls (.long a.toInt64 :: st) z Q := zw_i2l rfl
theorem s8_2 {ls : List Value}  : ZW zG d 8 2 ls (st) z Q = ZW zG d 8 3 ls ((.long (lN 0)) :: st) z Q := zw_push rfl
theorem s8_3 {x0 x1 : Value} : ZW zG d 8 3 [x0, x1] st z Q = (zir x0 = true ∧ ZW zG d 8 4 [x0, x1] (x0 :: st) z Q) := zw_cond (f := z_aload 0 4) rfl rfl
theorem s8_4 {ls : List Value} {r : Nat} : ZW zG d 8 4 ls (.ref r :: st) z Q = ((zcls z r = 0) ∧ ZW zG d 8 7 ls (.int (zfi z r 6) :: st) (z) Q) := zw_getI rfl
theorem s8_7 {ls : List Value} {a : Int32} : ZW zG d 8 7 ls (.int a :: st) z Q = ZW zG d 8 8 ls (.long a.toInt64 :: st) z Q := zw_i2l rfl
theorem s8_8 {ls : List Value} {w0 : Int64} {w1 : Int64} {w2 : Int64} : ZW zG (d + 1) 8 8 ls (.long w2 :: .long w1 :: .long w0 :: st) z Q = (zcs st = true ∧ ZC zG d 2 [.long w0, .long w1, .long w2] z (zk zG (d + 1) 8 (none) 11 ls st Q)) := zc_S3 rfl (Nat.le_of_ble_eq_true rfl)
theorem s8_11 {ls : List Value} {a : Int32} : ZW zG d 8 11 ls (.int a :: st) z Q = if ¬ a = 0 then ZW zG d 8 16 ls st z Q else ZW zG d 8 14 ls st z Q := zw_ifne rfl
theorem s8_14 {ls : List Value}  : ZW zG d 8 14 ls (st) z Q = ZW zG d 8 15 ls ((.int (-1)) :: st) z Q := zw_push rfl
theorem s8_15 {ls : List Value} {a : Int32} : ZW zG d 8 15 ls ([.int a]) z Q = Q (.inl (some (.int a))) z := zw_reti rfl
theorem s8_16 {x0 x1 : Value} : ZW zG d 8 16 [x0, x1] st z Q = (zir x0 = true ∧ ZW zG d 8 17 [x0, x1] (x0 :: st) z Q) := zw_cond (f := z_aload 0 17) rfl rfl
theorem s8_17 {x0 : Value} {a : Int32} : ZW zG d 8 17 [x0, .int a] st z Q = ZW zG d 8 18 [x0, .int a] (.int a :: st) z Q := zw_next (f := z_iload 1 18) rfl rfl
theorem s8_18 {ls : List Value} {a : Int32} {r : Nat} : ZW zG d 8 18 ls (.int a :: .ref r :: st) z Q = ((zcls z r = 0) ∧ ZW zG d 8 21 ls (st) (sfi z r 6 a) Q) := zw_putI rfl
theorem s8_21 {x0 : Value} {a : Int32} : ZW zG d 8 21 [x0, .int a] st z Q = ZW zG d 8 22 [x0, .int a] (.int a :: st) z Q := zw_next (f := z_iload 1 22) rfl rfl
theorem s8_22 {ls : List Value} {a : Int32} : ZW zG d 8 22 ls ([.int a]) z Q = Q (.inl (some (.int a))) z := zw_reti rfl
/-- X0_town ()I -/
theorem e9 {r0 : Nat} : ZC zG d 9 [.ref r0] z Q = ZW zG d 9 0 [.ref r0, zdum, zdum, zdum] [] z Q := rfl
theorem s9_0 {x0 x1 x2 x3 : Value} : ZW zG d 9 0 [x0, x1, x2, x3] st z Q = (zir x0 = true ∧ ZW zG d 9 1 [x0, x1, x2, x3] (x0 :: st) z Q) := zw_cond (f := z_aload 0 1) rfl rfl
theorem s9_1 {ls : List Value}  : ZW zG d 9 1 ls (st) z Q = ZW zG d 9 2 ls ((.int (nI 0)) :: st) z Q := zw_push rfl
theorem s9_2 {ls : List Value} {a : Int32} {r : Nat} : ZW zG d 9 2 ls (.int a :: .ref r :: st) z Q = ((zcls z r = 0) ∧ ZW zG d 9 5 ls (st) (sfi z r 7 a) Q) := zw_putI rfl
theorem s9_5 {x0 x1 x2 x3 : Value} : ZW zG d 9 5 [x0, x1, x2, x3] st z Q = (zir x0 = true ∧ ZW zG d 9 6 [x0, x1, x2, x3] (x0 :: st) z Q) := zw_cond (f := z_aload 0 6) rfl rfl
theorem s9_6 {ls : List Value}  : ZW zG d 9 6 ls (st) z Q = ZW zG d 9 7 ls ((.int (-1)) :: st) z Q := zw_push rfl
theorem s9_7 {ls : List Value} {a : Int32} {r : Nat} : ZW zG d 9 7 ls (.int a :: .ref r :: st) z Q = ((zcls z r = 0) ∧ ZW zG d 9 10 ls (st) (sfi z r 8 a) Q) := zw_putI rfl
theorem s9_10 {x0 x1 x2 x3 : Value} : ZW zG d 9 10 [x0, x1, x2, x3] st z Q = (zir x0 = true ∧ ZW zG d 9 11 [x0, x1, x2, x3] (x0 :: st) z Q) := zw_cond (f := z_aload 0 11) rfl rfl
theorem s9_11 {ls : List Value} {r : Nat} : ZW zG d 9 11 ls (.ref r :: st) z Q = ((zcls z r = 0 ∧ zir (zfr z r 1) = true) ∧ ZW zG d 9 14 ls (zfr z r 1 :: st) (z) Q) := zw_getR rfl
theorem s9_14 {ls : List Value}  : ZW zG d 9 14 ls (st) z Q = ZW zG d 9 17 ls (.ref (zn z) :: st) (snew z 13 12) Q := zw_new rfl
theorem s9_17 {ls : List Value} {r : Nat} : ZW zG d 9 17 ls (.ref r :: st) z Q = ZW zG d 9 18 ls (.ref r :: .ref r :: st) z Q := zw_dupr rfl
theorem s9_18 {x0 x1 x2 x3 : Value} : ZW zG d 9 18 [x0, x1, x2, x3] st z Q = (zir x0 = true ∧ ZW zG d 9 19 [x0, x1, x2, x3] (x0 :: st) z Q) := zw_cond (f := z_aload 0 19) rfl rfl
theorem s9_19 {ls : List Value} {r : Nat} : ZW zG d 9 19 ls (.ref r :: st) z Q = ((zcls z r = 0 ∧ zir (zfr z r 5) = true) ∧ ZW zG d 9 22 ls (zfr z r 5 :: st) (z) Q) := zw_getR rfl
theorem s9_22 {x0 x1 x2 x3 : Value} : ZW zG d 9 22 [x0, x1, x2, x3] st z Q = (zir x0 = true ∧ ZW zG d 9 23 [x0, x1, x2, x3] (x0 :: st) z Q) := zw_cond (f := z_aload 0 23) rfl rfl
theorem s9_23 {ls : List Value} {r : Nat} : ZW zG d 9 23 ls (.ref r :: st) z Q = ((zcls z r = 0) ∧ ZW zG d 9 26 ls (.int (zfi z r 6) :: st) (z) Q) := zw_getI rfl
theorem s9_26 {ls : List Value} {w0 : Nat} {w1 : Int32} {r : Nat} : ZW zG (d + 1) 9 26 ls (.int w1 :: .ref w0 :: .ref r :: st) z Q = (zcs st = true ∧ ZC zG d 214 [.ref r, .ref w0, .int w1] z (zk zG (d + 1) 9 (none) 29 ls st Q)) := zc_I2 rfl (Nat.le_of_ble_eq_true rfl)
theorem s9_29 {ls : List Value}  {r : Nat} : ZW zG (d + 1) 9 29 ls (.ref r :: st) z Q = (zcls z r = 13 ∧ zcs st = true ∧ ZC zG d 215 [.ref r] z (zk zG (d + 1) 9 (some 54) 32 ls st Q)) := zc_V0 rfl (Nat.le_of_ble_eq_true rfl)
theorem s9_32 {ls : List Value} {w0 : Nat} {r : Nat} : ZW zG (d + 1) 9 32 ls (.ref w0 :: .ref r :: st) z Q = (zcls z r = 1 ∧ zcs st = true ∧ ZC zG d 60 [.ref r, .ref w0] z (zk zG (d + 1) 9 (none) 35 ls st Q)) := zc_V1 rfl (Nat.le_of_ble_eq_true rfl)
theorem s9_35 {x0 x1 x2 x3 : Value} : ZW zG d 9 35 [x0, x1, x2, x3] st z Q = (zir x0 = true ∧ ZW zG d 9 36 [x0, x1, x2, x3] (x0 :: st) z Q) := zw_cond (f := z_aload 0 36) rfl rfl
theorem s9_36 {ls : List Value} {r : Nat} : ZW zG d 9 36 ls (.ref r :: st) z Q = ((zcls z r = 0 ∧ zir (zfr z r 1) = true) ∧ ZW zG d 9 39 ls (zfr z r 1 :: st) (z) Q) := zw_getR rfl
theorem s9_39 {ls : List Value} {r : Nat} : ZW zG d 9 39 ls (.ref r :: st) z Q = ((zcls z r = 1 ∧ zir (zfr z r 0) = true) ∧ ZW zG d 9 42 ls (zfr z r 0 :: st) (z) Q) := zw_getR rfl
theorem s9_42 {ls : List Value}  {r : Nat} : ZW zG (d + 1) 9 42 ls (.ref r :: st) z Q = (zcls z r = 2 ∧ zcs st = true ∧ ZC zG d 63 [.ref r] z (zk zG (d + 1) 9 (none) 45 ls st Q)) := zc_V0 rfl (Nat.le_of_ble_eq_true rfl)
theorem s9_45 {x0 x1 x2 x3 : Value} {a : Int32} : ZW zG d 9 45 [x0, x1, x2, x3] (.int a :: st) z Q = ZW zG d 9 46 [zclr x0, .int a, x2, x3] st z Q := zw_next (f := z_istore 1 46) rfl rfl
theorem s9_46 {x0 x1 x2 x3 : Value} : ZW zG d 9 46 [x0, x1, x2, x3] st z Q = (zir x0 = true ∧ ZW zG d 9 47 [x0, x1, x2, x3] (x0 :: st) z Q) := zw_cond (f := z_aload 0 47) rfl rfl
theorem s9_47 {ls : List Value}  : ZW zG d 9 47 ls (st) z Q = ZW zG d 9 48 ls ((.int (nI 0)) :: st) z Q := zw_push rfl
theorem s9_48 {ls : List Value} {a : Int32} {r : Nat} : ZW zG d 9 48 ls (.int a :: .ref r :: st) z Q = ((zcls z r = 0) ∧ ZW zG d 9 51 ls (st) (sfi z r 6 a) Q) := zw_putI rfl
theorem s9_51 {x0 x2 x3 : Value} {a : Int32} : ZW zG d 9 51 [x0, .int a, x2, x3] st z Q = ZW zG d 9 52 [x0, .int a, x2, x3] (.int a :: st) z Q := zw_next (f := z_iload 1 52) rfl rfl
theorem s9_52 {ls : List Value} {a : Int32} : ZW zG d 9 52 ls ([.int a]) z Q = Q (.inl (some (.int a))) z := zw_reti rfl
theorem s9_53 {x0 x1 x2 x3 : Value} {v : Value} : ZW zG d 9 53 [x0, x1, x2, x3] (v :: st) z Q = (zir v = true ∧ ZW zG d 9 54 [zclr x0, v, x2, x3] st z Q) := by rw [zw_cond (f := z_astore 1 54) (G := zG) rfl rfl]; exact propext ⟨fun h => ⟨h.1.1, h.2⟩, fun h => ⟨⟨h.1, Nat.le_of_ble_eq_true rfl⟩, h.2⟩⟩
theorem s9_54 {x0 x1 x2 x3 : Value} : ZW zG d 9 54 [x0, x1, x2, x3] st z Q = (zir x0 = true ∧ ZW zG d 9 55 [x0, x1, x2, x3] (x0 :: st) z Q) := zw_cond (f := z_aload 0 55) rfl rfl
theorem s9_55 {x0 x1 x2 x3 : Value} : ZW zG d 9 55 [x0, x1, x2, x3] st z Q = (zir x1 = true ∧ ZW zG d 9 56 [x0, x1, x2, x3] (x1 :: st) z Q) := zw_cond (f := z_aload 1 56) rfl rfl
theorem s9_56 {ls : List Value} {r : Nat} : ZW zG d 9 56 ls (.ref r :: st) z Q = ((zcls z r = 14) ∧ ZW zG d 9 59 ls (.int (zfi z r 6) :: st) (z) Q) := zw_getI rfl
theorem s9_59 {ls : List Value} {a : Int32} {r : Nat} : ZW zG d 9 59 ls (.int a :: .ref r :: st) z Q = ((zcls z r = 0) ∧ ZW zG d 9 62 ls (st) (sfi z r 7 a) Q) := zw_putI rfl
theorem s9_62 {x0 x1 x2 x3 : Value} : ZW zG d 9 62 [x0, x1, x2, x3] st z Q = (zir x0 = true ∧ ZW zG d 9 63 [x0, x1, x2, x3] (x0 :: st) z Q) := zw_cond (f := z_aload 0 63) rfl rfl
theorem s9_63 {x0 x1 x2 x3 : Value} : ZW zG d 9 63 [x0, x1, x2, x3] st z Q = (zir x1 = true ∧ ZW zG d 9 64 [x0, x1, x2, x3] (x1 :: st) z Q) := zw_cond (f := z_aload 1 64) rfl rfl
theorem s9_64 {ls : List Value} {r : Nat} : ZW zG d 9 64 ls (.ref r :: st) z Q = ((zcls z r = 14) ∧ ZW zG d 9 67 ls (.int (zfi z r 7) :: st) (z) Q) := zw_getI rfl
theorem s9_67 {ls : List Value} {a : Int32} {r : Nat} : ZW zG d 9 67 ls (.int a :: .ref r :: st) z Q = ((zcls z r = 0) ∧ ZW zG d 9 70 ls (st) (sfi z r 8 a) Q) := zw_putI rfl
theorem s9_70 {ls : List Value}  : ZW zG d 9 70 ls (st) z Q = ZW zG d 9 72 ls ((.int (-4)) :: st) z Q := zw_push rfl
theorem s9_72 {x0 x1 x2 x3 : Value} {a : Int32} : ZW zG d 9 72 [x0, x1, x2, x3] (.int a :: st) z Q = ZW zG d 9 73 [x0, zclr x1, .int a, x3] st z Q := zw_next (f := z_istore 2 73) rfl rfl
theorem s9_73 {x0 x1 x2 x3 : Value} : ZW zG d 9 73 [x0, x1, x2, x3] st z Q = (zir x0 = true ∧ ZW zG d 9 74 [x0, x1, x2, x3] (x0 :: st) z Q) := zw_cond (f := z_aload 0 74) rfl rfl
theorem s9_74 {ls : List Value}  : ZW zG d 9 74 ls (st) z Q = ZW zG d 9 75 ls ((.int (nI 0)) :: st) z Q := zw_push rfl
theorem s9_75 {ls : List Value} {a : Int32} {r : Nat} : ZW zG d 9 75 ls (.int a :: .ref r :: st) z Q = ((zcls z r = 0) ∧ ZW zG d 9 78 ls (st) (sfi z r 6 a) Q) := zw_putI rfl
theorem s9_78 {x0 x1 x3 : Value} {a : Int32} : ZW zG d 9 78 [x0, x1, .int a, x3] st z Q = ZW zG d 9 79 [x0, x1, .int a, x3] (.int a :: st) z Q := zw_next (f := z_iload 2 79) rfl rfl
theorem s9_79 {ls : List Value} {a : Int32} : ZW zG d 9 79 ls ([.int a]) z Q = Q (.inl (some (.int a))) z := zw_reti rfl
/-- X0_fault (I)I -/
theorem e10 {r0 : Nat} {v0 : Int32} : ZC zG d 10 [.ref r0, .int v0] z Q = ZW zG d 10 0 [.ref r0, .int v0] [] z Q := rfl
theorem s10_0 {x0 : Value} {a : Int32} : ZW zG d 10 0 [x0, .int a] st z Q = ZW zG d 10 1 [x0, .int a] (.int a :: st) z Q := zw_next (f := z_iload 1 1) rfl rfl
theorem s10_1 {ls : List Value} {a : Int32} : ZW zG d 10 1 ls (.int a :: st) z Q = if ¬ a = 0 then ZW zG d 10 11 ls st z Q else ZW zG d 10 4 ls st z Q := zw_ifne rfl
theorem s10_4 {x0 x1 : Value} : ZW zG d 10 4 [x0, x1] st z Q = (zir x0 = true ∧ ZW zG d 10 5 [x0, x1] (x0 :: st) z Q) := zw_cond (f := z_aload 0 5) rfl rfl
theorem s10_5 {ls : List Value} {r : Nat} : ZW zG d 10 5 ls (.ref r :: st) z Q = ((zcls z r = 0) ∧ ZW zG d 10 8 ls (.int (zfi z r 7) :: st) (z) Q) := zw_getI rfl
theorem s10_8 {ls : List Value}  : ZW zG d 10 8 ls (st) z Q = ZW zG d 10 24 ls st z Q := zw_goto rfl
theorem s10_11 {x0 : Value} {a : Int32} : ZW zG d 10 11 [x0, .int a] st z Q = ZW zG d 10 12 [x0, .int a] (.int a :: st) z Q := zw_next (f := z_iload 1 12) rfl rfl
theorem s10_12 {ls : List Value}  : ZW zG d 10 12 ls (st) z Q = ZW zG d 10 13 ls ((.int (nI 1)) :: st) z Q := zw_push rfl
theorem s10_13 {ls : List Value} {a b : Int32} : ZW zG d 10 13 ls (.int b :: .int a :: st) z Q = if ¬ a = b then ZW zG d 10 23 ls st z Q else ZW zG d 10 16 ls st z Q := zw_icne rfl
theorem s10_16 {x0 x1 : Value} : ZW zG d 10 16 [x0, x1] st z Q = (zir x0 = true ∧ ZW zG d 10 17 [x0, x1] (x0 :: st) z Q) := zw_cond (f := z_aload 0 17) rfl rfl
theorem s10_17 {ls : List Value} {r : Nat} : ZW zG d 10 17 ls (.ref r :: st) z Q = ((zcls z r = 0) ∧ ZW zG d 10 20 ls (.int (zfi z r 8) :: st) (z) Q) := zw_getI rfl
theorem s10_20 {ls : List Value}  : ZW zG d 10 20 ls (st) z Q = ZW zG d 10 24 ls st z Q := zw_goto rfl
theorem s10_23 {ls : List Value}  : ZW zG d 10 23 ls (st) z Q = ZW zG d 10 24 ls ((.int (-1)) :: st) z Q := zw_push rfl
theorem s10_24 {ls : List Value} {a : Int32} : ZW zG d 10 24 ls ([.int a]) z Q = Q (.inl (some (.int a))) z := zw_reti rfl
/-- X0_days (I)I -/
theorem e11 {r0 : Nat} {v0 : Int32} : ZC zG d 11 [.ref r0, .int v0] z Q = ZW zG d 11 0 [.ref r0, .int v0] [] z Q := rfl
theorem s11_0 {x0 : Value} {a : Int32} : ZW zG d 11 0 [x0, .int a] st z Q = ZW zG d 11 1 [x0, .int a] (.int a :: st) z Q := zw_next (f := z_iload 1 1) rfl rfl
theorem s11_1 {ls : List Value} {a : Int32} : ZW zG d 11 1 ls (.int a :: st) z Q = ZW zG d 11 2 ls (.long a.toInt64 :: st) z Q := zw_i2l rfl
theorem s11_2 {ls : List Value}  : ZW zG d 11 2 ls (st) z Q = ZW zG d 11 3 ls ((.long (lN 0)) :: st) z Q := zw_push rfl
theorem s11_3 {ls : List Value}  : ZW zG d 11 3 ls (st) z Q = ZW zG d 11 6 ls ((.long (lN 60)) :: st) z Q := zw_push rfl
theorem s11_6 {ls : List Value} {w0 : Int64} {w1 : Int64} {w2 : Int64} : ZW zG (d + 1) 11 6 ls (.long w2 :: .long w1 :: .long w0 :: st) z Q = (zcs st = true ∧ ZC zG d 2 [.long w0, .long w1, .long w2] z (zk zG (d + 1) 11 (none) 9 ls st Q)) := zc_S3 rfl (Nat.le_of_ble_eq_true rfl)
theorem s11_9 {ls : List Value} {a : Int32} : ZW zG d 11 9 ls (.int a :: st) z Q = if a = 0 then ZW zG d 11 27 ls st z Q else ZW zG d 11 12 ls st z Q := zw_ifeq rfl
theorem s11_12 {x0 x1 : Value} : ZW zG d 11 12 [x0, x1] st z Q = (zir x0 = true ∧ ZW zG d 11 13 [x0, x1] (x0 :: st) z Q) := zw_cond (f := z_aload 0 13) rfl rfl
theorem s11_13 {ls : List Value} {r : Nat} : ZW zG d 11 13 ls (.ref r :: st) z Q = ((zcls z r = 0 ∧ zir (zfr z r 1) = true) ∧ ZW zG d 11 16 ls (zfr z r 1 :: st) (z) Q) := zw_getR rfl
theorem s11_16 {ls : List Value} {r : Nat} : ZW zG d 11 16 ls (.ref r :: st) z Q = ((zcls z r = 1) ∧ ZW zG d 11 19 ls (.int (zfi z r 3) :: st) (z) Q) := zw_getI rfl
theorem s11_19 {x0 : Value} {a : Int32} : ZW zG d 11 19 [x0, .int a] st z Q = ZW zG d 11 20 [x0, .int a] (.int a :: st) z Q := zw_next (f := z_iload 1 20) rfl rfl
theorem s11_20 {ls : List Value} {a b : Int32} : ZW zG d 11 20 ls (.int b :: .int a :: st) z Q = ZW zG d 11 21 ls (.int (a + b) :: st) z Q := zw_iadd rfl
theorem s11_21 {ls : List Value}  : ZW zG d 11 21 ls (st) z Q = ZW zG d 11 24 ls ((.int (nI 399)) :: st) z Q := zw_push rfl
theorem s11_24 {ls : List Value} {a b : Int32} : ZW zG d 11 24 ls (.int b :: .int a :: st) z Q = if a ≤ b then ZW zG d 11 30 ls st z Q else ZW zG d 11 27 ls st z Q := zw_icle rfl
theorem s11_27 {ls : List Value}  : ZW zG d 11 27 ls (st) z Q = ZW zG d 11 29 ls ((.int (-2)) :: st) z Q := zw_push rfl
theorem s11_29 {ls : List Value} {a : Int32} : ZW zG d 11 29 ls ([.int a]) z Q = Q (.inl (some (.int a))) z := zw_reti rfl
theorem s11_30 {x0 x1 : Value} : ZW zG d 11 30 [x0, x1] st z Q = (zir x0 = true ∧ ZW zG d 11 31 [x0, x1] (x0 :: st) z Q) := zw_cond (f := z_aload 0 31) rfl rfl
theorem s11_31 {ls : List Value} {r : Nat} : ZW zG d 11 31 ls (.ref r :: st) z Q = ((zcls z r = 0 ∧ zir (zfr z r 1) = true) ∧ ZW zG d 11 34 ls (zfr z r 1 :: st) (z) Q) := zw_getR rfl
theorem s11_34 {ls : List Value} {r : Nat} : ZW zG d 11 34 ls (.ref r :: st) z Q = ZW zG d 11 35 ls (.ref r :: .ref r :: st) z Q := zw_dupr rfl
theorem s11_35 {ls : List Value} {r : Nat} : ZW zG d 11 35 ls (.ref r :: st) z Q = ((zcls z r = 1) ∧ ZW zG d 11 38 ls (.int (zfi z r 3) :: st) (z) Q) := zw_getI rfl
theorem s11_38 {x0 : Value} {a : Int32} : ZW zG d 11 38 [x0, .int a] st z Q = ZW zG d 11 39 [x0, .int a] (.int a :: st) z Q := zw_next (f := z_iload 1 39) rfl rfl
theorem s11_39 {ls : List Value} {a b : Int32} : ZW zG d 11 39 ls (.int b :: .int a :: st) z Q = ZW zG d 11 40 ls (.int (a + b) :: st) z Q := zw_iadd rfl
theorem s11_40 {ls : List Value} {a : Int32} {r : Nat} : ZW zG d 11 40 ls (.int a :: .ref r :: st) z Q = ((zcls z r = 1) ∧ ZW zG d 11 43 ls (st) (sfi z r 3 a) Q) := zw_putI rfl
theorem s11_43 {x0 x1 : Value} : ZW zG d 11 43 [x0, x1] st z Q = (zir x0 = true ∧ ZW zG d 11 44 [x0, x1] (x0 :: st) z Q) := zw_cond (f := z_aload 0 44) rfl rfl
theorem s11_44 {ls : List Value} {r : Nat} : ZW zG d 11 44 ls (.ref r :: st) z Q = ((zcls z r = 0 ∧ zir (zfr z r 1) = true) ∧ ZW zG d 11 47 ls (zfr z r 1 :: st) (z) Q) := zw_getR rfl
theorem s11_47 {ls : List Value} {r : Nat} : ZW zG d 11 47 ls (.ref r :: st) z Q = ((zcls z r = 1) ∧ ZW zG d 11 50 ls (.int (zfi z r 3) :: st) (z) Q) := zw_getI rfl
theorem s11_50 {ls : List Value} {a : Int32} : ZW zG d 11 50 ls ([.int a]) z Q = Q (.inl (some (.int a))) z := zw_reti rfl
/-- X0_bars (III)I -/
theorem e12 {r0 : Nat} {v0 : Int32} {v1 : Int32} {v2 : Int32} : ZC zG d 12 [.ref r0, .int v0, .int v1, .int v2] z Q = ZW zG d 12 0 [.ref r0, .int v0, .int v1, .int v2] [] z Q := rfl
theorem s12_0 {x0 x1 x2 x3 : Value} : ZW zG d 12 0 [x0, x1, x2, x3] st z Q = (zir x0 = true ∧ ZW zG d 12 1 [x0, x1, x2, x3] (x0 :: st) z Q) := zw_cond (f := z_aload 0 1) rfl rfl
theorem s12_1 {x0 x2 x3 : Value} {a : Int32} : ZW zG d 12 1 [x0, .int a, x2, x3] st z Q = ZW zG d 12 2 [x0, .int a, x2, x3] (.int a :: st) z Q := zw_next (f := z_iload 1 2) rfl rfl
theorem s12_2 {x0 x1 x3 : Value} {a : Int32} : ZW zG d 12 2 [x0, x1, .int a, x3] st z Q = ZW zG d 12 3 [x0, x1, .int a, x3] (.int a :: st) z Q := zw_next (f := z_iload 2 3) rfl rfl
theorem s12_3 {ls : List Value} {w0 : Int32} {w1 : Int32} {r : Nat} : ZW zG (d + 1) 12 3 ls (.int w1 :: .int w0 :: .ref r :: st) z Q = (zcls z r = 0 ∧ zcs st = true ∧ ZC zG d 13 [.ref r, .int w0, .int w1] z (zk zG (d + 1) 12 (none) 6 ls st Q)) := zc_V2 rfl (Nat.le_of_ble_eq_true rfl)
theorem s12_6 {ls : List Value} {a : Int32} : ZW zG d 12 6 ls (.int a :: st) z Q = if a = 0 then ZW zG d 12 31 ls st z Q else ZW zG d 12 9 ls st z Q := zw_ifeq rfl
theorem s12_9 {x0 x1 x2 : Value} {a : Int32} : ZW zG d 12 9 [x0, x1, x2, .int a] st z Q = ZW zG d 12 10 [x0, x1, x2, .int a] (.int a :: st) z Q := zw_next (f := z_iload 3 10) rfl rfl
theorem s12_10 {ls : List Value} {a : Int32} : ZW zG d 12 10 ls (.int a :: st) z Q = ZW zG d 12 11 ls (.long a.toInt64 :: st) z Q := zw_i2l rfl
theorem s12_11 {ls : List Value}  : ZW zG d 12 11 ls (st) z Q = ZW zG d 12 12 ls ((.long (lN 0)) :: st) z Q := zw_push rfl
theorem s12_12 {ls : List Value}  : ZW zG d 12 12 ls (st) z Q = ZW zG d 12 15 ls ((.long (lN 3)) :: st) z Q := zw_push rfl
theorem s12_15 {ls : List Value} {w0 : Int64} {w1 : Int64} {w2 : Int64} : ZW zG (d + 1) 12 15 ls (.long w2 :: .long w1 :: .long w0 :: st) z Q = (zcs st = true ∧ ZC zG d 2 [.long w0, .long w1, .long w2] z (zk zG (d + 1) 12 (none) 18 ls st Q)) := zc_S3 rfl (Nat.le_of_ble_eq_true rfl)
theorem s12_18 {ls : List Value} {a : Int32} : ZW zG d 12 18 ls (.int a :: st) z Q = if a = 0 then ZW zG d 12 31 ls st z Q else ZW zG d 12 21 ls st z Q := zw_ifeq rfl
theorem s12_21 {x0 x1 x2 x3 : Value} : ZW zG d 12 21 [x0, x1, x2, x3] st z Q = (zir x0 = true ∧ ZW zG d 12 22 [x0, x1, x2, x3] (x0 :: st) z Q) := zw_cond (f := z_aload 0 22) rfl rfl
theorem s12_22 {x0 x2 x3 : Value} {a : Int32} : ZW zG d 12 22 [x0, .int a, x2, x3] st z Q = ZW zG d 12 23 [x0, .int a, x2, x3] (.int a :: st) z Q := zw_next (f := z_iload 1 23) rfl rfl
theorem s12_23 {x0 x1 x3 : Value} {a : Int32} : ZW zG d 12 23 [x0, x1, .int a, x3] st z Q = ZW zG d 12 24 [x0, x1, .int a, x3] (.int a :: st) z Q := zw_next (f := z_iload 2 24) rfl rfl
theorem s12_24 {x0 x1 x2 : Value} {a : Int32} : ZW zG d 12 24 [x0, x1, x2, .int a] st z Q = ZW zG d 12 25 [x0, x1, x2, .int a] (.int a :: st) z Q := zw_next (f := z_iload 3 25) rfl rfl
theorem s12_25 {ls : List Value} {w0 : Int32} {w1 : Int32} {w2 : Int32} {r : Nat} : ZW zG (d + 1) 12 25 ls (.int w2 :: .int w1 :: .int w0 :: .ref r :: st) z Q = (zcls z r = 0 ∧ zcs st = true ∧ ZC zG d 15 [.ref r, .int w0, .int w1, .int w2] z (zk zG (d + 1) 12 (none) 28 ls st Q)) := zc_V3 rfl (Nat.le_of_ble_eq_true rfl)
theorem s12_28 {ls : List Value}  : ZW zG d 12 28 ls (st) z Q = ZW zG d 12 33 ls st z Q := zw_goto rfl
theorem s12_31 {ls : List Value}  : ZW zG d 12 31 ls (st) z Q = ZW zG d 12 33 ls ((.int (-2)) :: st) z Q := zw_push rfl
theorem s12_33 {ls : List Value} {a : Int32} : ZW zG d 12 33 ls ([.int a]) z Q = Q (.inl (some (.int a))) z := zw_reti rfl
/-- X0_areTwo (II)Z -/
theorem e13 {r0 : Nat} {v0 : Int32} {v1 : Int32} : ZC zG d 13 [.ref r0, .int v0, .int v1] z Q = ZW zG d 13 0 [.ref r0, .int v0, .int v1] [] z Q := rfl
theorem s13_0 {x0 x1 x2 : Value} : ZW zG d 13 0 [x0, x1, x2] st z Q = (zir x0 = true ∧ ZW zG d 13 1 [x0, x1, x2] (x0 :: st) z Q) := zw_cond (f := z_aload 0 1) rfl rfl
theorem s13_1 {x0 x2 : Value} {a : Int32} : ZW zG d 13 1 [x0, .int a, x2] st z Q = ZW zG d 13 2 [x0, .int a, x2] (.int a :: st) z Q := zw_next (f := z_iload 1 2) rfl rfl
theorem s13_2 {ls : List Value} {w0 : Int32} {r : Nat} : ZW zG (d + 1) 13 2 ls (.int w0 :: .ref r :: st) z Q = (zcls z r = 0 ∧ zcs st = true ∧ ZC zG d 14 [.ref r, .int w0] z (zk zG (d + 1) 13 (none) 5 ls st Q)) := zc_V1 rfl (Nat.le_of_ble_eq_true rfl)
theorem s13_5 {ls : List Value} {a : Int32} : ZW zG d 13 5 ls (.int a :: st) z Q = if a = 0 then ZW zG d 13 25 ls st z Q else ZW zG d 13 8 ls st z Q := zw_ifeq rfl
theorem s13_8 {x0 x1 x2 : Value} : ZW zG d 13 8 [x0, x1, x2] st z Q = (zir x0 = true ∧ ZW zG d 13 9 [x0, x1, x2] (x0 :: st) z Q) := zw_cond (f := z_aload 0 9) rfl rfl
theorem s13_9 {x0 x1 : Value} {a : Int32} : ZW zG d 13 9 [x0, x1, .int a] st z Q = ZW zG d 13 10 [x0, x1, .int a] (.int a :: st) z Q := zw_next (f := z_iload 2 10) rfl rfl
theorem s13_10 {ls : List Value} {w0 : Int32} {r : Nat} : ZW zG (d + 1) 13 10 ls (.int w0 :: .ref r :: st) z Q = (zcls z r = 0 ∧ zcs st = true ∧ ZC zG d 14 [.ref r, .int w0] z (zk zG (d + 1) 13 (none) 13 ls st Q)) := zc_V1 rfl (Nat.le_of_ble_eq_true rfl)
theorem s13_13 {ls : List Value} {a : Int32} : ZW zG d 13 13 ls (.int a :: st) z Q = if a = 0 then ZW zG d 13 25 ls st z Q else ZW zG d 13 16 ls st z Q := zw_ifeq rfl
theorem s13_16 {x0 x2 : Value} {a : Int32} : ZW zG d 13 16 [x0, .int a, x2] st z Q = ZW zG d 13 17 [x0, .int a, x2] (.int a :: st) z Q := zw_next (f := z_iload 1 17) rfl rfl
theorem s13_17 {x0 x1 : Value} {a : Int32} : ZW zG d 13 17 [x0, x1, .int a] st z Q = ZW zG d 13 18 [x0, x1, .int a] (.int a :: st) z Q := zw_next (f := z_iload 2 18) rfl rfl
theorem s13_18 {ls : List Value} {a b : Int32} : ZW zG d 13 18 ls (.int b :: .int a :: st) z Q = if a = b then ZW zG d 13 25 ls st z Q else ZW zG d 13 21 ls st z Q := zw_iceq rfl
theorem s13_21 {ls : List Value}  : ZW zG d 13 21 ls (st) z Q = ZW zG d 13 22 ls ((.int (nI 1)) :: st) z Q := zw_push rfl
theorem s13_22 {ls : List Value}  : ZW zG d 13 22 ls (st) z Q = ZW zG d 13 26 ls st z Q := zw_goto rfl
theorem s13_25 {ls : List Value}  : ZW zG d 13 25 ls (st) z Q = ZW zG d 13 26 ls ((.int (nI 0)) :: st) z Q := zw_push rfl
theorem s13_26 {ls : List Value} {a : Int32} : ZW zG d 13 26 ls ([.int a]) z Q = ((a = 0 ∨ a = 1) ∧ Q (.inl (some (.int a))) z) := zw_retz rfl
/-- X0_isHouse (I)Z -/
theorem e14 {r0 : Nat} {v0 : Int32} : ZC zG d 14 [.ref r0, .int v0] z Q = ZW zG d 14 0 [.ref r0, .int v0] [] z Q := rfl
theorem s14_0 {x0 x1 : Value} : ZW zG d 14 0 [x0, x1] st z Q = (zir x0 = true ∧ ZW zG d 14 1 [x0, x1] (x0 :: st) z Q) := zw_cond (f := z_aload 0 1) rfl rfl
theorem s14_1 {ls : List Value} {r : Nat} : ZW zG d 14 1 ls (.ref r :: st) z Q = ((zcls z r = 0 ∧ zir (zfr z r 1) = true) ∧ ZW zG d 14 4 ls (zfr z r 1 :: st) (z) Q) := zw_getR rfl
theorem s14_4 {ls : List Value} {r : Nat} : ZW zG d 14 4 ls (.ref r :: st) z Q = ((zcls z r = 1 ∧ zir (zfr z r 0) = true) ∧ ZW zG d 14 7 ls (zfr z r 0 :: st) (z) Q) := zw_getR rfl
theorem s14_7 {x0 : Value} {a : Int32} : ZW zG d 14 7 [x0, .int a] st z Q = ZW zG d 14 8 [x0, .int a] (.int a :: st) z Q := zw_next (f := z_iload 1 8) rfl rfl
theorem s14_8 {ls : List Value} {w0 : Int32} {r : Nat} : ZW zG (d + 1) 14 8 ls (.int w0 :: .ref r :: st) z Q = (zcls z r = 2 ∧ zcs st = true ∧ ZC zG d 64 [.ref r, .int w0] z (zk zG (d + 1) 14 (none) 11 ls st Q)) := zc_V1 rfl (Nat.le_of_ble_eq_true rfl)
theorem s14_11 {ls : List Value} {a : Int32} : ZW zG d 14 11 ls ([.int a]) z Q = ((a = 0 ∨ a = 1) ∧ Q (.inl (some (.int a))) z) := zw_retz rfl
/-- X0_barsOf (III)I -/
theorem e15 {r0 : Nat} {v0 : Int32} {v1 : Int32} {v2 : Int32} : ZC zG d 15 [.ref r0, .int v0, .int v1, .int v2] z Q = ZW zG d 15 0 [.ref r0, .int v0, .int v1, .int v2] [] z Q := rfl
theorem s15_0 {x0 x1 x2 x3 : Value} : ZW zG d 15 0 [x0, x1, x2, x3] st z Q = (zir x0 = true ∧ ZW zG d 15 1 [x0, x1, x2, x3] (x0 :: st) z Q) := zw_cond (f := z_aload 0 1) rfl rfl
theorem s15_1 {x0 x2 x3 : Value} {a : Int32} : ZW zG d 15 1 [x0, .int a, x2, x3] st z Q = ZW zG d 15 2 [x0, .int a, x2, x3] (.int a :: st) z Q := zw_next (f := z_iload 1 2) rfl rfl
theorem s15_2 {x0 x1 x3 : Value} {a : Int32} : ZW zG d 15 2 [x0, x1, .int a, x3] st z Q = ZW zG d 15 3 [x0, x1, .int a, x3] (.int a :: st) z Q := zw_next (f := z_iload 2 3) rfl rfl
theorem s15_3 {ls : List Value} {w0 : Int32} {w1 : Int32} {r : Nat} : ZW zG (d + 1) 15 3 ls (.int w1 :: .int w0 :: .ref r :: st) z Q = (zcls z r = 0 ∧ zcs st = true ∧ ZC zG d 16 [.ref r, .int w0, .int w1] z (zk zG (d + 1) 15 (none) 6 ls st Q)) := zc_V2 rfl (Nat.le_of_ble_eq_true rfl)
theorem s15_6 {ls : List Value} {a : Int32} : ZW zG d 15 6 ls (.int a :: st) z Q = if a = 0 then ZW zG d 15 38 ls st z Q else ZW zG d 15 9 ls st z Q := zw_ifeq rfl
theorem s15_9 {x0 x1 x2 x3 : Value} : ZW zG d 15 9 [x0, x1, x2, x3] st z Q = (zir x0 = true ∧ ZW zG d 15 10 [x0, x1, x2, x3] (x0 :: st) z Q) := zw_cond (f := z_aload 0 10) rfl rfl
theorem s15_10 {ls : List Value} {r : Nat} : ZW zG d 15 10 ls (.ref r :: st) z Q = ((zcls z r = 0 ∧ zir (zfr z r 3) = true) ∧ ZW zG d 15 13 ls (zfr z r 3 :: st) (z) Q) := zw_getR rfl
theorem s15_13 {x0 x1 x2 : Value} {a : Int32} : ZW zG d 15 13 [x0, x1, x2, .int a] st z Q = ZW zG d 15 14 [x0, x1, x2, .int a] (.int a :: st) z Q := zw_next (f := z_iload 3 14) rfl rfl
theorem s15_14 {ls : List Value} {a : Int32} {r : Nat} : ZW zG d 15 14 ls (.int a :: .ref r :: st) z Q = ((zcls z r = 62 ∧ zin a (zlen z r) = true ∧ zir (zra z r (zx a)) = true) ∧ ZW zG d 15 15 ls (zra z r (zx a) :: st) (z) Q) := zw_aald rfl
theorem s15_15 {x0 x1 x2 x3 : Value} : ZW zG d 15 15 [x0, x1, x2, x3] st z Q = (zir x0 = true ∧ ZW zG d 15 16 [x0, x1, x2, x3] (x0 :: st) z Q) := zw_cond (f := z_aload 0 16) rfl rfl
theorem s15_16 {x0 x2 x3 : Value} {a : Int32} : ZW zG d 15 16 [x0, .int a, x2, x3] st z Q = ZW zG d 15 17 [x0, .int a, x2, x3] (.int a :: st) z Q := zw_next (f := z_iload 1 17) rfl rfl
theorem s15_17 {ls : List Value} {w0 : Int32} {r : Nat} : ZW zG (d + 1) 15 17 ls (.int w0 :: .ref r :: st) z Q = (zcls z r = 0 ∧ zcs st = true ∧ ZC zG d 17 [.ref r, .int w0] z (zk zG (d + 1) 15 (none) 20 ls st Q)) := zc_V1 rfl (Nat.le_of_ble_eq_true rfl)
theorem s15_20 {x0 x1 x2 x3 : Value} : ZW zG d 15 20 [x0, x1, x2, x3] st z Q = (zir x0 = true ∧ ZW zG d 15 21 [x0, x1, x2, x3] (x0 :: st) z Q) := zw_cond (f := z_aload 0 21) rfl rfl
theorem s15_21 {x0 x1 x3 : Value} {a : Int32} : ZW zG d 15 21 [x0, x1, .int a, x3] st z Q = ZW zG d 15 22 [x0, x1, .int a, x3] (.int a :: st) z Q := zw_next (f := z_iload 2 22) rfl rfl
theorem s15_22 {ls : List Value} {w0 : Int32} {r : Nat} : ZW zG (d + 1) 15 22 ls (.int w0 :: .ref r :: st) z Q = (zcls z r = 0 ∧ zcs st = true ∧ ZC zG d 17 [.ref r, .int w0] z (zk zG (d + 1) 15 (none) 25 ls st Q)) := zc_V1 rfl (Nat.le_of_ble_eq_true rfl)
theorem s15_25 {x0 x1 x2 x3 : Value} : ZW zG d 15 25 [x0, x1, x2, x3] st z Q = (zir x0 = true ∧ ZW zG d 15 26 [x0, x1, x2, x3] (x0 :: st) z Q) := zw_cond (f := z_aload 0 26) rfl rfl
theorem s15_26 {ls : List Value} {r : Nat} : ZW zG d 15 26 ls (.ref r :: st) z Q = ((zcls z r = 0 ∧ zir (zfr z r 1) = true) ∧ ZW zG d 15 29 ls (zfr z r 1 :: st) (z) Q) := zw_getR rfl
theorem s15_29 {ls : List Value} {r : Nat} : ZW zG d 15 29 ls (.ref r :: st) z Q = ((zcls z r = 1) ∧ ZW zG d 15 32 ls (.int (zfi z r 3) :: st) (z) Q) := zw_getI rfl
theorem s15_32 {ls : List Value} {w0 : Nat} {w1 : Nat} {w2 : Int32} {r k1 : Nat} (hk : [(6, 82), (7, 82), (8, 90), (9, 90)].lookup (zcls z r) = some k1) (hfit : (zent [.ref r, .ref w0, .ref w1, .int w2]).length ≤ zMl k1) : ZW zG (d + 1) 15 32 ls (.int w2 :: .ref w1 :: .ref w0 :: .ref r :: st) z Q = (zcs st = true ∧ ZC zG d k1 [.ref r, .ref w0, .ref w1, .int w2] z (zk zG (d + 1) 15 none 35 ls st Q)) := zc_U3 rfl hk hfit
theorem s15_35 {ls : List Value}  : ZW zG d 15 35 ls (st) z Q = ZW zG d 15 39 ls st z Q := zw_goto rfl
theorem s15_38 {ls : List Value}  : ZW zG d 15 38 ls (st) z Q = ZW zG d 15 39 ls ((.int (nI 1)) :: st) z Q := zw_push rfl
theorem s15_39 {ls : List Value} {a : Int32} : ZW zG d 15 39 ls ([.int a]) z Q = Q (.inl (some (.int a))) z := zw_reti rfl
/-- X0_mayKnow (II)Z -/
theorem e16 {r0 : Nat} {v0 : Int32} {v1 : Int32} : ZC zG d 16 [.ref r0, .int v0, .int v1] z Q = ZW zG d 16 0 [.ref r0, .int v0, .int v1] [] z Q := rfl
theorem s16_0 {x0 x1 x2 : Value} : ZW zG d 16 0 [x0, x1, x2] st z Q = (zir x0 = true ∧ ZW zG d 16 1 [x0, x1, x2] (x0 :: st) z Q) := zw_cond (f := z_aload 0 1) rfl rfl
theorem s16_1 {x0 x2 : Value} {a : Int32} : ZW zG d 16 1 [x0, .int a, x2] st z Q = ZW zG d 16 2 [x0, .int a, x2] (.int a :: st) z Q := zw_next (f := z_iload 1 2) rfl rfl
theorem s16_2 {ls : List Value} {w0 : Int32} {r : Nat} : ZW zG (d + 1) 16 2 ls (.int w0 :: .ref r :: st) z Q = (zcls z r = 0 ∧ zcs st = true ∧ ZC zG d 17 [.ref r, .int w0] z (zk zG (d + 1) 16 (none) 5 ls st Q)) := zc_V1 rfl (Nat.le_of_ble_eq_true rfl)
theorem s16_5 {x0 x1 x2 : Value} : ZW zG d 16 5 [x0, x1, x2] st z Q = (zir x0 = true ∧ ZW zG d 16 6 [x0, x1, x2] (x0 :: st) z Q) := zw_cond (f := z_aload 0 6) rfl rfl
theorem s16_6 {ls : List Value} {r : Nat} : ZW zG d 16 6 ls (.ref r :: st) z Q = ((zcls z r = 0 ∧ zir (zfr z r 1) = true) ∧ ZW zG d 16 9 ls (zfr z r 1 :: st) (z) Q) := zw_getR rfl
theorem s16_9 {ls : List Value} {r : Nat} : ZW zG d 16 9 ls (.ref r :: st) z Q = ((zcls z r = 1) ∧ ZW zG d 16 12 ls (.int (zfi z r 3) :: st) (z) Q) := zw_getI rfl
theorem s16_12 {ls : List Value} {w0 : Int32} {r : Nat} : ZW zG (d + 1) 16 12 ls (.int w0 :: .ref r :: st) z Q = (zcls z r = 21 ∧ zcs st = true ∧ ZC zG d 246 [.ref r, .int w0] z (zk zG (d + 1) 16 (none) 15 ls st Q)) := zc_V1 rfl (Nat.le_of_ble_eq_true rfl)
theorem s16_15 {ls : List Value} {a : Int32} : ZW zG d 16 15 ls (.int a :: st) z Q = if a = 0 then ZW zG d 16 36 ls st z Q else ZW zG d 16 18 ls st z Q := zw_ifeq rfl
theorem s16_18 {x0 x1 x2 : Value} : ZW zG d 16 18 [x0, x1, x2] st z Q = (zir x0 = true ∧ ZW zG d 16 19 [x0, x1, x2] (x0 :: st) z Q) := zw_cond (f := z_aload 0 19) rfl rfl
theorem s16_19 {x0 x1 : Value} {a : Int32} : ZW zG d 16 19 [x0, x1, .int a] st z Q = ZW zG d 16 20 [x0, x1, .int a] (.int a :: st) z Q := zw_next (f := z_iload 2 20) rfl rfl
theorem s16_20 {ls : List Value} {w0 : Int32} {r : Nat} : ZW zG (d + 1) 16 20 ls (.int w0 :: .ref r :: st) z Q = (zcls z r = 0 ∧ zcs st = true ∧ ZC zG d 17 [.ref r, .int w0] z (zk zG (d + 1) 16 (none) 23 ls st Q)) := zc_V1 rfl (Nat.le_of_ble_eq_true rfl)
theorem s16_23 {x0 x1 x2 : Value} : ZW zG d 16 23 [x0, x1, x2] st z Q = (zir x0 = true ∧ ZW zG d 16 24 [x0, x1, x2] (x0 :: st) z Q) := zw_cond (f := z_aload 0 24) rfl rfl
theorem s16_24 {ls : List Value} {r : Nat} : ZW zG d 16 24 ls (.ref r :: st) z Q = ((zcls z r = 0 ∧ zir (zfr z r 1) = true) ∧ ZW zG d 16 27 ls (zfr z r 1 :: st) (z) Q) := zw_getR rfl
theorem s16_27 {ls : List Value} {r : Nat} : ZW zG d 16 27 ls (.ref r :: st) z Q = ((zcls z r = 1) ∧ ZW zG d 16 30 ls (.int (zfi z r 3) :: st) (z) Q) := zw_getI rfl
theorem s16_30 {ls : List Value} {w0 : Int32} {r : Nat} : ZW zG (d + 1) 16 30 ls (.int w0 :: .ref r :: st) z Q = (zcls z r = 21 ∧ zcs st = true ∧ ZC zG d 246 [.ref r, .int w0] z (zk zG (d + 1) 16 (none) 33 ls st Q)) := zc_V1 rfl (Nat.le_of_ble_eq_true rfl)
theorem s16_33 {ls : List Value} {a : Int32} : ZW zG d 16 33 ls (.int a :: st) z Q = if ¬ a = 0 then ZW zG d 16 38 ls st z Q else ZW zG d 16 36 ls st z Q := zw_ifne rfl
theorem s16_36 {ls : List Value}  : ZW zG d 16 36 ls (st) z Q = ZW zG d 16 37 ls ((.int (nI 0)) :: st) z Q := zw_push rfl
theorem s16_37 {ls : List Value} {a : Int32} : ZW zG d 16 37 ls ([.int a]) z Q = ((a = 0 ∨ a = 1) ∧ Q (.inl (some (.int a))) z) := zw_retz rfl
theorem s16_38 {x0 x1 x2 : Value} : ZW zG d 16 38 [x0, x1, x2] st z Q = (zir x0 = true ∧ ZW zG d 16 39 [x0, x1, x2] (x0 :: st) z Q) := zw_cond (f := z_aload 0 39) rfl rfl
theorem s16_39 {ls : List Value} {r : Nat} : ZW zG d 16 39 ls (.ref r :: st) z Q = ((zcls z r = 0 ∧ zir (zfr z r 1) = true) ∧ ZW zG d 16 42 ls (zfr z r 1 :: st) (z) Q) := zw_getR rfl
theorem s16_42 {ls : List Value} {r : Nat} : ZW zG d 16 42 ls (.ref r :: st) z Q = ((zcls z r = 1 ∧ zir (zfr z r 1) = true) ∧ ZW zG d 16 45 ls (zfr z r 1 :: st) (z) Q) := zw_getR rfl
theorem s16_45 {x0 x2 : Value} {a : Int32} : ZW zG d 16 45 [x0, .int a, x2] st z Q = ZW zG d 16 46 [x0, .int a, x2] (.int a :: st) z Q := zw_next (f := z_iload 1 46) rfl rfl
theorem s16_46 {x0 x1 : Value} {a : Int32} : ZW zG d 16 46 [x0, x1, .int a] st z Q = ZW zG d 16 47 [x0, x1, .int a] (.int a :: st) z Q := zw_next (f := z_iload 2 47) rfl rfl
theorem s16_47 {ls : List Value} {w0 : Int32} {w1 : Int32} {r : Nat} : ZW zG (d + 1) 16 47 ls (.int w1 :: .int w0 :: .ref r :: st) z Q = (zcls z r = 3 ∧ zcs st = true ∧ ZC zG d 68 [.ref r, .int w0, .int w1] z (zk zG (d + 1) 16 (none) 50 ls st Q)) := zc_V2 rfl (Nat.le_of_ble_eq_true rfl)
theorem s16_50 {ls : List Value} {a : Int32} : ZW zG d 16 50 ls (.int a :: st) z Q = if ¬ a = 0 then ZW zG d 16 69 ls st z Q else ZW zG d 16 53 ls st z Q := zw_ifne rfl
theorem s16_53 {x0 x1 x2 : Value} : ZW zG d 16 53 [x0, x1, x2] st z Q = (zir x0 = true ∧ ZW zG d 16 54 [x0, x1, x2] (x0 :: st) z Q) := zw_cond (f := z_aload 0 54) rfl rfl
theorem s16_54 {x0 x1 : Value} {a : Int32} : ZW zG d 16 54 [x0, x1, .int a] st z Q = ZW zG d 16 55 [x0, x1, .int a] (.int a :: st) z Q := zw_next (f := z_iload 2 55) rfl rfl
theorem s16_55 {ls : List Value} {w0 : Int32} {r : Nat} : ZW zG (d + 1) 16 55 ls (.int w0 :: .ref r :: st) z Q = (zcls z r = 0 ∧ zcs st = true ∧ ZC zG d 19 [.ref r, .int w0] z (zk zG (d + 1) 16 (none) 58 ls st Q)) := zc_V1 rfl (Nat.le_of_ble_eq_true rfl)
theorem s16_58 {ls : List Value} {a : Int32} : ZW zG d 16 58 ls (.int a :: st) z Q = if a = 0 then ZW zG d 16 71 ls st z Q else ZW zG d 16 61 ls st z Q := zw_ifeq rfl
theorem s16_61 {x0 x1 x2 : Value} : ZW zG d 16 61 [x0, x1, x2] st z Q = (zir x0 = true ∧ ZW zG d 16 62 [x0, x1, x2] (x0 :: st) z Q) := zw_cond (f := z_aload 0 62) rfl rfl
theorem s16_62 {x0 x2 : Value} {a : Int32} : ZW zG d 16 62 [x0, .int a, x2] st z Q = ZW zG d 16 63 [x0, .int a, x2] (.int a :: st) z Q := zw_next (f := z_iload 1 63) rfl rfl
theorem s16_63 {ls : List Value} {w0 : Int32} {r : Nat} : ZW zG (d + 1) 16 63 ls (.int w0 :: .ref r :: st) z Q = (zcls z r = 0 ∧ zcs st = true ∧ ZC zG d 19 [.ref r, .int w0] z (zk zG (d + 1) 16 (none) 66 ls st Q)) := zc_V1 rfl (Nat.le_of_ble_eq_true rfl)
theorem s16_66 {ls : List Value} {a : Int32} : ZW zG d 16 66 ls (.int a :: st) z Q = if ¬ a = 0 then ZW zG d 16 71 ls st z Q else ZW zG d 16 69 ls st z Q := zw_ifne rfl
theorem s16_69 {ls : List Value}  : ZW zG d 16 69 ls (st) z Q = ZW zG d 16 70 ls ((.int (nI 1)) :: st) z Q := zw_push rfl
theorem s16_70 {ls : List Value} {a : Int32} : ZW zG d 16 70 ls ([.int a]) z Q = ((a = 0 ∨ a = 1) ∧ Q (.inl (some (.int a))) z) := zw_retz rfl
theorem s16_71 {x0 x1 x2 : Value} : ZW zG d 16 71 [x0, x1, x2] st z Q = (zir x0 = true ∧ ZW zG d 16 72 [x0, x1, x2] (x0 :: st) z Q) := zw_cond (f := z_aload 0 72) rfl rfl
theorem s16_72 {ls : List Value} {r : Nat} : ZW zG d 16 72 ls (.ref r :: st) z Q = ((zcls z r = 0 ∧ zir (zfr z r 1) = true) ∧ ZW zG d 16 75 ls (zfr z r 1 :: st) (z) Q) := zw_getR rfl
theorem s16_75 {ls : List Value} {r : Nat} : ZW zG d 16 75 ls (.ref r :: st) z Q = ((zcls z r = 1 ∧ zir (zfr z r 1) = true) ∧ ZW zG d 16 78 ls (zfr z r 1 :: st) (z) Q) := zw_getR rfl
theorem s16_78 {ls : List Value} {r : Nat} : ZW zG d 16 78 ls (.ref r :: st) z Q = ((zcls z r = 3 ∧ zir (zfr z r 2) = true) ∧ ZW zG d 16 81 ls (zfr z r 2 :: st) (z) Q) := zw_getR rfl
theorem s16_81 {x0 x2 : Value} {a : Int32} : ZW zG d 16 81 [x0, .int a, x2] st z Q = ZW zG d 16 82 [x0, .int a, x2] (.int a :: st) z Q := zw_next (f := z_iload 1 82) rfl rfl
theorem s16_82 {ls : List Value} {a : Int32} {r : Nat} : ZW zG d 16 82 ls (.int a :: .ref r :: st) z Q = ((zcls z r = 50 ∧ zin a (zlen z r) = true) ∧ ZW zG d 16 83 ls (.int (zia z r (zx a)) :: st) (z) Q) := zw_iald rfl
theorem s16_83 {x0 x1 x2 : Value} : ZW zG d 16 83 [x0, x1, x2] st z Q = (zir x0 = true ∧ ZW zG d 16 84 [x0, x1, x2] (x0 :: st) z Q) := zw_cond (f := z_aload 0 84) rfl rfl
theorem s16_84 {ls : List Value} {r : Nat} : ZW zG d 16 84 ls (.ref r :: st) z Q = ((zcls z r = 0 ∧ zir (zfr z r 1) = true) ∧ ZW zG d 16 87 ls (zfr z r 1 :: st) (z) Q) := zw_getR rfl
theorem s16_87 {ls : List Value} {r : Nat} : ZW zG d 16 87 ls (.ref r :: st) z Q = ((zcls z r = 1 ∧ zir (zfr z r 1) = true) ∧ ZW zG d 16 90 ls (zfr z r 1 :: st) (z) Q) := zw_getR rfl
theorem s16_90 {ls : List Value} {r : Nat} : ZW zG d 16 90 ls (.ref r :: st) z Q = ((zcls z r = 3 ∧ zir (zfr z r 2) = true) ∧ ZW zG d 16 93 ls (zfr z r 2 :: st) (z) Q) := zw_getR rfl
theorem s16_93 {x0 x1 : Value} {a : Int32} : ZW zG d 16 93 [x0, x1, .int a] st z Q = ZW zG d 16 94 [x0, x1, .int a] (.int a :: st) z Q := zw_next (f := z_iload 2 94) rfl rfl
theorem s16_94 {ls : List Value} {a : Int32} {r : Nat} : ZW zG d 16 94 ls (.int a :: .ref r :: st) z Q = ((zcls z r = 50 ∧ zin a (zlen z r) = true) ∧ ZW zG d 16 95 ls (.int (zia z r (zx a)) :: st) (z) Q) := zw_iald rfl
theorem s16_95 {ls : List Value} {a b : Int32} : ZW zG d 16 95 ls (.int b :: .int a :: st) z Q = ZW zG d 16 96 ls (.int (a &&& b) :: st) z Q := zw_iand rfl
theorem s16_96 {ls : List Value} {w0 : Int32} : ZW zG (d + 1) 16 96 ls (.int w0 :: st) z Q = (zcs st = true ∧ ZC zG d 251 [.int w0] z (zk zG (d + 1) 16 (none) 99 ls st Q)) := zc_S1 rfl (Nat.le_of_ble_eq_true rfl)
theorem s16_99 {x0 x1 x2 : Value} : ZW zG d 16 99 [x0, x1, x2] st z Q = (zir x0 = true ∧ ZW zG d 16 100 [x0, x1, x2] (x0 :: st) z Q) := zw_cond (f := z_aload 0 100) rfl rfl
theorem s16_100 {ls : List Value} {r : Nat} : ZW zG d 16 100 ls (.ref r :: st) z Q = ((zcls z r = 0 ∧ zir (zfr z r 1) = true) ∧ ZW zG d 16 103 ls (zfr z r 1 :: st) (z) Q) := zw_getR rfl
theorem s16_103 {ls : List Value} {r : Nat} : ZW zG d 16 103 ls (.ref r :: st) z Q = ((zcls z r = 1 ∧ zir (zfr z r 0) = true) ∧ ZW zG d 16 106 ls (zfr z r 0 :: st) (z) Q) := zw_getR rfl
theorem s16_106 {ls : List Value} {r : Nat} : ZW zG d 16 106 ls (.ref r :: st) z Q = ((zcls z r = 2) ∧ ZW zG d 16 109 ls (.int (zfi z r 4) :: st) (z) Q) := zw_getI rfl
theorem s16_109 {ls : List Value} {a b : Int32} : ZW zG d 16 109 ls (.int b :: .int a :: st) z Q = if a < b then ZW zG d 16 116 ls st z Q else ZW zG d 16 112 ls st z Q := zw_iclt rfl
theorem s16_112 {ls : List Value}  : ZW zG d 16 112 ls (st) z Q = ZW zG d 16 113 ls ((.int (nI 1)) :: st) z Q := zw_push rfl
theorem s16_113 {ls : List Value}  : ZW zG d 16 113 ls (st) z Q = ZW zG d 16 117 ls st z Q := zw_goto rfl
theorem s16_116 {ls : List Value}  : ZW zG d 16 116 ls (st) z Q = ZW zG d 16 117 ls ((.int (nI 0)) :: st) z Q := zw_push rfl
theorem s16_117 {ls : List Value} {a : Int32} : ZW zG d 16 117 ls ([.int a]) z Q = ((a = 0 ∨ a = 1) ∧ Q (.inl (some (.int a))) z) := zw_retz rfl
/-- X0_at (I)LCardBowl$House; -/
theorem e17 {r0 : Nat} {v0 : Int32} : ZC zG d 17 [.ref r0, .int v0] z Q = ZW zG d 17 0 [.ref r0, .int v0] [] z Q := rfl
theorem s17_0 {x0 x1 : Value} : ZW zG d 17 0 [x0, x1] st z Q = (zir x0 = true ∧ ZW zG d 17 1 [x0, x1] (x0 :: st) z Q) := zw_cond (f := z_aload 0 1) rfl rfl
theorem s17_1 {ls : List Value} {r : Nat} : ZW zG d 17 1 ls (.ref r :: st) z Q = ((zcls z r = 0 ∧ zir (zfr z r 1) = true) ∧ ZW zG d 17 4 ls (zfr z r 1 :: st) (z) Q) := zw_getR rfl
theorem s17_4 {ls : List Value} {r : Nat} : ZW zG d 17 4 ls (.ref r :: st) z Q = ((zcls z r = 1 ∧ zir (zfr z r 0) = true) ∧ ZW zG d 17 7 ls (zfr z r 0 :: st) (z) Q) := zw_getR rfl
theorem s17_7 {x0 : Value} {a : Int32} : ZW zG d 17 7 [x0, .int a] st z Q = ZW zG d 17 8 [x0, .int a] (.int a :: st) z Q := zw_next (f := z_iload 1 8) rfl rfl
theorem s17_8 {ls : List Value} {w0 : Int32} {r : Nat} : ZW zG (d + 1) 17 8 ls (.int w0 :: .ref r :: st) z Q = (zcls z r = 2 ∧ zcs st = true ∧ ZC zG d 65 [.ref r, .int w0] z (zk zG (d + 1) 17 (none) 11 ls st Q)) := zc_V1 rfl (Nat.le_of_ble_eq_true rfl)
theorem s17_11 {ls : List Value} {q : Nat} : ZW zG d 17 11 ls ([.ref q]) z Q = Q (.inl (some (.ref q))) z := zw_reta rfl
theorem s17_11r {ls : List Value}  : ZW zG d 17 11 ls ([.null]) z Q = Q (.inl (some .null)) z := zw_retn rfl
/-- X0_has (II)Z -/
theorem e18 {v0 : Int32} {v1 : Int32} : ZC zG d 18 [.int v0, .int v1] z Q = ZW zG d 18 0 [.int v0, .int v1] [] z Q := rfl
theorem s18_0 {x1 : Value} {a : Int32} : ZW zG d 18 0 [.int a, x1] st z Q = ZW zG d 18 1 [.int a, x1] (.int a :: st) z Q := zw_next (f := z_iload 0 1) rfl rfl
theorem s18_1 {x0 : Value} {a : Int32} : ZW zG d 18 1 [x0, .int a] st z Q = ZW zG d 18 2 [x0, .int a] (.int a :: st) z Q := zw_next (f := z_iload 1 2) rfl rfl
theorem s18_2 {ls : List Value} {a b : Int32} : ZW zG d 18 2 ls (.int b :: .int a :: st) z Q = ZW zG d 18 3 ls (.int (a >>> (b &&& 31)) :: st) z Q := zw_ishr rfl
theorem s18_3 {ls : List Value}  : ZW zG d 18 3 ls (st) z Q = ZW zG d 18 4 ls ((.int (nI 1)) :: st) z Q := zw_push rfl
theorem s18_4 {ls : List Value} {a b : Int32} : ZW zG d 18 4 ls (.int b :: .int a :: st) z Q = ZW zG d 18 5 ls (.int (a &&& b) :: st) z Q := zw_iand rfl
theorem s18_5 {ls : List Value}  : ZW zG d 18 5 ls (st) z Q = ZW zG d 18 6 ls ((.int (nI 1)) :: st) z Q := zw_push rfl
theorem s18_6 {ls : List Value} {a b : Int32} : ZW zG d 18 6 ls (.int b :: .int a :: st) z Q = if ¬ a = b then ZW zG d 18 13 ls st z Q else ZW zG d 18 9 ls st z Q := zw_icne rfl
theorem s18_9 {ls : List Value}  : ZW zG d 18 9 ls (st) z Q = ZW zG d 18 10 ls ((.int (nI 1)) :: st) z Q := zw_push rfl
theorem s18_10 {ls : List Value}  : ZW zG d 18 10 ls (st) z Q = ZW zG d 18 14 ls st z Q := zw_goto rfl
theorem s18_13 {ls : List Value}  : ZW zG d 18 13 ls (st) z Q = ZW zG d 18 14 ls ((.int (nI 0)) :: st) z Q := zw_push rfl
theorem s18_14 {ls : List Value} {a : Int32} : ZW zG d 18 14 ls ([.int a]) z Q = ((a = 0 ∨ a = 1) ∧ Q (.inl (some (.int a))) z) := zw_retz rfl
/-- X0_isNew (I)Z -/
theorem e19 {r0 : Nat} {v0 : Int32} : ZC zG d 19 [.ref r0, .int v0] z Q = ZW zG d 19 0 [.ref r0, .int v0] [] z Q := rfl
theorem s19_0 {x0 x1 : Value} : ZW zG d 19 0 [x0, x1] st z Q = (zir x0 = true ∧ ZW zG d 19 1 [x0, x1] (x0 :: st) z Q) := zw_cond (f := z_aload 0 1) rfl rfl
theorem s19_1 {ls : List Value} {r : Nat} : ZW zG d 19 1 ls (.ref r :: st) z Q = ((zcls z r = 0 ∧ zir (zfr z r 1) = true) ∧ ZW zG d 19 4 ls (zfr z r 1 :: st) (z) Q) := zw_getR rfl
theorem s19_4 {ls : List Value} {r : Nat} : ZW zG d 19 4 ls (.ref r :: st) z Q = ((zcls z r = 1) ∧ ZW zG d 19 7 ls (.int (zfi z r 3) :: st) (z) Q) := zw_getI rfl
theorem s19_7 {x0 x1 : Value} : ZW zG d 19 7 [x0, x1] st z Q = (zir x0 = true ∧ ZW zG d 19 8 [x0, x1] (x0 :: st) z Q) := zw_cond (f := z_aload 0 8) rfl rfl
theorem s19_8 {x0 : Value} {a : Int32} : ZW zG d 19 8 [x0, .int a] st z Q = ZW zG d 19 9 [x0, .int a] (.int a :: st) z Q := zw_next (f := z_iload 1 9) rfl rfl
theorem s19_9 {ls : List Value} {w0 : Int32} {r : Nat} : ZW zG (d + 1) 19 9 ls (.int w0 :: .ref r :: st) z Q = (zcls z r = 0 ∧ zcs st = true ∧ ZC zG d 17 [.ref r, .int w0] z (zk zG (d + 1) 19 (none) 12 ls st Q)) := zc_V1 rfl (Nat.le_of_ble_eq_true rfl)
theorem s19_12 {ls : List Value} {r : Nat} : ZW zG d 19 12 ls (.ref r :: st) z Q = ((zcls z r = 21) ∧ ZW zG d 19 15 ls (.int (zfi z r 6) :: st) (z) Q) := zw_getI rfl
theorem s19_15 {ls : List Value} {a b : Int32} : ZW zG d 19 15 ls (.int b :: .int a :: st) z Q = ZW zG d 19 16 ls (.int (a - b) :: st) z Q := zw_isub rfl
theorem s19_16 {x0 x1 : Value} : ZW zG d 19 16 [x0, x1] st z Q = (zir x0 = true ∧ ZW zG d 19 17 [x0, x1] (x0 :: st) z Q) := zw_cond (f := z_aload 0 17) rfl rfl
theorem s19_17 {ls : List Value} {r : Nat} : ZW zG d 19 17 ls (.ref r :: st) z Q = ((zcls z r = 0 ∧ zir (zfr z r 1) = true) ∧ ZW zG d 19 20 ls (zfr z r 1 :: st) (z) Q) := zw_getR rfl
theorem s19_20 {ls : List Value} {r : Nat} : ZW zG d 19 20 ls (.ref r :: st) z Q = ((zcls z r = 1 ∧ zir (zfr z r 0) = true) ∧ ZW zG d 19 23 ls (zfr z r 0 :: st) (z) Q) := zw_getR rfl
theorem s19_23 {ls : List Value} {r : Nat} : ZW zG d 19 23 ls (.ref r :: st) z Q = ((zcls z r = 2) ∧ ZW zG d 19 26 ls (.int (zfi z r 3) :: st) (z) Q) := zw_getI rfl
theorem s19_26 {ls : List Value} {a b : Int32} : ZW zG d 19 26 ls (.int b :: .int a :: st) z Q = if b < a then ZW zG d 19 33 ls st z Q else ZW zG d 19 29 ls st z Q := zw_icgt rfl
theorem s19_29 {ls : List Value}  : ZW zG d 19 29 ls (st) z Q = ZW zG d 19 30 ls ((.int (nI 1)) :: st) z Q := zw_push rfl
theorem s19_30 {ls : List Value}  : ZW zG d 19 30 ls (st) z Q = ZW zG d 19 34 ls st z Q := zw_goto rfl
theorem s19_33 {ls : List Value}  : ZW zG d 19 33 ls (st) z Q = ZW zG d 19 34 ls ((.int (nI 0)) :: st) z Q := zw_push rfl
theorem s19_34 {ls : List Value} {a : Int32} : ZW zG d 19 34 ls ([.int a]) z Q = ((a = 0 ∨ a = 1) ∧ Q (.inl (some (.int a))) z) := zw_retz rfl
/-- X0_does (III)I -/
theorem e20 {r0 : Nat} {v0 : Int32} {v1 : Int32} {v2 : Int32} : ZC zG d 20 [.ref r0, .int v0, .int v1, .int v2] z Q = ZW zG d 20 0 [.ref r0, .int v0, .int v1, .int v2] [] z Q := rfl
theorem s20_0 {x0 x1 x2 x3 : Value} : ZW zG d 20 0 [x0, x1, x2, x3] st z Q = (zir x0 = true ∧ ZW zG d 20 1 [x0, x1, x2, x3] (x0 :: st) z Q) := zw_cond (f := z_aload 0 1) rfl rfl
theorem s20_1 {x0 x2 x3 : Value} {a : Int32} : ZW zG d 20 1 [x0, .int a, x2, x3] st z Q = ZW zG d 20 2 [x0, .int a, x2, x3] (.int a :: st) z Q := zw_next (f := z_iload 1 2) rfl rfl
theorem s20_2 {x0 x1 x3 : Value} {a : Int32} : ZW zG d 20 2 [x0, x1, .int a, x3] st z Q = ZW zG d 20 3 [x0, x1, .int a, x3] (.int a :: st) z Q := zw_next (f := z_iload 2 3) rfl rfl
theorem s20_3 {ls : List Value} {w0 : Int32} {w1 : Int32} {r : Nat} : ZW zG (d + 1) 20 3 ls (.int w1 :: .int w0 :: .ref r :: st) z Q = (zcls z r = 0 ∧ zcs st = true ∧ ZC zG d 13 [.ref r, .int w0, .int w1] z (zk zG (d + 1) 20 (none) 6 ls st Q)) := zc_V2 rfl (Nat.le_of_ble_eq_true rfl)
theorem s20_6 {ls : List Value} {a : Int32} : ZW zG d 20 6 ls (.int a :: st) z Q = if a = 0 then ZW zG d 20 21 ls st z Q else ZW zG d 20 9 ls st z Q := zw_ifeq rfl
theorem s20_9 {x0 x1 x2 : Value} {a : Int32} : ZW zG d 20 9 [x0, x1, x2, .int a] st z Q = ZW zG d 20 10 [x0, x1, x2, .int a] (.int a :: st) z Q := zw_next (f := z_iload 3 10) rfl rfl
theorem s20_10 {ls : List Value} {a : Int32} : ZW zG d 20 10 ls (.int a :: st) z Q = ZW zG d 20 11 ls (.long a.toInt64 :: st) z Q := zw_i2l rfl
theorem s20_11 {ls : List Value}  : ZW zG d 20 11 ls (st) z Q = ZW zG d 20 12 ls ((.long (lN 0)) :: st) z Q := zw_push rfl
theorem s20_12 {ls : List Value}  : ZW zG d 20 12 ls (st) z Q = ZW zG d 20 15 ls ((.long (lN 3)) :: st) z Q := zw_push rfl
theorem s20_15 {ls : List Value} {w0 : Int64} {w1 : Int64} {w2 : Int64} : ZW zG (d + 1) 20 15 ls (.long w2 :: .long w1 :: .long w0 :: st) z Q = (zcs st = true ∧ ZC zG d 2 [.long w0, .long w1, .long w2] z (zk zG (d + 1) 20 (none) 18 ls st Q)) := zc_S3 rfl (Nat.le_of_ble_eq_true rfl)
theorem s20_18 {ls : List Value} {a : Int32} : ZW zG d 20 18 ls (.int a :: st) z Q = if ¬ a = 0 then ZW zG d 20 24 ls st z Q else ZW zG d 20 21 ls st z Q := zw_ifne rfl
theorem s20_21 {ls : List Value}  : ZW zG d 20 21 ls (st) z Q = ZW zG d 20 23 ls ((.int (-2)) :: st) z Q := zw_push rfl
theorem s20_23 {ls : List Value} {a : Int32} : ZW zG d 20 23 ls ([.int a]) z Q = Q (.inl (some (.int a))) z := zw_reti rfl
theorem s20_24 {x0 x1 x2 x3 : Value} : ZW zG d 20 24 [x0, x1, x2, x3] st z Q = (zir x0 = true ∧ ZW zG d 20 25 [x0, x1, x2, x3] (x0 :: st) z Q) := zw_cond (f := z_aload 0 25) rfl rfl
theorem s20_25 {x0 x2 x3 : Value} {a : Int32} : ZW zG d 20 25 [x0, .int a, x2, x3] st z Q = ZW zG d 20 26 [x0, .int a, x2, x3] (.int a :: st) z Q := zw_next (f := z_iload 1 26) rfl rfl
theorem s20_26 {x0 x1 x3 : Value} {a : Int32} : ZW zG d 20 26 [x0, x1, .int a, x3] st z Q = ZW zG d 20 27 [x0, x1, .int a, x3] (.int a :: st) z Q := zw_next (f := z_iload 2 27) rfl rfl
theorem s20_27 {x0 x1 x2 : Value} {a : Int32} : ZW zG d 20 27 [x0, x1, x2, .int a] st z Q = ZW zG d 20 28 [x0, x1, x2, .int a] (.int a :: st) z Q := zw_next (f := z_iload 3 28) rfl rfl
theorem s20_28 {ls : List Value} {w0 : Int32} {w1 : Int32} {w2 : Int32} {r : Nat} : ZW zG (d + 1) 20 28 ls (.int w2 :: .int w1 :: .int w0 :: .ref r :: st) z Q = (zcls z r = 0 ∧ zcs st = true ∧ ZC zG d 15 [.ref r, .int w0, .int w1, .int w2] z (zk zG (d + 1) 20 (none) 31 ls st Q)) := zc_V3 rfl (Nat.le_of_ble_eq_true rfl)
theorem s20_31 {ls : List Value} {a : Int32} : ZW zG d 20 31 ls (.int a :: st) z Q = if a = 0 then ZW zG d 20 37 ls st z Q else ZW zG d 20 34 ls st z Q := zw_ifeq rfl
theorem s20_34 {ls : List Value}  : ZW zG d 20 34 ls (st) z Q = ZW zG d 20 36 ls ((.int (-5)) :: st) z Q := zw_push rfl
theorem s20_36 {ls : List Value} {a : Int32} : ZW zG d 20 36 ls ([.int a]) z Q = Q (.inl (some (.int a))) z := zw_reti rfl
theorem s20_37 {x0 x1 x2 x3 : Value} : ZW zG d 20 37 [x0, x1, x2, x3] st z Q = (zir x0 = true ∧ ZW zG d 20 38 [x0, x1, x2, x3] (x0 :: st) z Q) := zw_cond (f := z_aload 0 38) rfl rfl
theorem s20_38 {ls : List Value} {r : Nat} : ZW zG d 20 38 ls (.ref r :: st) z Q = ((zcls z r = 0 ∧ zir (zfr z r 1) = true) ∧ ZW zG d 20 41 ls (zfr z r 1 :: st) (z) Q) := zw_getR rfl
theorem s20_41 {ls : List Value} {r : Nat} : ZW zG d 20 41 ls (.ref r :: st) z Q = ((zcls z r = 1 ∧ zir (zfr z r 2) = true) ∧ ZW zG d 20 44 ls (zfr z r 2 :: st) (z) Q) := zw_getR rfl
theorem s20_44 {ls : List Value} {r : Nat} : ZW zG d 20 44 ls (.ref r :: st) z Q = ((zcs st = true ∧ zcls z r = 90) ∧ ZW zG d 20 49 ls (.int (nI (zls z r).length) :: st) (z) Q) := zw_lsize rfl
theorem s20_49 {ls : List Value}  : ZW zG d 20 49 ls (st) z Q = ZW zG d 20 52 ls ((.int (nI 600)) :: st) z Q := zw_push rfl
theorem s20_52 {ls : List Value} {a b : Int32} : ZW zG d 20 52 ls (.int b :: .int a :: st) z Q = if ¬ a = b then ZW zG d 20 58 ls st z Q else ZW zG d 20 55 ls st z Q := zw_icne rfl
theorem s20_55 {ls : List Value}  : ZW zG d 20 55 ls (st) z Q = ZW zG d 20 57 ls ((.int (-3)) :: st) z Q := zw_push rfl
theorem s20_57 {ls : List Value} {a : Int32} : ZW zG d 20 57 ls ([.int a]) z Q = Q (.inl (some (.int a))) z := zw_reti rfl
theorem s20_58 {x0 x1 x2 x3 : Value} : ZW zG d 20 58 [x0, x1, x2, x3] st z Q = (zir x0 = true ∧ ZW zG d 20 59 [x0, x1, x2, x3] (x0 :: st) z Q) := zw_cond (f := z_aload 0 59) rfl rfl
theorem s20_59 {ls : List Value} {r : Nat} : ZW zG d 20 59 ls (.ref r :: st) z Q = ((zcls z r = 0 ∧ zir (zfr z r 1) = true) ∧ ZW zG d 20 62 ls (zfr z r 1 :: st) (z) Q) := zw_getR rfl
theorem s20_62 {ls : List Value} {r : Nat} : ZW zG d 20 62 ls (.ref r :: st) z Q = ((zcls z r = 1 ∧ zir (zfr z r 2) = true) ∧ ZW zG d 20 65 ls (zfr z r 2 :: st) (z) Q) := zw_getR rfl
theorem s20_65 {ls : List Value}  : ZW zG d 20 65 ls (st) z Q = ZW zG d 20 68 ls (.ref (zn z) :: st) (snew z 22 4) Q := zw_new rfl
theorem s20_68 {ls : List Value} {r : Nat} : ZW zG d 20 68 ls (.ref r :: st) z Q = ZW zG d 20 69 ls (.ref r :: .ref r :: st) z Q := zw_dupr rfl
theorem s20_69 {x0 x2 x3 : Value} {a : Int32} : ZW zG d 20 69 [x0, .int a, x2, x3] st z Q = ZW zG d 20 70 [x0, .int a, x2, x3] (.int a :: st) z Q := zw_next (f := z_iload 1 70) rfl rfl
theorem s20_70 {x0 x1 x3 : Value} {a : Int32} : ZW zG d 20 70 [x0, x1, .int a, x3] st z Q = ZW zG d 20 71 [x0, x1, .int a, x3] (.int a :: st) z Q := zw_next (f := z_iload 2 71) rfl rfl
theorem s20_71 {x0 x1 x2 : Value} {a : Int32} : ZW zG d 20 71 [x0, x1, x2, .int a] st z Q = ZW zG d 20 72 [x0, x1, x2, .int a] (.int a :: st) z Q := zw_next (f := z_iload 3 72) rfl rfl
theorem s20_72 {x0 x1 x2 x3 : Value} : ZW zG d 20 72 [x0, x1, x2, x3] st z Q = (zir x0 = true ∧ ZW zG d 20 73 [x0, x1, x2, x3] (x0 :: st) z Q) := zw_cond (f := z_aload 0 73) rfl rfl
theorem s20_73 {ls : List Value} {r : Nat} : ZW zG d 20 73 ls (.ref r :: st) z Q = ((zcls z r = 0 ∧ zir (zfr z r 1) = true) ∧ ZW zG d 20 76 ls (zfr z r 1 :: st) (z) Q) := zw_getR rfl
theorem s20_76 {ls : List Value} {r : Nat} : ZW zG d 20 76 ls (.ref r :: st) z Q = ((zcls z r = 1) ∧ ZW zG d 20 79 ls (.int (zfi z r 3) :: st) (z) Q) := zw_getI rfl
theorem s20_79 {ls : List Value} {w0 : Int32} {w1 : Int32} {w2 : Int32} {w3 : Int32} {r : Nat} : ZW zG (d + 1) 20 79 ls (.int w3 :: .int w2 :: .int w1 :: .int w0 :: .ref r :: st) z Q = (zcs st = true ∧ ZC zG d 249 [.ref r, .int w0, .int w1, .int w2, .int w3] z (zk zG (d + 1) 20 (none) 82 ls st Q)) := zc_I4 rfl (Nat.le_of_ble_eq_true rfl)
theorem s20_82 {ls : List Value} {v : Value} {r : Nat} : ZW zG d 20 82 ls (v :: .ref r :: st) z Q = ((zcs st = true ∧ zcls z r = 90 ∧ (zlel z v = true ∧ (zls z r).all (zlel z) = true ∧ (zls z r).length < 100000)) ∧ ZW zG d 20 87 ls (.int 1 :: st) (sladd z r v) Q) := zw_ladd1 rfl
theorem s20_87 {ls : List Value} {a : Int32} : ZW zG d 20 87 ls (.int a :: st) z Q = ZW zG d 20 88 ls (st) z Q := zw_popi rfl
theorem s20_88 {x0 x1 x2 x3 : Value} : ZW zG d 20 88 [x0, x1, x2, x3] st z Q = (zir x0 = true ∧ ZW zG d 20 89 [x0, x1, x2, x3] (x0 :: st) z Q) := zw_cond (f := z_aload 0 89) rfl rfl
theorem s20_89 {ls : List Value} {r : Nat} : ZW zG d 20 89 ls (.ref r :: st) z Q = ((zcls z r = 0 ∧ zir (zfr z r 1) = true) ∧ ZW zG d 20 92 ls (zfr z r 1 :: st) (z) Q) := zw_getR rfl
theorem s20_92 {ls : List Value} {r : Nat} : ZW zG d 20 92 ls (.ref r :: st) z Q = ((zcls z r = 1 ∧ zir (zfr z r 1) = true) ∧ ZW zG d 20 95 ls (zfr z r 1 :: st) (z) Q) := zw_getR rfl
theorem s20_95 {x0 x2 x3 : Value} {a : Int32} : ZW zG d 20 95 [x0, .int a, x2, x3] st z Q = ZW zG d 20 96 [x0, .int a, x2, x3] (.int a :: st) z Q := zw_next (f := z_iload 1 96) rfl rfl
theorem s20_96 {x0 x1 x3 : Value} {a : Int32} : ZW zG d 20 96 [x0, x1, .int a, x3] st z Q = ZW zG d 20 97 [x0, x1, .int a, x3] (.int a :: st) z Q := zw_next (f := z_iload 2 97) rfl rfl
theorem s20_97 {x0 x1 x2 x3 : Value} : ZW zG d 20 97 [x0, x1, x2, x3] st z Q = (zir x0 = true ∧ ZW zG d 20 98 [x0, x1, x2, x3] (x0 :: st) z Q) := zw_cond (f := z_aload 0 98) rfl rfl
theorem s20_98 {ls : List Value} {r : Nat} : ZW zG d 20 98 ls (.ref r :: st) z Q = ((zcls z r = 0 ∧ zir (zfr z r 3) = true) ∧ ZW zG d 20 101 ls (zfr z r 3 :: st) (z) Q) := zw_getR rfl
theorem s20_101 {x0 x1 x2 : Value} {a : Int32} : ZW zG d 20 101 [x0, x1, x2, .int a] st z Q = ZW zG d 20 102 [x0, x1, x2, .int a] (.int a :: st) z Q := zw_next (f := z_iload 3 102) rfl rfl
theorem s20_102 {ls : List Value} {a : Int32} {r : Nat} : ZW zG d 20 102 ls (.int a :: .ref r :: st) z Q = ((zcls z r = 62 ∧ zin a (zlen z r) = true ∧ zir (zra z r (zx a)) = true) ∧ ZW zG d 20 103 ls (zra z r (zx a) :: st) (z) Q) := zw_aald rfl
theorem s20_103 {x0 x1 x2 x3 : Value} : ZW zG d 20 103 [x0, x1, x2, x3] st z Q = (zir x0 = true ∧ ZW zG d 20 104 [x0, x1, x2, x3] (x0 :: st) z Q) := zw_cond (f := z_aload 0 104) rfl rfl
theorem s20_104 {ls : List Value} {r : Nat} : ZW zG d 20 104 ls (.ref r :: st) z Q = ((zcls z r = 0 ∧ zir (zfr z r 1) = true) ∧ ZW zG d 20 107 ls (zfr z r 1 :: st) (z) Q) := zw_getR rfl
theorem s20_107 {ls : List Value} {r : Nat} : ZW zG d 20 107 ls (.ref r :: st) z Q = ((zcls z r = 1) ∧ ZW zG d 20 110 ls (.int (zfi z r 3) :: st) (z) Q) := zw_getI rfl
theorem s20_110 {ls : List Value} {w0 : Int32} {w1 : Int32} {w2 : Nat} {w3 : Int32} {r : Nat} : ZW zG (d + 1) 20 110 ls (.int w3 :: .ref w2 :: .int w1 :: .int w0 :: .ref r :: st) z Q = (zcls z r = 3 ∧ zcs st = true ∧ ZC zG d 69 [.ref r, .int w0, .int w1, .ref w2, .int w3] z (zk zG (d + 1) 20 (none) 113 ls st Q)) := zc_V4 rfl (Nat.le_of_ble_eq_true rfl)
theorem s20_113 {ls : List Value} {a : Int32} : ZW zG d 20 113 ls ([.int a]) z Q = Q (.inl (some (.int a))) z := zw_reti rfl
/-- X0_meet (II)I -/
theorem e21 {r0 : Nat} {v0 : Int32} {v1 : Int32} : ZC zG d 21 [.ref r0, .int v0, .int v1] z Q = ZW zG d 21 0 [.ref r0, .int v0, .int v1, zdum] [] z Q := rfl
theorem s21_0 {x0 x1 x2 x3 : Value} : ZW zG d 21 0 [x0, x1, x2, x3] st z Q = (zir x0 = true ∧ ZW zG d 21 1 [x0, x1, x2, x3] (x0 :: st) z Q) := zw_cond (f := z_aload 0 1) rfl rfl
theorem s21_1 {x0 x2 x3 : Value} {a : Int32} : ZW zG d 21 1 [x0, .int a, x2, x3] st z Q = ZW zG d 21 2 [x0, .int a, x2, x3] (.int a :: st) z Q := zw_next (f := z_iload 1 2) rfl rfl
theorem s21_2 {x0 x1 x3 : Value} {a : Int32} : ZW zG d 21 2 [x0, x1, .int a, x3] st z Q = ZW zG d 21 3 [x0, x1, .int a, x3] (.int a :: st) z Q := zw_next (f := z_iload 2 3) rfl rfl
theorem s21_3 {ls : List Value} {w0 : Int32} {w1 : Int32} {r : Nat} : ZW zG (d + 1) 21 3 ls (.int w1 :: .int w0 :: .ref r :: st) z Q = (zcls z r = 0 ∧ zcs st = true ∧ ZC zG d 13 [.ref r, .int w0, .int w1] z (zk zG (d + 1) 21 (none) 6 ls st Q)) := zc_V2 rfl (Nat.le_of_ble_eq_true rfl)
theorem s21_6 {ls : List Value} {a : Int32} : ZW zG d 21 6 ls (.int a :: st) z Q = if ¬ a = 0 then ZW zG d 21 12 ls st z Q else ZW zG d 21 9 ls st z Q := zw_ifne rfl
theorem s21_9 {ls : List Value}  : ZW zG d 21 9 ls (st) z Q = ZW zG d 21 11 ls ((.int (-2)) :: st) z Q := zw_push rfl
theorem s21_11 {ls : List Value} {a : Int32} : ZW zG d 21 11 ls ([.int a]) z Q = Q (.inl (some (.int a))) z := zw_reti rfl
theorem s21_12 {x0 x1 x2 x3 : Value} : ZW zG d 21 12 [x0, x1, x2, x3] st z Q = (zir x0 = true ∧ ZW zG d 21 13 [x0, x1, x2, x3] (x0 :: st) z Q) := zw_cond (f := z_aload 0 13) rfl rfl
theorem s21_13 {ls : List Value} {r : Nat} : ZW zG d 21 13 ls (.ref r :: st) z Q = ((zcls z r = 0 ∧ zir (zfr z r 1) = true) ∧ ZW zG d 21 16 ls (zfr z r 1 :: st) (z) Q) := zw_getR rfl
theorem s21_16 {ls : List Value} {r : Nat} : ZW zG d 21 16 ls (.ref r :: st) z Q = ((zcls z r = 1 ∧ zir (zfr z r 2) = true) ∧ ZW zG d 21 19 ls (zfr z r 2 :: st) (z) Q) := zw_getR rfl
theorem s21_19 {ls : List Value} {r : Nat} : ZW zG d 21 19 ls (.ref r :: st) z Q = ((zcs st = true ∧ zcls z r = 90) ∧ ZW zG d 21 24 ls (.int (nI (zls z r).length) :: st) (z) Q) := zw_lsize rfl
theorem s21_24 {ls : List Value}  : ZW zG d 21 24 ls (st) z Q = ZW zG d 21 27 ls ((.int (nI 600)) :: st) z Q := zw_push rfl
theorem s21_27 {ls : List Value} {a b : Int32} : ZW zG d 21 27 ls (.int b :: .int a :: st) z Q = if ¬ a = b then ZW zG d 21 33 ls st z Q else ZW zG d 21 30 ls st z Q := zw_icne rfl
theorem s21_30 {ls : List Value}  : ZW zG d 21 30 ls (st) z Q = ZW zG d 21 32 ls ((.int (-3)) :: st) z Q := zw_push rfl
theorem s21_32 {ls : List Value} {a : Int32} : ZW zG d 21 32 ls ([.int a]) z Q = Q (.inl (some (.int a))) z := zw_reti rfl
theorem s21_33 {x0 x1 x2 x3 : Value} : ZW zG d 21 33 [x0, x1, x2, x3] st z Q = (zir x0 = true ∧ ZW zG d 21 34 [x0, x1, x2, x3] (x0 :: st) z Q) := zw_cond (f := z_aload 0 34) rfl rfl
theorem s21_34 {ls : List Value} {r : Nat} : ZW zG d 21 34 ls (.ref r :: st) z Q = ((zcls z r = 0 ∧ zir (zfr z r 1) = true) ∧ ZW zG d 21 37 ls (zfr z r 1 :: st) (z) Q) := zw_getR rfl
theorem s21_37 {ls : List Value} {r : Nat} : ZW zG d 21 37 ls (.ref r :: st) z Q = ((zcls z r = 1 ∧ zir (zfr z r 1) = true) ∧ ZW zG d 21 40 ls (zfr z r 1 :: st) (z) Q) := zw_getR rfl
theorem s21_40 {x0 x2 x3 : Value} {a : Int32} : ZW zG d 21 40 [x0, .int a, x2, x3] st z Q = ZW zG d 21 41 [x0, .int a, x2, x3] (.int a :: st) z Q := zw_next (f := z_iload 1 41) rfl rfl
theorem s21_41 {x0 x1 x3 : Value} {a : Int32} : ZW zG d 21 41 [x0, x1, .int a, x3] st z Q = ZW zG d 21 42 [x0, x1, .int a, x3] (.int a :: st) z Q := zw_next (f := z_iload 2 42) rfl rfl
theorem s21_42 {ls : List Value} {w0 : Int32} {w1 : Int32} {r : Nat} : ZW zG (d + 1) 21 42 ls (.int w1 :: .int w0 :: .ref r :: st) z Q = (zcls z r = 3 ∧ zcs st = true ∧ ZC zG d 68 [.ref r, .int w0, .int w1] z (zk zG (d + 1) 21 (none) 45 ls st Q)) := zc_V2 rfl (Nat.le_of_ble_eq_true rfl)
theorem s21_45 {ls : List Value} {a : Int32} : ZW zG d 21 45 ls (.int a :: st) z Q = if a = 0 then ZW zG d 21 52 ls st z Q else ZW zG d 21 48 ls st z Q := zw_ifeq rfl
theorem s21_48 {ls : List Value}  : ZW zG d 21 48 ls (st) z Q = ZW zG d 21 49 ls ((.int (nI 0)) :: st) z Q := zw_push rfl
theorem s21_49 {ls : List Value}  : ZW zG d 21 49 ls (st) z Q = ZW zG d 21 53 ls st z Q := zw_goto rfl
theorem s21_52 {ls : List Value}  : ZW zG d 21 52 ls (st) z Q = ZW zG d 21 53 ls ((.int (nI 1)) :: st) z Q := zw_push rfl
theorem s21_53 {x0 x1 x2 x3 : Value} {a : Int32} : ZW zG d 21 53 [x0, x1, x2, x3] (.int a :: st) z Q = ZW zG d 21 54 [x0, x1, zclr x2, .int a] st z Q := zw_next (f := z_istore 3 54) rfl rfl
theorem s21_54 {x0 x1 x2 x3 : Value} : ZW zG d 21 54 [x0, x1, x2, x3] st z Q = (zir x0 = true ∧ ZW zG d 21 55 [x0, x1, x2, x3] (x0 :: st) z Q) := zw_cond (f := z_aload 0 55) rfl rfl
theorem s21_55 {ls : List Value} {r : Nat} : ZW zG d 21 55 ls (.ref r :: st) z Q = ((zcls z r = 0 ∧ zir (zfr z r 1) = true) ∧ ZW zG d 21 58 ls (zfr z r 1 :: st) (z) Q) := zw_getR rfl
theorem s21_58 {ls : List Value} {r : Nat} : ZW zG d 21 58 ls (.ref r :: st) z Q = ((zcls z r = 1 ∧ zir (zfr z r 2) = true) ∧ ZW zG d 21 61 ls (zfr z r 2 :: st) (z) Q) := zw_getR rfl
theorem s21_61 {ls : List Value}  : ZW zG d 21 61 ls (st) z Q = ZW zG d 21 64 ls (.ref (zn z) :: st) (snew z 22 4) Q := zw_new rfl
theorem s21_64 {ls : List Value} {r : Nat} : ZW zG d 21 64 ls (.ref r :: st) z Q = ZW zG d 21 65 ls (.ref r :: .ref r :: st) z Q := zw_dupr rfl
theorem s21_65 {x0 x2 x3 : Value} {a : Int32} : ZW zG d 21 65 [x0, .int a, x2, x3] st z Q = ZW zG d 21 66 [x0, .int a, x2, x3] (.int a :: st) z Q := zw_next (f := z_iload 1 66) rfl rfl
theorem s21_66 {x0 x1 x3 : Value} {a : Int32} : ZW zG d 21 66 [x0, x1, .int a, x3] st z Q = ZW zG d 21 67 [x0, x1, .int a, x3] (.int a :: st) z Q := zw_next (f := z_iload 2 67) rfl rfl
theorem s21_67 {ls : List Value}  : ZW zG d 21 67 ls (st) z Q = ZW zG d 21 68 ls ((.int (nI 4)) :: st) z Q := zw_push rfl
theorem s21_68 {x0 x1 x2 x3 : Value} : ZW zG d 21 68 [x0, x1, x2, x3] st z Q = (zir x0 = true ∧ ZW zG d 21 69 [x0, x1, x2, x3] (x0 :: st) z Q) := zw_cond (f := z_aload 0 69) rfl rfl
theorem s21_69 {ls : List Value} {r : Nat} : ZW zG d 21 69 ls (.ref r :: st) z Q = ((zcls z r = 0 ∧ zir (zfr z r 1) = true) ∧ ZW zG d 21 72 ls (zfr z r 1 :: st) (z) Q) := zw_getR rfl
theorem s21_72 {ls : List Value} {r : Nat} : ZW zG d 21 72 ls (.ref r :: st) z Q = ((zcls z r = 1) ∧ ZW zG d 21 75 ls (.int (zfi z r 3) :: st) (z) Q) := zw_getI rfl
theorem s21_75 {ls : List Value} {w0 : Int32} {w1 : Int32} {w2 : Int32} {w3 : Int32} {r : Nat} : ZW zG (d + 1) 21 75 ls (.int w3 :: .int w2 :: .int w1 :: .int w0 :: .ref r :: st) z Q = (zcs st = true ∧ ZC zG d 249 [.ref r, .int w0, .int w1, .int w2, .int w3] z (zk zG (d + 1) 21 (none) 78 ls st Q)) := zc_I4 rfl (Nat.le_of_ble_eq_true rfl)
theorem s21_78 {ls : List Value} {v : Value} {r : Nat} : ZW zG d 21 78 ls (v :: .ref r :: st) z Q = ((zcs st = true ∧ zcls z r = 90 ∧ (zlel z v = true ∧ (zls z r).all (zlel z) = true ∧ (zls z r).length < 100000)) ∧ ZW zG d 21 83 ls (.int 1 :: st) (sladd z r v) Q) := zw_ladd1 rfl
theorem s21_83 {ls : List Value} {a : Int32} : ZW zG d 21 83 ls (.int a :: st) z Q = ZW zG d 21 84 ls (st) z Q := zw_popi rfl
theorem s21_84 {x0 x1 x2 x3 : Value} : ZW zG d 21 84 [x0, x1, x2, x3] st z Q = (zir x0 = true ∧ ZW zG d 21 85 [x0, x1, x2, x3] (x0 :: st) z Q) := zw_cond (f := z_aload 0 85) rfl rfl
theorem s21_85 {ls : List Value} {r : Nat} : ZW zG d 21 85 ls (.ref r :: st) z Q = ((zcls z r = 0 ∧ zir (zfr z r 1) = true) ∧ ZW zG d 21 88 ls (zfr z r 1 :: st) (z) Q) := zw_getR rfl
theorem s21_88 {ls : List Value} {r : Nat} : ZW zG d 21 88 ls (.ref r :: st) z Q = ((zcls z r = 1 ∧ zir (zfr z r 1) = true) ∧ ZW zG d 21 91 ls (zfr z r 1 :: st) (z) Q) := zw_getR rfl
theorem s21_91 {x0 x2 x3 : Value} {a : Int32} : ZW zG d 21 91 [x0, .int a, x2, x3] st z Q = ZW zG d 21 92 [x0, .int a, x2, x3] (.int a :: st) z Q := zw_next (f := z_iload 1 92) rfl rfl
theorem s21_92 {x0 x1 x3 : Value} {a : Int32} : ZW zG d 21 92 [x0, x1, .int a, x3] st z Q = ZW zG d 21 93 [x0, x1, .int a, x3] (.int a :: st) z Q := zw_next (f := z_iload 2 93) rfl rfl
theorem s21_93 {ls : List Value} {w0 : Int32} {w1 : Int32} {r : Nat} : ZW zG (d + 1) 21 93 ls (.int w1 :: .int w0 :: .ref r :: st) z Q = (zcls z r = 3 ∧ zcs st = true ∧ ZC zG d 73 [.ref r, .int w0, .int w1] z (zk zG (d + 1) 21 (none) 96 ls st Q)) := zc_V2 rfl (Nat.le_of_ble_eq_true rfl)
theorem s21_96 {x0 x1 x2 : Value} {a : Int32} : ZW zG d 21 96 [x0, x1, x2, .int a] st z Q = ZW zG d 21 97 [x0, x1, x2, .int a] (.int a :: st) z Q := zw_next (f := z_iload 3 97) rfl rfl
theorem s21_97 {ls : List Value} {a : Int32} : ZW zG d 21 97 ls ([.int a]) z Q = Q (.inl (some (.int a))) z := zw_reti rfl
/-- X0_done (I)I -/
theorem e22 {r0 : Nat} {v0 : Int32} : ZC zG d 22 [.ref r0, .int v0] z Q = ZW zG d 22 0 [.ref r0, .int v0, zdum, zdum, zdum, zdum, zdum, zdum, zdum] [] z Q := rfl
theorem s22_0 {x0 x2 x3 x4 x5 x6 x7 x8 : Value} {a : Int32} : ZW zG d 22 0 [x0, .int a, x2, x3, x4, x5, x6, x7, x8] st z Q = ZW zG d 22 1 [x0, .int a, x2, x3, x4, x5, x6, x7, x8] (.int a :: st) z Q := zw_next (f := z_iload 1 1) rfl rfl
theorem s22_1 {ls : List Value} {w0 : Int32} : ZW zG (d + 1) 22 1 ls (.int w0 :: st) z Q = (zcs st = true ∧ ZC zG d 1 [.int w0] z (zk zG (d + 1) 22 (none) 4 ls st Q)) := zc_S1 rfl (Nat.le_of_ble_eq_true rfl)
theorem s22_4 {ls : List Value} {a : Int32} : ZW zG d 22 4 ls (.int a :: st) z Q = if ¬ a = 0 then ZW zG d 22 10 ls st z Q else ZW zG d 22 7 ls st z Q := zw_ifne rfl
theorem s22_7 {ls : List Value}  : ZW zG d 22 7 ls (st) z Q = ZW zG d 22 9 ls ((.int (-2)) :: st) z Q := zw_push rfl
theorem s22_9 {ls : List Value} {a : Int32} : ZW zG d 22 9 ls ([.int a]) z Q = Q (.inl (some (.int a))) z := zw_reti rfl
theorem s22_10 {x0 x1 x2 x3 x4 x5 x6 x7 x8 : Value} : ZW zG d 22 10 [x0, x1, x2, x3, x4, x5, x6, x7, x8] st z Q = (zir x0 = true ∧ ZW zG d 22 11 [x0, x1, x2, x3, x4, x5, x6, x7, x8] (x0 :: st) z Q) := zw_cond (f := z_aload 0 11) rfl rfl
theorem s22_11 {ls : List Value} {r : Nat} : ZW zG d 22 11 ls (.ref r :: st) z Q = ((zcls z r = 0 ∧ zir (zfr z r 0) = true) ∧ ZW zG d 22 14 ls (zfr z r 0 :: st) (z) Q) := zw_getR rfl
theorem s22_14 {x0 x2 x3 x4 x5 x6 x7 x8 : Value} {a : Int32} : ZW zG d 22 14 [x0, .int a, x2, x3, x4, x5, x6, x7, x8] st z Q = ZW zG d 22 15 [x0, .int a, x2, x3, x4, x5, x6, x7, x8] (.int a :: st) z Q := zw_next (f := z_iload 1 15) rfl rfl
theorem s22_15 {ls : List Value} {a : Int32} {r : Nat} : ZW zG d 22 15 ls (.int a :: .ref r :: st) z Q = ((zcls z r = 60 ∧ zin a (zlen z r) = true ∧ zir (zra z r (zx a)) = true) ∧ ZW zG d 22 16 ls (zra z r (zx a) :: st) (z) Q) := zw_aald rfl
theorem s22_16 {x0 x1 x2 x3 x4 x5 x6 x7 x8 : Value} {v : Value} : ZW zG d 22 16 [x0, x1, x2, x3, x4, x5, x6, x7, x8] (v :: st) z Q = (zir v = true ∧ ZW zG d 22 17 [x0, zclr x1, v, x3, x4, x5, x6, x7, x8] st z Q) := by rw [zw_cond (f := z_astore 2 17) (G := zG) rfl rfl]; exact propext ⟨fun h => ⟨h.1.1, h.2⟩, fun h => ⟨⟨h.1, Nat.le_of_ble_eq_true rfl⟩, h.2⟩⟩
theorem s22_17 {x0 x1 x2 x3 x4 x5 x6 x7 x8 : Value} : ZW zG d 22 17 [x0, x1, x2, x3, x4, x5, x6, x7, x8] st z Q = (zir x2 = true ∧ ZW zG d 22 18 [x0, x1, x2, x3, x4, x5, x6, x7, x8] (x2 :: st) z Q) := zw_cond (f := z_aload 2 18) rfl rfl
theorem s22_18 {ls : List Value} {r : Nat} : ZW zG d 22 18 ls (.ref r :: st) z Q = ((zcls z r = 11 ∧ zir (zfr z r 0) = true) ∧ ZW zG d 22 21 ls (zfr z r 0 :: st) (z) Q) := zw_getR rfl
theorem s22_21 {ls : List Value} : ZW zG d 22 21 ls (.null :: st) z Q = ZW zG d 22 24 ls st z Q := zw_ifnon0 rfl
theorem s22_21r {ls : List Value} {r : Nat} : ZW zG d 22 21 ls (.ref r :: st) z Q = ZW zG d 22 27 ls st z Q := zw_ifnon1 rfl
theorem s22_24 {ls : List Value}  : ZW zG d 22 24 ls (st) z Q = ZW zG d 22 26 ls ((.int (-6)) :: st) z Q := zw_push rfl
theorem s22_26 {ls : List Value} {a : Int32} : ZW zG d 22 26 ls ([.int a]) z Q = Q (.inl (some (.int a))) z := zw_reti rfl
theorem s22_27 {ls : List Value}  : ZW zG d 22 27 ls (st) z Q = ZW zG d 22 28 ls ((.int (nI 0)) :: st) z Q := zw_push rfl
theorem s22_28 {x0 x1 x2 x3 x4 x5 x6 x7 x8 : Value} {a : Int32} : ZW zG d 22 28 [x0, x1, x2, x3, x4, x5, x6, x7, x8] (.int a :: st) z Q = ZW zG d 22 29 [x0, x1, zclr x2, .int a, x4, x5, x6, x7, x8] st z Q := zw_next (f := z_istore 3 29) rfl rfl
theorem s22_29 {ls : List Value}  : ZW zG d 22 29 ls (st) z Q = ZW zG d 22 30 ls ((.int (nI 0)) :: st) z Q := zw_push rfl
theorem s22_30 {x0 x1 x2 x3 x4 x5 x6 x7 x8 : Value} {a : Int32} : ZW zG d 22 30 [x0, x1, x2, x3, x4, x5, x6, x7, x8] (.int a :: st) z Q = ZW zG d 22 32 [x0, x1, x2, zclr x3, .int a, x5, x6, x7, x8] st z Q := zw_next (f := z_istore 4 32) rfl rfl
theorem s22_32 {x0 x1 x2 x3 x5 x6 x7 x8 : Value} {a : Int32} : ZW zG d 22 32 [x0, x1, x2, x3, .int a, x5, x6, x7, x8] st z Q = ZW zG d 22 34 [x0, x1, x2, x3, .int a, x5, x6, x7, x8] (.int a :: st) z Q := zw_next (f := z_iload 4 34) rfl rfl
theorem s22_34 {ls : List Value}  : ZW zG d 22 34 ls (st) z Q = ZW zG d 22 35 ls ((.int (nI 2)) :: st) z Q := zw_push rfl
theorem s22_35 {ls : List Value} {a b : Int32} : ZW zG d 22 35 ls (.int b :: .int a :: st) z Q = ZW zG d 22 36 ls (.int (a + b) :: st) z Q := zw_iadd rfl
theorem s22_36 {x0 x1 x2 x3 x4 x5 x6 x7 x8 : Value} : ZW zG d 22 36 [x0, x1, x2, x3, x4, x5, x6, x7, x8] st z Q = (zir x2 = true ∧ ZW zG d 22 37 [x0, x1, x2, x3, x4, x5, x6, x7, x8] (x2 :: st) z Q) := zw_cond (f := z_aload 2 37) rfl rfl
theorem s22_37 {ls : List Value}  {r : Nat} : ZW zG (d + 1) 22 37 ls (.ref r :: st) z Q = (zcls z r = 11 ∧ zcs st = true ∧ ZC zG d 110 [.ref r] z (zk zG (d + 1) 22 (none) 40 ls st Q)) := zc_V0 rfl (Nat.le_of_ble_eq_true rfl)
theorem s22_40 {ls : List Value} {a b : Int32} : ZW zG d 22 40 ls (.int b :: .int a :: st) z Q = if b ≤ a then ZW zG d 22 194 ls st z Q else ZW zG d 22 43 ls st z Q := zw_icge rfl
theorem s22_43 {x0 x1 x2 x3 x4 x5 x6 x7 x8 : Value} : ZW zG d 22 43 [x0, x1, x2, x3, x4, x5, x6, x7, x8] st z Q = (zir x2 = true ∧ ZW zG d 22 44 [x0, x1, x2, x3, x4, x5, x6, x7, x8] (x2 :: st) z Q) := zw_cond (f := z_aload 2 44) rfl rfl
theorem s22_44 {x0 x1 x2 x3 x5 x6 x7 x8 : Value} {a : Int32} : ZW zG d 22 44 [x0, x1, x2, x3, .int a, x5, x6, x7, x8] st z Q = ZW zG d 22 46 [x0, x1, x2, x3, .int a, x5, x6, x7, x8] (.int a :: st) z Q := zw_next (f := z_iload 4 46) rfl rfl
theorem s22_46 {ls : List Value} {w0 : Int32} {r : Nat} : ZW zG (d + 1) 22 46 ls (.int w0 :: .ref r :: st) z Q = (zcls z r = 11 ∧ zcs st = true ∧ ZC zG d 111 [.ref r, .int w0] z (zk zG (d + 1) 22 (none) 49 ls st Q)) := zc_V1 rfl (Nat.le_of_ble_eq_true rfl)
theorem s22_49 {ls : List Value}  : ZW zG d 22 49 ls (st) z Q = ZW zG d 22 50 ls ((.long (lN 0)) :: st) z Q := zw_push rfl
theorem s22_50 {ls : List Value}  : ZW zG d 22 50 ls (st) z Q = ZW zG d 22 53 ls ((.long (lN 16)) :: st) z Q := zw_push rfl
theorem s22_53 {ls : List Value} {w0 : Int64} {w1 : Int64} {w2 : Int64} : ZW zG (d + 1) 22 53 ls (.long w2 :: .long w1 :: .long w0 :: st) z Q = (zcs st = true ∧ ZC zG d 2 [.long w0, .long w1, .long w2] z (zk zG (d + 1) 22 (none) 56 ls st Q)) := zc_S3 rfl (Nat.le_of_ble_eq_true rfl)
theorem s22_56 {ls : List Value} {a : Int32} : ZW zG d 22 56 ls (.int a :: st) z Q = if a = 0 then ZW zG d 22 99 ls st z Q else ZW zG d 22 59 ls st z Q := zw_ifeq rfl
theorem s22_59 {x0 x1 x2 x3 x4 x5 x6 x7 x8 : Value} : ZW zG d 22 59 [x0, x1, x2, x3, x4, x5, x6, x7, x8] st z Q = (zir x2 = true ∧ ZW zG d 22 60 [x0, x1, x2, x3, x4, x5, x6, x7, x8] (x2 :: st) z Q) := zw_cond (f := z_aload 2 60) rfl rfl
theorem s22_60 {x0 x1 x2 x3 x5 x6 x7 x8 : Value} {a : Int32} : ZW zG d 22 60 [x0, x1, x2, x3, .int a, x5, x6, x7, x8] st z Q = ZW zG d 22 62 [x0, x1, x2, x3, .int a, x5, x6, x7, x8] (.int a :: st) z Q := zw_next (f := z_iload 4 62) rfl rfl
theorem s22_62 {ls : List Value}  : ZW zG d 22 62 ls (st) z Q = ZW zG d 22 63 ls ((.int (nI 1)) :: st) z Q := zw_push rfl
theorem s22_63 {ls : List Value} {a b : Int32} : ZW zG d 22 63 ls (.int b :: .int a :: st) z Q = ZW zG d 22 64 ls (.int (a + b) :: st) z Q := zw_iadd rfl
theorem s22_64 {ls : List Value} {w0 : Int32} {r : Nat} : ZW zG (d + 1) 22 64 ls (.int w0 :: .ref r :: st) z Q = (zcls z r = 11 ∧ zcs st = true ∧ ZC zG d 111 [.ref r, .int w0] z (zk zG (d + 1) 22 (none) 67 ls st Q)) := zc_V1 rfl (Nat.le_of_ble_eq_true rfl)
theorem s22_67 {ls : List Value}  : ZW zG d 22 67 ls (st) z Q = ZW zG d 22 68 ls ((.long (lN 0)) :: st) z Q := zw_push rfl
theorem s22_68 {ls : List Value}  : ZW zG d 22 68 ls (st) z Q = ZW zG d 22 71 ls ((.long (lN 16)) :: st) z Q := zw_push rfl
theorem s22_71 {ls : List Value} {w0 : Int64} {w1 : Int64} {w2 : Int64} : ZW zG (d + 1) 22 71 ls (.long w2 :: .long w1 :: .long w0 :: st) z Q = (zcs st = true ∧ ZC zG d 2 [.long w0, .long w1, .long w2] z (zk zG (d + 1) 22 (none) 74 ls st Q)) := zc_S3 rfl (Nat.le_of_ble_eq_true rfl)
theorem s22_74 {ls : List Value} {a : Int32} : ZW zG d 22 74 ls (.int a :: st) z Q = if a = 0 then ZW zG d 22 99 ls st z Q else ZW zG d 22 77 ls st z Q := zw_ifeq rfl
theorem s22_77 {x0 x1 x2 x3 x4 x5 x6 x7 x8 : Value} : ZW zG d 22 77 [x0, x1, x2, x3, x4, x5, x6, x7, x8] st z Q = (zir x2 = true ∧ ZW zG d 22 78 [x0, x1, x2, x3, x4, x5, x6, x7, x8] (x2 :: st) z Q) := zw_cond (f := z_aload 2 78) rfl rfl
theorem s22_78 {x0 x1 x2 x3 x5 x6 x7 x8 : Value} {a : Int32} : ZW zG d 22 78 [x0, x1, x2, x3, .int a, x5, x6, x7, x8] st z Q = ZW zG d 22 80 [x0, x1, x2, x3, .int a, x5, x6, x7, x8] (.int a :: st) z Q := zw_next (f := z_iload 4 80) rfl rfl
theorem s22_80 {ls : List Value}  : ZW zG d 22 80 ls (st) z Q = ZW zG d 22 81 ls ((.int (nI 2)) :: st) z Q := zw_push rfl
theorem s22_81 {ls : List Value} {a b : Int32} : ZW zG d 22 81 ls (.int b :: .int a :: st) z Q = ZW zG d 22 82 ls (.int (a + b) :: st) z Q := zw_iadd rfl
theorem s22_82 {ls : List Value} {w0 : Int32} {r : Nat} : ZW zG (d + 1) 22 82 ls (.int w0 :: .ref r :: st) z Q = (zcls z r = 11 ∧ zcs st = true ∧ ZC zG d 111 [.ref r, .int w0] z (zk zG (d + 1) 22 (none) 85 ls st Q)) := zc_V1 rfl (Nat.le_of_ble_eq_true rfl)
theorem s22_85 {ls : List Value}  : ZW zG d 22 85 ls (st) z Q = ZW zG d 22 86 ls ((.long (lN 0)) :: st) z Q := zw_push rfl
theorem s22_86 {ls : List Value}  : ZW zG d 22 86 ls (st) z Q = ZW zG d 22 89 ls ((.long (lN 4)) :: st) z Q := zw_push rfl
theorem s22_89 {ls : List Value} {w0 : Int64} {w1 : Int64} {w2 : Int64} : ZW zG (d + 1) 22 89 ls (.long w2 :: .long w1 :: .long w0 :: st) z Q = (zcs st = true ∧ ZC zG d 2 [.long w0, .long w1, .long w2] z (zk zG (d + 1) 22 (none) 92 ls st Q)) := zc_S3 rfl (Nat.le_of_ble_eq_true rfl)
theorem s22_92 {ls : List Value} {a : Int32} : ZW zG d 22 92 ls (.int a :: st) z Q = if a = 0 then ZW zG d 22 99 ls st z Q else ZW zG d 22 95 ls st z Q := zw_ifeq rfl
theorem s22_95 {ls : List Value}  : ZW zG d 22 95 ls (st) z Q = ZW zG d 22 96 ls ((.int (nI 1)) :: st) z Q := zw_push rfl
theorem s22_96 {ls : List Value}  : ZW zG d 22 96 ls (st) z Q = ZW zG d 22 100 ls st z Q := zw_goto rfl
theorem s22_99 {ls : List Value}  : ZW zG d 22 99 ls (st) z Q = ZW zG d 22 100 ls ((.int (nI 0)) :: st) z Q := zw_push rfl
theorem s22_100 {x0 x1 x2 x3 x4 x5 x6 x7 x8 : Value} {a : Int32} : ZW zG d 22 100 [x0, x1, x2, x3, x4, x5, x6, x7, x8] (.int a :: st) z Q = ZW zG d 22 102 [x0, x1, x2, x3, zclr x4, .int a, x6, x7, x8] st z Q := zw_next (f := z_istore 5 102) rfl rfl
theorem s22_102 {x0 x1 x2 x3 x4 x6 x7 x8 : Value} {a : Int32} : ZW zG d 22 102 [x0, x1, x2, x3, x4, .int a, x6, x7, x8] st z Q = ZW zG d 22 104 [x0, x1, x2, x3, x4, .int a, x6, x7, x8] (.int a :: st) z Q := zw_next (f := z_iload 5 104) rfl rfl
theorem s22_104 {ls : List Value} {a : Int32} : ZW zG d 22 104 ls (.int a :: st) z Q = if ¬ a = 0 then ZW zG d 22 110 ls st z Q else ZW zG d 22 107 ls st z Q := zw_ifne rfl
theorem s22_107 {ls : List Value}  : ZW zG d 22 107 ls (st) z Q = ZW zG d 22 188 ls st z Q := zw_goto rfl
theorem s22_110 {x0 x1 x2 x3 x4 x5 x6 x7 x8 : Value} : ZW zG d 22 110 [x0, x1, x2, x3, x4, x5, x6, x7, x8] st z Q = (zir x2 = true ∧ ZW zG d 22 111 [x0, x1, x2, x3, x4, x5, x6, x7, x8] (x2 :: st) z Q) := zw_cond (f := z_aload 2 111) rfl rfl
theorem s22_111 {x0 x1 x2 x3 x5 x6 x7 x8 : Value} {a : Int32} : ZW zG d 22 111 [x0, x1, x2, x3, .int a, x5, x6, x7, x8] st z Q = ZW zG d 22 113 [x0, x1, x2, x3, .int a, x5, x6, x7, x8] (.int a :: st) z Q := zw_next (f := z_iload 4 113) rfl rfl
theorem s22_113 {ls : List Value} {w0 : Int32} {r : Nat} : ZW zG (d + 1) 22 113 ls (.int w0 :: .ref r :: st) z Q = (zcls z r = 11 ∧ zcs st = true ∧ ZC zG d 111 [.ref r, .int w0] z (zk zG (d + 1) 22 (none) 116 ls st Q)) := zc_V1 rfl (Nat.le_of_ble_eq_true rfl)
theorem s22_116 {ls : List Value} {x : Int64} : ZW zG d 22 116 ls (.long x :: st) z Q = ZW zG d 22 117 ls (.int x.toInt32 :: st) z Q := zw_l2i rfl
theorem s22_117 {x0 x1 x2 x3 x4 x5 x6 x7 x8 : Value} {a : Int32} : ZW zG d 22 117 [x0, x1, x2, x3, x4, x5, x6, x7, x8] (.int a :: st) z Q = ZW zG d 22 119 [x0, x1, x2, x3, x4, zclr x5, .int a, x7, x8] st z Q := zw_next (f := z_istore 6 119) rfl rfl
theorem s22_119 {x0 x1 x2 x3 x4 x5 x6 x7 x8 : Value} : ZW zG d 22 119 [x0, x1, x2, x3, x4, x5, x6, x7, x8] st z Q = (zir x2 = true ∧ ZW zG d 22 120 [x0, x1, x2, x3, x4, x5, x6, x7, x8] (x2 :: st) z Q) := zw_cond (f := z_aload 2 120) rfl rfl
theorem s22_120 {x0 x1 x2 x3 x5 x6 x7 x8 : Value} {a : Int32} : ZW zG d 22 120 [x0, x1, x2, x3, .int a, x5, x6, x7, x8] st z Q = ZW zG d 22 122 [x0, x1, x2, x3, .int a, x5, x6, x7, x8] (.int a :: st) z Q := zw_next (f := z_iload 4 122) rfl rfl
theorem s22_122 {ls : List Value}  : ZW zG d 22 122 ls (st) z Q = ZW zG d 22 123 ls ((.int (nI 1)) :: st) z Q := zw_push rfl
theorem s22_123 {ls : List Value} {a b : Int32} : ZW zG d 22 123 ls (.int b :: .int a :: st) z Q = ZW zG d 22 124 ls (.int (a + b) :: st) z Q := zw_iadd rfl
theorem s22_124 {ls : List Value} {w0 : Int32} {r : Nat} : ZW zG (d + 1) 22 124 ls (.int w0 :: .ref r :: st) z Q = (zcls z r = 11 ∧ zcs st = true ∧ ZC zG d 111 [.ref r, .int w0] z (zk zG (d + 1) 22 (none) 127 ls st Q)) := zc_V1 rfl (Nat.le_of_ble_eq_true rfl)
theorem s22_127 {ls : List Value} {x : Int64} : ZW zG d 22 127 ls (.long x :: st) z Q = ZW zG d 22 128 ls (.int x.toInt32 :: st) z Q := zw_l2i rfl
theorem s22_128 {x0 x1 x2 x3 x4 x5 x6 x7 x8 : Value} {a : Int32} : ZW zG d 22 128 [x0, x1, x2, x3, x4, x5, x6, x7, x8] (.int a :: st) z Q = ZW zG d 22 130 [x0, x1, x2, x3, x4, x5, zclr x6, .int a, x8] st z Q := zw_next (f := z_istore 7 130) rfl rfl
theorem s22_130 {x0 x1 x2 x3 x4 x5 x6 x7 x8 : Value} : ZW zG d 22 130 [x0, x1, x2, x3, x4, x5, x6, x7, x8] st z Q = (zir x2 = true ∧ ZW zG d 22 131 [x0, x1, x2, x3, x4, x5, x6, x7, x8] (x2 :: st) z Q) := zw_cond (f := z_aload 2 131) rfl rfl
theorem s22_131 {x0 x1 x2 x3 x5 x6 x7 x8 : Value} {a : Int32} : ZW zG d 22 131 [x0, x1, x2, x3, .int a, x5, x6, x7, x8] st z Q = ZW zG d 22 133 [x0, x1, x2, x3, .int a, x5, x6, x7, x8] (.int a :: st) z Q := zw_next (f := z_iload 4 133) rfl rfl
theorem s22_133 {ls : List Value}  : ZW zG d 22 133 ls (st) z Q = ZW zG d 22 134 ls ((.int (nI 2)) :: st) z Q := zw_push rfl
theorem s22_134 {ls : List Value} {a b : Int32} : ZW zG d 22 134 ls (.int b :: .int a :: st) z Q = ZW zG d 22 135 ls (.int (a + b) :: st) z Q := zw_iadd rfl
theorem s22_135 {ls : List Value} {w0 : Int32} {r : Nat} : ZW zG (d + 1) 22 135 ls (.int w0 :: .ref r :: st) z Q = (zcls z r = 11 ∧ zcs st = true ∧ ZC zG d 111 [.ref r, .int w0] z (zk zG (d + 1) 22 (none) 138 ls st Q)) := zc_V1 rfl (Nat.le_of_ble_eq_true rfl)
theorem s22_138 {ls : List Value}  : ZW zG d 22 138 ls (st) z Q = ZW zG d 22 141 ls ((.long (lN 4)) :: st) z Q := zw_push rfl
theorem s22_141 {ls : List Value} {x y : Int64} : ZW zG d 22 141 ls (.long y :: .long x :: st) z Q = ZW zG d 22 142 ls (.int (lg_cmp x y) :: st) z Q := zw_lcmp rfl
theorem s22_142 {ls : List Value} {a : Int32} : ZW zG d 22 142 ls (.int a :: st) z Q = if ¬ a = 0 then ZW zG d 22 156 ls st z Q else ZW zG d 22 145 ls st z Q := zw_ifne rfl
theorem s22_145 {x0 x1 x2 x3 x4 x5 x6 x7 x8 : Value} : ZW zG d 22 145 [x0, x1, x2, x3, x4, x5, x6, x7, x8] st z Q = (zir x0 = true ∧ ZW zG d 22 146 [x0, x1, x2, x3, x4, x5, x6, x7, x8] (x0 :: st) z Q) := zw_cond (f := z_aload 0 146) rfl rfl
theorem s22_146 {x0 x1 x2 x3 x4 x5 x7 x8 : Value} {a : Int32} : ZW zG d 22 146 [x0, x1, x2, x3, x4, x5, .int a, x7, x8] st z Q = ZW zG d 22 148 [x0, x1, x2, x3, x4, x5, .int a, x7, x8] (.int a :: st) z Q := zw_next (f := z_iload 6 148) rfl rfl
theorem s22_148 {x0 x1 x2 x3 x4 x5 x6 x8 : Value} {a : Int32} : ZW zG d 22 148 [x0, x1, x2, x3, x4, x5, x6, .int a, x8] st z Q = ZW zG d 22 150 [x0, x1, x2, x3, x4, x5, x6, .int a, x8] (.int a :: st) z Q := zw_next (f := z_iload 7 150) rfl rfl
theorem s22_150 {ls : List Value} {w0 : Int32} {w1 : Int32} {r : Nat} : ZW zG (d + 1) 22 150 ls (.int w1 :: .int w0 :: .ref r :: st) z Q = (zcls z r = 0 ∧ zcs st = true ∧ ZC zG d 21 [.ref r, .int w0, .int w1] z (zk zG (d + 1) 22 (none) 153 ls st Q)) := zc_V2 rfl (Nat.le_of_ble_eq_true rfl)
theorem s22_153 {ls : List Value}  : ZW zG d 22 153 ls (st) z Q = ZW zG d 22 173 ls st z Q := zw_goto rfl
theorem s22_156 {x0 x1 x2 x3 x4 x5 x6 x7 x8 : Value} : ZW zG d 22 156 [x0, x1, x2, x3, x4, x5, x6, x7, x8] st z Q = (zir x0 = true ∧ ZW zG d 22 157 [x0, x1, x2, x3, x4, x5, x6, x7, x8] (x0 :: st) z Q) := zw_cond (f := z_aload 0 157) rfl rfl
theorem s22_157 {x0 x1 x2 x3 x4 x5 x7 x8 : Value} {a : Int32} : ZW zG d 22 157 [x0, x1, x2, x3, x4, x5, .int a, x7, x8] st z Q = ZW zG d 22 159 [x0, x1, x2, x3, x4, x5, .int a, x7, x8] (.int a :: st) z Q := zw_next (f := z_iload 6 159) rfl rfl
theorem s22_159 {x0 x1 x2 x3 x4 x5 x6 x8 : Value} {a : Int32} : ZW zG d 22 159 [x0, x1, x2, x3, x4, x5, x6, .int a, x8] st z Q = ZW zG d 22 161 [x0, x1, x2, x3, x4, x5, x6, .int a, x8] (.int a :: st) z Q := zw_next (f := z_iload 7 161) rfl rfl
theorem s22_161 {x0 x1 x2 x3 x4 x5 x6 x7 x8 : Value} : ZW zG d 22 161 [x0, x1, x2, x3, x4, x5, x6, x7, x8] st z Q = (zir x2 = true ∧ ZW zG d 22 162 [x0, x1, x2, x3, x4, x5, x6, x7, x8] (x2 :: st) z Q) := zw_cond (f := z_aload 2 162) rfl rfl
theorem s22_162 {x0 x1 x2 x3 x5 x6 x7 x8 : Value} {a : Int32} : ZW zG d 22 162 [x0, x1, x2, x3, .int a, x5, x6, x7, x8] st z Q = ZW zG d 22 164 [x0, x1, x2, x3, .int a, x5, x6, x7, x8] (.int a :: st) z Q := zw_next (f := z_iload 4 164) rfl rfl
theorem s22_164 {ls : List Value}  : ZW zG d 22 164 ls (st) z Q = ZW zG d 22 165 ls ((.int (nI 2)) :: st) z Q := zw_push rfl
theorem s22_165 {ls : List Value} {a b : Int32} : ZW zG d 22 165 ls (.int b :: .int a :: st) z Q = ZW zG d 22 166 ls (.int (a + b) :: st) z Q := zw_iadd rfl
theorem s22_166 {ls : List Value} {w0 : Int32} {r : Nat} : ZW zG (d + 1) 22 166 ls (.int w0 :: .ref r :: st) z Q = (zcls z r = 11 ∧ zcs st = true ∧ ZC zG d 111 [.ref r, .int w0] z (zk zG (d + 1) 22 (none) 169 ls st Q)) := zc_V1 rfl (Nat.le_of_ble_eq_true rfl)
theorem s22_169 {ls : List Value} {x : Int64} : ZW zG d 22 169 ls (.long x :: st) z Q = ZW zG d 22 170 ls (.int x.toInt32 :: st) z Q := zw_l2i rfl
theorem s22_170 {ls : List Value} {w0 : Int32} {w1 : Int32} {w2 : Int32} {r : Nat} : ZW zG (d + 1) 22 170 ls (.int w2 :: .int w1 :: .int w0 :: .ref r :: st) z Q = (zcls z r = 0 ∧ zcs st = true ∧ ZC zG d 20 [.ref r, .int w0, .int w1, .int w2] z (zk zG (d + 1) 22 (none) 173 ls st Q)) := zc_V3 rfl (Nat.le_of_ble_eq_true rfl)
theorem s22_173 {x0 x1 x2 x3 x4 x5 x6 x7 x8 : Value} {a : Int32} : ZW zG d 22 173 [x0, x1, x2, x3, x4, x5, x6, x7, x8] (.int a :: st) z Q = ZW zG d 22 175 [x0, x1, x2, x3, x4, x5, x6, zclr x7, .int a] st z Q := zw_next (f := z_istore 8 175) rfl rfl
theorem s22_175 {x0 x1 x2 x4 x5 x6 x7 x8 : Value} {a : Int32} : ZW zG d 22 175 [x0, x1, x2, .int a, x4, x5, x6, x7, x8] st z Q = ZW zG d 22 176 [x0, x1, x2, .int a, x4, x5, x6, x7, x8] (.int a :: st) z Q := zw_next (f := z_iload 3 176) rfl rfl
theorem s22_176 {x0 x1 x2 x3 x4 x5 x6 x7 : Value} {a : Int32} : ZW zG d 22 176 [x0, x1, x2, x3, x4, x5, x6, x7, .int a] st z Q = ZW zG d 22 178 [x0, x1, x2, x3, x4, x5, x6, x7, .int a] (.int a :: st) z Q := zw_next (f := z_iload 8 178) rfl rfl
theorem s22_178 {ls : List Value} {a : Int32} : ZW zG d 22 178 ls (.int a :: st) z Q = if a < 0 then ZW zG d 22 185 ls st z Q else ZW zG d 22 181 ls st z Q := zw_iflt rfl
theorem s22_181 {ls : List Value}  : ZW zG d 22 181 ls (st) z Q = ZW zG d 22 182 ls ((.int (nI 1)) :: st) z Q := zw_push rfl
theorem s22_182 {ls : List Value}  : ZW zG d 22 182 ls (st) z Q = ZW zG d 22 186 ls st z Q := zw_goto rfl
theorem s22_185 {ls : List Value}  : ZW zG d 22 185 ls (st) z Q = ZW zG d 22 186 ls ((.int (nI 0)) :: st) z Q := zw_push rfl
theorem s22_186 {ls : List Value} {a b : Int32} : ZW zG d 22 186 ls (.int b :: .int a :: st) z Q = ZW zG d 22 187 ls (.int (a + b) :: st) z Q := zw_iadd rfl
theorem s22_187 {x0 x1 x2 x3 x4 x5 x6 x7 x8 : Value} {a : Int32} : ZW zG d 22 187 [x0, x1, x2, x3, x4, x5, x6, x7, x8] (.int a :: st) z Q = ZW zG d 22 188 [x0, x1, zclr x2, .int a, x4, x5, x6, x7, x8] st z Q := zw_next (f := z_istore 3 188) rfl rfl
theorem s22_188 {x0 x1 x2 x3 x5 x6 x7 x8 : Value} {a : Int32} : ZW zG d 22 188 [x0, x1, x2, x3, .int a, x5, x6, x7, x8] st z Q = ZW zG d 22 191 [x0, x1, x2, zclr x3, .int (a + (nI 3)), x5, x6, x7, x8] st z Q := zw_next (f := z_iinc 4 (nI 3) 191) rfl rfl
theorem s22_191 {ls : List Value}  : ZW zG d 22 191 ls (st) z Q = ZW zG d 22 32 ls st z Q := zw_goto rfl
theorem s22_194 {x0 x1 x2 x4 x5 x6 x7 x8 : Value} {a : Int32} : ZW zG d 22 194 [x0, x1, x2, .int a, x4, x5, x6, x7, x8] st z Q = ZW zG d 22 195 [x0, x1, x2, .int a, x4, x5, x6, x7, x8] (.int a :: st) z Q := zw_next (f := z_iload 3 195) rfl rfl
theorem s22_195 {ls : List Value} {a : Int32} : ZW zG d 22 195 ls ([.int a]) z Q = Q (.inl (some (.int a))) z := zw_reti rfl
/-- X0_known (II)I -/
theorem e23 {r0 : Nat} {v0 : Int32} {v1 : Int32} : ZC zG d 23 [.ref r0, .int v0, .int v1] z Q = ZW zG d 23 0 [.ref r0, .int v0, .int v1] [] z Q := rfl
theorem s23_0 {x0 x1 x2 : Value} : ZW zG d 23 0 [x0, x1, x2] st z Q = (zir x0 = true ∧ ZW zG d 23 1 [x0, x1, x2] (x0 :: st) z Q) := zw_cond (f := z_aload 0 1) rfl rfl
theorem s23_1 {x0 x2 : Value} {a : Int32} : ZW zG d 23 1 [x0, .int a, x2] st z Q = ZW zG d 23 2 [x0, .int a, x2] (.int a :: st) z Q := zw_next (f := z_iload 1 2) rfl rfl
theorem s23_2 {x0 x1 : Value} {a : Int32} : ZW zG d 23 2 [x0, x1, .int a] st z Q = ZW zG d 23 3 [x0, x1, .int a] (.int a :: st) z Q := zw_next (f := z_iload 2 3) rfl rfl
theorem s23_3 {ls : List Value} {w0 : Int32} {w1 : Int32} {r : Nat} : ZW zG (d + 1) 23 3 ls (.int w1 :: .int w0 :: .ref r :: st) z Q = (zcls z r = 0 ∧ zcs st = true ∧ ZC zG d 13 [.ref r, .int w0, .int w1] z (zk zG (d + 1) 23 (none) 6 ls st Q)) := zc_V2 rfl (Nat.le_of_ble_eq_true rfl)
theorem s23_6 {ls : List Value} {a : Int32} : ZW zG d 23 6 ls (.int a :: st) z Q = if ¬ a = 0 then ZW zG d 23 14 ls st z Q else ZW zG d 23 9 ls st z Q := zw_ifne rfl
theorem s23_9 {ls : List Value}  : ZW zG d 23 9 ls (st) z Q = ZW zG d 23 11 ls ((.int (-2)) :: st) z Q := zw_push rfl
theorem s23_11 {ls : List Value}  : ZW zG d 23 11 ls (st) z Q = ZW zG d 23 34 ls st z Q := zw_goto rfl
theorem s23_14 {x0 x1 x2 : Value} : ZW zG d 23 14 [x0, x1, x2] st z Q = (zir x0 = true ∧ ZW zG d 23 15 [x0, x1, x2] (x0 :: st) z Q) := zw_cond (f := z_aload 0 15) rfl rfl
theorem s23_15 {ls : List Value} {r : Nat} : ZW zG d 23 15 ls (.ref r :: st) z Q = ((zcls z r = 0 ∧ zir (zfr z r 1) = true) ∧ ZW zG d 23 18 ls (zfr z r 1 :: st) (z) Q) := zw_getR rfl
theorem s23_18 {ls : List Value} {r : Nat} : ZW zG d 23 18 ls (.ref r :: st) z Q = ((zcls z r = 1 ∧ zir (zfr z r 1) = true) ∧ ZW zG d 23 21 ls (zfr z r 1 :: st) (z) Q) := zw_getR rfl
theorem s23_21 {x0 x2 : Value} {a : Int32} : ZW zG d 23 21 [x0, .int a, x2] st z Q = ZW zG d 23 22 [x0, .int a, x2] (.int a :: st) z Q := zw_next (f := z_iload 1 22) rfl rfl
theorem s23_22 {x0 x1 : Value} {a : Int32} : ZW zG d 23 22 [x0, x1, .int a] st z Q = ZW zG d 23 23 [x0, x1, .int a] (.int a :: st) z Q := zw_next (f := z_iload 2 23) rfl rfl
theorem s23_23 {ls : List Value} {w0 : Int32} {w1 : Int32} {r : Nat} : ZW zG (d + 1) 23 23 ls (.int w1 :: .int w0 :: .ref r :: st) z Q = (zcls z r = 3 ∧ zcs st = true ∧ ZC zG d 68 [.ref r, .int w0, .int w1] z (zk zG (d + 1) 23 (none) 26 ls st Q)) := zc_V2 rfl (Nat.le_of_ble_eq_true rfl)
theorem s23_26 {ls : List Value} {a : Int32} : ZW zG d 23 26 ls (.int a :: st) z Q = if a = 0 then ZW zG d 23 33 ls st z Q else ZW zG d 23 29 ls st z Q := zw_ifeq rfl
theorem s23_29 {ls : List Value}  : ZW zG d 23 29 ls (st) z Q = ZW zG d 23 30 ls ((.int (nI 1)) :: st) z Q := zw_push rfl
theorem s23_30 {ls : List Value}  : ZW zG d 23 30 ls (st) z Q = ZW zG d 23 34 ls st z Q := zw_goto rfl
theorem s23_33 {ls : List Value}  : ZW zG d 23 33 ls (st) z Q = ZW zG d 23 34 ls ((.int (nI 0)) :: st) z Q := zw_push rfl
theorem s23_34 {ls : List Value} {a : Int32} : ZW zG d 23 34 ls ([.int a]) z Q = Q (.inl (some (.int a))) z := zw_reti rfl
/-- X0_debts (I)I -/
theorem e24 {r0 : Nat} {v0 : Int32} : ZC zG d 24 [.ref r0, .int v0] z Q = ZW zG d 24 0 [.ref r0, .int v0] [] z Q := rfl
theorem s24_0 {x0 x1 : Value} : ZW zG d 24 0 [x0, x1] st z Q = (zir x0 = true ∧ ZW zG d 24 1 [x0, x1] (x0 :: st) z Q) := zw_cond (f := z_aload 0 1) rfl rfl
theorem s24_1 {x0 : Value} {a : Int32} : ZW zG d 24 1 [x0, .int a] st z Q = ZW zG d 24 2 [x0, .int a] (.int a :: st) z Q := zw_next (f := z_iload 1 2) rfl rfl
theorem s24_2 {ls : List Value} {w0 : Int32} {r : Nat} : ZW zG (d + 1) 24 2 ls (.int w0 :: .ref r :: st) z Q = (zcls z r = 0 ∧ zcs st = true ∧ ZC zG d 14 [.ref r, .int w0] z (zk zG (d + 1) 24 (none) 5 ls st Q)) := zc_V1 rfl (Nat.le_of_ble_eq_true rfl)
theorem s24_5 {ls : List Value} {a : Int32} : ZW zG d 24 5 ls (.int a :: st) z Q = if a = 0 then ZW zG d 24 22 ls st z Q else ZW zG d 24 8 ls st z Q := zw_ifeq rfl
theorem s24_8 {x0 x1 : Value} : ZW zG d 24 8 [x0, x1] st z Q = (zir x0 = true ∧ ZW zG d 24 9 [x0, x1] (x0 :: st) z Q) := zw_cond (f := z_aload 0 9) rfl rfl
theorem s24_9 {ls : List Value} {r : Nat} : ZW zG d 24 9 ls (.ref r :: st) z Q = ((zcls z r = 0 ∧ zir (zfr z r 1) = true) ∧ ZW zG d 24 12 ls (zfr z r 1 :: st) (z) Q) := zw_getR rfl
theorem s24_12 {ls : List Value} {r : Nat} : ZW zG d 24 12 ls (.ref r :: st) z Q = ((zcls z r = 1 ∧ zir (zfr z r 1) = true) ∧ ZW zG d 24 15 ls (zfr z r 1 :: st) (z) Q) := zw_getR rfl
theorem s24_15 {x0 : Value} {a : Int32} : ZW zG d 24 15 [x0, .int a] st z Q = ZW zG d 24 16 [x0, .int a] (.int a :: st) z Q := zw_next (f := z_iload 1 16) rfl rfl
theorem s24_16 {ls : List Value} {w0 : Int32} {r : Nat} : ZW zG (d + 1) 24 16 ls (.int w0 :: .ref r :: st) z Q = (zcls z r = 3 ∧ zcs st = true ∧ ZC zG d 71 [.ref r, .int w0] z (zk zG (d + 1) 24 (none) 19 ls st Q)) := zc_V1 rfl (Nat.le_of_ble_eq_true rfl)
theorem s24_19 {ls : List Value}  : ZW zG d 24 19 ls (st) z Q = ZW zG d 24 24 ls st z Q := zw_goto rfl
theorem s24_22 {ls : List Value}  : ZW zG d 24 22 ls (st) z Q = ZW zG d 24 24 ls ((.int (-2)) :: st) z Q := zw_push rfl
theorem s24_24 {ls : List Value} {a : Int32} : ZW zG d 24 24 ls ([.int a]) z Q = Q (.inl (some (.int a))) z := zw_reti rfl
/-- X0_debt (III)I -/
theorem e25 {r0 : Nat} {v0 : Int32} {v1 : Int32} {v2 : Int32} : ZC zG d 25 [.ref r0, .int v0, .int v1, .int v2] z Q = ZW zG d 25 0 [.ref r0, .int v0, .int v1, .int v2, zdum] [] z Q := rfl
theorem s25_0 {x0 x1 x2 x3 x4 : Value} : ZW zG d 25 0 [x0, x1, x2, x3, x4] st z Q = (zir x0 = true ∧ ZW zG d 25 1 [x0, x1, x2, x3, x4] (x0 :: st) z Q) := zw_cond (f := z_aload 0 1) rfl rfl
theorem s25_1 {x0 x2 x3 x4 : Value} {a : Int32} : ZW zG d 25 1 [x0, .int a, x2, x3, x4] st z Q = ZW zG d 25 2 [x0, .int a, x2, x3, x4] (.int a :: st) z Q := zw_next (f := z_iload 1 2) rfl rfl
theorem s25_2 {ls : List Value} {w0 : Int32} {r : Nat} : ZW zG (d + 1) 25 2 ls (.int w0 :: .ref r :: st) z Q = (zcls z r = 0 ∧ zcs st = true ∧ ZC zG d 14 [.ref r, .int w0] z (zk zG (d + 1) 25 (none) 5 ls st Q)) := zc_V1 rfl (Nat.le_of_ble_eq_true rfl)
theorem s25_5 {ls : List Value} {a : Int32} : ZW zG d 25 5 ls (.int a :: st) z Q = if a = 0 then ZW zG d 25 27 ls st z Q else ZW zG d 25 8 ls st z Q := zw_ifeq rfl
theorem s25_8 {x0 x1 x3 x4 : Value} {a : Int32} : ZW zG d 25 8 [x0, x1, .int a, x3, x4] st z Q = ZW zG d 25 9 [x0, x1, .int a, x3, x4] (.int a :: st) z Q := zw_next (f := z_iload 2 9) rfl rfl
theorem s25_9 {ls : List Value} {a : Int32} : ZW zG d 25 9 ls (.int a :: st) z Q = if a < 0 then ZW zG d 25 27 ls st z Q else ZW zG d 25 12 ls st z Q := zw_iflt rfl
theorem s25_12 {x0 x1 x2 x3 x4 : Value} : ZW zG d 25 12 [x0, x1, x2, x3, x4] st z Q = (zir x0 = true ∧ ZW zG d 25 13 [x0, x1, x2, x3, x4] (x0 :: st) z Q) := zw_cond (f := z_aload 0 13) rfl rfl
theorem s25_13 {ls : List Value} {r : Nat} : ZW zG d 25 13 ls (.ref r :: st) z Q = ((zcls z r = 0 ∧ zir (zfr z r 1) = true) ∧ ZW zG d 25 16 ls (zfr z r 1 :: st) (z) Q) := zw_getR rfl
theorem s25_16 {ls : List Value} {r : Nat} : ZW zG d 25 16 ls (.ref r :: st) z Q = ((zcls z r = 1 ∧ zir (zfr z r 1) = true) ∧ ZW zG d 25 19 ls (zfr z r 1 :: st) (z) Q) := zw_getR rfl
theorem s25_19 {x0 x2 x3 x4 : Value} {a : Int32} : ZW zG d 25 19 [x0, .int a, x2, x3, x4] st z Q = ZW zG d 25 20 [x0, .int a, x2, x3, x4] (.int a :: st) z Q := zw_next (f := z_iload 1 20) rfl rfl
theorem s25_20 {x0 x1 x3 x4 : Value} {a : Int32} : ZW zG d 25 20 [x0, x1, .int a, x3, x4] st z Q = ZW zG d 25 21 [x0, x1, .int a, x3, x4] (.int a :: st) z Q := zw_next (f := z_iload 2 21) rfl rfl
theorem s25_21 {ls : List Value} {w0 : Int32} {w1 : Int32} {r : Nat} : ZW zG (d + 1) 25 21 ls (.int w1 :: .int w0 :: .ref r :: st) z Q = (zcls z r = 3 ∧ zcs st = true ∧ ZC zG d 74 [.ref r, .int w0, .int w1] z (zk zG (d + 1) 25 (none) 24 ls st Q)) := zc_V2 rfl (Nat.le_of_ble_eq_true rfl)
theorem s25_24 {ls : List Value}  : ZW zG d 25 24 ls (st) z Q = ZW zG d 25 28 ls st z Q := zw_goto rfl
theorem s25_27 {ls : List Value}  : ZW zG d 25 27 ls (st) z Q = ZW zG d 25 28 ls (.null :: st) z Q := zw_push rfl
theorem s25_28 {x0 x1 x2 x3 x4 : Value} {v : Value} : ZW zG d 25 28 [x0, x1, x2, x3, x4] (v :: st) z Q = (zir v = true ∧ ZW zG d 25 30 [x0, x1, x2, zclr x3, v] st z Q) := by rw [zw_cond (f := z_astore 4 30) (G := zG) rfl rfl]; exact propext ⟨fun h => ⟨h.1.1, h.2⟩, fun h => ⟨⟨h.1, Nat.le_of_ble_eq_true rfl⟩, h.2⟩⟩
theorem s25_30 {x0 x1 x2 x3 x4 : Value} : ZW zG d 25 30 [x0, x1, x2, x3, x4] st z Q = (zir x4 = true ∧ ZW zG d 25 32 [x0, x1, x2, x3, x4] (x4 :: st) z Q) := zw_cond (f := z_aload 4 32) rfl rfl
theorem s25_32 {ls : List Value} : ZW zG d 25 32 ls (.null :: st) z Q = ZW zG d 25 35 ls st z Q := zw_ifnon0 rfl
theorem s25_32r {ls : List Value} {r : Nat} : ZW zG d 25 32 ls (.ref r :: st) z Q = ZW zG d 25 37 ls st z Q := zw_ifnon1 rfl
theorem s25_35 {ls : List Value}  : ZW zG d 25 35 ls (st) z Q = ZW zG d 25 36 ls ((.int (-1)) :: st) z Q := zw_push rfl
theorem s25_36 {ls : List Value} {a : Int32} : ZW zG d 25 36 ls ([.int a]) z Q = Q (.inl (some (.int a))) z := zw_reti rfl
theorem s25_37 {x0 x1 x2 x4 : Value} {a : Int32} : ZW zG d 25 37 [x0, x1, x2, .int a, x4] st z Q = ZW zG d 25 38 [x0, x1, x2, .int a, x4] (.int a :: st) z Q := zw_next (f := z_iload 3 38) rfl rfl
theorem s25_38 {ls : List Value} {a : Int32} : ZW zG d 25 38 ls (.int a :: st) z Q = ZW zG d 25 (ztsw [68, 74, 80, 86] 92 a) ls st z Q := zw_tsw rfl
theorem s25_68 {x0 x1 x2 x3 x4 : Value} : ZW zG d 25 68 [x0, x1, x2, x3, x4] st z Q = (zir x4 = true ∧ ZW zG d 25 70 [x0, x1, x2, x3, x4] (x4 :: st) z Q) := zw_cond (f := z_aload 4 70) rfl rfl
theorem s25_70 {ls : List Value} {r : Nat} : ZW zG d 25 70 ls (.ref r :: st) z Q = ((zcls z r = 23) ∧ ZW zG d 25 73 ls (.int (zfi z r 1) :: st) (z) Q) := zw_getI rfl
theorem s25_73 {ls : List Value} {a : Int32} : ZW zG d 25 73 ls ([.int a]) z Q = Q (.inl (some (.int a))) z := zw_reti rfl
theorem s25_74 {x0 x1 x2 x3 x4 : Value} : ZW zG d 25 74 [x0, x1, x2, x3, x4] st z Q = (zir x4 = true ∧ ZW zG d 25 76 [x0, x1, x2, x3, x4] (x4 :: st) z Q) := zw_cond (f := z_aload 4 76) rfl rfl
theorem s25_76 {ls : List Value} {r : Nat} : ZW zG d 25 76 ls (.ref r :: st) z Q = ((zcls z r = 23) ∧ ZW zG d 25 79 ls (.int (zfi z r 2) :: st) (z) Q) := zw_getI rfl
theorem s25_79 {ls : List Value} {a : Int32} : ZW zG d 25 79 ls ([.int a]) z Q = Q (.inl (some (.int a))) z := zw_reti rfl
theorem s25_80 {x0 x1 x2 x3 x4 : Value} : ZW zG d 25 80 [x0, x1, x2, x3, x4] st z Q = (zir x4 = true ∧ ZW zG d 25 82 [x0, x1, x2, x3, x4] (x4 :: st) z Q) := zw_cond (f := z_aload 4 82) rfl rfl
theorem s25_82 {ls : List Value} {r : Nat} : ZW zG d 25 82 ls (.ref r :: st) z Q = ((zcls z r = 23) ∧ ZW zG d 25 85 ls (.int (zfi z r 3) :: st) (z) Q) := zw_getI rfl
theorem s25_85 {ls : List Value} {a : Int32} : ZW zG d 25 85 ls ([.int a]) z Q = Q (.inl (some (.int a))) z := zw_reti rfl
theorem s25_86 {x0 x1 x2 x3 x4 : Value} : ZW zG d 25 86 [x0, x1, x2, x3, x4] st z Q = (zir x4 = true ∧ ZW zG d 25 88 [x0, x1, x2, x3, x4] (x4 :: st) z Q) := zw_cond (f := z_aload 4 88) rfl rfl
theorem s25_88 {ls : List Value} {r : Nat} : ZW zG d 25 88 ls (.ref r :: st) z Q = ((zcls z r = 23) ∧ ZW zG d 25 91 ls (.int (zfi z r 4) :: st) (z) Q) := zw_getI rfl
theorem s25_91 {ls : List Value} {a : Int32} : ZW zG d 25 91 ls ([.int a]) z Q = Q (.inl (some (.int a))) z := zw_reti rfl
theorem s25_92 {ls : List Value}  : ZW zG d 25 92 ls (st) z Q = ZW zG d 25 93 ls ((.int (-1)) :: st) z Q := zw_push rfl
theorem s25_93 {ls : List Value} {a : Int32} : ZW zG d 25 93 ls ([.int a]) z Q = Q (.inl (some (.int a))) z := zw_reti rfl
/-- X0_slights (I)I -/
theorem e26 {r0 : Nat} {v0 : Int32} : ZC zG d 26 [.ref r0, .int v0] z Q = ZW zG d 26 0 [.ref r0, .int v0] [] z Q := rfl
theorem s26_0 {x0 x1 : Value} : ZW zG d 26 0 [x0, x1] st z Q = (zir x0 = true ∧ ZW zG d 26 1 [x0, x1] (x0 :: st) z Q) := zw_cond (f := z_aload 0 1) rfl rfl
theorem s26_1 {x0 : Value} {a : Int32} : ZW zG d 26 1 [x0, .int a] st z Q = ZW zG d 26 2 [x0, .int a] (.int a :: st) z Q := zw_next (f := z_iload 1 2) rfl rfl
theorem s26_2 {ls : List Value} {w0 : Int32} {r : Nat} : ZW zG (d + 1) 26 2 ls (.int w0 :: .ref r :: st) z Q = (zcls z r = 0 ∧ zcs st = true ∧ ZC zG d 14 [.ref r, .int w0] z (zk zG (d + 1) 26 (none) 5 ls st Q)) := zc_V1 rfl (Nat.le_of_ble_eq_true rfl)
theorem s26_5 {ls : List Value} {a : Int32} : ZW zG d 26 5 ls (.int a :: st) z Q = if a = 0 then ZW zG d 26 16 ls st z Q else ZW zG d 26 8 ls st z Q := zw_ifeq rfl
theorem s26_8 {x0 x1 : Value} : ZW zG d 26 8 [x0, x1] st z Q = (zir x0 = true ∧ ZW zG d 26 9 [x0, x1] (x0 :: st) z Q) := zw_cond (f := z_aload 0 9) rfl rfl
theorem s26_9 {x0 : Value} {a : Int32} : ZW zG d 26 9 [x0, .int a] st z Q = ZW zG d 26 10 [x0, .int a] (.int a :: st) z Q := zw_next (f := z_iload 1 10) rfl rfl
theorem s26_10 {ls : List Value} {w0 : Int32} {r : Nat} : ZW zG (d + 1) 26 10 ls (.int w0 :: .ref r :: st) z Q = (zcls z r = 0 ∧ zcs st = true ∧ ZC zG d 27 [.ref r, .int w0] z (zk zG (d + 1) 26 (none) 13 ls st Q)) := zc_V1 rfl (Nat.le_of_ble_eq_true rfl)
theorem s26_13 {ls : List Value}  : ZW zG d 26 13 ls (st) z Q = ZW zG d 26 18 ls st z Q := zw_goto rfl
theorem s26_16 {ls : List Value}  : ZW zG d 26 16 ls (st) z Q = ZW zG d 26 18 ls ((.int (-2)) :: st) z Q := zw_push rfl
theorem s26_18 {ls : List Value} {a : Int32} : ZW zG d 26 18 ls ([.int a]) z Q = Q (.inl (some (.int a))) z := zw_reti rfl
/-- X0_slightsOf (I)I -/
theorem e27 {r0 : Nat} {v0 : Int32} : ZC zG d 27 [.ref r0, .int v0] z Q = ZW zG d 27 0 [.ref r0, .int v0, zdum, zdum] [] z Q := rfl
theorem s27_0 {ls : List Value}  : ZW zG d 27 0 ls (st) z Q = ZW zG d 27 1 ls ((.int (nI 0)) :: st) z Q := zw_push rfl
theorem s27_1 {x0 x1 x2 x3 : Value} {a : Int32} : ZW zG d 27 1 [x0, x1, x2, x3] (.int a :: st) z Q = ZW zG d 27 2 [x0, zclr x1, .int a, x3] st z Q := zw_next (f := z_istore 2 2) rfl rfl
theorem s27_2 {ls : List Value}  : ZW zG d 27 2 ls (st) z Q = ZW zG d 27 3 ls ((.int (nI 0)) :: st) z Q := zw_push rfl
theorem s27_3 {x0 x1 x2 x3 : Value} {a : Int32} : ZW zG d 27 3 [x0, x1, x2, x3] (.int a :: st) z Q = ZW zG d 27 4 [x0, x1, zclr x2, .int a] st z Q := zw_next (f := z_istore 3 4) rfl rfl
theorem s27_4 {x0 x1 x2 : Value} {a : Int32} : ZW zG d 27 4 [x0, x1, x2, .int a] st z Q = ZW zG d 27 5 [x0, x1, x2, .int a] (.int a :: st) z Q := zw_next (f := z_iload 3 5) rfl rfl
theorem s27_5 {x0 x1 x2 x3 : Value} : ZW zG d 27 5 [x0, x1, x2, x3] st z Q = (zir x0 = true ∧ ZW zG d 27 6 [x0, x1, x2, x3] (x0 :: st) z Q) := zw_cond (f := z_aload 0 6) rfl rfl
theorem s27_6 {ls : List Value} {r : Nat} : ZW zG d 27 6 ls (.ref r :: st) z Q = ((zcls z r = 0 ∧ zir (zfr z r 1) = true) ∧ ZW zG d 27 9 ls (zfr z r 1 :: st) (z) Q) := zw_getR rfl
theorem s27_9 {ls : List Value} {r : Nat} : ZW zG d 27 9 ls (.ref r :: st) z Q = ((zcls z r = 1 ∧ zir (zfr z r 1) = true) ∧ ZW zG d 27 12 ls (zfr z r 1 :: st) (z) Q) := zw_getR rfl
theorem s27_12 {ls : List Value} {r : Nat} : ZW zG d 27 12 ls (.ref r :: st) z Q = ((zcls z r = 3 ∧ zir (zfr z r 3) = true) ∧ ZW zG d 27 15 ls (zfr z r 3 :: st) (z) Q) := zw_getR rfl
theorem s27_15 {ls : List Value} {r : Nat} : ZW zG d 27 15 ls (.ref r :: st) z Q = ((zcs st = true ∧ zcls z r = 90) ∧ ZW zG d 27 20 ls (.int (nI (zls z r).length) :: st) (z) Q) := zw_lsize rfl
theorem s27_20 {ls : List Value} {a b : Int32} : ZW zG d 27 20 ls (.int b :: .int a :: st) z Q = if b ≤ a then ZW zG d 27 100 ls st z Q else ZW zG d 27 23 ls st z Q := zw_icge rfl
theorem s27_23 {x0 x1 x3 : Value} {a : Int32} : ZW zG d 27 23 [x0, x1, .int a, x3] st z Q = ZW zG d 27 24 [x0, x1, .int a, x3] (.int a :: st) z Q := zw_next (f := z_iload 2 24) rfl rfl
theorem s27_24 {x0 x2 x3 : Value} {a : Int32} : ZW zG d 27 24 [x0, .int a, x2, x3] st z Q = ZW zG d 27 25 [x0, .int a, x2, x3] (.int a :: st) z Q := zw_next (f := z_iload 1 25) rfl rfl
theorem s27_25 {ls : List Value}  : ZW zG d 27 25 ls (st) z Q = ZW zG d 27 26 ls ((.int (-1)) :: st) z Q := zw_push rfl
theorem s27_26 {ls : List Value} {a b : Int32} : ZW zG d 27 26 ls (.int b :: .int a :: st) z Q = if a = b then ZW zG d 27 55 ls st z Q else ZW zG d 27 29 ls st z Q := zw_iceq rfl
theorem s27_29 {x0 x1 x2 x3 : Value} : ZW zG d 27 29 [x0, x1, x2, x3] st z Q = (zir x0 = true ∧ ZW zG d 27 30 [x0, x1, x2, x3] (x0 :: st) z Q) := zw_cond (f := z_aload 0 30) rfl rfl
theorem s27_30 {ls : List Value} {r : Nat} : ZW zG d 27 30 ls (.ref r :: st) z Q = ((zcls z r = 0 ∧ zir (zfr z r 1) = true) ∧ ZW zG d 27 33 ls (zfr z r 1 :: st) (z) Q) := zw_getR rfl
theorem s27_33 {ls : List Value} {r : Nat} : ZW zG d 27 33 ls (.ref r :: st) z Q = ((zcls z r = 1 ∧ zir (zfr z r 1) = true) ∧ ZW zG d 27 36 ls (zfr z r 1 :: st) (z) Q) := zw_getR rfl
theorem s27_36 {ls : List Value} {r : Nat} : ZW zG d 27 36 ls (.ref r :: st) z Q = ((zcls z r = 3 ∧ zir (zfr z r 3) = true) ∧ ZW zG d 27 39 ls (zfr z r 3 :: st) (z) Q) := zw_getR rfl
theorem s27_39 {x0 x1 x2 : Value} {a : Int32} : ZW zG d 27 39 [x0, x1, x2, .int a] st z Q = ZW zG d 27 40 [x0, x1, x2, .int a] (.int a :: st) z Q := zw_next (f := z_iload 3 40) rfl rfl
theorem s27_40 {ls : List Value} {a : Int32} {r : Nat} : ZW zG d 27 40 ls (.int a :: .ref r :: st) z Q = ((zcs st = true ∧ zcls z r = 90 ∧ zin a (zls z r).length = true) ∧ ZW zG d 27 45 ls ((zls z r).getD (zx a) .null :: st) (z) Q) := zw_lget rfl
theorem s27_45 {ls : List Value} {r : Nat} : ZW zG d 27 45 ls (.ref r :: st) z Q = ((zcls z r = 23) ∧ ZW zG d 27 48 ls (.ref r :: st) (z) Q) := zw_cast rfl
theorem s27_48 {ls : List Value} {r : Nat} : ZW zG d 27 48 ls (.ref r :: st) z Q = ((zcls z r = 23) ∧ ZW zG d 27 51 ls (.int (zfi z r 1) :: st) (z) Q) := zw_getI rfl
theorem s27_51 {x0 x2 x3 : Value} {a : Int32} : ZW zG d 27 51 [x0, .int a, x2, x3] st z Q = ZW zG d 27 52 [x0, .int a, x2, x3] (.int a :: st) z Q := zw_next (f := z_iload 1 52) rfl rfl
theorem s27_52 {ls : List Value} {a b : Int32} : ZW zG d 27 52 ls (.int b :: .int a :: st) z Q = if ¬ a = b then ZW zG d 27 91 ls st z Q else ZW zG d 27 55 ls st z Q := zw_icne rfl
theorem s27_55 {x0 x1 x2 x3 : Value} : ZW zG d 27 55 [x0, x1, x2, x3] st z Q = (zir x0 = true ∧ ZW zG d 27 56 [x0, x1, x2, x3] (x0 :: st) z Q) := zw_cond (f := z_aload 0 56) rfl rfl
theorem s27_56 {ls : List Value} {r : Nat} : ZW zG d 27 56 ls (.ref r :: st) z Q = ((zcls z r = 0 ∧ zir (zfr z r 1) = true) ∧ ZW zG d 27 59 ls (zfr z r 1 :: st) (z) Q) := zw_getR rfl
theorem s27_59 {ls : List Value} {r : Nat} : ZW zG d 27 59 ls (.ref r :: st) z Q = ((zcls z r = 1 ∧ zir (zfr z r 1) = true) ∧ ZW zG d 27 62 ls (zfr z r 1 :: st) (z) Q) := zw_getR rfl
theorem s27_62 {ls : List Value} {r : Nat} : ZW zG d 27 62 ls (.ref r :: st) z Q = ((zcls z r = 3 ∧ zir (zfr z r 3) = true) ∧ ZW zG d 27 65 ls (zfr z r 3 :: st) (z) Q) := zw_getR rfl
theorem s27_65 {x0 x1 x2 : Value} {a : Int32} : ZW zG d 27 65 [x0, x1, x2, .int a] st z Q = ZW zG d 27 66 [x0, x1, x2, .int a] (.int a :: st) z Q := zw_next (f := z_iload 3 66) rfl rfl
theorem s27_66 {ls : List Value} {a : Int32} {r : Nat} : ZW zG d 27 66 ls (.int a :: .ref r :: st) z Q = ((zcs st = true ∧ zcls z r = 90 ∧ zin a (zls z r).length = true) ∧ ZW zG d 27 71 ls ((zls z r).getD (zx a) .null :: st) (z) Q) := zw_lget rfl
theorem s27_71 {ls : List Value} {r : Nat} : ZW zG d 27 71 ls (.ref r :: st) z Q = ((zcls z r = 23) ∧ ZW zG d 27 74 ls (.ref r :: st) (z) Q) := zw_cast rfl
theorem s27_74 {ls : List Value} {r : Nat} : ZW zG d 27 74 ls (.ref r :: st) z Q = ((zcls z r = 23) ∧ ZW zG d 27 77 ls (.int (zfi z r 3) :: st) (z) Q) := zw_getI rfl
theorem s27_77 {x0 x1 x2 x3 : Value} : ZW zG d 27 77 [x0, x1, x2, x3] st z Q = (zir x0 = true ∧ ZW zG d 27 78 [x0, x1, x2, x3] (x0 :: st) z Q) := zw_cond (f := z_aload 0 78) rfl rfl
theorem s27_78 {ls : List Value} {r : Nat} : ZW zG d 27 78 ls (.ref r :: st) z Q = ((zcls z r = 0 ∧ zir (zfr z r 1) = true) ∧ ZW zG d 27 81 ls (zfr z r 1 :: st) (z) Q) := zw_getR rfl
theorem s27_81 {ls : List Value} {r : Nat} : ZW zG d 27 81 ls (.ref r :: st) z Q = ((zcls z r = 1) ∧ ZW zG d 27 84 ls (.int (zfi z r 3) :: st) (z) Q) := zw_getI rfl
theorem s27_84 {ls : List Value} {a b : Int32} : ZW zG d 27 84 ls (.int b :: .int a :: st) z Q = if b ≤ a then ZW zG d 27 91 ls st z Q else ZW zG d 27 87 ls st z Q := zw_icge rfl
theorem s27_87 {ls : List Value}  : ZW zG d 27 87 ls (st) z Q = ZW zG d 27 88 ls ((.int (nI 1)) :: st) z Q := zw_push rfl
theorem s27_88 {ls : List Value}  : ZW zG d 27 88 ls (st) z Q = ZW zG d 27 92 ls st z Q := zw_goto rfl
theorem s27_91 {ls : List Value}  : ZW zG d 27 91 ls (st) z Q = ZW zG d 27 92 ls ((.int (nI 0)) :: st) z Q := zw_push rfl
theorem s27_92 {ls : List Value} {a b : Int32} : ZW zG d 27 92 ls (.int b :: .int a :: st) z Q = ZW zG d 27 93 ls (.int (a + b) :: st) z Q := zw_iadd rfl
theorem s27_93 {x0 x1 x2 x3 : Value} {a : Int32} : ZW zG d 27 93 [x0, x1, x2, x3] (.int a :: st) z Q = ZW zG d 27 94 [x0, zclr x1, .int a, x3] st z Q := zw_next (f := z_istore 2 94) rfl rfl
theorem s27_94 {x0 x1 x2 : Value} {a : Int32} : ZW zG d 27 94 [x0, x1, x2, .int a] st z Q = ZW zG d 27 97 [x0, x1, zclr x2, .int (a + (nI 1))] st z Q := zw_next (f := z_iinc 3 (nI 1) 97) rfl rfl
theorem s27_97 {ls : List Value}  : ZW zG d 27 97 ls (st) z Q = ZW zG d 27 4 ls st z Q := zw_goto rfl
theorem s27_100 {x0 x1 x3 : Value} {a : Int32} : ZW zG d 27 100 [x0, x1, .int a, x3] st z Q = ZW zG d 27 101 [x0, x1, .int a, x3] (.int a :: st) z Q := zw_next (f := z_iload 2 101) rfl rfl
theorem s27_101 {ls : List Value} {a : Int32} : ZW zG d 27 101 ls ([.int a]) z Q = Q (.inl (some (.int a))) z := zw_reti rfl
/-- X0_first ()I -/
theorem e28 {r0 : Nat} : ZC zG d 28 [.ref r0] z Q = ZW zG d 28 0 [.ref r0, zdum, zdum, zdum, zdum] [] z Q := rfl
theorem s28_0 {ls : List Value}  : ZW zG d 28 0 ls (st) z Q = ZW zG d 28 1 ls ((.int (-1)) :: st) z Q := zw_push rfl
theorem s28_1 {x0 x1 x2 x3 x4 : Value} {a : Int32} : ZW zG d 28 1 [x0, x1, x2, x3, x4] (.int a :: st) z Q = ZW zG d 28 2 [zclr x0, .int a, x2, x3, x4] st z Q := zw_next (f := z_istore 1 2) rfl rfl
theorem s28_2 {ls : List Value}  : ZW zG d 28 2 ls (st) z Q = ZW zG d 28 3 ls ((.int (nI 0)) :: st) z Q := zw_push rfl
theorem s28_3 {x0 x1 x2 x3 x4 : Value} {a : Int32} : ZW zG d 28 3 [x0, x1, x2, x3, x4] (.int a :: st) z Q = ZW zG d 28 4 [x0, zclr x1, .int a, x3, x4] st z Q := zw_next (f := z_istore 2 4) rfl rfl
theorem s28_4 {ls : List Value}  : ZW zG d 28 4 ls (st) z Q = ZW zG d 28 5 ls ((.int (nI 0)) :: st) z Q := zw_push rfl
theorem s28_5 {x0 x1 x2 x3 x4 : Value} {a : Int32} : ZW zG d 28 5 [x0, x1, x2, x3, x4] (.int a :: st) z Q = ZW zG d 28 6 [x0, x1, zclr x2, .int a, x4] st z Q := zw_next (f := z_istore 3 6) rfl rfl
theorem s28_6 {x0 x1 x2 x4 : Value} {a : Int32} : ZW zG d 28 6 [x0, x1, x2, .int a, x4] st z Q = ZW zG d 28 7 [x0, x1, x2, .int a, x4] (.int a :: st) z Q := zw_next (f := z_iload 3 7) rfl rfl
theorem s28_7 {x0 x1 x2 x3 x4 : Value} : ZW zG d 28 7 [x0, x1, x2, x3, x4] st z Q = (zir x0 = true ∧ ZW zG d 28 8 [x0, x1, x2, x3, x4] (x0 :: st) z Q) := zw_cond (f := z_aload 0 8) rfl rfl
theorem s28_8 {ls : List Value} {r : Nat} : ZW zG d 28 8 ls (.ref r :: st) z Q = ((zcls z r = 0 ∧ zir (zfr z r 1) = true) ∧ ZW zG d 28 11 ls (zfr z r 1 :: st) (z) Q) := zw_getR rfl
theorem s28_11 {ls : List Value} {r : Nat} : ZW zG d 28 11 ls (.ref r :: st) z Q = ((zcls z r = 1 ∧ zir (zfr z r 0) = true) ∧ ZW zG d 28 14 ls (zfr z r 0 :: st) (z) Q) := zw_getR rfl
theorem s28_14 {ls : List Value}  {r : Nat} : ZW zG (d + 1) 28 14 ls (.ref r :: st) z Q = (zcls z r = 2 ∧ zcs st = true ∧ ZC zG d 63 [.ref r] z (zk zG (d + 1) 28 (none) 17 ls st Q)) := zc_V0 rfl (Nat.le_of_ble_eq_true rfl)
theorem s28_17 {ls : List Value} {a b : Int32} : ZW zG d 28 17 ls (.int b :: .int a :: st) z Q = if b ≤ a then ZW zG d 28 77 ls st z Q else ZW zG d 28 20 ls st z Q := zw_icge rfl
theorem s28_20 {x0 x1 x2 x3 x4 : Value} : ZW zG d 28 20 [x0, x1, x2, x3, x4] st z Q = (zir x0 = true ∧ ZW zG d 28 21 [x0, x1, x2, x3, x4] (x0 :: st) z Q) := zw_cond (f := z_aload 0 21) rfl rfl
theorem s28_21 {x0 x1 x2 x4 : Value} {a : Int32} : ZW zG d 28 21 [x0, x1, x2, .int a, x4] st z Q = ZW zG d 28 22 [x0, x1, x2, .int a, x4] (.int a :: st) z Q := zw_next (f := z_iload 3 22) rfl rfl
theorem s28_22 {ls : List Value} {w0 : Int32} {r : Nat} : ZW zG (d + 1) 28 22 ls (.int w0 :: .ref r :: st) z Q = (zcls z r = 0 ∧ zcs st = true ∧ ZC zG d 27 [.ref r, .int w0] z (zk zG (d + 1) 28 (none) 25 ls st Q)) := zc_V1 rfl (Nat.le_of_ble_eq_true rfl)
theorem s28_25 {x0 x1 x2 x3 x4 : Value} {a : Int32} : ZW zG d 28 25 [x0, x1, x2, x3, x4] (.int a :: st) z Q = ZW zG d 28 27 [x0, x1, x2, zclr x3, .int a] st z Q := zw_next (f := z_istore 4 27) rfl rfl
theorem s28_27 {x0 x1 x2 x3 : Value} {a : Int32} : ZW zG d 28 27 [x0, x1, x2, x3, .int a] st z Q = ZW zG d 28 29 [x0, x1, x2, x3, .int a] (.int a :: st) z Q := zw_next (f := z_iload 4 29) rfl rfl
theorem s28_29 {ls : List Value} {a : Int32} : ZW zG d 28 29 ls (.int a :: st) z Q = if a = 0 then ZW zG d 28 71 ls st z Q else ZW zG d 28 32 ls st z Q := zw_ifeq rfl
theorem s28_32 {x0 x1 x2 x3 : Value} {a : Int32} : ZW zG d 28 32 [x0, x1, x2, x3, .int a] st z Q = ZW zG d 28 34 [x0, x1, x2, x3, .int a] (.int a :: st) z Q := zw_next (f := z_iload 4 34) rfl rfl
theorem s28_34 {x0 x1 x3 x4 : Value} {a : Int32} : ZW zG d 28 34 [x0, x1, .int a, x3, x4] st z Q = ZW zG d 28 35 [x0, x1, .int a, x3, x4] (.int a :: st) z Q := zw_next (f := z_iload 2 35) rfl rfl
theorem s28_35 {ls : List Value} {a b : Int32} : ZW zG d 28 35 ls (.int b :: .int a :: st) z Q = if a < b then ZW zG d 28 71 ls st z Q else ZW zG d 28 38 ls st z Q := zw_iclt rfl
theorem s28_38 {x0 x1 x2 x3 : Value} {a : Int32} : ZW zG d 28 38 [x0, x1, x2, x3, .int a] st z Q = ZW zG d 28 40 [x0, x1, x2, x3, .int a] (.int a :: st) z Q := zw_next (f := z_iload 4 40) rfl rfl
theorem s28_40 {x0 x1 x3 x4 : Value} {a : Int32} : ZW zG d 28 40 [x0, x1, .int a, x3, x4] st z Q = ZW zG d 28 41 [x0, x1, .int a, x3, x4] (.int a :: st) z Q := zw_next (f := z_iload 2 41) rfl rfl
theorem s28_41 {ls : List Value} {a b : Int32} : ZW zG d 28 41 ls (.int b :: .int a :: st) z Q = if ¬ a = b then ZW zG d 28 66 ls st z Q else ZW zG d 28 44 ls st z Q := zw_icne rfl
theorem s28_44 {x0 x1 x2 x3 x4 : Value} : ZW zG d 28 44 [x0, x1, x2, x3, x4] st z Q = (zir x0 = true ∧ ZW zG d 28 45 [x0, x1, x2, x3, x4] (x0 :: st) z Q) := zw_cond (f := z_aload 0 45) rfl rfl
theorem s28_45 {x0 x1 x2 x4 : Value} {a : Int32} : ZW zG d 28 45 [x0, x1, x2, .int a, x4] st z Q = ZW zG d 28 46 [x0, x1, x2, .int a, x4] (.int a :: st) z Q := zw_next (f := z_iload 3 46) rfl rfl
theorem s28_46 {ls : List Value} {w0 : Int32} {r : Nat} : ZW zG (d + 1) 28 46 ls (.int w0 :: .ref r :: st) z Q = (zcls z r = 0 ∧ zcs st = true ∧ ZC zG d 17 [.ref r, .int w0] z (zk zG (d + 1) 28 (none) 49 ls st Q)) := zc_V1 rfl (Nat.le_of_ble_eq_true rfl)
theorem s28_49 {ls : List Value} {r : Nat} : ZW zG d 28 49 ls (.ref r :: st) z Q = ((zcls z r = 21) ∧ ZW zG d 28 52 ls (.int (zfi z r 2) :: st) (z) Q) := zw_getI rfl
theorem s28_52 {x0 x1 x2 x3 x4 : Value} : ZW zG d 28 52 [x0, x1, x2, x3, x4] st z Q = (zir x0 = true ∧ ZW zG d 28 53 [x0, x1, x2, x3, x4] (x0 :: st) z Q) := zw_cond (f := z_aload 0 53) rfl rfl
theorem s28_53 {x0 x2 x3 x4 : Value} {a : Int32} : ZW zG d 28 53 [x0, .int a, x2, x3, x4] st z Q = ZW zG d 28 54 [x0, .int a, x2, x3, x4] (.int a :: st) z Q := zw_next (f := z_iload 1 54) rfl rfl
theorem s28_54 {ls : List Value} {w0 : Int32} {r : Nat} : ZW zG (d + 1) 28 54 ls (.int w0 :: .ref r :: st) z Q = (zcls z r = 0 ∧ zcs st = true ∧ ZC zG d 17 [.ref r, .int w0] z (zk zG (d + 1) 28 (none) 57 ls st Q)) := zc_V1 rfl (Nat.le_of_ble_eq_true rfl)
theorem s28_57 {ls : List Value} {r : Nat} : ZW zG d 28 57 ls (.ref r :: st) z Q = ((zcls z r = 21) ∧ ZW zG d 28 60 ls (.int (zfi z r 2) :: st) (z) Q) := zw_getI rfl
theorem s28_60 {ls : List Value} {a b : Int32} : ZW zG d 28 60 ls (.int b :: .int a :: st) z Q = if b < a then ZW zG d 28 66 ls st z Q else ZW zG d 28 63 ls st z Q := zw_icgt rfl
theorem s28_63 {ls : List Value}  : ZW zG d 28 63 ls (st) z Q = ZW zG d 28 71 ls st z Q := zw_goto rfl
theorem s28_66 {x0 x1 x2 x4 : Value} {a : Int32} : ZW zG d 28 66 [x0, x1, x2, .int a, x4] st z Q = ZW zG d 28 67 [x0, x1, x2, .int a, x4] (.int a :: st) z Q := zw_next (f := z_iload 3 67) rfl rfl
theorem s28_67 {x0 x1 x2 x3 x4 : Value} {a : Int32} : ZW zG d 28 67 [x0, x1, x2, x3, x4] (.int a :: st) z Q = ZW zG d 28 68 [zclr x0, .int a, x2, x3, x4] st z Q := zw_next (f := z_istore 1 68) rfl rfl
theorem s28_68 {x0 x1 x2 x3 : Value} {a : Int32} : ZW zG d 28 68 [x0, x1, x2, x3, .int a] st z Q = ZW zG d 28 70 [x0, x1, x2, x3, .int a] (.int a :: st) z Q := zw_next (f := z_iload 4 70) rfl rfl
theorem s28_70 {x0 x1 x2 x3 x4 : Value} {a : Int32} : ZW zG d 28 70 [x0, x1, x2, x3, x4] (.int a :: st) z Q = ZW zG d 28 71 [x0, zclr x1, .int a, x3, x4] st z Q := zw_next (f := z_istore 2 71) rfl rfl
theorem s28_71 {x0 x1 x2 x4 : Value} {a : Int32} : ZW zG d 28 71 [x0, x1, x2, .int a, x4] st z Q = ZW zG d 28 74 [x0, x1, zclr x2, .int (a + (nI 1)), x4] st z Q := zw_next (f := z_iinc 3 (nI 1) 74) rfl rfl
theorem s28_74 {ls : List Value}  : ZW zG d 28 74 ls (st) z Q = ZW zG d 28 6 ls st z Q := zw_goto rfl
theorem s28_77 {x0 x2 x3 x4 : Value} {a : Int32} : ZW zG d 28 77 [x0, .int a, x2, x3, x4] st z Q = ZW zG d 28 78 [x0, .int a, x2, x3, x4] (.int a :: st) z Q := zw_next (f := z_iload 1 78) rfl rfl
theorem s28_78 {ls : List Value} {a : Int32} : ZW zG d 28 78 ls ([.int a]) z Q = Q (.inl (some (.int a))) z := zw_reti rfl
/-- X0_owes (III)I -/
theorem e29 {r0 : Nat} {v0 : Int32} {v1 : Int32} {v2 : Int32} : ZC zG d 29 [.ref r0, .int v0, .int v1, .int v2] z Q = ZW zG d 29 0 [.ref r0, .int v0, .int v1, .int v2, zdum] [] z Q := rfl
theorem s29_0 {x0 x1 x2 x3 x4 : Value} : ZW zG d 29 0 [x0, x1, x2, x3, x4] st z Q = (zir x0 = true ∧ ZW zG d 29 1 [x0, x1, x2, x3, x4] (x0 :: st) z Q) := zw_cond (f := z_aload 0 1) rfl rfl
theorem s29_1 {x0 x2 x3 x4 : Value} {a : Int32} : ZW zG d 29 1 [x0, .int a, x2, x3, x4] st z Q = ZW zG d 29 2 [x0, .int a, x2, x3, x4] (.int a :: st) z Q := zw_next (f := z_iload 1 2) rfl rfl
theorem s29_2 {x0 x1 x3 x4 : Value} {a : Int32} : ZW zG d 29 2 [x0, x1, .int a, x3, x4] st z Q = ZW zG d 29 3 [x0, x1, .int a, x3, x4] (.int a :: st) z Q := zw_next (f := z_iload 2 3) rfl rfl
theorem s29_3 {ls : List Value} {w0 : Int32} {w1 : Int32} {r : Nat} : ZW zG (d + 1) 29 3 ls (.int w1 :: .int w0 :: .ref r :: st) z Q = (zcls z r = 0 ∧ zcs st = true ∧ ZC zG d 13 [.ref r, .int w0, .int w1] z (zk zG (d + 1) 29 (none) 6 ls st Q)) := zc_V2 rfl (Nat.le_of_ble_eq_true rfl)
theorem s29_6 {ls : List Value} {a : Int32} : ZW zG d 29 6 ls (.int a :: st) z Q = if a = 0 then ZW zG d 29 21 ls st z Q else ZW zG d 29 9 ls st z Q := zw_ifeq rfl
theorem s29_9 {x0 x1 x2 x4 : Value} {a : Int32} : ZW zG d 29 9 [x0, x1, x2, .int a, x4] st z Q = ZW zG d 29 10 [x0, x1, x2, .int a, x4] (.int a :: st) z Q := zw_next (f := z_iload 3 10) rfl rfl
theorem s29_10 {ls : List Value} {a : Int32} : ZW zG d 29 10 ls (.int a :: st) z Q = ZW zG d 29 11 ls (.long a.toInt64 :: st) z Q := zw_i2l rfl
theorem s29_11 {ls : List Value}  : ZW zG d 29 11 ls (st) z Q = ZW zG d 29 12 ls ((.long (lN 0)) :: st) z Q := zw_push rfl
theorem s29_12 {ls : List Value}  : ZW zG d 29 12 ls (st) z Q = ZW zG d 29 15 ls ((.long (lN 3)) :: st) z Q := zw_push rfl
theorem s29_15 {ls : List Value} {w0 : Int64} {w1 : Int64} {w2 : Int64} : ZW zG (d + 1) 29 15 ls (.long w2 :: .long w1 :: .long w0 :: st) z Q = (zcs st = true ∧ ZC zG d 2 [.long w0, .long w1, .long w2] z (zk zG (d + 1) 29 (none) 18 ls st Q)) := zc_S3 rfl (Nat.le_of_ble_eq_true rfl)
theorem s29_18 {ls : List Value} {a : Int32} : ZW zG d 29 18 ls (.int a :: st) z Q = if ¬ a = 0 then ZW zG d 29 24 ls st z Q else ZW zG d 29 21 ls st z Q := zw_ifne rfl
theorem s29_21 {ls : List Value}  : ZW zG d 29 21 ls (st) z Q = ZW zG d 29 23 ls ((.int (-2)) :: st) z Q := zw_push rfl
theorem s29_23 {ls : List Value} {a : Int32} : ZW zG d 29 23 ls ([.int a]) z Q = Q (.inl (some (.int a))) z := zw_reti rfl
theorem s29_24 {x0 x1 x2 x3 x4 : Value} : ZW zG d 29 24 [x0, x1, x2, x3, x4] st z Q = (zir x0 = true ∧ ZW zG d 29 25 [x0, x1, x2, x3, x4] (x0 :: st) z Q) := zw_cond (f := z_aload 0 25) rfl rfl
theorem s29_25 {ls : List Value} {r : Nat} : ZW zG d 29 25 ls (.ref r :: st) z Q = ((zcls z r = 0 ∧ zir (zfr z r 1) = true) ∧ ZW zG d 29 28 ls (zfr z r 1 :: st) (z) Q) := zw_getR rfl
theorem s29_28 {ls : List Value} {r : Nat} : ZW zG d 29 28 ls (.ref r :: st) z Q = ((zcls z r = 1 ∧ zir (zfr z r 1) = true) ∧ ZW zG d 29 31 ls (zfr z r 1 :: st) (z) Q) := zw_getR rfl
theorem s29_31 {x0 x2 x3 x4 : Value} {a : Int32} : ZW zG d 29 31 [x0, .int a, x2, x3, x4] st z Q = ZW zG d 29 32 [x0, .int a, x2, x3, x4] (.int a :: st) z Q := zw_next (f := z_iload 1 32) rfl rfl
theorem s29_32 {x0 x1 x3 x4 : Value} {a : Int32} : ZW zG d 29 32 [x0, x1, .int a, x3, x4] st z Q = ZW zG d 29 33 [x0, x1, .int a, x3, x4] (.int a :: st) z Q := zw_next (f := z_iload 2 33) rfl rfl
theorem s29_33 {x0 x1 x2 x4 : Value} {a : Int32} : ZW zG d 29 33 [x0, x1, x2, .int a, x4] st z Q = ZW zG d 29 34 [x0, x1, x2, .int a, x4] (.int a :: st) z Q := zw_next (f := z_iload 3 34) rfl rfl
theorem s29_34 {x0 x1 x2 x3 x4 : Value} : ZW zG d 29 34 [x0, x1, x2, x3, x4] st z Q = (zir x0 = true ∧ ZW zG d 29 35 [x0, x1, x2, x3, x4] (x0 :: st) z Q) := zw_cond (f := z_aload 0 35) rfl rfl
theorem s29_35 {ls : List Value} {r : Nat} : ZW zG d 29 35 ls (.ref r :: st) z Q = ((zcls z r = 0 ∧ zir (zfr z r 1) = true) ∧ ZW zG d 29 38 ls (zfr z r 1 :: st) (z) Q) := zw_getR rfl
theorem s29_38 {ls : List Value} {r : Nat} : ZW zG d 29 38 ls (.ref r :: st) z Q = ((zcls z r = 1) ∧ ZW zG d 29 41 ls (.int (zfi z r 3) :: st) (z) Q) := zw_getI rfl
theorem s29_41 {ls : List Value} {w0 : Int32} {w1 : Int32} {w2 : Int32} {w3 : Int32} {r : Nat} : ZW zG (d + 1) 29 41 ls (.int w3 :: .int w2 :: .int w1 :: .int w0 :: .ref r :: st) z Q = (zcls z r = 3 ∧ zcs st = true ∧ ZC zG d 70 [.ref r, .int w0, .int w1, .int w2, .int w3] z (zk zG (d + 1) 29 (none) 44 ls st Q)) := zc_V4 rfl (Nat.le_of_ble_eq_true rfl)
theorem s29_44 {x0 x1 x2 x3 x4 : Value} {v : Value} : ZW zG d 29 44 [x0, x1, x2, x3, x4] (v :: st) z Q = (zir v = true ∧ ZW zG d 29 46 [x0, x1, x2, zclr x3, v] st z Q) := by rw [zw_cond (f := z_astore 4 46) (G := zG) rfl rfl]; exact propext ⟨fun h => ⟨h.1.1, h.2⟩, fun h => ⟨⟨h.1, Nat.le_of_ble_eq_true rfl⟩, h.2⟩⟩
theorem s29_46 {x0 x1 x2 x3 x4 : Value} : ZW zG d 29 46 [x0, x1, x2, x3, x4] st z Q = (zir x4 = true ∧ ZW zG d 29 48 [x0, x1, x2, x3, x4] (x4 :: st) z Q) := zw_cond (f := z_aload 4 48) rfl rfl
theorem s29_48 {ls : List Value} : ZW zG d 29 48 ls (.null :: st) z Q = ZW zG d 29 71 ls st z Q := zw_ifnull0 rfl
theorem s29_48r {ls : List Value} {r : Nat} : ZW zG d 29 48 ls (.ref r :: st) z Q = ZW zG d 29 51 ls st z Q := zw_ifnull1 rfl
theorem s29_51 {x0 x1 x2 x3 x4 : Value} : ZW zG d 29 51 [x0, x1, x2, x3, x4] st z Q = (zir x0 = true ∧ ZW zG d 29 52 [x0, x1, x2, x3, x4] (x0 :: st) z Q) := zw_cond (f := z_aload 0 52) rfl rfl
theorem s29_52 {ls : List Value} {r : Nat} : ZW zG d 29 52 ls (.ref r :: st) z Q = ((zcls z r = 0 ∧ zir (zfr z r 1) = true) ∧ ZW zG d 29 55 ls (zfr z r 1 :: st) (z) Q) := zw_getR rfl
theorem s29_55 {ls : List Value} {r : Nat} : ZW zG d 29 55 ls (.ref r :: st) z Q = ((zcls z r = 1 ∧ zir (zfr z r 1) = true) ∧ ZW zG d 29 58 ls (zfr z r 1 :: st) (z) Q) := zw_getR rfl
theorem s29_58 {x0 x1 x3 x4 : Value} {a : Int32} : ZW zG d 29 58 [x0, x1, .int a, x3, x4] st z Q = ZW zG d 29 59 [x0, x1, .int a, x3, x4] (.int a :: st) z Q := zw_next (f := z_iload 2 59) rfl rfl
theorem s29_59 {x0 x2 x3 x4 : Value} {a : Int32} : ZW zG d 29 59 [x0, .int a, x2, x3, x4] st z Q = ZW zG d 29 60 [x0, .int a, x2, x3, x4] (.int a :: st) z Q := zw_next (f := z_iload 1 60) rfl rfl
theorem s29_60 {x0 x1 x2 x3 x4 : Value} : ZW zG d 29 60 [x0, x1, x2, x3, x4] st z Q = (zir x4 = true ∧ ZW zG d 29 62 [x0, x1, x2, x3, x4] (x4 :: st) z Q) := zw_cond (f := z_aload 4 62) rfl rfl
theorem s29_62 {ls : List Value} {r : Nat} : ZW zG d 29 62 ls (.ref r :: st) z Q = ((zcls z r = 15) ∧ ZW zG d 29 65 ls (.int (zfi z r 1) :: st) (z) Q) := zw_getI rfl
theorem s29_65 {ls : List Value} {w0 : Int32} {w1 : Int32} {w2 : Int32} {r : Nat} : ZW zG (d + 1) 29 65 ls (.int w2 :: .int w1 :: .int w0 :: .ref r :: st) z Q = (zcls z r = 3 ∧ zcs st = true ∧ ZC zG d 72 [.ref r, .int w0, .int w1, .int w2] z (zk zG (d + 1) 29 (none) 68 ls st Q)) := zc_V3 rfl (Nat.le_of_ble_eq_true rfl)
theorem s29_68 {ls : List Value} {a : Int32} : ZW zG d 29 68 ls (.int a :: st) z Q = if a = 0 then ZW zG d 29 75 ls st z Q else ZW zG d 29 71 ls st z Q := zw_ifeq rfl
theorem s29_71 {ls : List Value}  : ZW zG d 29 71 ls (st) z Q = ZW zG d 29 72 ls ((.int (-1)) :: st) z Q := zw_push rfl
theorem s29_72 {ls : List Value}  : ZW zG d 29 72 ls (st) z Q = ZW zG d 29 80 ls st z Q := zw_goto rfl
theorem s29_75 {x0 x1 x2 x3 x4 : Value} : ZW zG d 29 75 [x0, x1, x2, x3, x4] st z Q = (zir x4 = true ∧ ZW zG d 29 77 [x0, x1, x2, x3, x4] (x4 :: st) z Q) := zw_cond (f := z_aload 4 77) rfl rfl
theorem s29_77 {ls : List Value} {r : Nat} : ZW zG d 29 77 ls (.ref r :: st) z Q = ((zcls z r = 15) ∧ ZW zG d 29 80 ls (.int (zfi z r 1) :: st) (z) Q) := zw_getI rfl
theorem s29_80 {ls : List Value} {a : Int32} : ZW zG d 29 80 ls ([.int a]) z Q = Q (.inl (some (.int a))) z := zw_reti rfl
/-- X0_worth (II)I -/
theorem e30 {r0 : Nat} {v0 : Int32} {v1 : Int32} : ZC zG d 30 [.ref r0, .int v0, .int v1] z Q = ZW zG d 30 0 [.ref r0, .int v0, .int v1] [] z Q := rfl
theorem s30_0 {x0 x1 x2 : Value} : ZW zG d 30 0 [x0, x1, x2] st z Q = (zir x0 = true ∧ ZW zG d 30 1 [x0, x1, x2] (x0 :: st) z Q) := zw_cond (f := z_aload 0 1) rfl rfl
theorem s30_1 {x0 x2 : Value} {a : Int32} : ZW zG d 30 1 [x0, .int a, x2] st z Q = ZW zG d 30 2 [x0, .int a, x2] (.int a :: st) z Q := zw_next (f := z_iload 1 2) rfl rfl
theorem s30_2 {x0 x1 : Value} {a : Int32} : ZW zG d 30 2 [x0, x1, .int a] st z Q = ZW zG d 30 3 [x0, x1, .int a] (.int a :: st) z Q := zw_next (f := z_iload 2 3) rfl rfl
theorem s30_3 {ls : List Value} {w0 : Int32} {w1 : Int32} {r : Nat} : ZW zG (d + 1) 30 3 ls (.int w1 :: .int w0 :: .ref r :: st) z Q = (zcls z r = 0 ∧ zcs st = true ∧ ZC zG d 31 [.ref r, .int w0, .int w1] z (zk zG (d + 1) 30 (none) 6 ls st Q)) := zc_V2 rfl (Nat.le_of_ble_eq_true rfl)
theorem s30_6 {ls : List Value} {a : Int32} : ZW zG d 30 6 ls (.int a :: st) z Q = if a = 0 then ZW zG d 30 19 ls st z Q else ZW zG d 30 9 ls st z Q := zw_ifeq rfl
theorem s30_9 {x0 x1 x2 : Value} : ZW zG d 30 9 [x0, x1, x2] st z Q = (zir x0 = true ∧ ZW zG d 30 10 [x0, x1, x2] (x0 :: st) z Q) := zw_cond (f := z_aload 0 10) rfl rfl
theorem s30_10 {ls : List Value} {r : Nat} : ZW zG d 30 10 ls (.ref r :: st) z Q = ((zcls z r = 0 ∧ zir (zfr z r 4) = true) ∧ ZW zG d 30 13 ls (zfr z r 4 :: st) (z) Q) := zw_getR rfl
theorem s30_13 {ls : List Value} {r : Nat} : ZW zG d 30 13 ls (.ref r :: st) z Q = ((zcls z r = 10) ∧ ZW zG d 30 16 ls (.int (zfi z r 8) :: st) (z) Q) := zw_getI rfl
theorem s30_16 {ls : List Value}  : ZW zG d 30 16 ls (st) z Q = ZW zG d 30 21 ls st z Q := zw_goto rfl
theorem s30_19 {ls : List Value}  : ZW zG d 30 19 ls (st) z Q = ZW zG d 30 21 ls ((.int (-2)) :: st) z Q := zw_push rfl
theorem s30_21 {ls : List Value} {a : Int32} : ZW zG d 30 21 ls ([.int a]) z Q = Q (.inl (some (.int a))) z := zw_reti rfl
/-- X0_isRound (II)Z -/
theorem e31 {r0 : Nat} {v0 : Int32} {v1 : Int32} : ZC zG d 31 [.ref r0, .int v0, .int v1] z Q = ZW zG d 31 0 [.ref r0, .int v0, .int v1] [] z Q := rfl
theorem s31_0 {x0 x1 x2 : Value} : ZW zG d 31 0 [x0, x1, x2] st z Q = (zir x0 = true ∧ ZW zG d 31 1 [x0, x1, x2] (x0 :: st) z Q) := zw_cond (f := z_aload 0 1) rfl rfl
theorem s31_1 {x0 x2 : Value} {a : Int32} : ZW zG d 31 1 [x0, .int a, x2] st z Q = ZW zG d 31 2 [x0, .int a, x2] (.int a :: st) z Q := zw_next (f := z_iload 1 2) rfl rfl
theorem s31_2 {ls : List Value} {w0 : Int32} {r : Nat} : ZW zG (d + 1) 31 2 ls (.int w0 :: .ref r :: st) z Q = (zcls z r = 0 ∧ zcs st = true ∧ ZC zG d 14 [.ref r, .int w0] z (zk zG (d + 1) 31 (none) 5 ls st Q)) := zc_V1 rfl (Nat.le_of_ble_eq_true rfl)
theorem s31_5 {ls : List Value} {a : Int32} : ZW zG d 31 5 ls (.int a :: st) z Q = if a = 0 then ZW zG d 31 16 ls st z Q else ZW zG d 31 8 ls st z Q := zw_ifeq rfl
theorem s31_8 {x0 x1 x2 : Value} : ZW zG d 31 8 [x0, x1, x2] st z Q = (zir x0 = true ∧ ZW zG d 31 9 [x0, x1, x2] (x0 :: st) z Q) := zw_cond (f := z_aload 0 9) rfl rfl
theorem s31_9 {x0 x1 : Value} {a : Int32} : ZW zG d 31 9 [x0, x1, .int a] st z Q = ZW zG d 31 10 [x0, x1, .int a] (.int a :: st) z Q := zw_next (f := z_iload 2 10) rfl rfl
theorem s31_10 {ls : List Value} {w0 : Int32} {r : Nat} : ZW zG (d + 1) 31 10 ls (.int w0 :: .ref r :: st) z Q = (zcls z r = 0 ∧ zcs st = true ∧ ZC zG d 32 [.ref r, .int w0] z (zk zG (d + 1) 31 (none) 13 ls st Q)) := zc_V1 rfl (Nat.le_of_ble_eq_true rfl)
theorem s31_13 {ls : List Value} {a : Int32} : ZW zG d 31 13 ls (.int a :: st) z Q = if ¬ a = 0 then ZW zG d 31 18 ls st z Q else ZW zG d 31 16 ls st z Q := zw_ifne rfl
theorem s31_16 {ls : List Value}  : ZW zG d 31 16 ls (st) z Q = ZW zG d 31 17 ls ((.int (nI 0)) :: st) z Q := zw_push rfl
theorem s31_17 {ls : List Value} {a : Int32} : ZW zG d 31 17 ls ([.int a]) z Q = ((a = 0 ∨ a = 1) ∧ Q (.inl (some (.int a))) z) := zw_retz rfl
theorem s31_18 {x0 x1 x2 : Value} : ZW zG d 31 18 [x0, x1, x2] st z Q = (zir x0 = true ∧ ZW zG d 31 19 [x0, x1, x2] (x0 :: st) z Q) := zw_cond (f := z_aload 0 19) rfl rfl
theorem s31_19 {ls : List Value} {r : Nat} : ZW zG d 31 19 ls (.ref r :: st) z Q = ((zcls z r = 0 ∧ zir (zfr z r 4) = true) ∧ ZW zG d 31 22 ls (zfr z r 4 :: st) (z) Q) := zw_getR rfl
theorem s31_22 {x0 x2 : Value} {a : Int32} : ZW zG d 31 22 [x0, .int a, x2] st z Q = ZW zG d 31 23 [x0, .int a, x2] (.int a :: st) z Q := zw_next (f := z_iload 1 23) rfl rfl
theorem s31_23 {x0 x1 : Value} {a : Int32} : ZW zG d 31 23 [x0, x1, .int a] st z Q = ZW zG d 31 24 [x0, x1, .int a] (.int a :: st) z Q := zw_next (f := z_iload 2 24) rfl rfl
theorem s31_24 {ls : List Value} {w0 : Int32} {w1 : Int32} {r : Nat} : ZW zG (d + 1) 31 24 ls (.int w1 :: .int w0 :: .ref r :: st) z Q = (zcls z r = 10 ∧ zcs st = true ∧ ZC zG d 96 [.ref r, .int w0, .int w1] z (zk zG (d + 1) 31 (none) 27 ls st Q)) := zc_V2 rfl (Nat.le_of_ble_eq_true rfl)
theorem s31_27 {x0 x1 x2 : Value} : ZW zG d 31 27 [x0, x1, x2] st z Q = (zir x0 = true ∧ ZW zG d 31 28 [x0, x1, x2] (x0 :: st) z Q) := zw_cond (f := z_aload 0 28) rfl rfl
theorem s31_28 {ls : List Value} {r : Nat} : ZW zG d 31 28 ls (.ref r :: st) z Q = ((zcls z r = 0 ∧ zir (zfr z r 4) = true) ∧ ZW zG d 31 31 ls (zfr z r 4 :: st) (z) Q) := zw_getR rfl
theorem s31_31 {ls : List Value}  {r : Nat} : ZW zG (d + 1) 31 31 ls (.ref r :: st) z Q = (zcls z r = 10 ∧ zcs st = true ∧ ZC zG d 97 [.ref r] z (zk zG (d + 1) 31 (none) 34 ls st Q)) := zc_V0 rfl (Nat.le_of_ble_eq_true rfl)
theorem s31_34 {x0 x1 x2 : Value} : ZW zG d 31 34 [x0, x1, x2] st z Q = (zir x0 = true ∧ ZW zG d 31 35 [x0, x1, x2] (x0 :: st) z Q) := zw_cond (f := z_aload 0 35) rfl rfl
theorem s31_35 {ls : List Value} {r : Nat} : ZW zG d 31 35 ls (.ref r :: st) z Q = ((zcls z r = 0 ∧ zir (zfr z r 4) = true) ∧ ZW zG d 31 38 ls (zfr z r 4 :: st) (z) Q) := zw_getR rfl
theorem s31_38 {ls : List Value}  {r : Nat} : ZW zG (d + 1) 31 38 ls (.ref r :: st) z Q = (zcls z r = 10 ∧ zcs st = true ∧ ZC zG d 98 [.ref r] z (zk zG (d + 1) 31 (none) 41 ls st Q)) := zc_V0 rfl (Nat.le_of_ble_eq_true rfl)
theorem s31_41 {x0 x1 x2 : Value} : ZW zG d 31 41 [x0, x1, x2] st z Q = (zir x0 = true ∧ ZW zG d 31 42 [x0, x1, x2] (x0 :: st) z Q) := zw_cond (f := z_aload 0 42) rfl rfl
theorem s31_42 {ls : List Value} {r : Nat} : ZW zG d 31 42 ls (.ref r :: st) z Q = ((zcls z r = 0 ∧ zir (zfr z r 4) = true) ∧ ZW zG d 31 45 ls (zfr z r 4 :: st) (z) Q) := zw_getR rfl
theorem s31_45 {ls : List Value}  {r : Nat} : ZW zG (d + 1) 31 45 ls (.ref r :: st) z Q = (zcls z r = 10 ∧ zcs st = true ∧ ZC zG d 102 [.ref r] z (zk zG (d + 1) 31 (none) 48 ls st Q)) := zc_V0 rfl (Nat.le_of_ble_eq_true rfl)
theorem s31_48 {ls : List Value}  : ZW zG d 31 48 ls (st) z Q = ZW zG d 31 49 ls ((.int (nI 1)) :: st) z Q := zw_push rfl
theorem s31_49 {ls : List Value} {a : Int32} : ZW zG d 31 49 ls ([.int a]) z Q = ((a = 0 ∨ a = 1) ∧ Q (.inl (some (.int a))) z) := zw_retz rfl
/-- X0_isDay (I)Z -/
theorem e32 {r0 : Nat} {v0 : Int32} : ZC zG d 32 [.ref r0, .int v0] z Q = ZW zG d 32 0 [.ref r0, .int v0] [] z Q := rfl
theorem s32_0 {x0 : Value} {a : Int32} : ZW zG d 32 0 [x0, .int a] st z Q = ZW zG d 32 1 [x0, .int a] (.int a :: st) z Q := zw_next (f := z_iload 1 1) rfl rfl
theorem s32_1 {ls : List Value} {a : Int32} : ZW zG d 32 1 ls (.int a :: st) z Q = ZW zG d 32 2 ls (.long a.toInt64 :: st) z Q := zw_i2l rfl
theorem s32_2 {x0 x1 : Value} : ZW zG d 32 2 [x0, x1] st z Q = (zir x0 = true ∧ ZW zG d 32 3 [x0, x1] (x0 :: st) z Q) := zw_cond (f := z_aload 0 3) rfl rfl
theorem s32_3 {ls : List Value} {r : Nat} : ZW zG d 32 3 ls (.ref r :: st) z Q = ((zcls z r = 0 ∧ zir (zfr z r 1) = true) ∧ ZW zG d 32 6 ls (zfr z r 1 :: st) (z) Q) := zw_getR rfl
theorem s32_6 {ls : List Value} {r : Nat} : ZW zG d 32 6 ls (.ref r :: st) z Q = ((zcls z r = 1) ∧ ZW zG d 32 9 ls (.int (zfi z r 3) :: st) (z) Q) := zw_getI rfl
theorem s32_9 {ls : List Value} {a : Int32} : ZW zG d 32 9 ls (.int a :: st) z Q = ZW zG d 32 10 ls (.long a.toInt64 :: st) z Q := zw_i2l rfl
theorem s32_10 {ls : List Value}  : ZW zG d 32 10 ls (st) z Q = ZW zG d 32 13 ls ((.long (lN 399)) :: st) z Q := zw_push rfl
theorem s32_13 {ls : List Value} {w0 : Int64} {w1 : Int64} {w2 : Int64} : ZW zG (d + 1) 32 13 ls (.long w2 :: .long w1 :: .long w0 :: st) z Q = (zcs st = true ∧ ZC zG d 2 [.long w0, .long w1, .long w2] z (zk zG (d + 1) 32 (none) 16 ls st Q)) := zc_S3 rfl (Nat.le_of_ble_eq_true rfl)
theorem s32_16 {ls : List Value} {a : Int32} : ZW zG d 32 16 ls ([.int a]) z Q = ((a = 0 ∨ a = 1) ∧ Q (.inl (some (.int a))) z) := zw_retz rfl
/-- X0_over (II)I -/
theorem e33 {r0 : Nat} {v0 : Int32} {v1 : Int32} : ZC zG d 33 [.ref r0, .int v0, .int v1] z Q = ZW zG d 33 0 [.ref r0, .int v0, .int v1] [] z Q := rfl
theorem s33_0 {x0 x1 x2 : Value} : ZW zG d 33 0 [x0, x1, x2] st z Q = (zir x0 = true ∧ ZW zG d 33 1 [x0, x1, x2] (x0 :: st) z Q) := zw_cond (f := z_aload 0 1) rfl rfl
theorem s33_1 {x0 x2 : Value} {a : Int32} : ZW zG d 33 1 [x0, .int a, x2] st z Q = ZW zG d 33 2 [x0, .int a, x2] (.int a :: st) z Q := zw_next (f := z_iload 1 2) rfl rfl
theorem s33_2 {x0 x1 : Value} {a : Int32} : ZW zG d 33 2 [x0, x1, .int a] st z Q = ZW zG d 33 3 [x0, x1, .int a] (.int a :: st) z Q := zw_next (f := z_iload 2 3) rfl rfl
theorem s33_3 {ls : List Value} {w0 : Int32} {w1 : Int32} {r : Nat} : ZW zG (d + 1) 33 3 ls (.int w1 :: .int w0 :: .ref r :: st) z Q = (zcls z r = 0 ∧ zcs st = true ∧ ZC zG d 31 [.ref r, .int w0, .int w1] z (zk zG (d + 1) 33 (none) 6 ls st Q)) := zc_V2 rfl (Nat.le_of_ble_eq_true rfl)
theorem s33_6 {ls : List Value} {a : Int32} : ZW zG d 33 6 ls (.int a :: st) z Q = if a = 0 then ZW zG d 33 19 ls st z Q else ZW zG d 33 9 ls st z Q := zw_ifeq rfl
theorem s33_9 {x0 x1 x2 : Value} : ZW zG d 33 9 [x0, x1, x2] st z Q = (zir x0 = true ∧ ZW zG d 33 10 [x0, x1, x2] (x0 :: st) z Q) := zw_cond (f := z_aload 0 10) rfl rfl
theorem s33_10 {ls : List Value} {r : Nat} : ZW zG d 33 10 ls (.ref r :: st) z Q = ((zcls z r = 0 ∧ zir (zfr z r 4) = true) ∧ ZW zG d 33 13 ls (zfr z r 4 :: st) (z) Q) := zw_getR rfl
theorem s33_13 {ls : List Value} {r : Nat} : ZW zG d 33 13 ls (.ref r :: st) z Q = ((zcls z r = 10) ∧ ZW zG d 33 16 ls (.int (zfi z r 7) :: st) (z) Q) := zw_getI rfl
theorem s33_16 {ls : List Value}  : ZW zG d 33 16 ls (st) z Q = ZW zG d 33 21 ls st z Q := zw_goto rfl
theorem s33_19 {ls : List Value}  : ZW zG d 33 19 ls (st) z Q = ZW zG d 33 21 ls ((.int (-2)) :: st) z Q := zw_push rfl
theorem s33_21 {ls : List Value} {a : Int32} : ZW zG d 33 21 ls ([.int a]) z Q = Q (.inl (some (.int a))) z := zw_reti rfl
/-- X0_round (III)I -/
theorem e34 {r0 : Nat} {v0 : Int32} {v1 : Int32} {v2 : Int32} : ZC zG d 34 [.ref r0, .int v0, .int v1, .int v2] z Q = ZW zG d 34 0 [.ref r0, .int v0, .int v1, .int v2] [] z Q := rfl
theorem s34_0 {x0 x1 x2 x3 : Value} : ZW zG d 34 0 [x0, x1, x2, x3] st z Q = (zir x0 = true ∧ ZW zG d 34 1 [x0, x1, x2, x3] (x0 :: st) z Q) := zw_cond (f := z_aload 0 1) rfl rfl
theorem s34_1 {x0 x2 x3 : Value} {a : Int32} : ZW zG d 34 1 [x0, .int a, x2, x3] st z Q = ZW zG d 34 2 [x0, .int a, x2, x3] (.int a :: st) z Q := zw_next (f := z_iload 1 2) rfl rfl
theorem s34_2 {x0 x1 x3 : Value} {a : Int32} : ZW zG d 34 2 [x0, x1, .int a, x3] st z Q = ZW zG d 34 3 [x0, x1, .int a, x3] (.int a :: st) z Q := zw_next (f := z_iload 2 3) rfl rfl
theorem s34_3 {ls : List Value} {w0 : Int32} {w1 : Int32} {r : Nat} : ZW zG (d + 1) 34 3 ls (.int w1 :: .int w0 :: .ref r :: st) z Q = (zcls z r = 0 ∧ zcs st = true ∧ ZC zG d 31 [.ref r, .int w0, .int w1] z (zk zG (d + 1) 34 (none) 6 ls st Q)) := zc_V2 rfl (Nat.le_of_ble_eq_true rfl)
theorem s34_6 {ls : List Value} {a : Int32} : ZW zG d 34 6 ls (.int a :: st) z Q = if ¬ a = 0 then ZW zG d 34 12 ls st z Q else ZW zG d 34 9 ls st z Q := zw_ifne rfl
theorem s34_9 {ls : List Value}  : ZW zG d 34 9 ls (st) z Q = ZW zG d 34 11 ls ((.int (-2)) :: st) z Q := zw_push rfl
theorem s34_11 {ls : List Value} {a : Int32} : ZW zG d 34 11 ls ([.int a]) z Q = Q (.inl (some (.int a))) z := zw_reti rfl
theorem s34_12 {x0 x1 x2 : Value} {a : Int32} : ZW zG d 34 12 [x0, x1, x2, .int a] st z Q = ZW zG d 34 13 [x0, x1, x2, .int a] (.int a :: st) z Q := zw_next (f := z_iload 3 13) rfl rfl
theorem s34_13 {ls : List Value} {a : Int32} : ZW zG d 34 13 ls (.int a :: st) z Q = ZW zG d 34 14 ls (.long a.toInt64 :: st) z Q := zw_i2l rfl
theorem s34_14 {ls : List Value}  : ZW zG d 34 14 ls (st) z Q = ZW zG d 34 15 ls ((.long (lN 0)) :: st) z Q := zw_push rfl
theorem s34_15 {x0 x1 x2 x3 : Value} : ZW zG d 34 15 [x0, x1, x2, x3] st z Q = (zir x0 = true ∧ ZW zG d 34 16 [x0, x1, x2, x3] (x0 :: st) z Q) := zw_cond (f := z_aload 0 16) rfl rfl
theorem s34_16 {ls : List Value} {r : Nat} : ZW zG d 34 16 ls (.ref r :: st) z Q = ((zcls z r = 0 ∧ zir (zfr z r 4) = true) ∧ ZW zG d 34 19 ls (zfr z r 4 :: st) (z) Q) := zw_getR rfl
theorem s34_19 {ls : List Value} {r : Nat} : ZW zG d 34 19 ls (.ref r :: st) z Q = ((zcls z r = 10) ∧ ZW zG d 34 22 ls (.int (zfi z r 6) :: st) (z) Q) := zw_getI rfl
theorem s34_22 {ls : List Value} {w0 : Int32} : ZW zG (d + 1) 34 22 ls (.int w0 :: st) z Q = (zcs st = true ∧ ZC zG d 251 [.int w0] z (zk zG (d + 1) 34 (none) 25 ls st Q)) := zc_S1 rfl (Nat.le_of_ble_eq_true rfl)
theorem s34_25 {ls : List Value}  : ZW zG d 34 25 ls (st) z Q = ZW zG d 34 26 ls ((.int (nI 1)) :: st) z Q := zw_push rfl
theorem s34_26 {ls : List Value} {a b : Int32} : ZW zG d 34 26 ls (.int b :: .int a :: st) z Q = ZW zG d 34 27 ls (.int (a - b) :: st) z Q := zw_isub rfl
theorem s34_27 {ls : List Value} {a : Int32} : ZW zG d 34 27 ls (.int a :: st) z Q = ZW zG d 34 28 ls (.long a.toInt64 :: st) z Q := zw_i2l rfl
theorem s34_28 {ls : List Value} {w0 : Int64} {w1 : Int64} {w2 : Int64} : ZW zG (d + 1) 34 28 ls (.long w2 :: .long w1 :: .long w0 :: st) z Q = (zcs st = true ∧ ZC zG d 2 [.long w0, .long w1, .long w2] z (zk zG (d + 1) 34 (none) 31 ls st Q)) := zc_S3 rfl (Nat.le_of_ble_eq_true rfl)
theorem s34_31 {ls : List Value} {a : Int32} : ZW zG d 34 31 ls (.int a :: st) z Q = if ¬ a = 0 then ZW zG d 34 36 ls st z Q else ZW zG d 34 34 ls st z Q := zw_ifne rfl
theorem s34_34 {ls : List Value}  : ZW zG d 34 34 ls (st) z Q = ZW zG d 34 35 ls ((.int (-1)) :: st) z Q := zw_push rfl
theorem s34_35 {ls : List Value} {a : Int32} : ZW zG d 34 35 ls ([.int a]) z Q = Q (.inl (some (.int a))) z := zw_reti rfl
theorem s34_36 {x0 x1 x2 x3 : Value} : ZW zG d 34 36 [x0, x1, x2, x3] st z Q = (zir x0 = true ∧ ZW zG d 34 37 [x0, x1, x2, x3] (x0 :: st) z Q) := zw_cond (f := z_aload 0 37) rfl rfl
theorem s34_37 {ls : List Value} {r : Nat} : ZW zG d 34 37 ls (.ref r :: st) z Q = ((zcls z r = 0 ∧ zir (zfr z r 4) = true) ∧ ZW zG d 34 40 ls (zfr z r 4 :: st) (z) Q) := zw_getR rfl
theorem s34_40 {ls : List Value}  {r : Nat} : ZW zG (d + 1) 34 40 ls (.ref r :: st) z Q = (zcls z r = 10 ∧ zcs st = true ∧ ZC zG d 106 [.ref r] z (zk zG (d + 1) 34 (none) 43 ls st Q)) := zc_V0 rfl (Nat.le_of_ble_eq_true rfl)
theorem s34_43 {x0 x1 x2 x3 : Value} : ZW zG d 34 43 [x0, x1, x2, x3] st z Q = (zir x0 = true ∧ ZW zG d 34 44 [x0, x1, x2, x3] (x0 :: st) z Q) := zw_cond (f := z_aload 0 44) rfl rfl
theorem s34_44 {ls : List Value} {r : Nat} : ZW zG d 34 44 ls (.ref r :: st) z Q = ((zcls z r = 0 ∧ zir (zfr z r 4) = true) ∧ ZW zG d 34 47 ls (zfr z r 4 :: st) (z) Q) := zw_getR rfl
theorem s34_47 {ls : List Value} {r : Nat} : ZW zG d 34 47 ls (.ref r :: st) z Q = ((zcls z r = 10 ∧ zir (zfr z r 3) = true) ∧ ZW zG d 34 50 ls (zfr z r 3 :: st) (z) Q) := zw_getR rfl
theorem s34_50 {x0 x1 x2 : Value} {a : Int32} : ZW zG d 34 50 [x0, x1, x2, .int a] st z Q = ZW zG d 34 51 [x0, x1, x2, .int a] (.int a :: st) z Q := zw_next (f := z_iload 3 51) rfl rfl
theorem s34_51 {ls : List Value} {a : Int32} {r : Nat} : ZW zG d 34 51 ls (.int a :: .ref r :: st) z Q = ((zcls z r = 50 ∧ zin a (zlen z r) = true) ∧ ZW zG d 34 52 ls (.int (zia z r (zx a)) :: st) (z) Q) := zw_iald rfl
theorem s34_52 {ls : List Value} {a : Int32} : ZW zG d 34 52 ls ([.int a]) z Q = Q (.inl (some (.int a))) z := zw_reti rfl
/-- X0_may (III)I -/
theorem e35 {r0 : Nat} {v0 : Int32} {v1 : Int32} {v2 : Int32} : ZC zG d 35 [.ref r0, .int v0, .int v1, .int v2] z Q = ZW zG d 35 0 [.ref r0, .int v0, .int v1, .int v2, zdum, zdum, zdum, zdum, zdum, zdum] [] z Q := rfl
theorem s35_0 {x0 x2 x3 x4 x5 x6 x7 x8 x9 : Value} {a : Int32} : ZW zG d 35 0 [x0, .int a, x2, x3, x4, x5, x6, x7, x8, x9] st z Q = ZW zG d 35 1 [x0, .int a, x2, x3, x4, x5, x6, x7, x8, x9] (.int a :: st) z Q := zw_next (f := z_iload 1 1) rfl rfl
theorem s35_1 {ls : List Value} {w0 : Int32} : ZW zG (d + 1) 35 1 ls (.int w0 :: st) z Q = (zcs st = true ∧ ZC zG d 1 [.int w0] z (zk zG (d + 1) 35 (none) 4 ls st Q)) := zc_S1 rfl (Nat.le_of_ble_eq_true rfl)
theorem s35_4 {ls : List Value} {a : Int32} : ZW zG d 35 4 ls (.int a :: st) z Q = if a = 0 then ZW zG d 35 23 ls st z Q else ZW zG d 35 7 ls st z Q := zw_ifeq rfl
theorem s35_7 {x0 x1 x2 x3 x4 x5 x6 x7 x8 x9 : Value} : ZW zG d 35 7 [x0, x1, x2, x3, x4, x5, x6, x7, x8, x9] st z Q = (zir x0 = true ∧ ZW zG d 35 8 [x0, x1, x2, x3, x4, x5, x6, x7, x8, x9] (x0 :: st) z Q) := zw_cond (f := z_aload 0 8) rfl rfl
theorem s35_8 {x0 x1 x3 x4 x5 x6 x7 x8 x9 : Value} {a : Int32} : ZW zG d 35 8 [x0, x1, .int a, x3, x4, x5, x6, x7, x8, x9] st z Q = ZW zG d 35 9 [x0, x1, .int a, x3, x4, x5, x6, x7, x8, x9] (.int a :: st) z Q := zw_next (f := z_iload 2 9) rfl rfl
theorem s35_9 {ls : List Value} {w0 : Int32} {r : Nat} : ZW zG (d + 1) 35 9 ls (.int w0 :: .ref r :: st) z Q = (zcls z r = 0 ∧ zcs st = true ∧ ZC zG d 14 [.ref r, .int w0] z (zk zG (d + 1) 35 (none) 12 ls st Q)) := zc_V1 rfl (Nat.le_of_ble_eq_true rfl)
theorem s35_12 {ls : List Value} {a : Int32} : ZW zG d 35 12 ls (.int a :: st) z Q = if a = 0 then ZW zG d 35 23 ls st z Q else ZW zG d 35 15 ls st z Q := zw_ifeq rfl
theorem s35_15 {x0 x1 x2 x3 x4 x5 x6 x7 x8 x9 : Value} : ZW zG d 35 15 [x0, x1, x2, x3, x4, x5, x6, x7, x8, x9] st z Q = (zir x0 = true ∧ ZW zG d 35 16 [x0, x1, x2, x3, x4, x5, x6, x7, x8, x9] (x0 :: st) z Q) := zw_cond (f := z_aload 0 16) rfl rfl
theorem s35_16 {x0 x1 x2 x4 x5 x6 x7 x8 x9 : Value} {a : Int32} : ZW zG d 35 16 [x0, x1, x2, .int a, x4, x5, x6, x7, x8, x9] st z Q = ZW zG d 35 17 [x0, x1, x2, .int a, x4, x5, x6, x7, x8, x9] (.int a :: st) z Q := zw_next (f := z_iload 3 17) rfl rfl
theorem s35_17 {ls : List Value} {w0 : Int32} {r : Nat} : ZW zG (d + 1) 35 17 ls (.int w0 :: .ref r :: st) z Q = (zcls z r = 0 ∧ zcs st = true ∧ ZC zG d 32 [.ref r, .int w0] z (zk zG (d + 1) 35 (none) 20 ls st Q)) := zc_V1 rfl (Nat.le_of_ble_eq_true rfl)
theorem s35_20 {ls : List Value} {a : Int32} : ZW zG d 35 20 ls (.int a :: st) z Q = if ¬ a = 0 then ZW zG d 35 26 ls st z Q else ZW zG d 35 23 ls st z Q := zw_ifne rfl
theorem s35_23 {ls : List Value}  : ZW zG d 35 23 ls (st) z Q = ZW zG d 35 25 ls ((.int (-2)) :: st) z Q := zw_push rfl
theorem s35_25 {ls : List Value} {a : Int32} : ZW zG d 35 25 ls ([.int a]) z Q = Q (.inl (some (.int a))) z := zw_reti rfl
theorem s35_26 {x0 x1 x2 x3 x4 x5 x6 x7 x8 x9 : Value} : ZW zG d 35 26 [x0, x1, x2, x3, x4, x5, x6, x7, x8, x9] st z Q = (zir x0 = true ∧ ZW zG d 35 27 [x0, x1, x2, x3, x4, x5, x6, x7, x8, x9] (x0 :: st) z Q) := zw_cond (f := z_aload 0 27) rfl rfl
theorem s35_27 {ls : List Value} {r : Nat} : ZW zG d 35 27 ls (.ref r :: st) z Q = ((zcls z r = 0 ∧ zir (zfr z r 0) = true) ∧ ZW zG d 35 30 ls (zfr z r 0 :: st) (z) Q) := zw_getR rfl
theorem s35_30 {x0 x2 x3 x4 x5 x6 x7 x8 x9 : Value} {a : Int32} : ZW zG d 35 30 [x0, .int a, x2, x3, x4, x5, x6, x7, x8, x9] st z Q = ZW zG d 35 31 [x0, .int a, x2, x3, x4, x5, x6, x7, x8, x9] (.int a :: st) z Q := zw_next (f := z_iload 1 31) rfl rfl
theorem s35_31 {ls : List Value} {a : Int32} {r : Nat} : ZW zG d 35 31 ls (.int a :: .ref r :: st) z Q = ((zcls z r = 60 ∧ zin a (zlen z r) = true ∧ zir (zra z r (zx a)) = true) ∧ ZW zG d 35 32 ls (zra z r (zx a) :: st) (z) Q) := zw_aald rfl
theorem s35_32 {x0 x1 x2 x3 x4 x5 x6 x7 x8 x9 : Value} {v : Value} : ZW zG d 35 32 [x0, x1, x2, x3, x4, x5, x6, x7, x8, x9] (v :: st) z Q = (zir v = true ∧ ZW zG d 35 34 [x0, x1, x2, zclr x3, v, x5, x6, x7, x8, x9] st z Q) := by rw [zw_cond (f := z_astore 4 34) (G := zG) rfl rfl]; exact propext ⟨fun h => ⟨h.1.1, h.2⟩, fun h => ⟨⟨h.1, Nat.le_of_ble_eq_true rfl⟩, h.2⟩⟩
theorem s35_34 {x0 x1 x2 x3 x4 x5 x6 x7 x8 x9 : Value} : ZW zG d 35 34 [x0, x1, x2, x3, x4, x5, x6, x7, x8, x9] st z Q = (zir x4 = true ∧ ZW zG d 35 36 [x0, x1, x2, x3, x4, x5, x6, x7, x8, x9] (x4 :: st) z Q) := zw_cond (f := z_aload 4 36) rfl rfl
theorem s35_36 {ls : List Value} {r : Nat} : ZW zG d 35 36 ls (.ref r :: st) z Q = ((zcls z r = 11 ∧ zir (zfr z r 0) = true) ∧ ZW zG d 35 39 ls (zfr z r 0 :: st) (z) Q) := zw_getR rfl
theorem s35_39 {ls : List Value} : ZW zG d 35 39 ls (.null :: st) z Q = ZW zG d 35 42 ls st z Q := zw_ifnon0 rfl
theorem s35_39r {ls : List Value} {r : Nat} : ZW zG d 35 39 ls (.ref r :: st) z Q = ZW zG d 35 45 ls st z Q := zw_ifnon1 rfl
theorem s35_42 {ls : List Value}  : ZW zG d 35 42 ls (st) z Q = ZW zG d 35 44 ls ((.int (-6)) :: st) z Q := zw_push rfl
theorem s35_44 {ls : List Value} {a : Int32} : ZW zG d 35 44 ls ([.int a]) z Q = Q (.inl (some (.int a))) z := zw_reti rfl
theorem s35_45 {x0 x1 x2 x3 x4 x5 x6 x7 x8 x9 : Value} : ZW zG d 35 45 [x0, x1, x2, x3, x4, x5, x6, x7, x8, x9] st z Q = (zir x0 = true ∧ ZW zG d 35 46 [x0, x1, x2, x3, x4, x5, x6, x7, x8, x9] (x0 :: st) z Q) := zw_cond (f := z_aload 0 46) rfl rfl
theorem s35_46 {ls : List Value} {r : Nat} : ZW zG d 35 46 ls (.ref r :: st) z Q = ((zcls z r = 0 ∧ zir (zfr z r 4) = true) ∧ ZW zG d 35 49 ls (zfr z r 4 :: st) (z) Q) := zw_getR rfl
theorem s35_49 {x0 x1 x3 x4 x5 x6 x7 x8 x9 : Value} {a : Int32} : ZW zG d 35 49 [x0, x1, .int a, x3, x4, x5, x6, x7, x8, x9] st z Q = ZW zG d 35 50 [x0, x1, .int a, x3, x4, x5, x6, x7, x8, x9] (.int a :: st) z Q := zw_next (f := z_iload 2 50) rfl rfl
theorem s35_50 {x0 x1 x2 x4 x5 x6 x7 x8 x9 : Value} {a : Int32} : ZW zG d 35 50 [x0, x1, x2, .int a, x4, x5, x6, x7, x8, x9] st z Q = ZW zG d 35 51 [x0, x1, x2, .int a, x4, x5, x6, x7, x8, x9] (.int a :: st) z Q := zw_next (f := z_iload 3 51) rfl rfl
theorem s35_51 {ls : List Value} {w0 : Int32} {w1 : Int32} {r : Nat} : ZW zG (d + 1) 35 51 ls (.int w1 :: .int w0 :: .ref r :: st) z Q = (zcls z r = 10 ∧ zcs st = true ∧ ZC zG d 96 [.ref r, .int w0, .int w1] z (zk zG (d + 1) 35 (none) 54 ls st Q)) := zc_V2 rfl (Nat.le_of_ble_eq_true rfl)
theorem s35_54 {ls : List Value}  : ZW zG d 35 54 ls (st) z Q = ZW zG d 35 55 ls ((.int (nI 0)) :: st) z Q := zw_push rfl
theorem s35_55 {x0 x1 x2 x3 x4 x5 x6 x7 x8 x9 : Value} {a : Int32} : ZW zG d 35 55 [x0, x1, x2, x3, x4, x5, x6, x7, x8, x9] (.int a :: st) z Q = ZW zG d 35 57 [x0, x1, x2, x3, zclr x4, .int a, x6, x7, x8, x9] st z Q := zw_next (f := z_istore 5 57) rfl rfl
theorem s35_57 {ls : List Value}  : ZW zG d 35 57 ls (st) z Q = ZW zG d 35 58 ls ((.int (nI 0)) :: st) z Q := zw_push rfl
theorem s35_58 {x0 x1 x2 x3 x4 x5 x6 x7 x8 x9 : Value} {a : Int32} : ZW zG d 35 58 [x0, x1, x2, x3, x4, x5, x6, x7, x8, x9] (.int a :: st) z Q = ZW zG d 35 60 [x0, x1, x2, x3, x4, zclr x5, .int a, x7, x8, x9] st z Q := zw_next (f := z_istore 6 60) rfl rfl
theorem s35_60 {x0 x1 x2 x3 x4 x5 x6 x7 x8 x9 : Value} : ZW zG d 35 60 [x0, x1, x2, x3, x4, x5, x6, x7, x8, x9] st z Q = (zir x0 = true ∧ ZW zG d 35 61 [x0, x1, x2, x3, x4, x5, x6, x7, x8, x9] (x0 :: st) z Q) := zw_cond (f := z_aload 0 61) rfl rfl
theorem s35_61 {x0 x1 x3 x4 x5 x6 x7 x8 x9 : Value} {a : Int32} : ZW zG d 35 61 [x0, x1, .int a, x3, x4, x5, x6, x7, x8, x9] st z Q = ZW zG d 35 62 [x0, x1, .int a, x3, x4, x5, x6, x7, x8, x9] (.int a :: st) z Q := zw_next (f := z_iload 2 62) rfl rfl
theorem s35_62 {ls : List Value} {w0 : Int32} {r : Nat} : ZW zG (d + 1) 35 62 ls (.int w0 :: .ref r :: st) z Q = (zcls z r = 0 ∧ zcs st = true ∧ ZC zG d 17 [.ref r, .int w0] z (zk zG (d + 1) 35 (none) 65 ls st Q)) := zc_V1 rfl (Nat.le_of_ble_eq_true rfl)
theorem s35_65 {x0 x1 x2 x3 x4 x5 x6 x7 x8 x9 : Value} {v : Value} : ZW zG d 35 65 [x0, x1, x2, x3, x4, x5, x6, x7, x8, x9] (v :: st) z Q = (zir v = true ∧ ZW zG d 35 67 [x0, x1, x2, x3, x4, x5, zclr x6, v, x8, x9] st z Q) := by rw [zw_cond (f := z_astore 7 67) (G := zG) rfl rfl]; exact propext ⟨fun h => ⟨h.1.1, h.2⟩, fun h => ⟨⟨h.1, Nat.le_of_ble_eq_true rfl⟩, h.2⟩⟩
theorem s35_67 {ls : List Value}  : ZW zG d 35 67 ls (st) z Q = ZW zG d 35 68 ls ((.int (nI 0)) :: st) z Q := zw_push rfl
theorem s35_68 {x0 x1 x2 x3 x4 x5 x6 x7 x8 x9 : Value} {a : Int32} : ZW zG d 35 68 [x0, x1, x2, x3, x4, x5, x6, x7, x8, x9] (.int a :: st) z Q = ZW zG d 35 70 [x0, x1, x2, x3, x4, x5, x6, zclr x7, .int a, x9] st z Q := zw_next (f := z_istore 8 70) rfl rfl
theorem s35_70 {x0 x1 x2 x3 x4 x5 x6 x7 x9 : Value} {a : Int32} : ZW zG d 35 70 [x0, x1, x2, x3, x4, x5, x6, x7, .int a, x9] st z Q = ZW zG d 35 72 [x0, x1, x2, x3, x4, x5, x6, x7, .int a, x9] (.int a :: st) z Q := zw_next (f := z_iload 8 72) rfl rfl
theorem s35_72 {x0 x1 x2 x3 x4 x5 x6 x7 x8 x9 : Value} : ZW zG d 35 72 [x0, x1, x2, x3, x4, x5, x6, x7, x8, x9] st z Q = (zir x4 = true ∧ ZW zG d 35 74 [x0, x1, x2, x3, x4, x5, x6, x7, x8, x9] (x4 :: st) z Q) := zw_cond (f := z_aload 4 74) rfl rfl
theorem s35_74 {ls : List Value}  {r : Nat} : ZW zG (d + 1) 35 74 ls (.ref r :: st) z Q = (zcls z r = 11 ∧ zcs st = true ∧ ZC zG d 110 [.ref r] z (zk zG (d + 1) 35 (none) 77 ls st Q)) := zc_V0 rfl (Nat.le_of_ble_eq_true rfl)
theorem s35_77 {ls : List Value} {a b : Int32} : ZW zG d 35 77 ls (.int b :: .int a :: st) z Q = if b ≤ a then ZW zG d 35 205 ls st z Q else ZW zG d 35 80 ls st z Q := zw_icge rfl
theorem s35_80 {x0 x1 x2 x3 x4 x5 x6 x7 x8 x9 : Value} : ZW zG d 35 80 [x0, x1, x2, x3, x4, x5, x6, x7, x8, x9] st z Q = (zir x4 = true ∧ ZW zG d 35 82 [x0, x1, x2, x3, x4, x5, x6, x7, x8, x9] (x4 :: st) z Q) := zw_cond (f := z_aload 4 82) rfl rfl
theorem s35_82 {x0 x1 x2 x3 x4 x5 x6 x7 x9 : Value} {a : Int32} : ZW zG d 35 82 [x0, x1, x2, x3, x4, x5, x6, x7, .int a, x9] st z Q = ZW zG d 35 84 [x0, x1, x2, x3, x4, x5, x6, x7, .int a, x9] (.int a :: st) z Q := zw_next (f := z_iload 8 84) rfl rfl
theorem s35_84 {ls : List Value} {w0 : Int32} {r : Nat} : ZW zG (d + 1) 35 84 ls (.int w0 :: .ref r :: st) z Q = (zcls z r = 11 ∧ zcs st = true ∧ ZC zG d 111 [.ref r, .int w0] z (zk zG (d + 1) 35 (none) 87 ls st Q)) := zc_V1 rfl (Nat.le_of_ble_eq_true rfl)
theorem s35_87 {ls : List Value}  : ZW zG d 35 87 ls (st) z Q = ZW zG d 35 88 ls ((.long (lN 0)) :: st) z Q := zw_push rfl
theorem s35_88 {x0 x1 x2 x3 x4 x5 x6 x7 x8 x9 : Value} : ZW zG d 35 88 [x0, x1, x2, x3, x4, x5, x6, x7, x8, x9] st z Q = (zir x0 = true ∧ ZW zG d 35 89 [x0, x1, x2, x3, x4, x5, x6, x7, x8, x9] (x0 :: st) z Q) := zw_cond (f := z_aload 0 89) rfl rfl
theorem s35_89 {ls : List Value} {r : Nat} : ZW zG d 35 89 ls (.ref r :: st) z Q = ((zcls z r = 0 ∧ zir (zfr z r 1) = true) ∧ ZW zG d 35 92 ls (zfr z r 1 :: st) (z) Q) := zw_getR rfl
theorem s35_92 {ls : List Value} {r : Nat} : ZW zG d 35 92 ls (.ref r :: st) z Q = ((zcls z r = 1 ∧ zir (zfr z r 0) = true) ∧ ZW zG d 35 95 ls (zfr z r 0 :: st) (z) Q) := zw_getR rfl
theorem s35_95 {ls : List Value}  {r : Nat} : ZW zG (d + 1) 35 95 ls (.ref r :: st) z Q = (zcls z r = 2 ∧ zcs st = true ∧ ZC zG d 63 [.ref r] z (zk zG (d + 1) 35 (none) 98 ls st Q)) := zc_V0 rfl (Nat.le_of_ble_eq_true rfl)
theorem s35_98 {ls : List Value}  : ZW zG d 35 98 ls (st) z Q = ZW zG d 35 99 ls ((.int (nI 1)) :: st) z Q := zw_push rfl
theorem s35_99 {ls : List Value} {a b : Int32} : ZW zG d 35 99 ls (.int b :: .int a :: st) z Q = ZW zG d 35 100 ls (.int (a - b) :: st) z Q := zw_isub rfl
theorem s35_100 {ls : List Value} {a : Int32} : ZW zG d 35 100 ls (.int a :: st) z Q = ZW zG d 35 101 ls (.long a.toInt64 :: st) z Q := zw_i2l rfl
theorem s35_101 {ls : List Value} {w0 : Int64} {w1 : Int64} {w2 : Int64} : ZW zG (d + 1) 35 101 ls (.long w2 :: .long w1 :: .long w0 :: st) z Q = (zcs st = true ∧ ZC zG d 2 [.long w0, .long w1, .long w2] z (zk zG (d + 1) 35 (none) 104 ls st Q)) := zc_S3 rfl (Nat.le_of_ble_eq_true rfl)
theorem s35_104 {ls : List Value} {a : Int32} : ZW zG d 35 104 ls (.int a :: st) z Q = if ¬ a = 0 then ZW zG d 35 109 ls st z Q else ZW zG d 35 107 ls st z Q := zw_ifne rfl
theorem s35_107 {ls : List Value}  : ZW zG d 35 107 ls (st) z Q = ZW zG d 35 108 ls ((.int (nI 0)) :: st) z Q := zw_push rfl
theorem s35_108 {ls : List Value} {a : Int32} : ZW zG d 35 108 ls ([.int a]) z Q = Q (.inl (some (.int a))) z := zw_reti rfl
theorem s35_109 {x0 x1 x2 x3 x4 x5 x6 x7 x8 x9 : Value} : ZW zG d 35 109 [x0, x1, x2, x3, x4, x5, x6, x7, x8, x9] st z Q = (zir x4 = true ∧ ZW zG d 35 111 [x0, x1, x2, x3, x4, x5, x6, x7, x8, x9] (x4 :: st) z Q) := zw_cond (f := z_aload 4 111) rfl rfl
theorem s35_111 {x0 x1 x2 x3 x4 x5 x6 x7 x9 : Value} {a : Int32} : ZW zG d 35 111 [x0, x1, x2, x3, x4, x5, x6, x7, .int a, x9] st z Q = ZW zG d 35 113 [x0, x1, x2, x3, x4, x5, x6, x7, .int a, x9] (.int a :: st) z Q := zw_next (f := z_iload 8 113) rfl rfl
theorem s35_113 {ls : List Value} {w0 : Int32} {r : Nat} : ZW zG (d + 1) 35 113 ls (.int w0 :: .ref r :: st) z Q = (zcls z r = 11 ∧ zcs st = true ∧ ZC zG d 111 [.ref r, .int w0] z (zk zG (d + 1) 35 (none) 116 ls st Q)) := zc_V1 rfl (Nat.le_of_ble_eq_true rfl)
theorem s35_116 {ls : List Value} {x : Int64} : ZW zG d 35 116 ls (.long x :: st) z Q = ZW zG d 35 117 ls (.int x.toInt32 :: st) z Q := zw_l2i rfl
theorem s35_117 {x0 x1 x2 x3 x4 x5 x6 x7 x8 x9 : Value} {a : Int32} : ZW zG d 35 117 [x0, x1, x2, x3, x4, x5, x6, x7, x8, x9] (.int a :: st) z Q = ZW zG d 35 119 [x0, x1, x2, x3, x4, x5, x6, x7, zclr x8, .int a] st z Q := zw_next (f := z_istore 9 119) rfl rfl
theorem s35_119 {x0 x1 x2 x3 x4 x5 x7 x8 x9 : Value} {a : Int32} : ZW zG d 35 119 [x0, x1, x2, x3, x4, x5, .int a, x7, x8, x9] st z Q = ZW zG d 35 121 [x0, x1, x2, x3, x4, x5, .int a, x7, x8, x9] (.int a :: st) z Q := zw_next (f := z_iload 6 121) rfl rfl
theorem s35_121 {x0 x1 x2 x3 x4 x5 x6 x7 x8 : Value} {a : Int32} : ZW zG d 35 121 [x0, x1, x2, x3, x4, x5, x6, x7, x8, .int a] st z Q = ZW zG d 35 123 [x0, x1, x2, x3, x4, x5, x6, x7, x8, .int a] (.int a :: st) z Q := zw_next (f := z_iload 9 123) rfl rfl
theorem s35_123 {ls : List Value} {w0 : Int32} {w1 : Int32} : ZW zG (d + 1) 35 123 ls (.int w1 :: .int w0 :: st) z Q = (zcs st = true ∧ ZC zG d 18 [.int w0, .int w1] z (zk zG (d + 1) 35 (none) 126 ls st Q)) := zc_S2 rfl (Nat.le_of_ble_eq_true rfl)
theorem s35_126 {ls : List Value} {a : Int32} : ZW zG d 35 126 ls (.int a :: st) z Q = if ¬ a = 0 then ZW zG d 35 146 ls st z Q else ZW zG d 35 129 ls st z Q := zw_ifne rfl
theorem s35_129 {x0 x1 x2 x3 x4 x5 x6 x7 x8 x9 : Value} : ZW zG d 35 129 [x0, x1, x2, x3, x4, x5, x6, x7, x8, x9] st z Q = (zir x0 = true ∧ ZW zG d 35 130 [x0, x1, x2, x3, x4, x5, x6, x7, x8, x9] (x0 :: st) z Q) := zw_cond (f := z_aload 0 130) rfl rfl
theorem s35_130 {ls : List Value} {r : Nat} : ZW zG d 35 130 ls (.ref r :: st) z Q = ((zcls z r = 0 ∧ zir (zfr z r 1) = true) ∧ ZW zG d 35 133 ls (zfr z r 1 :: st) (z) Q) := zw_getR rfl
theorem s35_133 {ls : List Value} {r : Nat} : ZW zG d 35 133 ls (.ref r :: st) z Q = ((zcls z r = 1 ∧ zir (zfr z r 1) = true) ∧ ZW zG d 35 136 ls (zfr z r 1 :: st) (z) Q) := zw_getR rfl
theorem s35_136 {x0 x1 x3 x4 x5 x6 x7 x8 x9 : Value} {a : Int32} : ZW zG d 35 136 [x0, x1, .int a, x3, x4, x5, x6, x7, x8, x9] st z Q = ZW zG d 35 137 [x0, x1, .int a, x3, x4, x5, x6, x7, x8, x9] (.int a :: st) z Q := zw_next (f := z_iload 2 137) rfl rfl
theorem s35_137 {x0 x1 x2 x3 x4 x5 x6 x7 x8 : Value} {a : Int32} : ZW zG d 35 137 [x0, x1, x2, x3, x4, x5, x6, x7, x8, .int a] st z Q = ZW zG d 35 139 [x0, x1, x2, x3, x4, x5, x6, x7, x8, .int a] (.int a :: st) z Q := zw_next (f := z_iload 9 139) rfl rfl
theorem s35_139 {ls : List Value} {w0 : Int32} {w1 : Int32} {r : Nat} : ZW zG (d + 1) 35 139 ls (.int w1 :: .int w0 :: .ref r :: st) z Q = (zcls z r = 3 ∧ zcs st = true ∧ ZC zG d 75 [.ref r, .int w0, .int w1] z (zk zG (d + 1) 35 (none) 142 ls st Q)) := zc_V2 rfl (Nat.le_of_ble_eq_true rfl)
theorem s35_142 {ls : List Value}  : ZW zG d 35 142 ls (st) z Q = ZW zG d 35 143 ls ((.int (-1)) :: st) z Q := zw_push rfl
theorem s35_143 {ls : List Value} {a b : Int32} : ZW zG d 35 143 ls (.int b :: .int a :: st) z Q = if ¬ a = b then ZW zG d 35 148 ls st z Q else ZW zG d 35 146 ls st z Q := zw_icne rfl
theorem s35_146 {ls : List Value}  : ZW zG d 35 146 ls (st) z Q = ZW zG d 35 147 ls ((.int (nI 0)) :: st) z Q := zw_push rfl
theorem s35_147 {ls : List Value} {a : Int32} : ZW zG d 35 147 ls ([.int a]) z Q = Q (.inl (some (.int a))) z := zw_reti rfl
theorem s35_148 {x0 x1 x2 x3 x4 x5 x6 x7 x8 x9 : Value} : ZW zG d 35 148 [x0, x1, x2, x3, x4, x5, x6, x7, x8, x9] st z Q = (zir x0 = true ∧ ZW zG d 35 149 [x0, x1, x2, x3, x4, x5, x6, x7, x8, x9] (x0 :: st) z Q) := zw_cond (f := z_aload 0 149) rfl rfl
theorem s35_149 {ls : List Value} {r : Nat} : ZW zG d 35 149 ls (.ref r :: st) z Q = ((zcls z r = 0 ∧ zir (zfr z r 4) = true) ∧ ZW zG d 35 152 ls (zfr z r 4 :: st) (z) Q) := zw_getR rfl
theorem s35_152 {x0 x1 x2 x3 x4 x6 x7 x8 x9 : Value} {a : Int32} : ZW zG d 35 152 [x0, x1, x2, x3, x4, .int a, x6, x7, x8, x9] st z Q = ZW zG d 35 154 [x0, x1, x2, x3, x4, .int a, x6, x7, x8, x9] (.int a :: st) z Q := zw_next (f := z_iload 5 154) rfl rfl
theorem s35_154 {x0 x1 x2 x3 x4 x5 x6 x7 x8 x9 : Value} : ZW zG d 35 154 [x0, x1, x2, x3, x4, x5, x6, x7, x8, x9] st z Q = (zir x7 = true ∧ ZW zG d 35 156 [x0, x1, x2, x3, x4, x5, x6, x7, x8, x9] (x7 :: st) z Q) := zw_cond (f := z_aload 7 156) rfl rfl
theorem s35_156 {x0 x1 x2 x3 x4 x5 x6 x7 x8 x9 : Value} : ZW zG d 35 156 [x0, x1, x2, x3, x4, x5, x6, x7, x8, x9] st z Q = (zir x0 = true ∧ ZW zG d 35 157 [x0, x1, x2, x3, x4, x5, x6, x7, x8, x9] (x0 :: st) z Q) := zw_cond (f := z_aload 0 157) rfl rfl
theorem s35_157 {x0 x1 x2 x3 x4 x5 x6 x7 x8 : Value} {a : Int32} : ZW zG d 35 157 [x0, x1, x2, x3, x4, x5, x6, x7, x8, .int a] st z Q = ZW zG d 35 159 [x0, x1, x2, x3, x4, x5, x6, x7, x8, .int a] (.int a :: st) z Q := zw_next (f := z_iload 9 159) rfl rfl
theorem s35_159 {ls : List Value} {w0 : Int32} {r : Nat} : ZW zG (d + 1) 35 159 ls (.int w0 :: .ref r :: st) z Q = (zcls z r = 0 ∧ zcs st = true ∧ ZC zG d 17 [.ref r, .int w0] z (zk zG (d + 1) 35 (none) 162 ls st Q)) := zc_V1 rfl (Nat.le_of_ble_eq_true rfl)
theorem s35_162 {ls : List Value} {w0 : Nat} {r : Nat} : ZW zG (d + 1) 35 162 ls (.ref w0 :: .ref r :: st) z Q = (zcls z r = 21 ∧ zcs st = true ∧ ZC zG d 248 [.ref r, .ref w0] z (zk zG (d + 1) 35 (none) 165 ls st Q)) := zc_V1 rfl (Nat.le_of_ble_eq_true rfl)
theorem s35_165 {x0 x1 x2 x3 x4 x5 x6 x7 x8 : Value} {a : Int32} : ZW zG d 35 165 [x0, x1, x2, x3, x4, x5, x6, x7, x8, .int a] st z Q = ZW zG d 35 167 [x0, x1, x2, x3, x4, x5, x6, x7, x8, .int a] (.int a :: st) z Q := zw_next (f := z_iload 9 167) rfl rfl
theorem s35_167 {ls : List Value} {w0 : Int32} {w1 : Int32} {w2 : Int32} {r : Nat} : ZW zG (d + 1) 35 167 ls (.int w2 :: .int w1 :: .int w0 :: .ref r :: st) z Q = (zcls z r = 10 ∧ zcs st = true ∧ ZC zG d 100 [.ref r, .int w0, .int w1, .int w2] z (zk zG (d + 1) 35 (none) 170 ls st Q)) := zc_V3 rfl (Nat.le_of_ble_eq_true rfl)
theorem s35_170 {x0 x1 x2 x3 x4 x5 x6 x7 x8 x9 : Value} {a : Int32} : ZW zG d 35 170 [x0, x1, x2, x3, x4, x5, x6, x7, x8, x9] (.int a :: st) z Q = ZW zG d 35 172 [x0, x1, x2, x3, zclr x4, .int a, x6, x7, x8, x9] st z Q := zw_next (f := z_istore 5 172) rfl rfl
theorem s35_172 {x0 x1 x2 x3 x4 x6 x7 x8 x9 : Value} {a : Int32} : ZW zG d 35 172 [x0, x1, x2, x3, x4, .int a, x6, x7, x8, x9] st z Q = ZW zG d 35 174 [x0, x1, x2, x3, x4, .int a, x6, x7, x8, x9] (.int a :: st) z Q := zw_next (f := z_iload 5 174) rfl rfl
theorem s35_174 {ls : List Value}  : ZW zG d 35 174 ls (st) z Q = ZW zG d 35 177 ls ((.int (nI 100000)) :: st) z Q := zw_push rfl
theorem s35_177 {ls : List Value} {a b : Int32} : ZW zG d 35 177 ls (.int b :: .int a :: st) z Q = if ¬ a = b then ZW zG d 35 182 ls st z Q else ZW zG d 35 180 ls st z Q := zw_icne rfl
theorem s35_180 {ls : List Value}  : ZW zG d 35 180 ls (st) z Q = ZW zG d 35 181 ls ((.int (nI 0)) :: st) z Q := zw_push rfl
theorem s35_181 {ls : List Value} {a : Int32} : ZW zG d 35 181 ls ([.int a]) z Q = Q (.inl (some (.int a))) z := zw_reti rfl
theorem s35_182 {x0 x1 x2 x3 x4 x5 x7 x8 x9 : Value} {a : Int32} : ZW zG d 35 182 [x0, x1, x2, x3, x4, x5, .int a, x7, x8, x9] st z Q = ZW zG d 35 184 [x0, x1, x2, x3, x4, x5, .int a, x7, x8, x9] (.int a :: st) z Q := zw_next (f := z_iload 6 184) rfl rfl
theorem s35_184 {ls : List Value}  : ZW zG d 35 184 ls (st) z Q = ZW zG d 35 185 ls ((.int (nI 1)) :: st) z Q := zw_push rfl
theorem s35_185 {x0 x1 x2 x3 x4 x5 x6 x7 x8 : Value} {a : Int32} : ZW zG d 35 185 [x0, x1, x2, x3, x4, x5, x6, x7, x8, .int a] st z Q = ZW zG d 35 187 [x0, x1, x2, x3, x4, x5, x6, x7, x8, .int a] (.int a :: st) z Q := zw_next (f := z_iload 9 187) rfl rfl
theorem s35_187 {ls : List Value} {a b : Int32} : ZW zG d 35 187 ls (.int b :: .int a :: st) z Q = ZW zG d 35 188 ls (.int (a <<< (b &&& 31)) :: st) z Q := zw_ishl rfl
theorem s35_188 {ls : List Value} {a b : Int32} : ZW zG d 35 188 ls (.int b :: .int a :: st) z Q = ZW zG d 35 189 ls (.int (a ||| b) :: st) z Q := zw_ior rfl
theorem s35_189 {x0 x1 x2 x3 x4 x5 x6 x7 x8 x9 : Value} {a : Int32} : ZW zG d 35 189 [x0, x1, x2, x3, x4, x5, x6, x7, x8, x9] (.int a :: st) z Q = ZW zG d 35 191 [x0, x1, x2, x3, x4, zclr x5, .int a, x7, x8, x9] st z Q := zw_next (f := z_istore 6 191) rfl rfl
theorem s35_191 {x0 x1 x2 x3 x4 x5 x6 x7 x8 x9 : Value} : ZW zG d 35 191 [x0, x1, x2, x3, x4, x5, x6, x7, x8, x9] st z Q = (zir x0 = true ∧ ZW zG d 35 192 [x0, x1, x2, x3, x4, x5, x6, x7, x8, x9] (x0 :: st) z Q) := zw_cond (f := z_aload 0 192) rfl rfl
theorem s35_192 {x0 x1 x2 x3 x4 x5 x6 x7 x8 : Value} {a : Int32} : ZW zG d 35 192 [x0, x1, x2, x3, x4, x5, x6, x7, x8, .int a] st z Q = ZW zG d 35 194 [x0, x1, x2, x3, x4, x5, x6, x7, x8, .int a] (.int a :: st) z Q := zw_next (f := z_iload 9 194) rfl rfl
theorem s35_194 {ls : List Value} {w0 : Int32} {r : Nat} : ZW zG (d + 1) 35 194 ls (.int w0 :: .ref r :: st) z Q = (zcls z r = 0 ∧ zcs st = true ∧ ZC zG d 17 [.ref r, .int w0] z (zk zG (d + 1) 35 (none) 197 ls st Q)) := zc_V1 rfl (Nat.le_of_ble_eq_true rfl)
theorem s35_197 {x0 x1 x2 x3 x4 x5 x6 x7 x8 x9 : Value} {v : Value} : ZW zG d 35 197 [x0, x1, x2, x3, x4, x5, x6, x7, x8, x9] (v :: st) z Q = (zir v = true ∧ ZW zG d 35 199 [x0, x1, x2, x3, x4, x5, zclr x6, v, x8, x9] st z Q) := by rw [zw_cond (f := z_astore 7 199) (G := zG) rfl rfl]; exact propext ⟨fun h => ⟨h.1.1, h.2⟩, fun h => ⟨⟨h.1, Nat.le_of_ble_eq_true rfl⟩, h.2⟩⟩
theorem s35_199 {x0 x1 x2 x3 x4 x5 x6 x7 x9 : Value} {a : Int32} : ZW zG d 35 199 [x0, x1, x2, x3, x4, x5, x6, x7, .int a, x9] st z Q = ZW zG d 35 202 [x0, x1, x2, x3, x4, x5, x6, zclr x7, .int (a + (nI 1)), x9] st z Q := zw_next (f := z_iinc 8 (nI 1) 202) rfl rfl
theorem s35_202 {ls : List Value}  : ZW zG d 35 202 ls (st) z Q = ZW zG d 35 70 ls st z Q := zw_goto rfl
theorem s35_205 {ls : List Value}  : ZW zG d 35 205 ls (st) z Q = ZW zG d 35 206 ls ((.int (nI 1)) :: st) z Q := zw_push rfl
theorem s35_206 {ls : List Value} {a : Int32} : ZW zG d 35 206 ls ([.int a]) z Q = Q (.inl (some (.int a))) z := zw_reti rfl
/-- X0_fewest (I)I -/
theorem e36 {r0 : Nat} {v0 : Int32} : ZC zG d 36 [.ref r0, .int v0] z Q = ZW zG d 36 0 [.ref r0, .int v0, zdum, zdum, zdum, zdum, zdum, zdum] [] z Q := rfl
theorem s36_0 {x0 x1 x2 x3 x4 x5 x6 x7 : Value} : ZW zG d 36 0 [x0, x1, x2, x3, x4, x5, x6, x7] st z Q = (zir x0 = true ∧ ZW zG d 36 1 [x0, x1, x2, x3, x4, x5, x6, x7] (x0 :: st) z Q) := zw_cond (f := z_aload 0 1) rfl rfl
theorem s36_1 {x0 x2 x3 x4 x5 x6 x7 : Value} {a : Int32} : ZW zG d 36 1 [x0, .int a, x2, x3, x4, x5, x6, x7] st z Q = ZW zG d 36 2 [x0, .int a, x2, x3, x4, x5, x6, x7] (.int a :: st) z Q := zw_next (f := z_iload 1 2) rfl rfl
theorem s36_2 {ls : List Value} {w0 : Int32} {r : Nat} : ZW zG (d + 1) 36 2 ls (.int w0 :: .ref r :: st) z Q = (zcls z r = 0 ∧ zcs st = true ∧ ZC zG d 14 [.ref r, .int w0] z (zk zG (d + 1) 36 (none) 5 ls st Q)) := zc_V1 rfl (Nat.le_of_ble_eq_true rfl)
theorem s36_5 {ls : List Value} {a : Int32} : ZW zG d 36 5 ls (.int a :: st) z Q = if ¬ a = 0 then ZW zG d 36 11 ls st z Q else ZW zG d 36 8 ls st z Q := zw_ifne rfl
theorem s36_8 {ls : List Value}  : ZW zG d 36 8 ls (st) z Q = ZW zG d 36 10 ls ((.int (-2)) :: st) z Q := zw_push rfl
theorem s36_10 {ls : List Value} {a : Int32} : ZW zG d 36 10 ls ([.int a]) z Q = Q (.inl (some (.int a))) z := zw_reti rfl
theorem s36_11 {x0 x1 x2 x3 x4 x5 x6 x7 : Value} : ZW zG d 36 11 [x0, x1, x2, x3, x4, x5, x6, x7] st z Q = (zir x0 = true ∧ ZW zG d 36 12 [x0, x1, x2, x3, x4, x5, x6, x7] (x0 :: st) z Q) := zw_cond (f := z_aload 0 12) rfl rfl
theorem s36_12 {x0 x2 x3 x4 x5 x6 x7 : Value} {a : Int32} : ZW zG d 36 12 [x0, .int a, x2, x3, x4, x5, x6, x7] st z Q = ZW zG d 36 13 [x0, .int a, x2, x3, x4, x5, x6, x7] (.int a :: st) z Q := zw_next (f := z_iload 1 13) rfl rfl
theorem s36_13 {ls : List Value} {w0 : Int32} {r : Nat} : ZW zG (d + 1) 36 13 ls (.int w0 :: .ref r :: st) z Q = (zcls z r = 0 ∧ zcs st = true ∧ ZC zG d 37 [.ref r, .int w0] z (zk zG (d + 1) 36 (none) 16 ls st Q)) := zc_V1 rfl (Nat.le_of_ble_eq_true rfl)
theorem s36_16 {x0 x1 x2 x3 x4 x5 x6 x7 : Value} {a : Int32} : ZW zG d 36 16 [x0, x1, x2, x3, x4, x5, x6, x7] (.int a :: st) z Q = ZW zG d 36 17 [x0, zclr x1, .int a, x3, x4, x5, x6, x7] st z Q := zw_next (f := z_istore 2 17) rfl rfl
theorem s36_17 {ls : List Value}  : ZW zG d 36 17 ls (st) z Q = ZW zG d 36 18 ls ((.int (nI 1)) :: st) z Q := zw_push rfl
theorem s36_18 {x0 x1 x3 x4 x5 x6 x7 : Value} {a : Int32} : ZW zG d 36 18 [x0, x1, .int a, x3, x4, x5, x6, x7] st z Q = ZW zG d 36 19 [x0, x1, .int a, x3, x4, x5, x6, x7] (.int a :: st) z Q := zw_next (f := z_iload 2 19) rfl rfl
theorem s36_19 {ls : List Value} {a b : Int32} : ZW zG d 36 19 ls (.int b :: .int a :: st) z Q = ZW zG d 36 20 ls (.int (a <<< (b &&& 31)) :: st) z Q := zw_ishl rfl
theorem s36_20 {ls : List Value}  : ZW zG d 36 20 ls (st) z Q = ZW zG d 36 21 ls ((.int (nI 1)) :: st) z Q := zw_push rfl
theorem s36_21 {ls : List Value} {a b : Int32} : ZW zG d 36 21 ls (.int b :: .int a :: st) z Q = ZW zG d 36 22 ls (.int (a - b) :: st) z Q := zw_isub rfl
theorem s36_22 {x0 x1 x2 x3 x4 x5 x6 x7 : Value} {a : Int32} : ZW zG d 36 22 [x0, x1, x2, x3, x4, x5, x6, x7] (.int a :: st) z Q = ZW zG d 36 23 [x0, x1, zclr x2, .int a, x4, x5, x6, x7] st z Q := zw_next (f := z_istore 3 23) rfl rfl
theorem s36_23 {ls : List Value}  : ZW zG d 36 23 ls (st) z Q = ZW zG d 36 24 ls ((.int (nI 0)) :: st) z Q := zw_push rfl
theorem s36_24 {x0 x1 x2 x3 x4 x5 x6 x7 : Value} {a : Int32} : ZW zG d 36 24 [x0, x1, x2, x3, x4, x5, x6, x7] (.int a :: st) z Q = ZW zG d 36 26 [x0, x1, x2, zclr x3, .int a, x5, x6, x7] st z Q := zw_next (f := z_istore 4 26) rfl rfl
theorem s36_26 {x0 x1 x2 x3 x5 x6 x7 : Value} {a : Int32} : ZW zG d 36 26 [x0, x1, x2, x3, .int a, x5, x6, x7] st z Q = ZW zG d 36 28 [x0, x1, x2, x3, .int a, x5, x6, x7] (.int a :: st) z Q := zw_next (f := z_iload 4 28) rfl rfl
theorem s36_28 {x0 x1 x2 x4 x5 x6 x7 : Value} {a : Int32} : ZW zG d 36 28 [x0, x1, x2, .int a, x4, x5, x6, x7] st z Q = ZW zG d 36 29 [x0, x1, x2, .int a, x4, x5, x6, x7] (.int a :: st) z Q := zw_next (f := z_iload 3 29) rfl rfl
theorem s36_29 {ls : List Value} {a b : Int32} : ZW zG d 36 29 ls (.int b :: .int a :: st) z Q = if b < a then ZW zG d 36 48 ls st z Q else ZW zG d 36 32 ls st z Q := zw_icgt rfl
theorem s36_32 {x0 x1 x2 x3 x4 x5 x6 x7 : Value} : ZW zG d 36 32 [x0, x1, x2, x3, x4, x5, x6, x7] st z Q = (zir x0 = true ∧ ZW zG d 36 33 [x0, x1, x2, x3, x4, x5, x6, x7] (x0 :: st) z Q) := zw_cond (f := z_aload 0 33) rfl rfl
theorem s36_33 {ls : List Value} {r : Nat} : ZW zG d 36 33 ls (.ref r :: st) z Q = ((zcls z r = 0 ∧ zir (zfr z r 9) = true) ∧ ZW zG d 36 36 ls (zfr z r 9 :: st) (z) Q) := zw_getR rfl
theorem s36_36 {x0 x1 x2 x3 x5 x6 x7 : Value} {a : Int32} : ZW zG d 36 36 [x0, x1, x2, x3, .int a, x5, x6, x7] st z Q = ZW zG d 36 38 [x0, x1, x2, x3, .int a, x5, x6, x7] (.int a :: st) z Q := zw_next (f := z_iload 4 38) rfl rfl
theorem s36_38 {ls : List Value}  : ZW zG d 36 38 ls (st) z Q = ZW zG d 36 41 ls ((.int (nI 100000)) :: st) z Q := zw_push rfl
theorem s36_41 {ls : List Value} {a b : Int32} {r : Nat} : ZW zG d 36 41 ls (.int b :: .int a :: .ref r :: st) z Q = ((zcls z r = 50 ∧ zin a (zlen z r) = true) ∧ ZW zG d 36 42 ls (st) (sia z r (zx a) (znar 50 b)) Q) := zw_iast rfl
theorem s36_42 {x0 x1 x2 x3 x5 x6 x7 : Value} {a : Int32} : ZW zG d 36 42 [x0, x1, x2, x3, .int a, x5, x6, x7] st z Q = ZW zG d 36 45 [x0, x1, x2, zclr x3, .int (a + (nI 1)), x5, x6, x7] st z Q := zw_next (f := z_iinc 4 (nI 1) 45) rfl rfl
theorem s36_45 {ls : List Value}  : ZW zG d 36 45 ls (st) z Q = ZW zG d 36 26 ls st z Q := zw_goto rfl
theorem s36_48 {x0 x1 x2 x3 x4 x5 x6 x7 : Value} : ZW zG d 36 48 [x0, x1, x2, x3, x4, x5, x6, x7] st z Q = (zir x0 = true ∧ ZW zG d 36 49 [x0, x1, x2, x3, x4, x5, x6, x7] (x0 :: st) z Q) := zw_cond (f := z_aload 0 49) rfl rfl
theorem s36_49 {ls : List Value} {r : Nat} : ZW zG d 36 49 ls (.ref r :: st) z Q = ((zcls z r = 0 ∧ zir (zfr z r 9) = true) ∧ ZW zG d 36 52 ls (zfr z r 9 :: st) (z) Q) := zw_getR rfl
theorem s36_52 {ls : List Value}  : ZW zG d 36 52 ls (st) z Q = ZW zG d 36 53 ls ((.int (nI 0)) :: st) z Q := zw_push rfl
theorem s36_53 {ls : List Value}  : ZW zG d 36 53 ls (st) z Q = ZW zG d 36 54 ls ((.int (nI 0)) :: st) z Q := zw_push rfl
theorem s36_54 {ls : List Value} {a b : Int32} {r : Nat} : ZW zG d 36 54 ls (.int b :: .int a :: .ref r :: st) z Q = ((zcls z r = 50 ∧ zin a (zlen z r) = true) ∧ ZW zG d 36 55 ls (st) (sia z r (zx a) (znar 50 b)) Q) := zw_iast rfl
theorem s36_55 {x0 x1 x2 x3 x4 x5 x6 x7 : Value} : ZW zG d 36 55 [x0, x1, x2, x3, x4, x5, x6, x7] st z Q = (zir x0 = true ∧ ZW zG d 36 56 [x0, x1, x2, x3, x4, x5, x6, x7] (x0 :: st) z Q) := zw_cond (f := z_aload 0 56) rfl rfl
theorem s36_56 {ls : List Value} {r : Nat} : ZW zG d 36 56 ls (.ref r :: st) z Q = ((zcls z r = 0 ∧ zir (zfr z r 1) = true) ∧ ZW zG d 36 59 ls (zfr z r 1 :: st) (z) Q) := zw_getR rfl
theorem s36_59 {ls : List Value} {r : Nat} : ZW zG d 36 59 ls (.ref r :: st) z Q = ((zcls z r = 1) ∧ ZW zG d 36 62 ls (.int (zfi z r 3) :: st) (z) Q) := zw_getI rfl
theorem s36_62 {x0 x1 x2 x3 x4 x5 x6 x7 : Value} {a : Int32} : ZW zG d 36 62 [x0, x1, x2, x3, x4, x5, x6, x7] (.int a :: st) z Q = ZW zG d 36 64 [x0, x1, x2, zclr x3, .int a, x5, x6, x7] st z Q := zw_next (f := z_istore 4 64) rfl rfl
theorem s36_64 {x0 x1 x2 x3 x5 x6 x7 : Value} {a : Int32} : ZW zG d 36 64 [x0, x1, x2, x3, .int a, x5, x6, x7] st z Q = ZW zG d 36 66 [x0, x1, x2, x3, .int a, x5, x6, x7] (.int a :: st) z Q := zw_next (f := z_iload 4 66) rfl rfl
theorem s36_66 {x0 x1 x2 x3 x4 x5 x6 x7 : Value} : ZW zG d 36 66 [x0, x1, x2, x3, x4, x5, x6, x7] st z Q = (zir x0 = true ∧ ZW zG d 36 67 [x0, x1, x2, x3, x4, x5, x6, x7] (x0 :: st) z Q) := zw_cond (f := z_aload 0 67) rfl rfl
theorem s36_67 {ls : List Value} {r : Nat} : ZW zG d 36 67 ls (.ref r :: st) z Q = ((zcls z r = 0 ∧ zir (zfr z r 1) = true) ∧ ZW zG d 36 70 ls (zfr z r 1 :: st) (z) Q) := zw_getR rfl
theorem s36_70 {ls : List Value} {r : Nat} : ZW zG d 36 70 ls (.ref r :: st) z Q = ((zcls z r = 1) ∧ ZW zG d 36 73 ls (.int (zfi z r 3) :: st) (z) Q) := zw_getI rfl
theorem s36_73 {ls : List Value}  : ZW zG d 36 73 ls (st) z Q = ZW zG d 36 75 ls ((.int (nI 7)) :: st) z Q := zw_push rfl
theorem s36_75 {ls : List Value} {a b : Int32} : ZW zG d 36 75 ls (.int b :: .int a :: st) z Q = ZW zG d 36 76 ls (.int (a + b) :: st) z Q := zw_iadd rfl
theorem s36_76 {ls : List Value} {a b : Int32} : ZW zG d 36 76 ls (.int b :: .int a :: st) z Q = if b ≤ a then ZW zG d 36 241 ls st z Q else ZW zG d 36 79 ls st z Q := zw_icge rfl
theorem s36_79 {x0 x1 x2 x3 x5 x6 x7 : Value} {a : Int32} : ZW zG d 36 79 [x0, x1, x2, x3, .int a, x5, x6, x7] st z Q = ZW zG d 36 81 [x0, x1, x2, x3, .int a, x5, x6, x7] (.int a :: st) z Q := zw_next (f := z_iload 4 81) rfl rfl
theorem s36_81 {ls : List Value}  : ZW zG d 36 81 ls (st) z Q = ZW zG d 36 84 ls ((.int (nI 399)) :: st) z Q := zw_push rfl
theorem s36_84 {ls : List Value} {a b : Int32} : ZW zG d 36 84 ls (.int b :: .int a :: st) z Q = if b < a then ZW zG d 36 241 ls st z Q else ZW zG d 36 87 ls st z Q := zw_icgt rfl
theorem s36_87 {x0 x1 x2 x3 x4 x5 x6 x7 : Value} : ZW zG d 36 87 [x0, x1, x2, x3, x4, x5, x6, x7] st z Q = (zir x0 = true ∧ ZW zG d 36 88 [x0, x1, x2, x3, x4, x5, x6, x7] (x0 :: st) z Q) := zw_cond (f := z_aload 0 88) rfl rfl
theorem s36_88 {ls : List Value} {r : Nat} : ZW zG d 36 88 ls (.ref r :: st) z Q = ((zcls z r = 0 ∧ zir (zfr z r 4) = true) ∧ ZW zG d 36 91 ls (zfr z r 4 :: st) (z) Q) := zw_getR rfl
theorem s36_91 {x0 x1 x2 x3 x5 x6 x7 : Value} {a : Int32} : ZW zG d 36 91 [x0, x1, x2, x3, .int a, x5, x6, x7] st z Q = ZW zG d 36 93 [x0, x1, x2, x3, .int a, x5, x6, x7] (.int a :: st) z Q := zw_next (f := z_iload 4 93) rfl rfl
theorem s36_93 {ls : List Value} {a : Int32} {r : Nat} : ZW zG d 36 93 ls (.int a :: .ref r :: st) z Q = ((zcls z r = 10) ∧ ZW zG d 36 96 ls (st) (sfi z r 5 a) Q) := zw_putI rfl
theorem s36_96 {x0 x1 x2 x3 x4 x5 x6 x7 : Value} : ZW zG d 36 96 [x0, x1, x2, x3, x4, x5, x6, x7] st z Q = (zir x0 = true ∧ ZW zG d 36 97 [x0, x1, x2, x3, x4, x5, x6, x7] (x0 :: st) z Q) := zw_cond (f := z_aload 0 97) rfl rfl
theorem s36_97 {ls : List Value} {r : Nat} : ZW zG d 36 97 ls (.ref r :: st) z Q = ((zcls z r = 0 ∧ zir (zfr z r 4) = true) ∧ ZW zG d 36 100 ls (zfr z r 4 :: st) (z) Q) := zw_getR rfl
theorem s36_100 {ls : List Value}  {r : Nat} : ZW zG (d + 1) 36 100 ls (.ref r :: st) z Q = (zcls z r = 10 ∧ zcs st = true ∧ ZC zG d 98 [.ref r] z (zk zG (d + 1) 36 (none) 103 ls st Q)) := zc_V0 rfl (Nat.le_of_ble_eq_true rfl)
theorem s36_103 {x0 x1 x2 x3 x4 x5 x6 x7 : Value} : ZW zG d 36 103 [x0, x1, x2, x3, x4, x5, x6, x7] st z Q = (zir x0 = true ∧ ZW zG d 36 104 [x0, x1, x2, x3, x4, x5, x6, x7] (x0 :: st) z Q) := zw_cond (f := z_aload 0 104) rfl rfl
theorem s36_104 {ls : List Value} {r : Nat} : ZW zG d 36 104 ls (.ref r :: st) z Q = ((zcls z r = 0 ∧ zir (zfr z r 9) = true) ∧ ZW zG d 36 107 ls (zfr z r 9 :: st) (z) Q) := zw_getR rfl
theorem s36_107 {ls : List Value}  : ZW zG d 36 107 ls (st) z Q = ZW zG d 36 108 ls ((.int (nI 0)) :: st) z Q := zw_push rfl
theorem s36_108 {x0 x1 x2 x3 x4 x5 x6 x7 : Value} : ZW zG d 36 108 [x0, x1, x2, x3, x4, x5, x6, x7] st z Q = (zir x0 = true ∧ ZW zG d 36 109 [x0, x1, x2, x3, x4, x5, x6, x7] (x0 :: st) z Q) := zw_cond (f := z_aload 0 109) rfl rfl
theorem s36_109 {ls : List Value} {r : Nat} : ZW zG d 36 109 ls (.ref r :: st) z Q = ((zcls z r = 0 ∧ zir (zfr z r 10) = true) ∧ ZW zG d 36 112 ls (zfr z r 10 :: st) (z) Q) := zw_getR rfl
theorem s36_112 {ls : List Value}  : ZW zG d 36 112 ls (st) z Q = ZW zG d 36 113 ls ((.int (nI 0)) :: st) z Q := zw_push rfl
theorem s36_113 {x0 x1 x2 x4 x5 x6 x7 : Value} {a : Int32} : ZW zG d 36 113 [x0, x1, x2, .int a, x4, x5, x6, x7] st z Q = ZW zG d 36 114 [x0, x1, x2, .int a, x4, x5, x6, x7] (.int a :: st) z Q := zw_next (f := z_iload 3 114) rfl rfl
theorem s36_114 {ls : List Value}  : ZW zG d 36 114 ls (st) z Q = ZW zG d 36 115 ls ((.int (nI 1)) :: st) z Q := zw_push rfl
theorem s36_115 {ls : List Value} {a b : Int32} : ZW zG d 36 115 ls (.int b :: .int a :: st) z Q = ZW zG d 36 116 ls (.int (a + b) :: st) z Q := zw_iadd rfl
theorem s36_116 {ls : List Value} {n1 a b : Int32} {r s : Nat} : ZW zG d 36 116 ls (.int n1 :: .int b :: .ref s :: .int a :: .ref r :: st) z Q = (((zcs st = true ∧ zcls z r = 50 ∧ zcls z s = 50 ∧ ¬ r = s) ∧ (zin a (zlen z r + 1) = true ∧ zin b (zlen z s + 1) = true ∧ zin n1 1000000 = true) ∧ zx a + zx n1 ≤ zlen z r ∧ zx b + zx n1 ≤ zlen z s) ∧ ZW zG d 36 119 ls (st) (sIA z s (va_cpy (zia z r) (zia z s) (zx a) (zx b) (zx n1))) Q) := zw_acpy rfl
theorem s36_119 {ls : List Value}  : ZW zG d 36 119 ls (st) z Q = ZW zG d 36 120 ls ((.int (nI 1)) :: st) z Q := zw_push rfl
theorem s36_120 {x0 x1 x2 x3 x4 x5 x6 x7 : Value} {a : Int32} : ZW zG d 36 120 [x0, x1, x2, x3, x4, x5, x6, x7] (.int a :: st) z Q = ZW zG d 36 122 [x0, x1, x2, x3, zclr x4, .int a, x6, x7] st z Q := zw_next (f := z_istore 5 122) rfl rfl
theorem s36_122 {x0 x1 x2 x3 x4 x6 x7 : Value} {a : Int32} : ZW zG d 36 122 [x0, x1, x2, x3, x4, .int a, x6, x7] st z Q = ZW zG d 36 124 [x0, x1, x2, x3, x4, .int a, x6, x7] (.int a :: st) z Q := zw_next (f := z_iload 5 124) rfl rfl
theorem s36_124 {ls : List Value}  : ZW zG d 36 124 ls (st) z Q = ZW zG d 36 125 ls ((.int (nI 1)) :: st) z Q := zw_push rfl
theorem s36_125 {x0 x1 x2 x3 x4 x5 x6 x7 : Value} : ZW zG d 36 125 [x0, x1, x2, x3, x4, x5, x6, x7] st z Q = (zir x0 = true ∧ ZW zG d 36 126 [x0, x1, x2, x3, x4, x5, x6, x7] (x0 :: st) z Q) := zw_cond (f := z_aload 0 126) rfl rfl
theorem s36_126 {ls : List Value} {r : Nat} : ZW zG d 36 126 ls (.ref r :: st) z Q = ((zcls z r = 0 ∧ zir (zfr z r 4) = true) ∧ ZW zG d 36 129 ls (zfr z r 4 :: st) (z) Q) := zw_getR rfl
theorem s36_129 {ls : List Value} {r : Nat} : ZW zG d 36 129 ls (.ref r :: st) z Q = ((zcls z r = 10) ∧ ZW zG d 36 132 ls (.int (zfi z r 4) :: st) (z) Q) := zw_getI rfl
theorem s36_132 {ls : List Value} {a b : Int32} : ZW zG d 36 132 ls (.int b :: .int a :: st) z Q = ZW zG d 36 133 ls (.int (a <<< (b &&& 31)) :: st) z Q := zw_ishl rfl
theorem s36_133 {ls : List Value} {a b : Int32} : ZW zG d 36 133 ls (.int b :: .int a :: st) z Q = if b ≤ a then ZW zG d 36 219 ls st z Q else ZW zG d 36 136 ls st z Q := zw_icge rfl
theorem s36_136 {x0 x1 x2 x3 x4 x5 x6 x7 : Value} : ZW zG d 36 136 [x0, x1, x2, x3, x4, x5, x6, x7] st z Q = (zir x0 = true ∧ ZW zG d 36 137 [x0, x1, x2, x3, x4, x5, x6, x7] (x0 :: st) z Q) := zw_cond (f := z_aload 0 137) rfl rfl
theorem s36_137 {ls : List Value} {r : Nat} : ZW zG d 36 137 ls (.ref r :: st) z Q = ((zcls z r = 0 ∧ zir (zfr z r 4) = true) ∧ ZW zG d 36 140 ls (zfr z r 4 :: st) (z) Q) := zw_getR rfl
theorem s36_140 {x0 x1 x2 x3 x4 x6 x7 : Value} {a : Int32} : ZW zG d 36 140 [x0, x1, x2, x3, x4, .int a, x6, x7] st z Q = ZW zG d 36 142 [x0, x1, x2, x3, x4, .int a, x6, x7] (.int a :: st) z Q := zw_next (f := z_iload 5 142) rfl rfl
theorem s36_142 {ls : List Value} {w0 : Int32} {r : Nat} : ZW zG (d + 1) 36 142 ls (.int w0 :: .ref r :: st) z Q = (zcls z r = 10 ∧ zcs st = true ∧ ZC zG d 103 [.ref r, .int w0] z (zk zG (d + 1) 36 (none) 145 ls st Q)) := zc_V1 rfl (Nat.le_of_ble_eq_true rfl)
theorem s36_145 {ls : List Value}  : ZW zG d 36 145 ls (st) z Q = ZW zG d 36 148 ls ((.int (nI 100000)) :: st) z Q := zw_push rfl
theorem s36_148 {ls : List Value} {a b : Int32} : ZW zG d 36 148 ls (.int b :: .int a :: st) z Q = if ¬ a = b then ZW zG d 36 154 ls st z Q else ZW zG d 36 151 ls st z Q := zw_icne rfl
theorem s36_151 {ls : List Value}  : ZW zG d 36 151 ls (st) z Q = ZW zG d 36 213 ls st z Q := zw_goto rfl
theorem s36_154 {x0 x1 x2 x3 x4 x5 x6 x7 : Value} : ZW zG d 36 154 [x0, x1, x2, x3, x4, x5, x6, x7] st z Q = (zir x0 = true ∧ ZW zG d 36 155 [x0, x1, x2, x3, x4, x5, x6, x7] (x0 :: st) z Q) := zw_cond (f := z_aload 0 155) rfl rfl
theorem s36_155 {x0 x2 x3 x4 x5 x6 x7 : Value} {a : Int32} : ZW zG d 36 155 [x0, .int a, x2, x3, x4, x5, x6, x7] st z Q = ZW zG d 36 156 [x0, .int a, x2, x3, x4, x5, x6, x7] (.int a :: st) z Q := zw_next (f := z_iload 1 156) rfl rfl
theorem s36_156 {x0 x1 x3 x4 x5 x6 x7 : Value} {a : Int32} : ZW zG d 36 156 [x0, x1, .int a, x3, x4, x5, x6, x7] st z Q = ZW zG d 36 157 [x0, x1, .int a, x3, x4, x5, x6, x7] (.int a :: st) z Q := zw_next (f := z_iload 2 157) rfl rfl
theorem s36_157 {x0 x1 x2 x3 x4 x6 x7 : Value} {a : Int32} : ZW zG d 36 157 [x0, x1, x2, x3, x4, .int a, x6, x7] st z Q = ZW zG d 36 159 [x0, x1, x2, x3, x4, .int a, x6, x7] (.int a :: st) z Q := zw_next (f := z_iload 5 159) rfl rfl
theorem s36_159 {x0 x1 x2 x3 x5 x6 x7 : Value} {a : Int32} : ZW zG d 36 159 [x0, x1, x2, x3, .int a, x5, x6, x7] st z Q = ZW zG d 36 161 [x0, x1, x2, x3, .int a, x5, x6, x7] (.int a :: st) z Q := zw_next (f := z_iload 4 161) rfl rfl
theorem s36_161 {ls : List Value} {w0 : Int32} {w1 : Int32} {w2 : Int32} {w3 : Int32} {r : Nat} : ZW zG (d + 1) 36 161 ls (.int w3 :: .int w2 :: .int w1 :: .int w0 :: .ref r :: st) z Q = (zcls z r = 0 ∧ zcs st = true ∧ ZC zG d 38 [.ref r, .int w0, .int w1, .int w2, .int w3] z (zk zG (d + 1) 36 (none) 164 ls st Q)) := zc_V4 rfl (Nat.le_of_ble_eq_true rfl)
theorem s36_164 {x0 x1 x2 x3 x4 x5 x6 x7 : Value} {a : Int32} : ZW zG d 36 164 [x0, x1, x2, x3, x4, x5, x6, x7] (.int a :: st) z Q = ZW zG d 36 166 [x0, x1, x2, x3, x4, zclr x5, .int a, x7] st z Q := zw_next (f := z_istore 6 166) rfl rfl
theorem s36_166 {ls : List Value}  : ZW zG d 36 166 ls (st) z Q = ZW zG d 36 167 ls ((.int (nI 0)) :: st) z Q := zw_push rfl
theorem s36_167 {x0 x1 x2 x3 x4 x5 x6 x7 : Value} {a : Int32} : ZW zG d 36 167 [x0, x1, x2, x3, x4, x5, x6, x7] (.int a :: st) z Q = ZW zG d 36 169 [x0, x1, x2, x3, x4, x5, zclr x6, .int a] st z Q := zw_next (f := z_istore 7 169) rfl rfl
theorem s36_169 {x0 x1 x2 x3 x4 x5 x6 : Value} {a : Int32} : ZW zG d 36 169 [x0, x1, x2, x3, x4, x5, x6, .int a] st z Q = ZW zG d 36 171 [x0, x1, x2, x3, x4, x5, x6, .int a] (.int a :: st) z Q := zw_next (f := z_iload 7 171) rfl rfl
theorem s36_171 {x0 x1 x2 x4 x5 x6 x7 : Value} {a : Int32} : ZW zG d 36 171 [x0, x1, x2, .int a, x4, x5, x6, x7] st z Q = ZW zG d 36 172 [x0, x1, x2, .int a, x4, x5, x6, x7] (.int a :: st) z Q := zw_next (f := z_iload 3 172) rfl rfl
theorem s36_172 {ls : List Value} {a b : Int32} : ZW zG d 36 172 ls (.int b :: .int a :: st) z Q = if b < a then ZW zG d 36 213 ls st z Q else ZW zG d 36 175 ls st z Q := zw_icgt rfl
theorem s36_175 {x0 x1 x2 x3 x4 x5 x6 x7 : Value} : ZW zG d 36 175 [x0, x1, x2, x3, x4, x5, x6, x7] st z Q = (zir x0 = true ∧ ZW zG d 36 176 [x0, x1, x2, x3, x4, x5, x6, x7] (x0 :: st) z Q) := zw_cond (f := z_aload 0 176) rfl rfl
theorem s36_176 {ls : List Value} {r : Nat} : ZW zG d 36 176 ls (.ref r :: st) z Q = ((zcls z r = 0 ∧ zir (zfr z r 10) = true) ∧ ZW zG d 36 179 ls (zfr z r 10 :: st) (z) Q) := zw_getR rfl
theorem s36_179 {x0 x1 x2 x3 x4 x5 x6 : Value} {a : Int32} : ZW zG d 36 179 [x0, x1, x2, x3, x4, x5, x6, .int a] st z Q = ZW zG d 36 181 [x0, x1, x2, x3, x4, x5, x6, .int a] (.int a :: st) z Q := zw_next (f := z_iload 7 181) rfl rfl
theorem s36_181 {x0 x1 x2 x3 x4 x5 x7 : Value} {a : Int32} : ZW zG d 36 181 [x0, x1, x2, x3, x4, x5, .int a, x7] st z Q = ZW zG d 36 183 [x0, x1, x2, x3, x4, x5, .int a, x7] (.int a :: st) z Q := zw_next (f := z_iload 6 183) rfl rfl
theorem s36_183 {ls : List Value} {a b : Int32} : ZW zG d 36 183 ls (.int b :: .int a :: st) z Q = ZW zG d 36 184 ls (.int (a ||| b) :: st) z Q := zw_ior rfl
theorem s36_184 {x0 x1 x2 x3 x4 x5 x6 x7 : Value} : ZW zG d 36 184 [x0, x1, x2, x3, x4, x5, x6, x7] st z Q = (zir x0 = true ∧ ZW zG d 36 185 [x0, x1, x2, x3, x4, x5, x6, x7] (x0 :: st) z Q) := zw_cond (f := z_aload 0 185) rfl rfl
theorem s36_185 {ls : List Value} {r : Nat} : ZW zG d 36 185 ls (.ref r :: st) z Q = ((zcls z r = 0 ∧ zir (zfr z r 10) = true) ∧ ZW zG d 36 188 ls (zfr z r 10 :: st) (z) Q) := zw_getR rfl
theorem s36_188 {x0 x1 x2 x3 x4 x5 x6 : Value} {a : Int32} : ZW zG d 36 188 [x0, x1, x2, x3, x4, x5, x6, .int a] st z Q = ZW zG d 36 190 [x0, x1, x2, x3, x4, x5, x6, .int a] (.int a :: st) z Q := zw_next (f := z_iload 7 190) rfl rfl
theorem s36_190 {x0 x1 x2 x3 x4 x5 x7 : Value} {a : Int32} : ZW zG d 36 190 [x0, x1, x2, x3, x4, x5, .int a, x7] st z Q = ZW zG d 36 192 [x0, x1, x2, x3, x4, x5, .int a, x7] (.int a :: st) z Q := zw_next (f := z_iload 6 192) rfl rfl
theorem s36_192 {ls : List Value} {a b : Int32} : ZW zG d 36 192 ls (.int b :: .int a :: st) z Q = ZW zG d 36 193 ls (.int (a ||| b) :: st) z Q := zw_ior rfl
theorem s36_193 {ls : List Value} {a : Int32} {r : Nat} : ZW zG d 36 193 ls (.int a :: .ref r :: st) z Q = ((zcls z r = 50 ∧ zin a (zlen z r) = true) ∧ ZW zG d 36 194 ls (.int (zia z r (zx a)) :: st) (z) Q) := zw_iald rfl
theorem s36_194 {x0 x1 x2 x3 x4 x5 x6 x7 : Value} : ZW zG d 36 194 [x0, x1, x2, x3, x4, x5, x6, x7] st z Q = (zir x0 = true ∧ ZW zG d 36 195 [x0, x1, x2, x3, x4, x5, x6, x7] (x0 :: st) z Q) := zw_cond (f := z_aload 0 195) rfl rfl
theorem s36_195 {ls : List Value} {r : Nat} : ZW zG d 36 195 ls (.ref r :: st) z Q = ((zcls z r = 0 ∧ zir (zfr z r 9) = true) ∧ ZW zG d 36 198 ls (zfr z r 9 :: st) (z) Q) := zw_getR rfl
theorem s36_198 {x0 x1 x2 x3 x4 x5 x6 : Value} {a : Int32} : ZW zG d 36 198 [x0, x1, x2, x3, x4, x5, x6, .int a] st z Q = ZW zG d 36 200 [x0, x1, x2, x3, x4, x5, x6, .int a] (.int a :: st) z Q := zw_next (f := z_iload 7 200) rfl rfl
theorem s36_200 {ls : List Value} {a : Int32} {r : Nat} : ZW zG d 36 200 ls (.int a :: .ref r :: st) z Q = ((zcls z r = 50 ∧ zin a (zlen z r) = true) ∧ ZW zG d 36 201 ls (.int (zia z r (zx a)) :: st) (z) Q) := zw_iald rfl
theorem s36_201 {ls : List Value}  : ZW zG d 36 201 ls (st) z Q = ZW zG d 36 202 ls ((.int (nI 1)) :: st) z Q := zw_push rfl
theorem s36_202 {ls : List Value} {a b : Int32} : ZW zG d 36 202 ls (.int b :: .int a :: st) z Q = ZW zG d 36 203 ls (.int (a + b) :: st) z Q := zw_iadd rfl
theorem s36_203 {ls : List Value} {a b : Int32} : ZW zG d 36 203 ls (.int b :: .int a :: st) z Q = ((zcs st = true) ∧ ZW zG d 36 206 ls (.int (zmin a b) :: st) (z) Q) := zw_mmin rfl
theorem s36_206 {ls : List Value} {a b : Int32} {r : Nat} : ZW zG d 36 206 ls (.int b :: .int a :: .ref r :: st) z Q = ((zcls z r = 50 ∧ zin a (zlen z r) = true) ∧ ZW zG d 36 207 ls (st) (sia z r (zx a) (znar 50 b)) Q) := zw_iast rfl
theorem s36_207 {x0 x1 x2 x3 x4 x5 x6 : Value} {a : Int32} : ZW zG d 36 207 [x0, x1, x2, x3, x4, x5, x6, .int a] st z Q = ZW zG d 36 210 [x0, x1, x2, x3, x4, x5, zclr x6, .int (a + (nI 1))] st z Q := zw_next (f := z_iinc 7 (nI 1) 210) rfl rfl
theorem s36_210 {ls : List Value}  : ZW zG d 36 210 ls (st) z Q = ZW zG d 36 169 ls st z Q := zw_goto rfl
theorem s36_213 {x0 x1 x2 x3 x4 x6 x7 : Value} {a : Int32} : ZW zG d 36 213 [x0, x1, x2, x3, x4, .int a, x6, x7] st z Q = ZW zG d 36 216 [x0, x1, x2, x3, zclr x4, .int (a + (nI 1)), x6, x7] st z Q := zw_next (f := z_iinc 5 (nI 1) 216) rfl rfl
theorem s36_216 {ls : List Value}  : ZW zG d 36 216 ls (st) z Q = ZW zG d 36 122 ls st z Q := zw_goto rfl
theorem s36_219 {x0 x1 x2 x3 x4 x5 x6 x7 : Value} : ZW zG d 36 219 [x0, x1, x2, x3, x4, x5, x6, x7] st z Q = (zir x0 = true ∧ ZW zG d 36 220 [x0, x1, x2, x3, x4, x5, x6, x7] (x0 :: st) z Q) := zw_cond (f := z_aload 0 220) rfl rfl
theorem s36_220 {ls : List Value} {r : Nat} : ZW zG d 36 220 ls (.ref r :: st) z Q = ((zcls z r = 0 ∧ zir (zfr z r 10) = true) ∧ ZW zG d 36 223 ls (zfr z r 10 :: st) (z) Q) := zw_getR rfl
theorem s36_223 {ls : List Value}  : ZW zG d 36 223 ls (st) z Q = ZW zG d 36 224 ls ((.int (nI 0)) :: st) z Q := zw_push rfl
theorem s36_224 {x0 x1 x2 x3 x4 x5 x6 x7 : Value} : ZW zG d 36 224 [x0, x1, x2, x3, x4, x5, x6, x7] st z Q = (zir x0 = true ∧ ZW zG d 36 225 [x0, x1, x2, x3, x4, x5, x6, x7] (x0 :: st) z Q) := zw_cond (f := z_aload 0 225) rfl rfl
theorem s36_225 {ls : List Value} {r : Nat} : ZW zG d 36 225 ls (.ref r :: st) z Q = ((zcls z r = 0 ∧ zir (zfr z r 9) = true) ∧ ZW zG d 36 228 ls (zfr z r 9 :: st) (z) Q) := zw_getR rfl
theorem s36_228 {ls : List Value}  : ZW zG d 36 228 ls (st) z Q = ZW zG d 36 229 ls ((.int (nI 0)) :: st) z Q := zw_push rfl
theorem s36_229 {x0 x1 x2 x4 x5 x6 x7 : Value} {a : Int32} : ZW zG d 36 229 [x0, x1, x2, .int a, x4, x5, x6, x7] st z Q = ZW zG d 36 230 [x0, x1, x2, .int a, x4, x5, x6, x7] (.int a :: st) z Q := zw_next (f := z_iload 3 230) rfl rfl
theorem s36_230 {ls : List Value}  : ZW zG d 36 230 ls (st) z Q = ZW zG d 36 231 ls ((.int (nI 1)) :: st) z Q := zw_push rfl
theorem s36_231 {ls : List Value} {a b : Int32} : ZW zG d 36 231 ls (.int b :: .int a :: st) z Q = ZW zG d 36 232 ls (.int (a + b) :: st) z Q := zw_iadd rfl
theorem s36_232 {ls : List Value} {n1 a b : Int32} {r s : Nat} : ZW zG d 36 232 ls (.int n1 :: .int b :: .ref s :: .int a :: .ref r :: st) z Q = (((zcs st = true ∧ zcls z r = 50 ∧ zcls z s = 50 ∧ ¬ r = s) ∧ (zin a (zlen z r + 1) = true ∧ zin b (zlen z s + 1) = true ∧ zin n1 1000000 = true) ∧ zx a + zx n1 ≤ zlen z r ∧ zx b + zx n1 ≤ zlen z s) ∧ ZW zG d 36 235 ls (st) (sIA z s (va_cpy (zia z r) (zia z s) (zx a) (zx b) (zx n1))) Q) := zw_acpy rfl
theorem s36_235 {x0 x1 x2 x3 x5 x6 x7 : Value} {a : Int32} : ZW zG d 36 235 [x0, x1, x2, x3, .int a, x5, x6, x7] st z Q = ZW zG d 36 238 [x0, x1, x2, zclr x3, .int (a + (nI 1)), x5, x6, x7] st z Q := zw_next (f := z_iinc 4 (nI 1) 238) rfl rfl
theorem s36_238 {ls : List Value}  : ZW zG d 36 238 ls (st) z Q = ZW zG d 36 64 ls st z Q := zw_goto rfl
theorem s36_241 {x0 x1 x2 x3 x4 x5 x6 x7 : Value} : ZW zG d 36 241 [x0, x1, x2, x3, x4, x5, x6, x7] st z Q = (zir x0 = true ∧ ZW zG d 36 242 [x0, x1, x2, x3, x4, x5, x6, x7] (x0 :: st) z Q) := zw_cond (f := z_aload 0 242) rfl rfl
theorem s36_242 {ls : List Value} {r : Nat} : ZW zG d 36 242 ls (.ref r :: st) z Q = ((zcls z r = 0 ∧ zir (zfr z r 9) = true) ∧ ZW zG d 36 245 ls (zfr z r 9 :: st) (z) Q) := zw_getR rfl
theorem s36_245 {x0 x1 x2 x4 x5 x6 x7 : Value} {a : Int32} : ZW zG d 36 245 [x0, x1, x2, .int a, x4, x5, x6, x7] st z Q = ZW zG d 36 246 [x0, x1, x2, .int a, x4, x5, x6, x7] (.int a :: st) z Q := zw_next (f := z_iload 3 246) rfl rfl
theorem s36_246 {ls : List Value} {a : Int32} {r : Nat} : ZW zG d 36 246 ls (.int a :: .ref r :: st) z Q = ((zcls z r = 50 ∧ zin a (zlen z r) = true) ∧ ZW zG d 36 247 ls (.int (zia z r (zx a)) :: st) (z) Q) := zw_iald rfl
theorem s36_247 {ls : List Value}  : ZW zG d 36 247 ls (st) z Q = ZW zG d 36 250 ls ((.int (nI 100000)) :: st) z Q := zw_push rfl
theorem s36_250 {ls : List Value} {a b : Int32} : ZW zG d 36 250 ls (.int b :: .int a :: st) z Q = if a < b then ZW zG d 36 257 ls st z Q else ZW zG d 36 253 ls st z Q := zw_iclt rfl
theorem s36_253 {ls : List Value}  : ZW zG d 36 253 ls (st) z Q = ZW zG d 36 254 ls ((.int (-1)) :: st) z Q := zw_push rfl
theorem s36_254 {ls : List Value}  : ZW zG d 36 254 ls (st) z Q = ZW zG d 36 263 ls st z Q := zw_goto rfl
theorem s36_257 {x0 x1 x2 x3 x4 x5 x6 x7 : Value} : ZW zG d 36 257 [x0, x1, x2, x3, x4, x5, x6, x7] st z Q = (zir x0 = true ∧ ZW zG d 36 258 [x0, x1, x2, x3, x4, x5, x6, x7] (x0 :: st) z Q) := zw_cond (f := z_aload 0 258) rfl rfl
theorem s36_258 {ls : List Value} {r : Nat} : ZW zG d 36 258 ls (.ref r :: st) z Q = ((zcls z r = 0 ∧ zir (zfr z r 9) = true) ∧ ZW zG d 36 261 ls (zfr z r 9 :: st) (z) Q) := zw_getR rfl
theorem s36_261 {x0 x1 x2 x4 x5 x6 x7 : Value} {a : Int32} : ZW zG d 36 261 [x0, x1, x2, .int a, x4, x5, x6, x7] st z Q = ZW zG d 36 262 [x0, x1, x2, .int a, x4, x5, x6, x7] (.int a :: st) z Q := zw_next (f := z_iload 3 262) rfl rfl
theorem s36_262 {ls : List Value} {a : Int32} {r : Nat} : ZW zG d 36 262 ls (.int a :: .ref r :: st) z Q = ((zcls z r = 50 ∧ zin a (zlen z r) = true) ∧ ZW zG d 36 263 ls (.int (zia z r (zx a)) :: st) (z) Q) := zw_iald rfl
theorem s36_263 {ls : List Value} {a : Int32} : ZW zG d 36 263 ls ([.int a]) z Q = Q (.inl (some (.int a))) z := zw_reti rfl
/-- X0_tenOf (I)I -/
theorem e37 {r0 : Nat} {v0 : Int32} : ZC zG d 37 [.ref r0, .int v0] z Q = ZW zG d 37 0 [.ref r0, .int v0, zdum, zdum, zdum] [] z Q := rfl
theorem s37_0 {ls : List Value}  : ZW zG d 37 0 ls (st) z Q = ZW zG d 37 2 ls ((.int (nI 10)) :: st) z Q := zw_push rfl
theorem s37_2 {x0 x1 x2 x3 x4 : Value} : ZW zG d 37 2 [x0, x1, x2, x3, x4] st z Q = (zir x0 = true ∧ ZW zG d 37 3 [x0, x1, x2, x3, x4] (x0 :: st) z Q) := zw_cond (f := z_aload 0 3) rfl rfl
theorem s37_3 {ls : List Value} {r : Nat} : ZW zG d 37 3 ls (.ref r :: st) z Q = ((zcls z r = 0 ∧ zir (zfr z r 1) = true) ∧ ZW zG d 37 6 ls (zfr z r 1 :: st) (z) Q) := zw_getR rfl
theorem s37_6 {ls : List Value} {r : Nat} : ZW zG d 37 6 ls (.ref r :: st) z Q = ((zcls z r = 1 ∧ zir (zfr z r 1) = true) ∧ ZW zG d 37 9 ls (zfr z r 1 :: st) (z) Q) := zw_getR rfl
theorem s37_9 {x0 x2 x3 x4 : Value} {a : Int32} : ZW zG d 37 9 [x0, .int a, x2, x3, x4] st z Q = ZW zG d 37 10 [x0, .int a, x2, x3, x4] (.int a :: st) z Q := zw_next (f := z_iload 1 10) rfl rfl
theorem s37_10 {ls : List Value} {w0 : Int32} {r : Nat} : ZW zG (d + 1) 37 10 ls (.int w0 :: .ref r :: st) z Q = (zcls z r = 3 ∧ zcs st = true ∧ ZC zG d 71 [.ref r, .int w0] z (zk zG (d + 1) 37 (none) 13 ls st Q)) := zc_V1 rfl (Nat.le_of_ble_eq_true rfl)
theorem s37_13 {ls : List Value} {a b : Int32} : ZW zG d 37 13 ls (.int b :: .int a :: st) z Q = ((zcs st = true) ∧ ZW zG d 37 16 ls (.int (zmin a b) :: st) (z) Q) := zw_mmin rfl
theorem s37_16 {x0 x1 x2 x3 x4 : Value} {a : Int32} : ZW zG d 37 16 [x0, x1, x2, x3, x4] (.int a :: st) z Q = ZW zG d 37 17 [x0, zclr x1, .int a, x3, x4] st z Q := zw_next (f := z_istore 2 17) rfl rfl
theorem s37_17 {ls : List Value}  : ZW zG d 37 17 ls (st) z Q = ZW zG d 37 18 ls ((.int (nI 0)) :: st) z Q := zw_push rfl
theorem s37_18 {x0 x1 x2 x3 x4 : Value} {a : Int32} : ZW zG d 37 18 [x0, x1, x2, x3, x4] (.int a :: st) z Q = ZW zG d 37 19 [x0, x1, zclr x2, .int a, x4] st z Q := zw_next (f := z_istore 3 19) rfl rfl
theorem s37_19 {ls : List Value}  : ZW zG d 37 19 ls (st) z Q = ZW zG d 37 20 ls ((.int (nI 0)) :: st) z Q := zw_push rfl
theorem s37_20 {x0 x1 x2 x3 x4 : Value} {a : Int32} : ZW zG d 37 20 [x0, x1, x2, x3, x4] (.int a :: st) z Q = ZW zG d 37 22 [x0, x1, x2, zclr x3, .int a] st z Q := zw_next (f := z_istore 4 22) rfl rfl
theorem s37_22 {x0 x1 x2 x3 : Value} {a : Int32} : ZW zG d 37 22 [x0, x1, x2, x3, .int a] st z Q = ZW zG d 37 24 [x0, x1, x2, x3, .int a] (.int a :: st) z Q := zw_next (f := z_iload 4 24) rfl rfl
theorem s37_24 {x0 x1 x3 x4 : Value} {a : Int32} : ZW zG d 37 24 [x0, x1, .int a, x3, x4] st z Q = ZW zG d 37 25 [x0, x1, .int a, x3, x4] (.int a :: st) z Q := zw_next (f := z_iload 2 25) rfl rfl
theorem s37_25 {ls : List Value} {a b : Int32} : ZW zG d 37 25 ls (.int b :: .int a :: st) z Q = if b ≤ a then ZW zG d 37 55 ls st z Q else ZW zG d 37 28 ls st z Q := zw_icge rfl
theorem s37_28 {x0 x1 x2 x4 : Value} {a : Int32} : ZW zG d 37 28 [x0, x1, x2, .int a, x4] st z Q = ZW zG d 37 29 [x0, x1, x2, .int a, x4] (.int a :: st) z Q := zw_next (f := z_iload 3 29) rfl rfl
theorem s37_29 {ls : List Value}  : ZW zG d 37 29 ls (st) z Q = ZW zG d 37 30 ls ((.int (nI 1)) :: st) z Q := zw_push rfl
theorem s37_30 {x0 x1 x2 x3 x4 : Value} : ZW zG d 37 30 [x0, x1, x2, x3, x4] st z Q = (zir x0 = true ∧ ZW zG d 37 31 [x0, x1, x2, x3, x4] (x0 :: st) z Q) := zw_cond (f := z_aload 0 31) rfl rfl
theorem s37_31 {ls : List Value} {r : Nat} : ZW zG d 37 31 ls (.ref r :: st) z Q = ((zcls z r = 0 ∧ zir (zfr z r 1) = true) ∧ ZW zG d 37 34 ls (zfr z r 1 :: st) (z) Q) := zw_getR rfl
theorem s37_34 {ls : List Value} {r : Nat} : ZW zG d 37 34 ls (.ref r :: st) z Q = ((zcls z r = 1 ∧ zir (zfr z r 1) = true) ∧ ZW zG d 37 37 ls (zfr z r 1 :: st) (z) Q) := zw_getR rfl
theorem s37_37 {x0 x2 x3 x4 : Value} {a : Int32} : ZW zG d 37 37 [x0, .int a, x2, x3, x4] st z Q = ZW zG d 37 38 [x0, .int a, x2, x3, x4] (.int a :: st) z Q := zw_next (f := z_iload 1 38) rfl rfl
theorem s37_38 {x0 x1 x2 x3 : Value} {a : Int32} : ZW zG d 37 38 [x0, x1, x2, x3, .int a] st z Q = ZW zG d 37 40 [x0, x1, x2, x3, .int a] (.int a :: st) z Q := zw_next (f := z_iload 4 40) rfl rfl
theorem s37_40 {ls : List Value} {w0 : Int32} {w1 : Int32} {r : Nat} : ZW zG (d + 1) 37 40 ls (.int w1 :: .int w0 :: .ref r :: st) z Q = (zcls z r = 3 ∧ zcs st = true ∧ ZC zG d 74 [.ref r, .int w0, .int w1] z (zk zG (d + 1) 37 (none) 43 ls st Q)) := zc_V2 rfl (Nat.le_of_ble_eq_true rfl)
theorem s37_43 {ls : List Value} {r : Nat} : ZW zG d 37 43 ls (.ref r :: st) z Q = ((zcls z r = 23) ∧ ZW zG d 37 46 ls (.int (zfi z r 1) :: st) (z) Q) := zw_getI rfl
theorem s37_46 {ls : List Value} {a b : Int32} : ZW zG d 37 46 ls (.int b :: .int a :: st) z Q = ZW zG d 37 47 ls (.int (a <<< (b &&& 31)) :: st) z Q := zw_ishl rfl
theorem s37_47 {ls : List Value} {a b : Int32} : ZW zG d 37 47 ls (.int b :: .int a :: st) z Q = ZW zG d 37 48 ls (.int (a ||| b) :: st) z Q := zw_ior rfl
theorem s37_48 {x0 x1 x2 x3 x4 : Value} {a : Int32} : ZW zG d 37 48 [x0, x1, x2, x3, x4] (.int a :: st) z Q = ZW zG d 37 49 [x0, x1, zclr x2, .int a, x4] st z Q := zw_next (f := z_istore 3 49) rfl rfl
theorem s37_49 {x0 x1 x2 x3 : Value} {a : Int32} : ZW zG d 37 49 [x0, x1, x2, x3, .int a] st z Q = ZW zG d 37 52 [x0, x1, x2, zclr x3, .int (a + (nI 1))] st z Q := zw_next (f := z_iinc 4 (nI 1) 52) rfl rfl
theorem s37_52 {ls : List Value}  : ZW zG d 37 52 ls (st) z Q = ZW zG d 37 22 ls st z Q := zw_goto rfl
theorem s37_55 {x0 x1 x2 x3 x4 : Value} : ZW zG d 37 55 [x0, x1, x2, x3, x4] st z Q = (zir x0 = true ∧ ZW zG d 37 56 [x0, x1, x2, x3, x4] (x0 :: st) z Q) := zw_cond (f := z_aload 0 56) rfl rfl
theorem s37_56 {ls : List Value} {r : Nat} : ZW zG d 37 56 ls (.ref r :: st) z Q = ((zcls z r = 0 ∧ zir (zfr z r 4) = true) ∧ ZW zG d 37 59 ls (zfr z r 4 :: st) (z) Q) := zw_getR rfl
theorem s37_59 {x0 x2 x3 x4 : Value} {a : Int32} : ZW zG d 37 59 [x0, .int a, x2, x3, x4] st z Q = ZW zG d 37 60 [x0, .int a, x2, x3, x4] (.int a :: st) z Q := zw_next (f := z_iload 1 60) rfl rfl
theorem s37_60 {x0 x1 x2 x3 x4 : Value} : ZW zG d 37 60 [x0, x1, x2, x3, x4] st z Q = (zir x0 = true ∧ ZW zG d 37 61 [x0, x1, x2, x3, x4] (x0 :: st) z Q) := zw_cond (f := z_aload 0 61) rfl rfl
theorem s37_61 {ls : List Value} {r : Nat} : ZW zG d 37 61 ls (.ref r :: st) z Q = ((zcls z r = 0 ∧ zir (zfr z r 1) = true) ∧ ZW zG d 37 64 ls (zfr z r 1 :: st) (z) Q) := zw_getR rfl
theorem s37_64 {ls : List Value} {r : Nat} : ZW zG d 37 64 ls (.ref r :: st) z Q = ((zcls z r = 1) ∧ ZW zG d 37 67 ls (.int (zfi z r 3) :: st) (z) Q) := zw_getI rfl
theorem s37_67 {ls : List Value} {w0 : Int32} {w1 : Int32} {r : Nat} : ZW zG (d + 1) 37 67 ls (.int w1 :: .int w0 :: .ref r :: st) z Q = (zcls z r = 10 ∧ zcs st = true ∧ ZC zG d 96 [.ref r, .int w0, .int w1] z (zk zG (d + 1) 37 (none) 70 ls st Q)) := zc_V2 rfl (Nat.le_of_ble_eq_true rfl)
theorem s37_70 {ls : List Value}  : ZW zG d 37 70 ls (st) z Q = ZW zG d 37 71 ls ((.int (nI 0)) :: st) z Q := zw_push rfl
theorem s37_71 {x0 x1 x2 x3 x4 : Value} {a : Int32} : ZW zG d 37 71 [x0, x1, x2, x3, x4] (.int a :: st) z Q = ZW zG d 37 73 [x0, x1, x2, zclr x3, .int a] st z Q := zw_next (f := z_istore 4 73) rfl rfl
theorem s37_73 {x0 x1 x2 x3 : Value} {a : Int32} : ZW zG d 37 73 [x0, x1, x2, x3, .int a] st z Q = ZW zG d 37 75 [x0, x1, x2, x3, .int a] (.int a :: st) z Q := zw_next (f := z_iload 4 75) rfl rfl
theorem s37_75 {ls : List Value}  : ZW zG d 37 75 ls (st) z Q = ZW zG d 37 77 ls ((.int (nI 16)) :: st) z Q := zw_push rfl
theorem s37_77 {ls : List Value} {a b : Int32} : ZW zG d 37 77 ls (.int b :: .int a :: st) z Q = if b ≤ a then ZW zG d 37 128 ls st z Q else ZW zG d 37 80 ls st z Q := zw_icge rfl
theorem s37_80 {x0 x1 x2 x4 : Value} {a : Int32} : ZW zG d 37 80 [x0, x1, x2, .int a, x4] st z Q = ZW zG d 37 81 [x0, x1, x2, .int a, x4] (.int a :: st) z Q := zw_next (f := z_iload 3 81) rfl rfl
theorem s37_81 {x0 x1 x2 x3 : Value} {a : Int32} : ZW zG d 37 81 [x0, x1, x2, x3, .int a] st z Q = ZW zG d 37 83 [x0, x1, x2, x3, .int a] (.int a :: st) z Q := zw_next (f := z_iload 4 83) rfl rfl
theorem s37_83 {ls : List Value} {w0 : Int32} {w1 : Int32} : ZW zG (d + 1) 37 83 ls (.int w1 :: .int w0 :: st) z Q = (zcs st = true ∧ ZC zG d 18 [.int w0, .int w1] z (zk zG (d + 1) 37 (none) 86 ls st Q)) := zc_S2 rfl (Nat.le_of_ble_eq_true rfl)
theorem s37_86 {ls : List Value} {a : Int32} : ZW zG d 37 86 ls (.int a :: st) z Q = if ¬ a = 0 then ZW zG d 37 92 ls st z Q else ZW zG d 37 89 ls st z Q := zw_ifne rfl
theorem s37_89 {ls : List Value}  : ZW zG d 37 89 ls (st) z Q = ZW zG d 37 122 ls st z Q := zw_goto rfl
theorem s37_92 {x0 x1 x2 x3 x4 : Value} : ZW zG d 37 92 [x0, x1, x2, x3, x4] st z Q = (zir x0 = true ∧ ZW zG d 37 93 [x0, x1, x2, x3, x4] (x0 :: st) z Q) := zw_cond (f := z_aload 0 93) rfl rfl
theorem s37_93 {ls : List Value} {r : Nat} : ZW zG d 37 93 ls (.ref r :: st) z Q = ((zcls z r = 0 ∧ zir (zfr z r 4) = true) ∧ ZW zG d 37 96 ls (zfr z r 4 :: st) (z) Q) := zw_getR rfl
theorem s37_96 {ls : List Value} {r : Nat} : ZW zG d 37 96 ls (.ref r :: st) z Q = ((zcls z r = 10 ∧ zir (zfr z r 0) = true) ∧ ZW zG d 37 99 ls (zfr z r 0 :: st) (z) Q) := zw_getR rfl
theorem s37_99 {x0 x1 x2 x3 x4 : Value} : ZW zG d 37 99 [x0, x1, x2, x3, x4] st z Q = (zir x0 = true ∧ ZW zG d 37 100 [x0, x1, x2, x3, x4] (x0 :: st) z Q) := zw_cond (f := z_aload 0 100) rfl rfl
theorem s37_100 {ls : List Value} {r : Nat} : ZW zG d 37 100 ls (.ref r :: st) z Q = ((zcls z r = 0 ∧ zir (zfr z r 4) = true) ∧ ZW zG d 37 103 ls (zfr z r 4 :: st) (z) Q) := zw_getR rfl
theorem s37_103 {ls : List Value} {r : Nat} : ZW zG d 37 103 ls (.ref r :: st) z Q = ((zcls z r = 10) ∧ ZW zG d 37 106 ls (.int (zfi z r 4) :: st) (z) Q) := zw_getI rfl
theorem s37_106 {x0 x1 x2 x3 : Value} {a : Int32} : ZW zG d 37 106 [x0, x1, x2, x3, .int a] st z Q = ZW zG d 37 108 [x0, x1, x2, x3, .int a] (.int a :: st) z Q := zw_next (f := z_iload 4 108) rfl rfl
theorem s37_108 {ls : List Value} {a b : Int32} {r : Nat} : ZW zG d 37 108 ls (.int b :: .int a :: .ref r :: st) z Q = ((zcls z r = 50 ∧ zin a (zlen z r) = true) ∧ ZW zG d 37 109 ls (st) (sia z r (zx a) (znar 50 b)) Q) := zw_iast rfl
theorem s37_109 {x0 x1 x2 x3 x4 : Value} : ZW zG d 37 109 [x0, x1, x2, x3, x4] st z Q = (zir x0 = true ∧ ZW zG d 37 110 [x0, x1, x2, x3, x4] (x0 :: st) z Q) := zw_cond (f := z_aload 0 110) rfl rfl
theorem s37_110 {ls : List Value} {r : Nat} : ZW zG d 37 110 ls (.ref r :: st) z Q = ((zcls z r = 0 ∧ zir (zfr z r 4) = true) ∧ ZW zG d 37 113 ls (zfr z r 4 :: st) (z) Q) := zw_getR rfl
theorem s37_113 {ls : List Value} {r : Nat} : ZW zG d 37 113 ls (.ref r :: st) z Q = ZW zG d 37 114 ls (.ref r :: .ref r :: st) z Q := zw_dupr rfl
theorem s37_114 {ls : List Value} {r : Nat} : ZW zG d 37 114 ls (.ref r :: st) z Q = ((zcls z r = 10) ∧ ZW zG d 37 117 ls (.int (zfi z r 4) :: st) (z) Q) := zw_getI rfl
theorem s37_117 {ls : List Value}  : ZW zG d 37 117 ls (st) z Q = ZW zG d 37 118 ls ((.int (nI 1)) :: st) z Q := zw_push rfl
theorem s37_118 {ls : List Value} {a b : Int32} : ZW zG d 37 118 ls (.int b :: .int a :: st) z Q = ZW zG d 37 119 ls (.int (a + b) :: st) z Q := zw_iadd rfl
theorem s37_119 {ls : List Value} {a : Int32} {r : Nat} : ZW zG d 37 119 ls (.int a :: .ref r :: st) z Q = ((zcls z r = 10) ∧ ZW zG d 37 122 ls (st) (sfi z r 4 a) Q) := zw_putI rfl
theorem s37_122 {x0 x1 x2 x3 : Value} {a : Int32} : ZW zG d 37 122 [x0, x1, x2, x3, .int a] st z Q = ZW zG d 37 125 [x0, x1, x2, zclr x3, .int (a + (nI 1))] st z Q := zw_next (f := z_iinc 4 (nI 1) 125) rfl rfl
theorem s37_125 {ls : List Value}  : ZW zG d 37 125 ls (st) z Q = ZW zG d 37 73 ls st z Q := zw_goto rfl
theorem s37_128 {x0 x1 x3 x4 : Value} {a : Int32} : ZW zG d 37 128 [x0, x1, .int a, x3, x4] st z Q = ZW zG d 37 129 [x0, x1, .int a, x3, x4] (.int a :: st) z Q := zw_next (f := z_iload 2 129) rfl rfl
theorem s37_129 {ls : List Value} {a : Int32} : ZW zG d 37 129 ls ([.int a]) z Q = Q (.inl (some (.int a))) z := zw_reti rfl
/-- X0_covers (IIII)I -/
theorem e38 {r0 : Nat} {v0 : Int32} {v1 : Int32} {v2 : Int32} {v3 : Int32} : ZC zG d 38 [.ref r0, .int v0, .int v1, .int v2, .int v3] z Q = ZW zG d 38 0 [.ref r0, .int v0, .int v1, .int v2, .int v3, zdum, zdum, zdum, zdum] [] z Q := rfl
theorem s38_0 {ls : List Value}  : ZW zG d 38 0 ls (st) z Q = ZW zG d 38 1 ls ((.int (nI 0)) :: st) z Q := zw_push rfl
theorem s38_1 {x0 x1 x2 x3 x4 x5 x6 x7 x8 : Value} {a : Int32} : ZW zG d 38 1 [x0, x1, x2, x3, x4, x5, x6, x7, x8] (.int a :: st) z Q = ZW zG d 38 3 [x0, x1, x2, x3, zclr x4, .int a, x6, x7, x8] st z Q := zw_next (f := z_istore 5 3) rfl rfl
theorem s38_3 {ls : List Value}  : ZW zG d 38 3 ls (st) z Q = ZW zG d 38 4 ls ((.int (nI 0)) :: st) z Q := zw_push rfl
theorem s38_4 {x0 x1 x2 x3 x4 x5 x6 x7 x8 : Value} {a : Int32} : ZW zG d 38 4 [x0, x1, x2, x3, x4, x5, x6, x7, x8] (.int a :: st) z Q = ZW zG d 38 6 [x0, x1, x2, x3, x4, zclr x5, .int a, x7, x8] st z Q := zw_next (f := z_istore 6 6) rfl rfl
theorem s38_6 {x0 x1 x2 x3 x4 x5 x7 x8 : Value} {a : Int32} : ZW zG d 38 6 [x0, x1, x2, x3, x4, x5, .int a, x7, x8] st z Q = ZW zG d 38 8 [x0, x1, x2, x3, x4, x5, .int a, x7, x8] (.int a :: st) z Q := zw_next (f := z_iload 6 8) rfl rfl
theorem s38_8 {x0 x1 x3 x4 x5 x6 x7 x8 : Value} {a : Int32} : ZW zG d 38 8 [x0, x1, .int a, x3, x4, x5, x6, x7, x8] st z Q = ZW zG d 38 9 [x0, x1, .int a, x3, x4, x5, x6, x7, x8] (.int a :: st) z Q := zw_next (f := z_iload 2 9) rfl rfl
theorem s38_9 {ls : List Value} {a b : Int32} : ZW zG d 38 9 ls (.int b :: .int a :: st) z Q = if b ≤ a then ZW zG d 38 100 ls st z Q else ZW zG d 38 12 ls st z Q := zw_icge rfl
theorem s38_12 {x0 x1 x2 x3 x4 x5 x6 x7 x8 : Value} : ZW zG d 38 12 [x0, x1, x2, x3, x4, x5, x6, x7, x8] st z Q = (zir x0 = true ∧ ZW zG d 38 13 [x0, x1, x2, x3, x4, x5, x6, x7, x8] (x0 :: st) z Q) := zw_cond (f := z_aload 0 13) rfl rfl
theorem s38_13 {ls : List Value} {r : Nat} : ZW zG d 38 13 ls (.ref r :: st) z Q = ((zcls z r = 0 ∧ zir (zfr z r 1) = true) ∧ ZW zG d 38 16 ls (zfr z r 1 :: st) (z) Q) := zw_getR rfl
theorem s38_16 {ls : List Value} {r : Nat} : ZW zG d 38 16 ls (.ref r :: st) z Q = ((zcls z r = 1 ∧ zir (zfr z r 1) = true) ∧ ZW zG d 38 19 ls (zfr z r 1 :: st) (z) Q) := zw_getR rfl
theorem s38_19 {x0 x2 x3 x4 x5 x6 x7 x8 : Value} {a : Int32} : ZW zG d 38 19 [x0, .int a, x2, x3, x4, x5, x6, x7, x8] st z Q = ZW zG d 38 20 [x0, .int a, x2, x3, x4, x5, x6, x7, x8] (.int a :: st) z Q := zw_next (f := z_iload 1 20) rfl rfl
theorem s38_20 {x0 x1 x2 x3 x4 x5 x7 x8 : Value} {a : Int32} : ZW zG d 38 20 [x0, x1, x2, x3, x4, x5, .int a, x7, x8] st z Q = ZW zG d 38 22 [x0, x1, x2, x3, x4, x5, .int a, x7, x8] (.int a :: st) z Q := zw_next (f := z_iload 6 22) rfl rfl
theorem s38_22 {ls : List Value} {w0 : Int32} {w1 : Int32} {r : Nat} : ZW zG (d + 1) 38 22 ls (.int w1 :: .int w0 :: .ref r :: st) z Q = (zcls z r = 3 ∧ zcs st = true ∧ ZC zG d 74 [.ref r, .int w0, .int w1] z (zk zG (d + 1) 38 (none) 25 ls st Q)) := zc_V2 rfl (Nat.le_of_ble_eq_true rfl)
theorem s38_25 {x0 x1 x2 x3 x4 x5 x6 x7 x8 : Value} {v : Value} : ZW zG d 38 25 [x0, x1, x2, x3, x4, x5, x6, x7, x8] (v :: st) z Q = (zir v = true ∧ ZW zG d 38 27 [x0, x1, x2, x3, x4, x5, zclr x6, v, x8] st z Q) := by rw [zw_cond (f := z_astore 7 27) (G := zG) rfl rfl]; exact propext ⟨fun h => ⟨h.1.1, h.2⟩, fun h => ⟨⟨h.1, Nat.le_of_ble_eq_true rfl⟩, h.2⟩⟩
theorem s38_27 {ls : List Value}  : ZW zG d 38 27 ls (st) z Q = ZW zG d 38 28 ls ((.int (nI 0)) :: st) z Q := zw_push rfl
theorem s38_28 {x0 x1 x2 x3 x4 x5 x6 x7 x8 : Value} {a : Int32} : ZW zG d 38 28 [x0, x1, x2, x3, x4, x5, x6, x7, x8] (.int a :: st) z Q = ZW zG d 38 30 [x0, x1, x2, x3, x4, x5, x6, zclr x7, .int a] st z Q := zw_next (f := z_istore 8 30) rfl rfl
theorem s38_30 {x0 x1 x2 x3 x4 x5 x6 x7 : Value} {a : Int32} : ZW zG d 38 30 [x0, x1, x2, x3, x4, x5, x6, x7, .int a] st z Q = ZW zG d 38 32 [x0, x1, x2, x3, x4, x5, x6, x7, .int a] (.int a :: st) z Q := zw_next (f := z_iload 8 32) rfl rfl
theorem s38_32 {x0 x1 x2 x3 x4 x5 x6 x7 x8 : Value} : ZW zG d 38 32 [x0, x1, x2, x3, x4, x5, x6, x7, x8] st z Q = (zir x0 = true ∧ ZW zG d 38 33 [x0, x1, x2, x3, x4, x5, x6, x7, x8] (x0 :: st) z Q) := zw_cond (f := z_aload 0 33) rfl rfl
theorem s38_33 {ls : List Value} {r : Nat} : ZW zG d 38 33 ls (.ref r :: st) z Q = ((zcls z r = 0 ∧ zir (zfr z r 4) = true) ∧ ZW zG d 38 36 ls (zfr z r 4 :: st) (z) Q) := zw_getR rfl
theorem s38_36 {ls : List Value} {r : Nat} : ZW zG d 38 36 ls (.ref r :: st) z Q = ((zcls z r = 10) ∧ ZW zG d 38 39 ls (.int (zfi z r 4) :: st) (z) Q) := zw_getI rfl
theorem s38_39 {ls : List Value} {a b : Int32} : ZW zG d 38 39 ls (.int b :: .int a :: st) z Q = if b ≤ a then ZW zG d 38 94 ls st z Q else ZW zG d 38 42 ls st z Q := zw_icge rfl
theorem s38_42 {x0 x1 x2 x4 x5 x6 x7 x8 : Value} {a : Int32} : ZW zG d 38 42 [x0, x1, x2, .int a, x4, x5, x6, x7, x8] st z Q = ZW zG d 38 43 [x0, x1, x2, .int a, x4, x5, x6, x7, x8] (.int a :: st) z Q := zw_next (f := z_iload 3 43) rfl rfl
theorem s38_43 {x0 x1 x2 x3 x4 x5 x6 x7 : Value} {a : Int32} : ZW zG d 38 43 [x0, x1, x2, x3, x4, x5, x6, x7, .int a] st z Q = ZW zG d 38 45 [x0, x1, x2, x3, x4, x5, x6, x7, .int a] (.int a :: st) z Q := zw_next (f := z_iload 8 45) rfl rfl
theorem s38_45 {ls : List Value} {w0 : Int32} {w1 : Int32} : ZW zG (d + 1) 38 45 ls (.int w1 :: .int w0 :: st) z Q = (zcs st = true ∧ ZC zG d 18 [.int w0, .int w1] z (zk zG (d + 1) 38 (none) 48 ls st Q)) := zc_S2 rfl (Nat.le_of_ble_eq_true rfl)
theorem s38_48 {ls : List Value} {a : Int32} : ZW zG d 38 48 ls (.int a :: st) z Q = if a = 0 then ZW zG d 38 88 ls st z Q else ZW zG d 38 51 ls st z Q := zw_ifeq rfl
theorem s38_51 {x0 x1 x2 x3 x4 x5 x6 x7 x8 : Value} : ZW zG d 38 51 [x0, x1, x2, x3, x4, x5, x6, x7, x8] st z Q = (zir x0 = true ∧ ZW zG d 38 52 [x0, x1, x2, x3, x4, x5, x6, x7, x8] (x0 :: st) z Q) := zw_cond (f := z_aload 0 52) rfl rfl
theorem s38_52 {ls : List Value} {r : Nat} : ZW zG d 38 52 ls (.ref r :: st) z Q = ((zcls z r = 0 ∧ zir (zfr z r 4) = true) ∧ ZW zG d 38 55 ls (zfr z r 4 :: st) (z) Q) := zw_getR rfl
theorem s38_55 {ls : List Value} {r : Nat} : ZW zG d 38 55 ls (.ref r :: st) z Q = ((zcls z r = 10 ∧ zir (zfr z r 0) = true) ∧ ZW zG d 38 58 ls (zfr z r 0 :: st) (z) Q) := zw_getR rfl
theorem s38_58 {x0 x1 x2 x3 x4 x5 x6 x7 : Value} {a : Int32} : ZW zG d 38 58 [x0, x1, x2, x3, x4, x5, x6, x7, .int a] st z Q = ZW zG d 38 60 [x0, x1, x2, x3, x4, x5, x6, x7, .int a] (.int a :: st) z Q := zw_next (f := z_iload 8 60) rfl rfl
theorem s38_60 {ls : List Value} {a : Int32} {r : Nat} : ZW zG d 38 60 ls (.int a :: .ref r :: st) z Q = ((zcls z r = 50 ∧ zin a (zlen z r) = true) ∧ ZW zG d 38 61 ls (.int (zia z r (zx a)) :: st) (z) Q) := zw_iald rfl
theorem s38_61 {x0 x1 x2 x3 x4 x5 x6 x7 x8 : Value} : ZW zG d 38 61 [x0, x1, x2, x3, x4, x5, x6, x7, x8] st z Q = (zir x7 = true ∧ ZW zG d 38 63 [x0, x1, x2, x3, x4, x5, x6, x7, x8] (x7 :: st) z Q) := zw_cond (f := z_aload 7 63) rfl rfl
theorem s38_63 {ls : List Value} {r : Nat} : ZW zG d 38 63 ls (.ref r :: st) z Q = ((zcls z r = 23) ∧ ZW zG d 38 66 ls (.int (zfi z r 1) :: st) (z) Q) := zw_getI rfl
theorem s38_66 {ls : List Value} {a b : Int32} : ZW zG d 38 66 ls (.int b :: .int a :: st) z Q = if ¬ a = b then ZW zG d 38 88 ls st z Q else ZW zG d 38 69 ls st z Q := zw_icne rfl
theorem s38_69 {x0 x1 x2 x3 x4 x5 x6 x7 x8 : Value} : ZW zG d 38 69 [x0, x1, x2, x3, x4, x5, x6, x7, x8] st z Q = (zir x7 = true ∧ ZW zG d 38 71 [x0, x1, x2, x3, x4, x5, x6, x7, x8] (x7 :: st) z Q) := zw_cond (f := z_aload 7 71) rfl rfl
theorem s38_71 {ls : List Value} {r : Nat} : ZW zG d 38 71 ls (.ref r :: st) z Q = ((zcls z r = 23) ∧ ZW zG d 38 74 ls (.int (zfi z r 3) :: st) (z) Q) := zw_getI rfl
theorem s38_74 {x0 x1 x2 x3 x5 x6 x7 x8 : Value} {a : Int32} : ZW zG d 38 74 [x0, x1, x2, x3, .int a, x5, x6, x7, x8] st z Q = ZW zG d 38 76 [x0, x1, x2, x3, .int a, x5, x6, x7, x8] (.int a :: st) z Q := zw_next (f := z_iload 4 76) rfl rfl
theorem s38_76 {ls : List Value} {a b : Int32} : ZW zG d 38 76 ls (.int b :: .int a :: st) z Q = if a < b then ZW zG d 38 88 ls st z Q else ZW zG d 38 79 ls st z Q := zw_iclt rfl
theorem s38_79 {x0 x1 x2 x3 x4 x6 x7 x8 : Value} {a : Int32} : ZW zG d 38 79 [x0, x1, x2, x3, x4, .int a, x6, x7, x8] st z Q = ZW zG d 38 81 [x0, x1, x2, x3, x4, .int a, x6, x7, x8] (.int a :: st) z Q := zw_next (f := z_iload 5 81) rfl rfl
theorem s38_81 {ls : List Value}  : ZW zG d 38 81 ls (st) z Q = ZW zG d 38 82 ls ((.int (nI 1)) :: st) z Q := zw_push rfl
theorem s38_82 {x0 x1 x2 x3 x4 x5 x7 x8 : Value} {a : Int32} : ZW zG d 38 82 [x0, x1, x2, x3, x4, x5, .int a, x7, x8] st z Q = ZW zG d 38 84 [x0, x1, x2, x3, x4, x5, .int a, x7, x8] (.int a :: st) z Q := zw_next (f := z_iload 6 84) rfl rfl
theorem s38_84 {ls : List Value} {a b : Int32} : ZW zG d 38 84 ls (.int b :: .int a :: st) z Q = ZW zG d 38 85 ls (.int (a <<< (b &&& 31)) :: st) z Q := zw_ishl rfl
theorem s38_85 {ls : List Value} {a b : Int32} : ZW zG d 38 85 ls (.int b :: .int a :: st) z Q = ZW zG d 38 86 ls (.int (a ||| b) :: st) z Q := zw_ior rfl
theorem s38_86 {x0 x1 x2 x3 x4 x5 x6 x7 x8 : Value} {a : Int32} : ZW zG d 38 86 [x0, x1, x2, x3, x4, x5, x6, x7, x8] (.int a :: st) z Q = ZW zG d 38 88 [x0, x1, x2, x3, zclr x4, .int a, x6, x7, x8] st z Q := zw_next (f := z_istore 5 88) rfl rfl
theorem s38_88 {x0 x1 x2 x3 x4 x5 x6 x7 : Value} {a : Int32} : ZW zG d 38 88 [x0, x1, x2, x3, x4, x5, x6, x7, .int a] st z Q = ZW zG d 38 91 [x0, x1, x2, x3, x4, x5, x6, zclr x7, .int (a + (nI 1))] st z Q := zw_next (f := z_iinc 8 (nI 1) 91) rfl rfl
theorem s38_91 {ls : List Value}  : ZW zG d 38 91 ls (st) z Q = ZW zG d 38 30 ls st z Q := zw_goto rfl
theorem s38_94 {x0 x1 x2 x3 x4 x5 x7 x8 : Value} {a : Int32} : ZW zG d 38 94 [x0, x1, x2, x3, x4, x5, .int a, x7, x8] st z Q = ZW zG d 38 97 [x0, x1, x2, x3, x4, zclr x5, .int (a + (nI 1)), x7, x8] st z Q := zw_next (f := z_iinc 6 (nI 1) 97) rfl rfl
theorem s38_97 {ls : List Value}  : ZW zG d 38 97 ls (st) z Q = ZW zG d 38 6 ls st z Q := zw_goto rfl
theorem s38_100 {x0 x1 x2 x3 x4 x6 x7 x8 : Value} {a : Int32} : ZW zG d 38 100 [x0, x1, x2, x3, x4, .int a, x6, x7, x8] st z Q = ZW zG d 38 102 [x0, x1, x2, x3, x4, .int a, x6, x7, x8] (.int a :: st) z Q := zw_next (f := z_iload 5 102) rfl rfl
theorem s38_102 {ls : List Value} {a : Int32} : ZW zG d 38 102 ls ([.int a]) z Q = Q (.inl (some (.int a))) z := zw_reti rfl
/-- X0_lost (I)I -/
theorem e39 {r0 : Nat} {v0 : Int32} : ZC zG d 39 [.ref r0, .int v0] z Q = ZW zG d 39 0 [.ref r0, .int v0, zdum, zdum, zdum, zdum, zdum] [] z Q := rfl
theorem s39_0 {x0 x1 x2 x3 x4 x5 x6 : Value} : ZW zG d 39 0 [x0, x1, x2, x3, x4, x5, x6] st z Q = (zir x0 = true ∧ ZW zG d 39 1 [x0, x1, x2, x3, x4, x5, x6] (x0 :: st) z Q) := zw_cond (f := z_aload 0 1) rfl rfl
theorem s39_1 {x0 x2 x3 x4 x5 x6 : Value} {a : Int32} : ZW zG d 39 1 [x0, .int a, x2, x3, x4, x5, x6] st z Q = ZW zG d 39 2 [x0, .int a, x2, x3, x4, x5, x6] (.int a :: st) z Q := zw_next (f := z_iload 1 2) rfl rfl
theorem s39_2 {ls : List Value} {w0 : Int32} {r : Nat} : ZW zG (d + 1) 39 2 ls (.int w0 :: .ref r :: st) z Q = (zcls z r = 0 ∧ zcs st = true ∧ ZC zG d 14 [.ref r, .int w0] z (zk zG (d + 1) 39 (none) 5 ls st Q)) := zc_V1 rfl (Nat.le_of_ble_eq_true rfl)
theorem s39_5 {ls : List Value} {a : Int32} : ZW zG d 39 5 ls (.int a :: st) z Q = if ¬ a = 0 then ZW zG d 39 11 ls st z Q else ZW zG d 39 8 ls st z Q := zw_ifne rfl
theorem s39_8 {ls : List Value}  : ZW zG d 39 8 ls (st) z Q = ZW zG d 39 10 ls ((.int (-2)) :: st) z Q := zw_push rfl
theorem s39_10 {ls : List Value} {a : Int32} : ZW zG d 39 10 ls ([.int a]) z Q = Q (.inl (some (.int a))) z := zw_reti rfl
theorem s39_11 {x0 x1 x2 x3 x4 x5 x6 : Value} : ZW zG d 39 11 [x0, x1, x2, x3, x4, x5, x6] st z Q = (zir x0 = true ∧ ZW zG d 39 12 [x0, x1, x2, x3, x4, x5, x6] (x0 :: st) z Q) := zw_cond (f := z_aload 0 12) rfl rfl
theorem s39_12 {x0 x2 x3 x4 x5 x6 : Value} {a : Int32} : ZW zG d 39 12 [x0, .int a, x2, x3, x4, x5, x6] st z Q = ZW zG d 39 13 [x0, .int a, x2, x3, x4, x5, x6] (.int a :: st) z Q := zw_next (f := z_iload 1 13) rfl rfl
theorem s39_13 {ls : List Value} {w0 : Int32} {r : Nat} : ZW zG (d + 1) 39 13 ls (.int w0 :: .ref r :: st) z Q = (zcls z r = 0 ∧ zcs st = true ∧ ZC zG d 37 [.ref r, .int w0] z (zk zG (d + 1) 39 (none) 16 ls st Q)) := zc_V1 rfl (Nat.le_of_ble_eq_true rfl)
theorem s39_16 {x0 x1 x2 x3 x4 x5 x6 : Value} {a : Int32} : ZW zG d 39 16 [x0, x1, x2, x3, x4, x5, x6] (.int a :: st) z Q = ZW zG d 39 17 [x0, zclr x1, .int a, x3, x4, x5, x6] st z Q := zw_next (f := z_istore 2 17) rfl rfl
theorem s39_17 {ls : List Value}  : ZW zG d 39 17 ls (st) z Q = ZW zG d 39 18 ls ((.int (nI 1)) :: st) z Q := zw_push rfl
theorem s39_18 {x0 x1 x3 x4 x5 x6 : Value} {a : Int32} : ZW zG d 39 18 [x0, x1, .int a, x3, x4, x5, x6] st z Q = ZW zG d 39 19 [x0, x1, .int a, x3, x4, x5, x6] (.int a :: st) z Q := zw_next (f := z_iload 2 19) rfl rfl
theorem s39_19 {ls : List Value} {a b : Int32} : ZW zG d 39 19 ls (.int b :: .int a :: st) z Q = ZW zG d 39 20 ls (.int (a <<< (b &&& 31)) :: st) z Q := zw_ishl rfl
theorem s39_20 {ls : List Value}  : ZW zG d 39 20 ls (st) z Q = ZW zG d 39 21 ls ((.int (nI 1)) :: st) z Q := zw_push rfl
theorem s39_21 {ls : List Value} {a b : Int32} : ZW zG d 39 21 ls (.int b :: .int a :: st) z Q = ZW zG d 39 22 ls (.int (a - b) :: st) z Q := zw_isub rfl
theorem s39_22 {x0 x1 x2 x3 x4 x5 x6 : Value} {a : Int32} : ZW zG d 39 22 [x0, x1, x2, x3, x4, x5, x6] (.int a :: st) z Q = ZW zG d 39 23 [x0, x1, zclr x2, .int a, x4, x5, x6] st z Q := zw_next (f := z_istore 3 23) rfl rfl
theorem s39_23 {x0 x1 x2 x3 x4 x5 x6 : Value} : ZW zG d 39 23 [x0, x1, x2, x3, x4, x5, x6] st z Q = (zir x0 = true ∧ ZW zG d 39 24 [x0, x1, x2, x3, x4, x5, x6] (x0 :: st) z Q) := zw_cond (f := z_aload 0 24) rfl rfl
theorem s39_24 {ls : List Value} {r : Nat} : ZW zG d 39 24 ls (.ref r :: st) z Q = ((zcls z r = 0 ∧ zir (zfr z r 1) = true) ∧ ZW zG d 39 27 ls (zfr z r 1 :: st) (z) Q) := zw_getR rfl
theorem s39_27 {ls : List Value} {r : Nat} : ZW zG d 39 27 ls (.ref r :: st) z Q = ((zcls z r = 1) ∧ ZW zG d 39 30 ls (.int (zfi z r 3) :: st) (z) Q) := zw_getI rfl
theorem s39_30 {x0 x1 x2 x3 x4 x5 x6 : Value} {a : Int32} : ZW zG d 39 30 [x0, x1, x2, x3, x4, x5, x6] (.int a :: st) z Q = ZW zG d 39 32 [x0, x1, x2, zclr x3, .int a, x5, x6] st z Q := zw_next (f := z_istore 4 32) rfl rfl
theorem s39_32 {x0 x1 x2 x3 x5 x6 : Value} {a : Int32} : ZW zG d 39 32 [x0, x1, x2, x3, .int a, x5, x6] st z Q = ZW zG d 39 34 [x0, x1, x2, x3, .int a, x5, x6] (.int a :: st) z Q := zw_next (f := z_iload 4 34) rfl rfl
theorem s39_34 {x0 x1 x2 x3 x4 x5 x6 : Value} : ZW zG d 39 34 [x0, x1, x2, x3, x4, x5, x6] st z Q = (zir x0 = true ∧ ZW zG d 39 35 [x0, x1, x2, x3, x4, x5, x6] (x0 :: st) z Q) := zw_cond (f := z_aload 0 35) rfl rfl
theorem s39_35 {ls : List Value} {r : Nat} : ZW zG d 39 35 ls (.ref r :: st) z Q = ((zcls z r = 0 ∧ zir (zfr z r 1) = true) ∧ ZW zG d 39 38 ls (zfr z r 1 :: st) (z) Q) := zw_getR rfl
theorem s39_38 {ls : List Value} {r : Nat} : ZW zG d 39 38 ls (.ref r :: st) z Q = ((zcls z r = 1) ∧ ZW zG d 39 41 ls (.int (zfi z r 3) :: st) (z) Q) := zw_getI rfl
theorem s39_41 {ls : List Value}  : ZW zG d 39 41 ls (st) z Q = ZW zG d 39 43 ls ((.int (nI 7)) :: st) z Q := zw_push rfl
theorem s39_43 {ls : List Value} {a b : Int32} : ZW zG d 39 43 ls (.int b :: .int a :: st) z Q = ZW zG d 39 44 ls (.int (a + b) :: st) z Q := zw_iadd rfl
theorem s39_44 {ls : List Value} {a b : Int32} : ZW zG d 39 44 ls (.int b :: .int a :: st) z Q = if b ≤ a then ZW zG d 39 155 ls st z Q else ZW zG d 39 47 ls st z Q := zw_icge rfl
theorem s39_47 {x0 x1 x2 x3 x5 x6 : Value} {a : Int32} : ZW zG d 39 47 [x0, x1, x2, x3, .int a, x5, x6] st z Q = ZW zG d 39 49 [x0, x1, x2, x3, .int a, x5, x6] (.int a :: st) z Q := zw_next (f := z_iload 4 49) rfl rfl
theorem s39_49 {ls : List Value}  : ZW zG d 39 49 ls (st) z Q = ZW zG d 39 52 ls ((.int (nI 399)) :: st) z Q := zw_push rfl
theorem s39_52 {ls : List Value} {a b : Int32} : ZW zG d 39 52 ls (.int b :: .int a :: st) z Q = if b < a then ZW zG d 39 155 ls st z Q else ZW zG d 39 55 ls st z Q := zw_icgt rfl
theorem s39_55 {x0 x1 x2 x3 x4 x5 x6 : Value} : ZW zG d 39 55 [x0, x1, x2, x3, x4, x5, x6] st z Q = (zir x0 = true ∧ ZW zG d 39 56 [x0, x1, x2, x3, x4, x5, x6] (x0 :: st) z Q) := zw_cond (f := z_aload 0 56) rfl rfl
theorem s39_56 {ls : List Value} {r : Nat} : ZW zG d 39 56 ls (.ref r :: st) z Q = ((zcls z r = 0 ∧ zir (zfr z r 4) = true) ∧ ZW zG d 39 59 ls (zfr z r 4 :: st) (z) Q) := zw_getR rfl
theorem s39_59 {x0 x1 x2 x3 x5 x6 : Value} {a : Int32} : ZW zG d 39 59 [x0, x1, x2, x3, .int a, x5, x6] st z Q = ZW zG d 39 61 [x0, x1, x2, x3, .int a, x5, x6] (.int a :: st) z Q := zw_next (f := z_iload 4 61) rfl rfl
theorem s39_61 {ls : List Value} {a : Int32} {r : Nat} : ZW zG d 39 61 ls (.int a :: .ref r :: st) z Q = ((zcls z r = 10) ∧ ZW zG d 39 64 ls (st) (sfi z r 5 a) Q) := zw_putI rfl
theorem s39_64 {ls : List Value}  : ZW zG d 39 64 ls (st) z Q = ZW zG d 39 65 ls ((.int (nI 0)) :: st) z Q := zw_push rfl
theorem s39_65 {x0 x1 x2 x3 x4 x5 x6 : Value} {a : Int32} : ZW zG d 39 65 [x0, x1, x2, x3, x4, x5, x6] (.int a :: st) z Q = ZW zG d 39 67 [x0, x1, x2, x3, zclr x4, .int a, x6] st z Q := zw_next (f := z_istore 5 67) rfl rfl
theorem s39_67 {x0 x1 x2 x3 x4 x6 : Value} {a : Int32} : ZW zG d 39 67 [x0, x1, x2, x3, x4, .int a, x6] st z Q = ZW zG d 39 69 [x0, x1, x2, x3, x4, .int a, x6] (.int a :: st) z Q := zw_next (f := z_iload 5 69) rfl rfl
theorem s39_69 {x0 x1 x3 x4 x5 x6 : Value} {a : Int32} : ZW zG d 39 69 [x0, x1, .int a, x3, x4, x5, x6] st z Q = ZW zG d 39 70 [x0, x1, .int a, x3, x4, x5, x6] (.int a :: st) z Q := zw_next (f := z_iload 2 70) rfl rfl
theorem s39_70 {ls : List Value} {a b : Int32} : ZW zG d 39 70 ls (.int b :: .int a :: st) z Q = if b ≤ a then ZW zG d 39 149 ls st z Q else ZW zG d 39 73 ls st z Q := zw_icge rfl
theorem s39_73 {x0 x1 x2 x3 x4 x5 x6 : Value} : ZW zG d 39 73 [x0, x1, x2, x3, x4, x5, x6] st z Q = (zir x0 = true ∧ ZW zG d 39 74 [x0, x1, x2, x3, x4, x5, x6] (x0 :: st) z Q) := zw_cond (f := z_aload 0 74) rfl rfl
theorem s39_74 {ls : List Value} {r : Nat} : ZW zG d 39 74 ls (.ref r :: st) z Q = ((zcls z r = 0 ∧ zir (zfr z r 1) = true) ∧ ZW zG d 39 77 ls (zfr z r 1 :: st) (z) Q) := zw_getR rfl
theorem s39_77 {ls : List Value} {r : Nat} : ZW zG d 39 77 ls (.ref r :: st) z Q = ((zcls z r = 1 ∧ zir (zfr z r 1) = true) ∧ ZW zG d 39 80 ls (zfr z r 1 :: st) (z) Q) := zw_getR rfl
theorem s39_80 {x0 x2 x3 x4 x5 x6 : Value} {a : Int32} : ZW zG d 39 80 [x0, .int a, x2, x3, x4, x5, x6] st z Q = ZW zG d 39 81 [x0, .int a, x2, x3, x4, x5, x6] (.int a :: st) z Q := zw_next (f := z_iload 1 81) rfl rfl
theorem s39_81 {x0 x1 x2 x3 x4 x6 : Value} {a : Int32} : ZW zG d 39 81 [x0, x1, x2, x3, x4, .int a, x6] st z Q = ZW zG d 39 83 [x0, x1, x2, x3, x4, .int a, x6] (.int a :: st) z Q := zw_next (f := z_iload 5 83) rfl rfl
theorem s39_83 {ls : List Value} {w0 : Int32} {w1 : Int32} {r : Nat} : ZW zG (d + 1) 39 83 ls (.int w1 :: .int w0 :: .ref r :: st) z Q = (zcls z r = 3 ∧ zcs st = true ∧ ZC zG d 74 [.ref r, .int w0, .int w1] z (zk zG (d + 1) 39 (none) 86 ls st Q)) := zc_V2 rfl (Nat.le_of_ble_eq_true rfl)
theorem s39_86 {x0 x1 x2 x3 x4 x5 x6 : Value} {v : Value} : ZW zG d 39 86 [x0, x1, x2, x3, x4, x5, x6] (v :: st) z Q = (zir v = true ∧ ZW zG d 39 88 [x0, x1, x2, x3, x4, zclr x5, v] st z Q) := by rw [zw_cond (f := z_astore 6 88) (G := zG) rfl rfl]; exact propext ⟨fun h => ⟨h.1.1, h.2⟩, fun h => ⟨⟨h.1, Nat.le_of_ble_eq_true rfl⟩, h.2⟩⟩
theorem s39_88 {x0 x1 x2 x3 x4 x5 x6 : Value} : ZW zG d 39 88 [x0, x1, x2, x3, x4, x5, x6] st z Q = (zir x6 = true ∧ ZW zG d 39 90 [x0, x1, x2, x3, x4, x5, x6] (x6 :: st) z Q) := zw_cond (f := z_aload 6 90) rfl rfl
theorem s39_90 {ls : List Value} {r : Nat} : ZW zG d 39 90 ls (.ref r :: st) z Q = ((zcls z r = 23) ∧ ZW zG d 39 93 ls (.int (zfi z r 3) :: st) (z) Q) := zw_getI rfl
theorem s39_93 {x0 x1 x2 x3 x5 x6 : Value} {a : Int32} : ZW zG d 39 93 [x0, x1, x2, x3, .int a, x5, x6] st z Q = ZW zG d 39 95 [x0, x1, x2, x3, .int a, x5, x6] (.int a :: st) z Q := zw_next (f := z_iload 4 95) rfl rfl
theorem s39_95 {ls : List Value} {a b : Int32} : ZW zG d 39 95 ls (.int b :: .int a :: st) z Q = if a < b then ZW zG d 39 143 ls st z Q else ZW zG d 39 98 ls st z Q := zw_iclt rfl
theorem s39_98 {x0 x1 x2 x3 x4 x5 x6 : Value} : ZW zG d 39 98 [x0, x1, x2, x3, x4, x5, x6] st z Q = (zir x0 = true ∧ ZW zG d 39 99 [x0, x1, x2, x3, x4, x5, x6] (x0 :: st) z Q) := zw_cond (f := z_aload 0 99) rfl rfl
theorem s39_99 {ls : List Value} {r : Nat} : ZW zG d 39 99 ls (.ref r :: st) z Q = ((zcls z r = 0 ∧ zir (zfr z r 4) = true) ∧ ZW zG d 39 102 ls (zfr z r 4 :: st) (z) Q) := zw_getR rfl
theorem s39_102 {ls : List Value}  : ZW zG d 39 102 ls (st) z Q = ZW zG d 39 103 ls ((.int (nI 0)) :: st) z Q := zw_push rfl
theorem s39_103 {x0 x1 x2 x3 x4 x5 x6 : Value} : ZW zG d 39 103 [x0, x1, x2, x3, x4, x5, x6] st z Q = (zir x0 = true ∧ ZW zG d 39 104 [x0, x1, x2, x3, x4, x5, x6] (x0 :: st) z Q) := zw_cond (f := z_aload 0 104) rfl rfl
theorem s39_104 {x0 x2 x3 x4 x5 x6 : Value} {a : Int32} : ZW zG d 39 104 [x0, .int a, x2, x3, x4, x5, x6] st z Q = ZW zG d 39 105 [x0, .int a, x2, x3, x4, x5, x6] (.int a :: st) z Q := zw_next (f := z_iload 1 105) rfl rfl
theorem s39_105 {ls : List Value} {w0 : Int32} {r : Nat} : ZW zG (d + 1) 39 105 ls (.int w0 :: .ref r :: st) z Q = (zcls z r = 0 ∧ zcs st = true ∧ ZC zG d 17 [.ref r, .int w0] z (zk zG (d + 1) 39 (none) 108 ls st Q)) := zc_V1 rfl (Nat.le_of_ble_eq_true rfl)
theorem s39_108 {x0 x1 x2 x3 x4 x5 x6 : Value} : ZW zG d 39 108 [x0, x1, x2, x3, x4, x5, x6] st z Q = (zir x0 = true ∧ ZW zG d 39 109 [x0, x1, x2, x3, x4, x5, x6] (x0 :: st) z Q) := zw_cond (f := z_aload 0 109) rfl rfl
theorem s39_109 {x0 x1 x2 x3 x4 x5 x6 : Value} : ZW zG d 39 109 [x0, x1, x2, x3, x4, x5, x6] st z Q = (zir x6 = true ∧ ZW zG d 39 111 [x0, x1, x2, x3, x4, x5, x6] (x6 :: st) z Q) := zw_cond (f := z_aload 6 111) rfl rfl
theorem s39_111 {ls : List Value} {r : Nat} : ZW zG d 39 111 ls (.ref r :: st) z Q = ((zcls z r = 23) ∧ ZW zG d 39 114 ls (.int (zfi z r 1) :: st) (z) Q) := zw_getI rfl
theorem s39_114 {ls : List Value} {w0 : Int32} {r : Nat} : ZW zG (d + 1) 39 114 ls (.int w0 :: .ref r :: st) z Q = (zcls z r = 0 ∧ zcs st = true ∧ ZC zG d 17 [.ref r, .int w0] z (zk zG (d + 1) 39 (none) 117 ls st Q)) := zc_V1 rfl (Nat.le_of_ble_eq_true rfl)
theorem s39_117 {ls : List Value} {w0 : Nat} {r : Nat} : ZW zG (d + 1) 39 117 ls (.ref w0 :: .ref r :: st) z Q = (zcls z r = 21 ∧ zcs st = true ∧ ZC zG d 248 [.ref r, .ref w0] z (zk zG (d + 1) 39 (none) 120 ls st Q)) := zc_V1 rfl (Nat.le_of_ble_eq_true rfl)
theorem s39_120 {x0 x1 x2 x3 x4 x5 x6 : Value} : ZW zG d 39 120 [x0, x1, x2, x3, x4, x5, x6] st z Q = (zir x6 = true ∧ ZW zG d 39 122 [x0, x1, x2, x3, x4, x5, x6] (x6 :: st) z Q) := zw_cond (f := z_aload 6 122) rfl rfl
theorem s39_122 {ls : List Value} {r : Nat} : ZW zG d 39 122 ls (.ref r :: st) z Q = ((zcls z r = 23) ∧ ZW zG d 39 125 ls (.int (zfi z r 1) :: st) (z) Q) := zw_getI rfl
theorem s39_125 {ls : List Value} {w0 : Int32} {w1 : Int32} {w2 : Int32} {r : Nat} : ZW zG (d + 1) 39 125 ls (.int w2 :: .int w1 :: .int w0 :: .ref r :: st) z Q = (zcls z r = 10 ∧ zcs st = true ∧ ZC zG d 100 [.ref r, .int w0, .int w1, .int w2] z (zk zG (d + 1) 39 (none) 128 ls st Q)) := zc_V3 rfl (Nat.le_of_ble_eq_true rfl)
theorem s39_128 {ls : List Value}  : ZW zG d 39 128 ls (st) z Q = ZW zG d 39 131 ls ((.int (nI 100000)) :: st) z Q := zw_push rfl
theorem s39_131 {ls : List Value} {a b : Int32} : ZW zG d 39 131 ls (.int b :: .int a :: st) z Q = if a = b then ZW zG d 39 143 ls st z Q else ZW zG d 39 134 ls st z Q := zw_iceq rfl
theorem s39_134 {x0 x1 x2 x4 x5 x6 : Value} {a : Int32} : ZW zG d 39 134 [x0, x1, x2, .int a, x4, x5, x6] st z Q = ZW zG d 39 135 [x0, x1, x2, .int a, x4, x5, x6] (.int a :: st) z Q := zw_next (f := z_iload 3 135) rfl rfl
theorem s39_135 {ls : List Value}  : ZW zG d 39 135 ls (st) z Q = ZW zG d 39 136 ls ((.int (nI 1)) :: st) z Q := zw_push rfl
theorem s39_136 {x0 x1 x2 x3 x4 x6 : Value} {a : Int32} : ZW zG d 39 136 [x0, x1, x2, x3, x4, .int a, x6] st z Q = ZW zG d 39 138 [x0, x1, x2, x3, x4, .int a, x6] (.int a :: st) z Q := zw_next (f := z_iload 5 138) rfl rfl
theorem s39_138 {ls : List Value} {a b : Int32} : ZW zG d 39 138 ls (.int b :: .int a :: st) z Q = ZW zG d 39 139 ls (.int (a <<< (b &&& 31)) :: st) z Q := zw_ishl rfl
theorem s39_139 {ls : List Value}  : ZW zG d 39 139 ls (st) z Q = ZW zG d 39 140 ls ((.int (-1)) :: st) z Q := zw_push rfl
theorem s39_140 {ls : List Value} {a b : Int32} : ZW zG d 39 140 ls (.int b :: .int a :: st) z Q = ZW zG d 39 141 ls (.int (a ^^^ b) :: st) z Q := zw_ixor rfl
theorem s39_141 {ls : List Value} {a b : Int32} : ZW zG d 39 141 ls (.int b :: .int a :: st) z Q = ZW zG d 39 142 ls (.int (a &&& b) :: st) z Q := zw_iand rfl
theorem s39_142 {x0 x1 x2 x3 x4 x5 x6 : Value} {a : Int32} : ZW zG d 39 142 [x0, x1, x2, x3, x4, x5, x6] (.int a :: st) z Q = ZW zG d 39 143 [x0, x1, zclr x2, .int a, x4, x5, x6] st z Q := zw_next (f := z_istore 3 143) rfl rfl
theorem s39_143 {x0 x1 x2 x3 x4 x6 : Value} {a : Int32} : ZW zG d 39 143 [x0, x1, x2, x3, x4, .int a, x6] st z Q = ZW zG d 39 146 [x0, x1, x2, x3, zclr x4, .int (a + (nI 1)), x6] st z Q := zw_next (f := z_iinc 5 (nI 1) 146) rfl rfl
theorem s39_146 {ls : List Value}  : ZW zG d 39 146 ls (st) z Q = ZW zG d 39 67 ls st z Q := zw_goto rfl
theorem s39_149 {x0 x1 x2 x3 x5 x6 : Value} {a : Int32} : ZW zG d 39 149 [x0, x1, x2, x3, .int a, x5, x6] st z Q = ZW zG d 39 152 [x0, x1, x2, zclr x3, .int (a + (nI 1)), x5, x6] st z Q := zw_next (f := z_iinc 4 (nI 1) 152) rfl rfl
theorem s39_152 {ls : List Value}  : ZW zG d 39 152 ls (st) z Q = ZW zG d 39 32 ls st z Q := zw_goto rfl
theorem s39_155 {x0 x1 x2 x4 x5 x6 : Value} {a : Int32} : ZW zG d 39 155 [x0, x1, x2, .int a, x4, x5, x6] st z Q = ZW zG d 39 156 [x0, x1, x2, .int a, x4, x5, x6] (.int a :: st) z Q := zw_next (f := z_iload 3 156) rfl rfl
theorem s39_156 {ls : List Value} {a : Int32} : ZW zG d 39 156 ls ([.int a]) z Q = Q (.inl (some (.int a))) z := zw_reti rfl
/-- X0_soon (II)I -/
theorem e40 {r0 : Nat} {v0 : Int32} {v1 : Int32} : ZC zG d 40 [.ref r0, .int v0, .int v1] z Q = ZW zG d 40 0 [.ref r0, .int v0, .int v1, zdum] [] z Q := rfl
theorem s40_0 {x0 x1 x2 x3 : Value} : ZW zG d 40 0 [x0, x1, x2, x3] st z Q = (zir x0 = true ∧ ZW zG d 40 1 [x0, x1, x2, x3] (x0 :: st) z Q) := zw_cond (f := z_aload 0 1) rfl rfl
theorem s40_1 {x0 x2 x3 : Value} {a : Int32} : ZW zG d 40 1 [x0, .int a, x2, x3] st z Q = ZW zG d 40 2 [x0, .int a, x2, x3] (.int a :: st) z Q := zw_next (f := z_iload 1 2) rfl rfl
theorem s40_2 {x0 x1 x3 : Value} {a : Int32} : ZW zG d 40 2 [x0, x1, .int a, x3] st z Q = ZW zG d 40 3 [x0, x1, .int a, x3] (.int a :: st) z Q := zw_next (f := z_iload 2 3) rfl rfl
theorem s40_3 {ls : List Value} {w0 : Int32} {w1 : Int32} {r : Nat} : ZW zG (d + 1) 40 3 ls (.int w1 :: .int w0 :: .ref r :: st) z Q = (zcls z r = 0 ∧ zcs st = true ∧ ZC zG d 13 [.ref r, .int w0, .int w1] z (zk zG (d + 1) 40 (none) 6 ls st Q)) := zc_V2 rfl (Nat.le_of_ble_eq_true rfl)
theorem s40_6 {ls : List Value} {a : Int32} : ZW zG d 40 6 ls (.int a :: st) z Q = if ¬ a = 0 then ZW zG d 40 12 ls st z Q else ZW zG d 40 9 ls st z Q := zw_ifne rfl
theorem s40_9 {ls : List Value}  : ZW zG d 40 9 ls (st) z Q = ZW zG d 40 11 ls ((.int (-2)) :: st) z Q := zw_push rfl
theorem s40_11 {ls : List Value} {a : Int32} : ZW zG d 40 11 ls ([.int a]) z Q = Q (.inl (some (.int a))) z := zw_reti rfl
theorem s40_12 {x0 x1 x2 x3 : Value} : ZW zG d 40 12 [x0, x1, x2, x3] st z Q = (zir x0 = true ∧ ZW zG d 40 13 [x0, x1, x2, x3] (x0 :: st) z Q) := zw_cond (f := z_aload 0 13) rfl rfl
theorem s40_13 {x0 x2 x3 : Value} {a : Int32} : ZW zG d 40 13 [x0, .int a, x2, x3] st z Q = ZW zG d 40 14 [x0, .int a, x2, x3] (.int a :: st) z Q := zw_next (f := z_iload 1 14) rfl rfl
theorem s40_14 {x0 x1 x3 : Value} {a : Int32} : ZW zG d 40 14 [x0, x1, .int a, x3] st z Q = ZW zG d 40 15 [x0, x1, .int a, x3] (.int a :: st) z Q := zw_next (f := z_iload 2 15) rfl rfl
theorem s40_15 {ls : List Value} {w0 : Int32} {w1 : Int32} {r : Nat} : ZW zG (d + 1) 40 15 ls (.int w1 :: .int w0 :: .ref r :: st) z Q = (zcls z r = 0 ∧ zcs st = true ∧ ZC zG d 41 [.ref r, .int w0, .int w1] z (zk zG (d + 1) 40 (none) 18 ls st Q)) := zc_V2 rfl (Nat.le_of_ble_eq_true rfl)
theorem s40_18 {x0 x1 x2 x3 : Value} {a : Int32} : ZW zG d 40 18 [x0, x1, x2, x3] (.int a :: st) z Q = ZW zG d 40 19 [x0, x1, zclr x2, .int a] st z Q := zw_next (f := z_istore 3 19) rfl rfl
theorem s40_19 {x0 x1 x2 : Value} {a : Int32} : ZW zG d 40 19 [x0, x1, x2, .int a] st z Q = ZW zG d 40 20 [x0, x1, x2, .int a] (.int a :: st) z Q := zw_next (f := z_iload 3 20) rfl rfl
theorem s40_20 {ls : List Value}  : ZW zG d 40 20 ls (st) z Q = ZW zG d 40 23 ls ((.int (nI 100000)) :: st) z Q := zw_push rfl
theorem s40_23 {ls : List Value} {a b : Int32} : ZW zG d 40 23 ls (.int b :: .int a :: st) z Q = if ¬ a = b then ZW zG d 40 30 ls st z Q else ZW zG d 40 26 ls st z Q := zw_icne rfl
theorem s40_26 {ls : List Value}  : ZW zG d 40 26 ls (st) z Q = ZW zG d 40 27 ls ((.int (-1)) :: st) z Q := zw_push rfl
theorem s40_27 {ls : List Value}  : ZW zG d 40 27 ls (st) z Q = ZW zG d 40 31 ls st z Q := zw_goto rfl
theorem s40_30 {x0 x1 x2 : Value} {a : Int32} : ZW zG d 40 30 [x0, x1, x2, .int a] st z Q = ZW zG d 40 31 [x0, x1, x2, .int a] (.int a :: st) z Q := zw_next (f := z_iload 3 31) rfl rfl
theorem s40_31 {ls : List Value} {a : Int32} : ZW zG d 40 31 ls ([.int a]) z Q = Q (.inl (some (.int a))) z := zw_reti rfl
/-- X0_soonest (II)I -/
theorem e41 {r0 : Nat} {v0 : Int32} {v1 : Int32} : ZC zG d 41 [.ref r0, .int v0, .int v1] z Q = ZW zG d 41 0 [.ref r0, .int v0, .int v1, zdum] [] z Q := rfl
theorem s41_0 {ls : List Value}  : ZW zG d 41 0 ls (st) z Q = ZW zG d 41 1 ls ((.int (nI 0)) :: st) z Q := zw_push rfl
theorem s41_1 {x0 x1 x2 x3 : Value} {a : Int32} : ZW zG d 41 1 [x0, x1, x2, x3] (.int a :: st) z Q = ZW zG d 41 2 [x0, x1, zclr x2, .int a] st z Q := zw_next (f := z_istore 3 2) rfl rfl
theorem s41_2 {x0 x1 x2 : Value} {a : Int32} : ZW zG d 41 2 [x0, x1, x2, .int a] st z Q = ZW zG d 41 3 [x0, x1, x2, .int a] (.int a :: st) z Q := zw_next (f := z_iload 3 3) rfl rfl
theorem s41_3 {x0 x1 x2 x3 : Value} : ZW zG d 41 3 [x0, x1, x2, x3] st z Q = (zir x0 = true ∧ ZW zG d 41 4 [x0, x1, x2, x3] (x0 :: st) z Q) := zw_cond (f := z_aload 0 4) rfl rfl
theorem s41_4 {ls : List Value} {r : Nat} : ZW zG d 41 4 ls (.ref r :: st) z Q = ((zcls z r = 0 ∧ zir (zfr z r 11) = true) ∧ ZW zG d 41 7 ls (zfr z r 11 :: st) (z) Q) := zw_getR rfl
theorem s41_7 {ls : List Value} {r : Nat} : ZW zG d 41 7 ls (.ref r :: st) z Q = ((zcls z r = 50) ∧ ZW zG d 41 8 ls (.int (nI (zlen z r)) :: st) (z) Q) := zw_alen rfl
theorem s41_8 {ls : List Value} {a b : Int32} : ZW zG d 41 8 ls (.int b :: .int a :: st) z Q = if b ≤ a then ZW zG d 41 24 ls st z Q else ZW zG d 41 11 ls st z Q := zw_icge rfl
theorem s41_11 {x0 x1 x2 x3 : Value} : ZW zG d 41 11 [x0, x1, x2, x3] st z Q = (zir x0 = true ∧ ZW zG d 41 12 [x0, x1, x2, x3] (x0 :: st) z Q) := zw_cond (f := z_aload 0 12) rfl rfl
theorem s41_12 {ls : List Value} {r : Nat} : ZW zG d 41 12 ls (.ref r :: st) z Q = ((zcls z r = 0 ∧ zir (zfr z r 11) = true) ∧ ZW zG d 41 15 ls (zfr z r 11 :: st) (z) Q) := zw_getR rfl
theorem s41_15 {x0 x1 x2 : Value} {a : Int32} : ZW zG d 41 15 [x0, x1, x2, .int a] st z Q = ZW zG d 41 16 [x0, x1, x2, .int a] (.int a :: st) z Q := zw_next (f := z_iload 3 16) rfl rfl
theorem s41_16 {ls : List Value}  : ZW zG d 41 16 ls (st) z Q = ZW zG d 41 17 ls ((.int (-1)) :: st) z Q := zw_push rfl
theorem s41_17 {ls : List Value} {a b : Int32} {r : Nat} : ZW zG d 41 17 ls (.int b :: .int a :: .ref r :: st) z Q = ((zcls z r = 50 ∧ zin a (zlen z r) = true) ∧ ZW zG d 41 18 ls (st) (sia z r (zx a) (znar 50 b)) Q) := zw_iast rfl
theorem s41_18 {x0 x1 x2 : Value} {a : Int32} : ZW zG d 41 18 [x0, x1, x2, .int a] st z Q = ZW zG d 41 21 [x0, x1, zclr x2, .int (a + (nI 1))] st z Q := zw_next (f := z_iinc 3 (nI 1) 21) rfl rfl
theorem s41_21 {ls : List Value}  : ZW zG d 41 21 ls (st) z Q = ZW zG d 41 2 ls st z Q := zw_goto rfl
theorem s41_24 {x0 x1 x2 x3 : Value} : ZW zG d 41 24 [x0, x1, x2, x3] st z Q = (zir x0 = true ∧ ZW zG d 41 25 [x0, x1, x2, x3] (x0 :: st) z Q) := zw_cond (f := z_aload 0 25) rfl rfl
theorem s41_25 {x0 x2 x3 : Value} {a : Int32} : ZW zG d 41 25 [x0, .int a, x2, x3] st z Q = ZW zG d 41 26 [x0, .int a, x2, x3] (.int a :: st) z Q := zw_next (f := z_iload 1 26) rfl rfl
theorem s41_26 {x0 x1 x3 : Value} {a : Int32} : ZW zG d 41 26 [x0, x1, .int a, x3] st z Q = ZW zG d 41 27 [x0, x1, .int a, x3] (.int a :: st) z Q := zw_next (f := z_iload 2 27) rfl rfl
theorem s41_27 {x0 x1 x2 x3 : Value} : ZW zG d 41 27 [x0, x1, x2, x3] st z Q = (zir x0 = true ∧ ZW zG d 41 28 [x0, x1, x2, x3] (x0 :: st) z Q) := zw_cond (f := z_aload 0 28) rfl rfl
theorem s41_28 {ls : List Value} {r : Nat} : ZW zG d 41 28 ls (.ref r :: st) z Q = ((zcls z r = 0 ∧ zir (zfr z r 1) = true) ∧ ZW zG d 41 31 ls (zfr z r 1 :: st) (z) Q) := zw_getR rfl
theorem s41_31 {ls : List Value} {r : Nat} : ZW zG d 41 31 ls (.ref r :: st) z Q = ((zcls z r = 1 ∧ zir (zfr z r 1) = true) ∧ ZW zG d 41 34 ls (zfr z r 1 :: st) (z) Q) := zw_getR rfl
theorem s41_34 {ls : List Value} {r : Nat} : ZW zG d 41 34 ls (.ref r :: st) z Q = ((zcls z r = 3 ∧ zir (zfr z r 2) = true) ∧ ZW zG d 41 37 ls (zfr z r 2 :: st) (z) Q) := zw_getR rfl
theorem s41_37 {x0 x2 x3 : Value} {a : Int32} : ZW zG d 41 37 [x0, .int a, x2, x3] st z Q = ZW zG d 41 38 [x0, .int a, x2, x3] (.int a :: st) z Q := zw_next (f := z_iload 1 38) rfl rfl
theorem s41_38 {ls : List Value} {a : Int32} {r : Nat} : ZW zG d 41 38 ls (.int a :: .ref r :: st) z Q = ((zcls z r = 50 ∧ zin a (zlen z r) = true) ∧ ZW zG d 41 39 ls (.int (zia z r (zx a)) :: st) (z) Q) := zw_iald rfl
theorem s41_39 {ls : List Value} {w0 : Int32} {w1 : Int32} {w2 : Int32} {r : Nat} : ZW zG (d + 1) 41 39 ls (.int w2 :: .int w1 :: .int w0 :: .ref r :: st) z Q = (zcls z r = 0 ∧ zcs st = true ∧ ZC zG d 42 [.ref r, .int w0, .int w1, .int w2] z (zk zG (d + 1) 41 (none) 42 ls st Q)) := zc_V3 rfl (Nat.le_of_ble_eq_true rfl)
theorem s41_42 {ls : List Value} {a : Int32} : ZW zG d 41 42 ls ([.int a]) z Q = Q (.inl (some (.int a))) z := zw_reti rfl
/-- X0_callsFrom (III)I -/
theorem e42 {r0 : Nat} {v0 : Int32} {v1 : Int32} {v2 : Int32} : ZC zG d 42 [.ref r0, .int v0, .int v1, .int v2] z Q = ZW zG d 42 0 [.ref r0, .int v0, .int v1, .int v2, zdum, zdum] [] z Q := rfl
theorem s42_0 {x0 x1 x2 x4 x5 : Value} {a : Int32} : ZW zG d 42 0 [x0, x1, x2, .int a, x4, x5] st z Q = ZW zG d 42 1 [x0, x1, x2, .int a, x4, x5] (.int a :: st) z Q := zw_next (f := z_iload 3 1) rfl rfl
theorem s42_1 {x0 x1 x3 x4 x5 : Value} {a : Int32} : ZW zG d 42 1 [x0, x1, .int a, x3, x4, x5] st z Q = ZW zG d 42 2 [x0, x1, .int a, x3, x4, x5] (.int a :: st) z Q := zw_next (f := z_iload 2 2) rfl rfl
theorem s42_2 {ls : List Value} {w0 : Int32} {w1 : Int32} : ZW zG (d + 1) 42 2 ls (.int w1 :: .int w0 :: st) z Q = (zcs st = true ∧ ZC zG d 18 [.int w0, .int w1] z (zk zG (d + 1) 42 (none) 5 ls st Q)) := zc_S2 rfl (Nat.le_of_ble_eq_true rfl)
theorem s42_5 {ls : List Value} {a : Int32} : ZW zG d 42 5 ls (.int a :: st) z Q = if a = 0 then ZW zG d 42 10 ls st z Q else ZW zG d 42 8 ls st z Q := zw_ifeq rfl
theorem s42_8 {ls : List Value}  : ZW zG d 42 8 ls (st) z Q = ZW zG d 42 9 ls ((.int (nI 0)) :: st) z Q := zw_push rfl
theorem s42_9 {ls : List Value} {a : Int32} : ZW zG d 42 9 ls ([.int a]) z Q = Q (.inl (some (.int a))) z := zw_reti rfl
theorem s42_10 {x0 x1 x2 x3 x4 x5 : Value} : ZW zG d 42 10 [x0, x1, x2, x3, x4, x5] st z Q = (zir x0 = true ∧ ZW zG d 42 11 [x0, x1, x2, x3, x4, x5] (x0 :: st) z Q) := zw_cond (f := z_aload 0 11) rfl rfl
theorem s42_11 {ls : List Value} {r : Nat} : ZW zG d 42 11 ls (.ref r :: st) z Q = ((zcls z r = 0 ∧ zir (zfr z r 11) = true) ∧ ZW zG d 42 14 ls (zfr z r 11 :: st) (z) Q) := zw_getR rfl
theorem s42_14 {x0 x1 x2 x4 x5 : Value} {a : Int32} : ZW zG d 42 14 [x0, x1, x2, .int a, x4, x5] st z Q = ZW zG d 42 15 [x0, x1, x2, .int a, x4, x5] (.int a :: st) z Q := zw_next (f := z_iload 3 15) rfl rfl
theorem s42_15 {ls : List Value} {a : Int32} {r : Nat} : ZW zG d 42 15 ls (.int a :: .ref r :: st) z Q = ((zcls z r = 50 ∧ zin a (zlen z r) = true) ∧ ZW zG d 42 16 ls (.int (zia z r (zx a)) :: st) (z) Q) := zw_iald rfl
theorem s42_16 {ls : List Value}  : ZW zG d 42 16 ls (st) z Q = ZW zG d 42 17 ls ((.int (-1)) :: st) z Q := zw_push rfl
theorem s42_17 {ls : List Value} {a b : Int32} : ZW zG d 42 17 ls (.int b :: .int a :: st) z Q = if a = b then ZW zG d 42 27 ls st z Q else ZW zG d 42 20 ls st z Q := zw_iceq rfl
theorem s42_20 {x0 x1 x2 x3 x4 x5 : Value} : ZW zG d 42 20 [x0, x1, x2, x3, x4, x5] st z Q = (zir x0 = true ∧ ZW zG d 42 21 [x0, x1, x2, x3, x4, x5] (x0 :: st) z Q) := zw_cond (f := z_aload 0 21) rfl rfl
theorem s42_21 {ls : List Value} {r : Nat} : ZW zG d 42 21 ls (.ref r :: st) z Q = ((zcls z r = 0 ∧ zir (zfr z r 11) = true) ∧ ZW zG d 42 24 ls (zfr z r 11 :: st) (z) Q) := zw_getR rfl
theorem s42_24 {x0 x1 x2 x4 x5 : Value} {a : Int32} : ZW zG d 42 24 [x0, x1, x2, .int a, x4, x5] st z Q = ZW zG d 42 25 [x0, x1, x2, .int a, x4, x5] (.int a :: st) z Q := zw_next (f := z_iload 3 25) rfl rfl
theorem s42_25 {ls : List Value} {a : Int32} {r : Nat} : ZW zG d 42 25 ls (.int a :: .ref r :: st) z Q = ((zcls z r = 50 ∧ zin a (zlen z r) = true) ∧ ZW zG d 42 26 ls (.int (zia z r (zx a)) :: st) (z) Q) := zw_iald rfl
theorem s42_26 {ls : List Value} {a : Int32} : ZW zG d 42 26 ls ([.int a]) z Q = Q (.inl (some (.int a))) z := zw_reti rfl
theorem s42_27 {ls : List Value}  : ZW zG d 42 27 ls (st) z Q = ZW zG d 42 30 ls ((.int (nI 100000)) :: st) z Q := zw_push rfl
theorem s42_30 {x0 x1 x2 x3 x4 x5 : Value} {a : Int32} : ZW zG d 42 30 [x0, x1, x2, x3, x4, x5] (.int a :: st) z Q = ZW zG d 42 32 [x0, x1, x2, zclr x3, .int a, x5] st z Q := zw_next (f := z_istore 4 32) rfl rfl
theorem s42_32 {ls : List Value}  : ZW zG d 42 32 ls (st) z Q = ZW zG d 42 33 ls ((.int (nI 0)) :: st) z Q := zw_push rfl
theorem s42_33 {x0 x1 x2 x3 x4 x5 : Value} {a : Int32} : ZW zG d 42 33 [x0, x1, x2, x3, x4, x5] (.int a :: st) z Q = ZW zG d 42 35 [x0, x1, x2, x3, zclr x4, .int a] st z Q := zw_next (f := z_istore 5 35) rfl rfl
theorem s42_35 {x0 x1 x2 x3 x4 : Value} {a : Int32} : ZW zG d 42 35 [x0, x1, x2, x3, x4, .int a] st z Q = ZW zG d 42 37 [x0, x1, x2, x3, x4, .int a] (.int a :: st) z Q := zw_next (f := z_iload 5 37) rfl rfl
theorem s42_37 {x0 x1 x2 x3 x4 x5 : Value} : ZW zG d 42 37 [x0, x1, x2, x3, x4, x5] st z Q = (zir x0 = true ∧ ZW zG d 42 38 [x0, x1, x2, x3, x4, x5] (x0 :: st) z Q) := zw_cond (f := z_aload 0 38) rfl rfl
theorem s42_38 {ls : List Value} {r : Nat} : ZW zG d 42 38 ls (.ref r :: st) z Q = ((zcls z r = 0 ∧ zir (zfr z r 1) = true) ∧ ZW zG d 42 41 ls (zfr z r 1 :: st) (z) Q) := zw_getR rfl
theorem s42_41 {ls : List Value} {r : Nat} : ZW zG d 42 41 ls (.ref r :: st) z Q = ((zcls z r = 1 ∧ zir (zfr z r 0) = true) ∧ ZW zG d 42 44 ls (zfr z r 0 :: st) (z) Q) := zw_getR rfl
theorem s42_44 {ls : List Value}  {r : Nat} : ZW zG (d + 1) 42 44 ls (.ref r :: st) z Q = (zcls z r = 2 ∧ zcs st = true ∧ ZC zG d 63 [.ref r] z (zk zG (d + 1) 42 (none) 47 ls st Q)) := zc_V0 rfl (Nat.le_of_ble_eq_true rfl)
theorem s42_47 {ls : List Value} {a b : Int32} : ZW zG d 42 47 ls (.int b :: .int a :: st) z Q = if b ≤ a then ZW zG d 42 88 ls st z Q else ZW zG d 42 50 ls st z Q := zw_icge rfl
theorem s42_50 {x0 x1 x2 x3 x4 x5 : Value} : ZW zG d 42 50 [x0, x1, x2, x3, x4, x5] st z Q = (zir x0 = true ∧ ZW zG d 42 51 [x0, x1, x2, x3, x4, x5] (x0 :: st) z Q) := zw_cond (f := z_aload 0 51) rfl rfl
theorem s42_51 {x0 x2 x3 x4 x5 : Value} {a : Int32} : ZW zG d 42 51 [x0, .int a, x2, x3, x4, x5] st z Q = ZW zG d 42 52 [x0, .int a, x2, x3, x4, x5] (.int a :: st) z Q := zw_next (f := z_iload 1 52) rfl rfl
theorem s42_52 {x0 x1 x2 x3 x4 : Value} {a : Int32} : ZW zG d 42 52 [x0, x1, x2, x3, x4, .int a] st z Q = ZW zG d 42 54 [x0, x1, x2, x3, x4, .int a] (.int a :: st) z Q := zw_next (f := z_iload 5 54) rfl rfl
theorem s42_54 {x0 x1 x2 x4 x5 : Value} {a : Int32} : ZW zG d 42 54 [x0, x1, x2, .int a, x4, x5] st z Q = ZW zG d 42 55 [x0, x1, x2, .int a, x4, x5] (.int a :: st) z Q := zw_next (f := z_iload 3 55) rfl rfl
theorem s42_55 {ls : List Value} {w0 : Int32} {w1 : Int32} {w2 : Int32} {r : Nat} : ZW zG (d + 1) 42 55 ls (.int w2 :: .int w1 :: .int w0 :: .ref r :: st) z Q = (zcls z r = 0 ∧ zcs st = true ∧ ZC zG d 43 [.ref r, .int w0, .int w1, .int w2] z (zk zG (d + 1) 42 (none) 58 ls st Q)) := zc_V3 rfl (Nat.le_of_ble_eq_true rfl)
theorem s42_58 {ls : List Value} {a : Int32} : ZW zG d 42 58 ls (.int a :: st) z Q = if a = 0 then ZW zG d 42 82 ls st z Q else ZW zG d 42 61 ls st z Q := zw_ifeq rfl
theorem s42_61 {x0 x1 x2 x3 x5 : Value} {a : Int32} : ZW zG d 42 61 [x0, x1, x2, x3, .int a, x5] st z Q = ZW zG d 42 63 [x0, x1, x2, x3, .int a, x5] (.int a :: st) z Q := zw_next (f := z_iload 4 63) rfl rfl
theorem s42_63 {ls : List Value}  : ZW zG d 42 63 ls (st) z Q = ZW zG d 42 64 ls ((.int (nI 1)) :: st) z Q := zw_push rfl
theorem s42_64 {x0 x1 x2 x3 x4 x5 : Value} : ZW zG d 42 64 [x0, x1, x2, x3, x4, x5] st z Q = (zir x0 = true ∧ ZW zG d 42 65 [x0, x1, x2, x3, x4, x5] (x0 :: st) z Q) := zw_cond (f := z_aload 0 65) rfl rfl
theorem s42_65 {x0 x2 x3 x4 x5 : Value} {a : Int32} : ZW zG d 42 65 [x0, .int a, x2, x3, x4, x5] st z Q = ZW zG d 42 66 [x0, .int a, x2, x3, x4, x5] (.int a :: st) z Q := zw_next (f := z_iload 1 66) rfl rfl
theorem s42_66 {x0 x1 x3 x4 x5 : Value} {a : Int32} : ZW zG d 42 66 [x0, x1, .int a, x3, x4, x5] st z Q = ZW zG d 42 67 [x0, x1, .int a, x3, x4, x5] (.int a :: st) z Q := zw_next (f := z_iload 2 67) rfl rfl
theorem s42_67 {x0 x1 x2 x4 x5 : Value} {a : Int32} : ZW zG d 42 67 [x0, x1, x2, .int a, x4, x5] st z Q = ZW zG d 42 68 [x0, x1, x2, .int a, x4, x5] (.int a :: st) z Q := zw_next (f := z_iload 3 68) rfl rfl
theorem s42_68 {ls : List Value}  : ZW zG d 42 68 ls (st) z Q = ZW zG d 42 69 ls ((.int (nI 1)) :: st) z Q := zw_push rfl
theorem s42_69 {x0 x1 x2 x3 x4 : Value} {a : Int32} : ZW zG d 42 69 [x0, x1, x2, x3, x4, .int a] st z Q = ZW zG d 42 71 [x0, x1, x2, x3, x4, .int a] (.int a :: st) z Q := zw_next (f := z_iload 5 71) rfl rfl
theorem s42_71 {ls : List Value} {a b : Int32} : ZW zG d 42 71 ls (.int b :: .int a :: st) z Q = ZW zG d 42 72 ls (.int (a <<< (b &&& 31)) :: st) z Q := zw_ishl rfl
theorem s42_72 {ls : List Value} {a b : Int32} : ZW zG d 42 72 ls (.int b :: .int a :: st) z Q = ZW zG d 42 73 ls (.int (a ||| b) :: st) z Q := zw_ior rfl
theorem s42_73 {ls : List Value} {w0 : Int32} {w1 : Int32} {w2 : Int32} {r : Nat} : ZW zG (d + 1) 42 73 ls (.int w2 :: .int w1 :: .int w0 :: .ref r :: st) z Q = (zcls z r = 0 ∧ zcs st = true ∧ ZC zG d 42 [.ref r, .int w0, .int w1, .int w2] z (zk zG (d + 1) 42 (none) 76 ls st Q)) := zc_V3 rfl (Nat.le_of_ble_eq_true rfl)
theorem s42_76 {ls : List Value} {a b : Int32} : ZW zG d 42 76 ls (.int b :: .int a :: st) z Q = ZW zG d 42 77 ls (.int (a + b) :: st) z Q := zw_iadd rfl
theorem s42_77 {ls : List Value} {a b : Int32} : ZW zG d 42 77 ls (.int b :: .int a :: st) z Q = ((zcs st = true) ∧ ZW zG d 42 80 ls (.int (zmin a b) :: st) (z) Q) := zw_mmin rfl
theorem s42_80 {x0 x1 x2 x3 x4 x5 : Value} {a : Int32} : ZW zG d 42 80 [x0, x1, x2, x3, x4, x5] (.int a :: st) z Q = ZW zG d 42 82 [x0, x1, x2, zclr x3, .int a, x5] st z Q := zw_next (f := z_istore 4 82) rfl rfl
theorem s42_82 {x0 x1 x2 x3 x4 : Value} {a : Int32} : ZW zG d 42 82 [x0, x1, x2, x3, x4, .int a] st z Q = ZW zG d 42 85 [x0, x1, x2, x3, zclr x4, .int (a + (nI 1))] st z Q := zw_next (f := z_iinc 5 (nI 1) 85) rfl rfl
theorem s42_85 {ls : List Value}  : ZW zG d 42 85 ls (st) z Q = ZW zG d 42 35 ls st z Q := zw_goto rfl
theorem s42_88 {x0 x1 x2 x3 x4 x5 : Value} : ZW zG d 42 88 [x0, x1, x2, x3, x4, x5] st z Q = (zir x0 = true ∧ ZW zG d 42 89 [x0, x1, x2, x3, x4, x5] (x0 :: st) z Q) := zw_cond (f := z_aload 0 89) rfl rfl
theorem s42_89 {ls : List Value} {r : Nat} : ZW zG d 42 89 ls (.ref r :: st) z Q = ((zcls z r = 0 ∧ zir (zfr z r 11) = true) ∧ ZW zG d 42 92 ls (zfr z r 11 :: st) (z) Q) := zw_getR rfl
theorem s42_92 {x0 x1 x2 x4 x5 : Value} {a : Int32} : ZW zG d 42 92 [x0, x1, x2, .int a, x4, x5] st z Q = ZW zG d 42 93 [x0, x1, x2, .int a, x4, x5] (.int a :: st) z Q := zw_next (f := z_iload 3 93) rfl rfl
theorem s42_93 {ls : List Value}  : ZW zG d 42 93 ls (st) z Q = ZW zG d 42 96 ls ((.int (nI 100000)) :: st) z Q := zw_push rfl
theorem s42_96 {x0 x1 x2 x3 x5 : Value} {a : Int32} : ZW zG d 42 96 [x0, x1, x2, x3, .int a, x5] st z Q = ZW zG d 42 98 [x0, x1, x2, x3, .int a, x5] (.int a :: st) z Q := zw_next (f := z_iload 4 98) rfl rfl
theorem s42_98 {ls : List Value} {a b : Int32} : ZW zG d 42 98 ls (.int b :: .int a :: st) z Q = ((zcs st = true) ∧ ZW zG d 42 101 ls (.int (zmin a b) :: st) (z) Q) := zw_mmin rfl
theorem s42_101 {ls : List Value} {a b : Int32} {r : Nat} : ZW zG d 42 101 ls (.int b :: .int a :: .ref r :: st) z Q = ((zcls z r = 50 ∧ zin a (zlen z r) = true) ∧ ZW zG d 42 102 ls (st) (sia z r (zx a) (znar 50 b)) Q) := zw_iast rfl
theorem s42_102 {x0 x1 x2 x3 x4 x5 : Value} : ZW zG d 42 102 [x0, x1, x2, x3, x4, x5] st z Q = (zir x0 = true ∧ ZW zG d 42 103 [x0, x1, x2, x3, x4, x5] (x0 :: st) z Q) := zw_cond (f := z_aload 0 103) rfl rfl
theorem s42_103 {ls : List Value} {r : Nat} : ZW zG d 42 103 ls (.ref r :: st) z Q = ((zcls z r = 0 ∧ zir (zfr z r 11) = true) ∧ ZW zG d 42 106 ls (zfr z r 11 :: st) (z) Q) := zw_getR rfl
theorem s42_106 {x0 x1 x2 x4 x5 : Value} {a : Int32} : ZW zG d 42 106 [x0, x1, x2, .int a, x4, x5] st z Q = ZW zG d 42 107 [x0, x1, x2, .int a, x4, x5] (.int a :: st) z Q := zw_next (f := z_iload 3 107) rfl rfl
theorem s42_107 {ls : List Value} {a : Int32} {r : Nat} : ZW zG d 42 107 ls (.int a :: .ref r :: st) z Q = ((zcls z r = 50 ∧ zin a (zlen z r) = true) ∧ ZW zG d 42 108 ls (.int (zia z r (zx a)) :: st) (z) Q) := zw_iald rfl
theorem s42_108 {ls : List Value} {a : Int32} : ZW zG d 42 108 ls ([.int a]) z Q = Q (.inl (some (.int a))) z := zw_reti rfl
/-- X0_mayCall (III)Z -/
theorem e43 {r0 : Nat} {v0 : Int32} {v1 : Int32} {v2 : Int32} : ZC zG d 43 [.ref r0, .int v0, .int v1, .int v2] z Q = ZW zG d 43 0 [.ref r0, .int v0, .int v1, .int v2] [] z Q := rfl
theorem s43_0 {x0 x1 x3 : Value} {a : Int32} : ZW zG d 43 0 [x0, x1, .int a, x3] st z Q = ZW zG d 43 1 [x0, x1, .int a, x3] (.int a :: st) z Q := zw_next (f := z_iload 2 1) rfl rfl
theorem s43_1 {x0 x2 x3 : Value} {a : Int32} : ZW zG d 43 1 [x0, .int a, x2, x3] st z Q = ZW zG d 43 2 [x0, .int a, x2, x3] (.int a :: st) z Q := zw_next (f := z_iload 1 2) rfl rfl
theorem s43_2 {ls : List Value} {a b : Int32} : ZW zG d 43 2 ls (.int b :: .int a :: st) z Q = if a = b then ZW zG d 43 65 ls st z Q else ZW zG d 43 5 ls st z Q := zw_iceq rfl
theorem s43_5 {x0 x1 x2 : Value} {a : Int32} : ZW zG d 43 5 [x0, x1, x2, .int a] st z Q = ZW zG d 43 6 [x0, x1, x2, .int a] (.int a :: st) z Q := zw_next (f := z_iload 3 6) rfl rfl
theorem s43_6 {x0 x1 x3 : Value} {a : Int32} : ZW zG d 43 6 [x0, x1, .int a, x3] st z Q = ZW zG d 43 7 [x0, x1, .int a, x3] (.int a :: st) z Q := zw_next (f := z_iload 2 7) rfl rfl
theorem s43_7 {ls : List Value} {w0 : Int32} {w1 : Int32} : ZW zG (d + 1) 43 7 ls (.int w1 :: .int w0 :: st) z Q = (zcs st = true ∧ ZC zG d 18 [.int w0, .int w1] z (zk zG (d + 1) 43 (none) 10 ls st Q)) := zc_S2 rfl (Nat.le_of_ble_eq_true rfl)
theorem s43_10 {ls : List Value} {a : Int32} : ZW zG d 43 10 ls (.int a :: st) z Q = if ¬ a = 0 then ZW zG d 43 65 ls st z Q else ZW zG d 43 13 ls st z Q := zw_ifne rfl
theorem s43_13 {x0 x1 x2 x3 : Value} : ZW zG d 43 13 [x0, x1, x2, x3] st z Q = (zir x0 = true ∧ ZW zG d 43 14 [x0, x1, x2, x3] (x0 :: st) z Q) := zw_cond (f := z_aload 0 14) rfl rfl
theorem s43_14 {x0 x1 x3 : Value} {a : Int32} : ZW zG d 43 14 [x0, x1, .int a, x3] st z Q = ZW zG d 43 15 [x0, x1, .int a, x3] (.int a :: st) z Q := zw_next (f := z_iload 2 15) rfl rfl
theorem s43_15 {ls : List Value} {w0 : Int32} {r : Nat} : ZW zG (d + 1) 43 15 ls (.int w0 :: .ref r :: st) z Q = (zcls z r = 0 ∧ zcs st = true ∧ ZC zG d 17 [.ref r, .int w0] z (zk zG (d + 1) 43 (none) 18 ls st Q)) := zc_V1 rfl (Nat.le_of_ble_eq_true rfl)
theorem s43_18 {x0 x1 x2 x3 : Value} : ZW zG d 43 18 [x0, x1, x2, x3] st z Q = (zir x0 = true ∧ ZW zG d 43 19 [x0, x1, x2, x3] (x0 :: st) z Q) := zw_cond (f := z_aload 0 19) rfl rfl
theorem s43_19 {ls : List Value} {r : Nat} : ZW zG d 43 19 ls (.ref r :: st) z Q = ((zcls z r = 0 ∧ zir (zfr z r 1) = true) ∧ ZW zG d 43 22 ls (zfr z r 1 :: st) (z) Q) := zw_getR rfl
theorem s43_22 {ls : List Value} {r : Nat} : ZW zG d 43 22 ls (.ref r :: st) z Q = ((zcls z r = 1) ∧ ZW zG d 43 25 ls (.int (zfi z r 3) :: st) (z) Q) := zw_getI rfl
theorem s43_25 {ls : List Value} {w0 : Int32} {r : Nat} : ZW zG (d + 1) 43 25 ls (.int w0 :: .ref r :: st) z Q = (zcls z r = 21 ∧ zcs st = true ∧ ZC zG d 246 [.ref r, .int w0] z (zk zG (d + 1) 43 (none) 28 ls st Q)) := zc_V1 rfl (Nat.le_of_ble_eq_true rfl)
theorem s43_28 {ls : List Value} {a : Int32} : ZW zG d 43 28 ls (.int a :: st) z Q = if a = 0 then ZW zG d 43 65 ls st z Q else ZW zG d 43 31 ls st z Q := zw_ifeq rfl
theorem s43_31 {x0 x1 x2 x3 : Value} : ZW zG d 43 31 [x0, x1, x2, x3] st z Q = (zir x0 = true ∧ ZW zG d 43 32 [x0, x1, x2, x3] (x0 :: st) z Q) := zw_cond (f := z_aload 0 32) rfl rfl
theorem s43_32 {ls : List Value} {r : Nat} : ZW zG d 43 32 ls (.ref r :: st) z Q = ((zcls z r = 0 ∧ zir (zfr z r 1) = true) ∧ ZW zG d 43 35 ls (zfr z r 1 :: st) (z) Q) := zw_getR rfl
theorem s43_35 {ls : List Value} {r : Nat} : ZW zG d 43 35 ls (.ref r :: st) z Q = ((zcls z r = 1 ∧ zir (zfr z r 1) = true) ∧ ZW zG d 43 38 ls (zfr z r 1 :: st) (z) Q) := zw_getR rfl
theorem s43_38 {ls : List Value} {r : Nat} : ZW zG d 43 38 ls (.ref r :: st) z Q = ((zcls z r = 3 ∧ zir (zfr z r 2) = true) ∧ ZW zG d 43 41 ls (zfr z r 2 :: st) (z) Q) := zw_getR rfl
theorem s43_41 {x0 x1 x3 : Value} {a : Int32} : ZW zG d 43 41 [x0, x1, .int a, x3] st z Q = ZW zG d 43 42 [x0, x1, .int a, x3] (.int a :: st) z Q := zw_next (f := z_iload 2 42) rfl rfl
theorem s43_42 {ls : List Value} {a : Int32} {r : Nat} : ZW zG d 43 42 ls (.int a :: .ref r :: st) z Q = ((zcls z r = 50 ∧ zin a (zlen z r) = true) ∧ ZW zG d 43 43 ls (.int (zia z r (zx a)) :: st) (z) Q) := zw_iald rfl
theorem s43_43 {x0 x1 x2 : Value} {a : Int32} : ZW zG d 43 43 [x0, x1, x2, .int a] st z Q = ZW zG d 43 44 [x0, x1, x2, .int a] (.int a :: st) z Q := zw_next (f := z_iload 3 44) rfl rfl
theorem s43_44 {ls : List Value} {a b : Int32} : ZW zG d 43 44 ls (.int b :: .int a :: st) z Q = ZW zG d 43 45 ls (.int (a &&& b) :: st) z Q := zw_iand rfl
theorem s43_45 {ls : List Value} {w0 : Int32} : ZW zG (d + 1) 43 45 ls (.int w0 :: st) z Q = (zcs st = true ∧ ZC zG d 251 [.int w0] z (zk zG (d + 1) 43 (none) 48 ls st Q)) := zc_S1 rfl (Nat.le_of_ble_eq_true rfl)
theorem s43_48 {x0 x1 x2 x3 : Value} : ZW zG d 43 48 [x0, x1, x2, x3] st z Q = (zir x0 = true ∧ ZW zG d 43 49 [x0, x1, x2, x3] (x0 :: st) z Q) := zw_cond (f := z_aload 0 49) rfl rfl
theorem s43_49 {ls : List Value} {r : Nat} : ZW zG d 43 49 ls (.ref r :: st) z Q = ((zcls z r = 0 ∧ zir (zfr z r 1) = true) ∧ ZW zG d 43 52 ls (zfr z r 1 :: st) (z) Q) := zw_getR rfl
theorem s43_52 {ls : List Value} {r : Nat} : ZW zG d 43 52 ls (.ref r :: st) z Q = ((zcls z r = 1 ∧ zir (zfr z r 0) = true) ∧ ZW zG d 43 55 ls (zfr z r 0 :: st) (z) Q) := zw_getR rfl
theorem s43_55 {ls : List Value} {r : Nat} : ZW zG d 43 55 ls (.ref r :: st) z Q = ((zcls z r = 2) ∧ ZW zG d 43 58 ls (.int (zfi z r 4) :: st) (z) Q) := zw_getI rfl
theorem s43_58 {ls : List Value} {a b : Int32} : ZW zG d 43 58 ls (.int b :: .int a :: st) z Q = if a < b then ZW zG d 43 65 ls st z Q else ZW zG d 43 61 ls st z Q := zw_iclt rfl
theorem s43_61 {ls : List Value}  : ZW zG d 43 61 ls (st) z Q = ZW zG d 43 62 ls ((.int (nI 1)) :: st) z Q := zw_push rfl
theorem s43_62 {ls : List Value}  : ZW zG d 43 62 ls (st) z Q = ZW zG d 43 66 ls st z Q := zw_goto rfl
theorem s43_65 {ls : List Value}  : ZW zG d 43 65 ls (st) z Q = ZW zG d 43 66 ls ((.int (nI 0)) :: st) z Q := zw_push rfl
theorem s43_66 {ls : List Value} {a : Int32} : ZW zG d 43 66 ls ([.int a]) z Q = ((a = 0 ∨ a = 1) ∧ Q (.inl (some (.int a))) z) := zw_retz rfl
/-- X0_path (III)I -/
theorem e44 {r0 : Nat} {v0 : Int32} {v1 : Int32} {v2 : Int32} : ZC zG d 44 [.ref r0, .int v0, .int v1, .int v2] z Q = ZW zG d 44 0 [.ref r0, .int v0, .int v1, .int v2, zdum, zdum, zdum, zdum] [] z Q := rfl
theorem s44_0 {x0 x1 x2 x3 x4 x5 x6 x7 : Value} : ZW zG d 44 0 [x0, x1, x2, x3, x4, x5, x6, x7] st z Q = (zir x0 = true ∧ ZW zG d 44 1 [x0, x1, x2, x3, x4, x5, x6, x7] (x0 :: st) z Q) := zw_cond (f := z_aload 0 1) rfl rfl
theorem s44_1 {x0 x2 x3 x4 x5 x6 x7 : Value} {a : Int32} : ZW zG d 44 1 [x0, .int a, x2, x3, x4, x5, x6, x7] st z Q = ZW zG d 44 2 [x0, .int a, x2, x3, x4, x5, x6, x7] (.int a :: st) z Q := zw_next (f := z_iload 1 2) rfl rfl
theorem s44_2 {x0 x1 x3 x4 x5 x6 x7 : Value} {a : Int32} : ZW zG d 44 2 [x0, x1, .int a, x3, x4, x5, x6, x7] st z Q = ZW zG d 44 3 [x0, x1, .int a, x3, x4, x5, x6, x7] (.int a :: st) z Q := zw_next (f := z_iload 2 3) rfl rfl
theorem s44_3 {ls : List Value} {w0 : Int32} {w1 : Int32} {r : Nat} : ZW zG (d + 1) 44 3 ls (.int w1 :: .int w0 :: .ref r :: st) z Q = (zcls z r = 0 ∧ zcs st = true ∧ ZC zG d 13 [.ref r, .int w0, .int w1] z (zk zG (d + 1) 44 (none) 6 ls st Q)) := zc_V2 rfl (Nat.le_of_ble_eq_true rfl)
theorem s44_6 {ls : List Value} {a : Int32} : ZW zG d 44 6 ls (.int a :: st) z Q = if ¬ a = 0 then ZW zG d 44 12 ls st z Q else ZW zG d 44 9 ls st z Q := zw_ifne rfl
theorem s44_9 {ls : List Value}  : ZW zG d 44 9 ls (st) z Q = ZW zG d 44 11 ls ((.int (-2)) :: st) z Q := zw_push rfl
theorem s44_11 {ls : List Value} {a : Int32} : ZW zG d 44 11 ls ([.int a]) z Q = Q (.inl (some (.int a))) z := zw_reti rfl
theorem s44_12 {x0 x1 x2 x3 x4 x5 x6 x7 : Value} : ZW zG d 44 12 [x0, x1, x2, x3, x4, x5, x6, x7] st z Q = (zir x0 = true ∧ ZW zG d 44 13 [x0, x1, x2, x3, x4, x5, x6, x7] (x0 :: st) z Q) := zw_cond (f := z_aload 0 13) rfl rfl
theorem s44_13 {x0 x2 x3 x4 x5 x6 x7 : Value} {a : Int32} : ZW zG d 44 13 [x0, .int a, x2, x3, x4, x5, x6, x7] st z Q = ZW zG d 44 14 [x0, .int a, x2, x3, x4, x5, x6, x7] (.int a :: st) z Q := zw_next (f := z_iload 1 14) rfl rfl
theorem s44_14 {x0 x1 x3 x4 x5 x6 x7 : Value} {a : Int32} : ZW zG d 44 14 [x0, x1, .int a, x3, x4, x5, x6, x7] st z Q = ZW zG d 44 15 [x0, x1, .int a, x3, x4, x5, x6, x7] (.int a :: st) z Q := zw_next (f := z_iload 2 15) rfl rfl
theorem s44_15 {ls : List Value} {w0 : Int32} {w1 : Int32} {r : Nat} : ZW zG (d + 1) 44 15 ls (.int w1 :: .int w0 :: .ref r :: st) z Q = (zcls z r = 0 ∧ zcs st = true ∧ ZC zG d 41 [.ref r, .int w0, .int w1] z (zk zG (d + 1) 44 (none) 18 ls st Q)) := zc_V2 rfl (Nat.le_of_ble_eq_true rfl)
theorem s44_18 {x0 x1 x2 x3 x4 x5 x6 x7 : Value} {a : Int32} : ZW zG d 44 18 [x0, x1, x2, x3, x4, x5, x6, x7] (.int a :: st) z Q = ZW zG d 44 20 [x0, x1, x2, zclr x3, .int a, x5, x6, x7] st z Q := zw_next (f := z_istore 4 20) rfl rfl
theorem s44_20 {x0 x1 x2 x3 x5 x6 x7 : Value} {a : Int32} : ZW zG d 44 20 [x0, x1, x2, x3, .int a, x5, x6, x7] st z Q = ZW zG d 44 22 [x0, x1, x2, x3, .int a, x5, x6, x7] (.int a :: st) z Q := zw_next (f := z_iload 4 22) rfl rfl
theorem s44_22 {ls : List Value}  : ZW zG d 44 22 ls (st) z Q = ZW zG d 44 25 ls ((.int (nI 100000)) :: st) z Q := zw_push rfl
theorem s44_25 {ls : List Value} {a b : Int32} : ZW zG d 44 25 ls (.int b :: .int a :: st) z Q = if a = b then ZW zG d 44 42 ls st z Q else ZW zG d 44 28 ls st z Q := zw_iceq rfl
theorem s44_28 {x0 x1 x2 x4 x5 x6 x7 : Value} {a : Int32} : ZW zG d 44 28 [x0, x1, x2, .int a, x4, x5, x6, x7] st z Q = ZW zG d 44 29 [x0, x1, x2, .int a, x4, x5, x6, x7] (.int a :: st) z Q := zw_next (f := z_iload 3 29) rfl rfl
theorem s44_29 {ls : List Value} {a : Int32} : ZW zG d 44 29 ls (.int a :: st) z Q = ZW zG d 44 30 ls (.long a.toInt64 :: st) z Q := zw_i2l rfl
theorem s44_30 {ls : List Value}  : ZW zG d 44 30 ls (st) z Q = ZW zG d 44 31 ls ((.long (lN 0)) :: st) z Q := zw_push rfl
theorem s44_31 {x0 x1 x2 x3 x5 x6 x7 : Value} {a : Int32} : ZW zG d 44 31 [x0, x1, x2, x3, .int a, x5, x6, x7] st z Q = ZW zG d 44 33 [x0, x1, x2, x3, .int a, x5, x6, x7] (.int a :: st) z Q := zw_next (f := z_iload 4 33) rfl rfl
theorem s44_33 {ls : List Value}  : ZW zG d 44 33 ls (st) z Q = ZW zG d 44 34 ls ((.int (nI 1)) :: st) z Q := zw_push rfl
theorem s44_34 {ls : List Value} {a b : Int32} : ZW zG d 44 34 ls (.int b :: .int a :: st) z Q = ZW zG d 44 35 ls (.int (a - b) :: st) z Q := zw_isub rfl
theorem s44_35 {ls : List Value} {a : Int32} : ZW zG d 44 35 ls (.int a :: st) z Q = ZW zG d 44 36 ls (.long a.toInt64 :: st) z Q := zw_i2l rfl
theorem s44_36 {ls : List Value} {w0 : Int64} {w1 : Int64} {w2 : Int64} : ZW zG (d + 1) 44 36 ls (.long w2 :: .long w1 :: .long w0 :: st) z Q = (zcs st = true ∧ ZC zG d 2 [.long w0, .long w1, .long w2] z (zk zG (d + 1) 44 (none) 39 ls st Q)) := zc_S3 rfl (Nat.le_of_ble_eq_true rfl)
theorem s44_39 {ls : List Value} {a : Int32} : ZW zG d 44 39 ls (.int a :: st) z Q = if ¬ a = 0 then ZW zG d 44 44 ls st z Q else ZW zG d 44 42 ls st z Q := zw_ifne rfl
theorem s44_42 {ls : List Value}  : ZW zG d 44 42 ls (st) z Q = ZW zG d 44 43 ls ((.int (-1)) :: st) z Q := zw_push rfl
theorem s44_43 {ls : List Value} {a : Int32} : ZW zG d 44 43 ls ([.int a]) z Q = Q (.inl (some (.int a))) z := zw_reti rfl
theorem s44_44 {x0 x1 x2 x3 x4 x5 x6 x7 : Value} : ZW zG d 44 44 [x0, x1, x2, x3, x4, x5, x6, x7] st z Q = (zir x0 = true ∧ ZW zG d 44 45 [x0, x1, x2, x3, x4, x5, x6, x7] (x0 :: st) z Q) := zw_cond (f := z_aload 0 45) rfl rfl
theorem s44_45 {ls : List Value} {r : Nat} : ZW zG d 44 45 ls (.ref r :: st) z Q = ((zcls z r = 0 ∧ zir (zfr z r 1) = true) ∧ ZW zG d 44 48 ls (zfr z r 1 :: st) (z) Q) := zw_getR rfl
theorem s44_48 {ls : List Value} {r : Nat} : ZW zG d 44 48 ls (.ref r :: st) z Q = ((zcls z r = 1 ∧ zir (zfr z r 1) = true) ∧ ZW zG d 44 51 ls (zfr z r 1 :: st) (z) Q) := zw_getR rfl
theorem s44_51 {ls : List Value} {r : Nat} : ZW zG d 44 51 ls (.ref r :: st) z Q = ((zcls z r = 3 ∧ zir (zfr z r 2) = true) ∧ ZW zG d 44 54 ls (zfr z r 2 :: st) (z) Q) := zw_getR rfl
theorem s44_54 {x0 x2 x3 x4 x5 x6 x7 : Value} {a : Int32} : ZW zG d 44 54 [x0, .int a, x2, x3, x4, x5, x6, x7] st z Q = ZW zG d 44 55 [x0, .int a, x2, x3, x4, x5, x6, x7] (.int a :: st) z Q := zw_next (f := z_iload 1 55) rfl rfl
theorem s44_55 {ls : List Value} {a : Int32} {r : Nat} : ZW zG d 44 55 ls (.int a :: .ref r :: st) z Q = ((zcls z r = 50 ∧ zin a (zlen z r) = true) ∧ ZW zG d 44 56 ls (.int (zia z r (zx a)) :: st) (z) Q) := zw_iald rfl
theorem s44_56 {x0 x1 x2 x3 x4 x5 x6 x7 : Value} {a : Int32} : ZW zG d 44 56 [x0, x1, x2, x3, x4, x5, x6, x7] (.int a :: st) z Q = ZW zG d 44 58 [x0, x1, x2, x3, zclr x4, .int a, x6, x7] st z Q := zw_next (f := z_istore 5 58) rfl rfl
theorem s44_58 {ls : List Value}  : ZW zG d 44 58 ls (st) z Q = ZW zG d 44 59 ls ((.int (-1)) :: st) z Q := zw_push rfl
theorem s44_59 {x0 x1 x2 x3 x4 x5 x6 x7 : Value} {a : Int32} : ZW zG d 44 59 [x0, x1, x2, x3, x4, x5, x6, x7] (.int a :: st) z Q = ZW zG d 44 61 [x0, x1, x2, x3, x4, zclr x5, .int a, x7] st z Q := zw_next (f := z_istore 6 61) rfl rfl
theorem s44_61 {ls : List Value}  : ZW zG d 44 61 ls (st) z Q = ZW zG d 44 62 ls ((.int (nI 0)) :: st) z Q := zw_push rfl
theorem s44_62 {x0 x1 x2 x3 x4 x5 x6 x7 : Value} {a : Int32} : ZW zG d 44 62 [x0, x1, x2, x3, x4, x5, x6, x7] (.int a :: st) z Q = ZW zG d 44 64 [x0, x1, x2, x3, x4, x5, zclr x6, .int a] st z Q := zw_next (f := z_istore 7 64) rfl rfl
theorem s44_64 {x0 x1 x2 x3 x4 x5 x6 : Value} {a : Int32} : ZW zG d 44 64 [x0, x1, x2, x3, x4, x5, x6, .int a] st z Q = ZW zG d 44 66 [x0, x1, x2, x3, x4, x5, x6, .int a] (.int a :: st) z Q := zw_next (f := z_iload 7 66) rfl rfl
theorem s44_66 {x0 x1 x2 x4 x5 x6 x7 : Value} {a : Int32} : ZW zG d 44 66 [x0, x1, x2, .int a, x4, x5, x6, x7] st z Q = ZW zG d 44 67 [x0, x1, x2, .int a, x4, x5, x6, x7] (.int a :: st) z Q := zw_next (f := z_iload 3 67) rfl rfl
theorem s44_67 {ls : List Value} {a b : Int32} : ZW zG d 44 67 ls (.int b :: .int a :: st) z Q = if b < a then ZW zG d 44 129 ls st z Q else ZW zG d 44 70 ls st z Q := zw_icgt rfl
theorem s44_70 {ls : List Value}  : ZW zG d 44 70 ls (st) z Q = ZW zG d 44 71 ls ((.int (nI 0)) :: st) z Q := zw_push rfl
theorem s44_71 {x0 x1 x2 x3 x4 x5 x6 x7 : Value} {a : Int32} : ZW zG d 44 71 [x0, x1, x2, x3, x4, x5, x6, x7] (.int a :: st) z Q = ZW zG d 44 73 [x0, x1, x2, x3, x4, zclr x5, .int a, x7] st z Q := zw_next (f := z_istore 6 73) rfl rfl
theorem s44_73 {x0 x1 x2 x3 x4 x5 x6 x7 : Value} : ZW zG d 44 73 [x0, x1, x2, x3, x4, x5, x6, x7] st z Q = (zir x0 = true ∧ ZW zG d 44 74 [x0, x1, x2, x3, x4, x5, x6, x7] (x0 :: st) z Q) := zw_cond (f := z_aload 0 74) rfl rfl
theorem s44_74 {x0 x2 x3 x4 x5 x6 x7 : Value} {a : Int32} : ZW zG d 44 74 [x0, .int a, x2, x3, x4, x5, x6, x7] st z Q = ZW zG d 44 75 [x0, .int a, x2, x3, x4, x5, x6, x7] (.int a :: st) z Q := zw_next (f := z_iload 1 75) rfl rfl
theorem s44_75 {x0 x1 x2 x3 x4 x5 x7 : Value} {a : Int32} : ZW zG d 44 75 [x0, x1, x2, x3, x4, x5, .int a, x7] st z Q = ZW zG d 44 77 [x0, x1, x2, x3, x4, x5, .int a, x7] (.int a :: st) z Q := zw_next (f := z_iload 6 77) rfl rfl
theorem s44_77 {x0 x1 x2 x3 x4 x6 x7 : Value} {a : Int32} : ZW zG d 44 77 [x0, x1, x2, x3, x4, .int a, x6, x7] st z Q = ZW zG d 44 79 [x0, x1, x2, x3, x4, .int a, x6, x7] (.int a :: st) z Q := zw_next (f := z_iload 5 79) rfl rfl
theorem s44_79 {ls : List Value} {w0 : Int32} {w1 : Int32} {w2 : Int32} {r : Nat} : ZW zG (d + 1) 44 79 ls (.int w2 :: .int w1 :: .int w0 :: .ref r :: st) z Q = (zcls z r = 0 ∧ zcs st = true ∧ ZC zG d 43 [.ref r, .int w0, .int w1, .int w2] z (zk zG (d + 1) 44 (none) 82 ls st Q)) := zc_V3 rfl (Nat.le_of_ble_eq_true rfl)
theorem s44_82 {ls : List Value} {a : Int32} : ZW zG d 44 82 ls (.int a :: st) z Q = if a = 0 then ZW zG d 44 108 ls st z Q else ZW zG d 44 85 ls st z Q := zw_ifeq rfl
theorem s44_85 {x0 x1 x2 x3 x4 x5 x6 x7 : Value} : ZW zG d 44 85 [x0, x1, x2, x3, x4, x5, x6, x7] st z Q = (zir x0 = true ∧ ZW zG d 44 86 [x0, x1, x2, x3, x4, x5, x6, x7] (x0 :: st) z Q) := zw_cond (f := z_aload 0 86) rfl rfl
theorem s44_86 {x0 x2 x3 x4 x5 x6 x7 : Value} {a : Int32} : ZW zG d 44 86 [x0, .int a, x2, x3, x4, x5, x6, x7] st z Q = ZW zG d 44 87 [x0, .int a, x2, x3, x4, x5, x6, x7] (.int a :: st) z Q := zw_next (f := z_iload 1 87) rfl rfl
theorem s44_87 {x0 x1 x3 x4 x5 x6 x7 : Value} {a : Int32} : ZW zG d 44 87 [x0, x1, .int a, x3, x4, x5, x6, x7] st z Q = ZW zG d 44 88 [x0, x1, .int a, x3, x4, x5, x6, x7] (.int a :: st) z Q := zw_next (f := z_iload 2 88) rfl rfl
theorem s44_88 {x0 x1 x2 x3 x4 x6 x7 : Value} {a : Int32} : ZW zG d 44 88 [x0, x1, x2, x3, x4, .int a, x6, x7] st z Q = ZW zG d 44 90 [x0, x1, x2, x3, x4, .int a, x6, x7] (.int a :: st) z Q := zw_next (f := z_iload 5 90) rfl rfl
theorem s44_90 {ls : List Value}  : ZW zG d 44 90 ls (st) z Q = ZW zG d 44 91 ls ((.int (nI 1)) :: st) z Q := zw_push rfl
theorem s44_91 {x0 x1 x2 x3 x4 x5 x7 : Value} {a : Int32} : ZW zG d 44 91 [x0, x1, x2, x3, x4, x5, .int a, x7] st z Q = ZW zG d 44 93 [x0, x1, x2, x3, x4, x5, .int a, x7] (.int a :: st) z Q := zw_next (f := z_iload 6 93) rfl rfl
theorem s44_93 {ls : List Value} {a b : Int32} : ZW zG d 44 93 ls (.int b :: .int a :: st) z Q = ZW zG d 44 94 ls (.int (a <<< (b &&& 31)) :: st) z Q := zw_ishl rfl
theorem s44_94 {ls : List Value} {a b : Int32} : ZW zG d 44 94 ls (.int b :: .int a :: st) z Q = ZW zG d 44 95 ls (.int (a ||| b) :: st) z Q := zw_ior rfl
theorem s44_95 {ls : List Value} {w0 : Int32} {w1 : Int32} {w2 : Int32} {r : Nat} : ZW zG (d + 1) 44 95 ls (.int w2 :: .int w1 :: .int w0 :: .ref r :: st) z Q = (zcls z r = 0 ∧ zcs st = true ∧ ZC zG d 42 [.ref r, .int w0, .int w1, .int w2] z (zk zG (d + 1) 44 (none) 98 ls st Q)) := zc_V3 rfl (Nat.le_of_ble_eq_true rfl)
theorem s44_98 {x0 x1 x2 x3 x5 x6 x7 : Value} {a : Int32} : ZW zG d 44 98 [x0, x1, x2, x3, .int a, x5, x6, x7] st z Q = ZW zG d 44 100 [x0, x1, x2, x3, .int a, x5, x6, x7] (.int a :: st) z Q := zw_next (f := z_iload 4 100) rfl rfl
theorem s44_100 {x0 x1 x2 x3 x4 x5 x6 : Value} {a : Int32} : ZW zG d 44 100 [x0, x1, x2, x3, x4, x5, x6, .int a] st z Q = ZW zG d 44 102 [x0, x1, x2, x3, x4, x5, x6, .int a] (.int a :: st) z Q := zw_next (f := z_iload 7 102) rfl rfl
theorem s44_102 {ls : List Value} {a b : Int32} : ZW zG d 44 102 ls (.int b :: .int a :: st) z Q = ZW zG d 44 103 ls (.int (a - b) :: st) z Q := zw_isub rfl
theorem s44_103 {ls : List Value}  : ZW zG d 44 103 ls (st) z Q = ZW zG d 44 104 ls ((.int (nI 1)) :: st) z Q := zw_push rfl
theorem s44_104 {ls : List Value} {a b : Int32} : ZW zG d 44 104 ls (.int b :: .int a :: st) z Q = ZW zG d 44 105 ls (.int (a - b) :: st) z Q := zw_isub rfl
theorem s44_105 {ls : List Value} {a b : Int32} : ZW zG d 44 105 ls (.int b :: .int a :: st) z Q = if a = b then ZW zG d 44 114 ls st z Q else ZW zG d 44 108 ls st z Q := zw_iceq rfl
theorem s44_108 {x0 x1 x2 x3 x4 x5 x7 : Value} {a : Int32} : ZW zG d 44 108 [x0, x1, x2, x3, x4, x5, .int a, x7] st z Q = ZW zG d 44 111 [x0, x1, x2, x3, x4, zclr x5, .int (a + (nI 1)), x7] st z Q := zw_next (f := z_iinc 6 (nI 1) 111) rfl rfl
theorem s44_111 {ls : List Value}  : ZW zG d 44 111 ls (st) z Q = ZW zG d 44 73 ls st z Q := zw_goto rfl
theorem s44_114 {x0 x1 x2 x3 x4 x6 x7 : Value} {a : Int32} : ZW zG d 44 114 [x0, x1, x2, x3, x4, .int a, x6, x7] st z Q = ZW zG d 44 116 [x0, x1, x2, x3, x4, .int a, x6, x7] (.int a :: st) z Q := zw_next (f := z_iload 5 116) rfl rfl
theorem s44_116 {ls : List Value}  : ZW zG d 44 116 ls (st) z Q = ZW zG d 44 117 ls ((.int (nI 1)) :: st) z Q := zw_push rfl
theorem s44_117 {x0 x1 x2 x3 x4 x5 x7 : Value} {a : Int32} : ZW zG d 44 117 [x0, x1, x2, x3, x4, x5, .int a, x7] st z Q = ZW zG d 44 119 [x0, x1, x2, x3, x4, x5, .int a, x7] (.int a :: st) z Q := zw_next (f := z_iload 6 119) rfl rfl
theorem s44_119 {ls : List Value} {a b : Int32} : ZW zG d 44 119 ls (.int b :: .int a :: st) z Q = ZW zG d 44 120 ls (.int (a <<< (b &&& 31)) :: st) z Q := zw_ishl rfl
theorem s44_120 {ls : List Value} {a b : Int32} : ZW zG d 44 120 ls (.int b :: .int a :: st) z Q = ZW zG d 44 121 ls (.int (a ||| b) :: st) z Q := zw_ior rfl
theorem s44_121 {x0 x1 x2 x3 x4 x5 x6 x7 : Value} {a : Int32} : ZW zG d 44 121 [x0, x1, x2, x3, x4, x5, x6, x7] (.int a :: st) z Q = ZW zG d 44 123 [x0, x1, x2, x3, zclr x4, .int a, x6, x7] st z Q := zw_next (f := z_istore 5 123) rfl rfl
theorem s44_123 {x0 x1 x2 x3 x4 x5 x6 : Value} {a : Int32} : ZW zG d 44 123 [x0, x1, x2, x3, x4, x5, x6, .int a] st z Q = ZW zG d 44 126 [x0, x1, x2, x3, x4, x5, zclr x6, .int (a + (nI 1))] st z Q := zw_next (f := z_iinc 7 (nI 1) 126) rfl rfl
theorem s44_126 {ls : List Value}  : ZW zG d 44 126 ls (st) z Q = ZW zG d 44 64 ls st z Q := zw_goto rfl
theorem s44_129 {x0 x1 x2 x3 x4 x5 x7 : Value} {a : Int32} : ZW zG d 44 129 [x0, x1, x2, x3, x4, x5, .int a, x7] st z Q = ZW zG d 44 131 [x0, x1, x2, x3, x4, x5, .int a, x7] (.int a :: st) z Q := zw_next (f := z_iload 6 131) rfl rfl
theorem s44_131 {ls : List Value} {a : Int32} : ZW zG d 44 131 ls ([.int a]) z Q = Q (.inl (some (.int a))) z := zw_reti rfl
/-- X0_reach (I)I -/
theorem e45 {r0 : Nat} {v0 : Int32} : ZC zG d 45 [.ref r0, .int v0] z Q = ZW zG d 45 0 [.ref r0, .int v0] [] z Q := rfl
theorem s45_0 {x0 x1 : Value} : ZW zG d 45 0 [x0, x1] st z Q = (zir x0 = true ∧ ZW zG d 45 1 [x0, x1] (x0 :: st) z Q) := zw_cond (f := z_aload 0 1) rfl rfl
theorem s45_1 {x0 : Value} {a : Int32} : ZW zG d 45 1 [x0, .int a] st z Q = ZW zG d 45 2 [x0, .int a] (.int a :: st) z Q := zw_next (f := z_iload 1 2) rfl rfl
theorem s45_2 {ls : List Value} {w0 : Int32} {r : Nat} : ZW zG (d + 1) 45 2 ls (.int w0 :: .ref r :: st) z Q = (zcls z r = 0 ∧ zcs st = true ∧ ZC zG d 14 [.ref r, .int w0] z (zk zG (d + 1) 45 (none) 5 ls st Q)) := zc_V1 rfl (Nat.le_of_ble_eq_true rfl)
theorem s45_5 {ls : List Value} {a : Int32} : ZW zG d 45 5 ls (.int a :: st) z Q = if a = 0 then ZW zG d 45 24 ls st z Q else ZW zG d 45 8 ls st z Q := zw_ifeq rfl
theorem s45_8 {x0 x1 : Value} : ZW zG d 45 8 [x0, x1] st z Q = (zir x0 = true ∧ ZW zG d 45 9 [x0, x1] (x0 :: st) z Q) := zw_cond (f := z_aload 0 9) rfl rfl
theorem s45_9 {ls : List Value} {r : Nat} : ZW zG d 45 9 ls (.ref r :: st) z Q = ((zcls z r = 0 ∧ zir (zfr z r 1) = true) ∧ ZW zG d 45 12 ls (zfr z r 1 :: st) (z) Q) := zw_getR rfl
theorem s45_12 {ls : List Value} {r : Nat} : ZW zG d 45 12 ls (.ref r :: st) z Q = ((zcls z r = 1 ∧ zir (zfr z r 1) = true) ∧ ZW zG d 45 15 ls (zfr z r 1 :: st) (z) Q) := zw_getR rfl
theorem s45_15 {x0 : Value} {a : Int32} : ZW zG d 45 15 [x0, .int a] st z Q = ZW zG d 45 16 [x0, .int a] (.int a :: st) z Q := zw_next (f := z_iload 1 16) rfl rfl
theorem s45_16 {ls : List Value}  : ZW zG d 45 16 ls (st) z Q = ZW zG d 45 17 ls ((.int (-1)) :: st) z Q := zw_push rfl
theorem s45_17 {ls : List Value}  : ZW zG d 45 17 ls (st) z Q = ZW zG d 45 18 ls ((.int (-1)) :: st) z Q := zw_push rfl
theorem s45_18 {ls : List Value} {w0 : Int32} {w1 : Int32} {w2 : Int32} {r : Nat} : ZW zG (d + 1) 45 18 ls (.int w2 :: .int w1 :: .int w0 :: .ref r :: st) z Q = (zcls z r = 3 ∧ zcs st = true ∧ ZC zG d 77 [.ref r, .int w0, .int w1, .int w2] z (zk zG (d + 1) 45 (none) 21 ls st Q)) := zc_V3 rfl (Nat.le_of_ble_eq_true rfl)
theorem s45_21 {ls : List Value}  : ZW zG d 45 21 ls (st) z Q = ZW zG d 45 26 ls st z Q := zw_goto rfl
theorem s45_24 {ls : List Value}  : ZW zG d 45 24 ls (st) z Q = ZW zG d 45 26 ls ((.int (-2)) :: st) z Q := zw_push rfl
theorem s45_26 {ls : List Value} {a : Int32} : ZW zG d 45 26 ls ([.int a]) z Q = Q (.inl (some (.int a))) z := zw_reti rfl
/-- X0_drop (I)I -/
theorem e46 {r0 : Nat} {v0 : Int32} : ZC zG d 46 [.ref r0, .int v0] z Q = ZW zG d 46 0 [.ref r0, .int v0, zdum, zdum, zdum] [] z Q := rfl
theorem s46_0 {x0 x1 x2 x3 x4 : Value} : ZW zG d 46 0 [x0, x1, x2, x3, x4] st z Q = (zir x0 = true ∧ ZW zG d 46 1 [x0, x1, x2, x3, x4] (x0 :: st) z Q) := zw_cond (f := z_aload 0 1) rfl rfl
theorem s46_1 {x0 x2 x3 x4 : Value} {a : Int32} : ZW zG d 46 1 [x0, .int a, x2, x3, x4] st z Q = ZW zG d 46 2 [x0, .int a, x2, x3, x4] (.int a :: st) z Q := zw_next (f := z_iload 1 2) rfl rfl
theorem s46_2 {ls : List Value} {w0 : Int32} {r : Nat} : ZW zG (d + 1) 46 2 ls (.int w0 :: .ref r :: st) z Q = (zcls z r = 0 ∧ zcs st = true ∧ ZC zG d 14 [.ref r, .int w0] z (zk zG (d + 1) 46 (none) 5 ls st Q)) := zc_V1 rfl (Nat.le_of_ble_eq_true rfl)
theorem s46_5 {ls : List Value} {a : Int32} : ZW zG d 46 5 ls (.int a :: st) z Q = if ¬ a = 0 then ZW zG d 46 11 ls st z Q else ZW zG d 46 8 ls st z Q := zw_ifne rfl
theorem s46_8 {ls : List Value}  : ZW zG d 46 8 ls (st) z Q = ZW zG d 46 10 ls ((.int (-2)) :: st) z Q := zw_push rfl
theorem s46_10 {ls : List Value} {a : Int32} : ZW zG d 46 10 ls ([.int a]) z Q = Q (.inl (some (.int a))) z := zw_reti rfl
theorem s46_11 {x0 x1 x2 x3 x4 : Value} : ZW zG d 46 11 [x0, x1, x2, x3, x4] st z Q = (zir x0 = true ∧ ZW zG d 46 12 [x0, x1, x2, x3, x4] (x0 :: st) z Q) := zw_cond (f := z_aload 0 12) rfl rfl
theorem s46_12 {ls : List Value} {r : Nat} : ZW zG d 46 12 ls (.ref r :: st) z Q = ((zcls z r = 0 ∧ zir (zfr z r 1) = true) ∧ ZW zG d 46 15 ls (zfr z r 1 :: st) (z) Q) := zw_getR rfl
theorem s46_15 {ls : List Value} {r : Nat} : ZW zG d 46 15 ls (.ref r :: st) z Q = ((zcls z r = 1 ∧ zir (zfr z r 1) = true) ∧ ZW zG d 46 18 ls (zfr z r 1 :: st) (z) Q) := zw_getR rfl
theorem s46_18 {x0 x2 x3 x4 : Value} {a : Int32} : ZW zG d 46 18 [x0, .int a, x2, x3, x4] st z Q = ZW zG d 46 19 [x0, .int a, x2, x3, x4] (.int a :: st) z Q := zw_next (f := z_iload 1 19) rfl rfl
theorem s46_19 {ls : List Value}  : ZW zG d 46 19 ls (st) z Q = ZW zG d 46 20 ls ((.int (-1)) :: st) z Q := zw_push rfl
theorem s46_20 {ls : List Value}  : ZW zG d 46 20 ls (st) z Q = ZW zG d 46 21 ls ((.int (-1)) :: st) z Q := zw_push rfl
theorem s46_21 {ls : List Value} {w0 : Int32} {w1 : Int32} {w2 : Int32} {r : Nat} : ZW zG (d + 1) 46 21 ls (.int w2 :: .int w1 :: .int w0 :: .ref r :: st) z Q = (zcls z r = 3 ∧ zcs st = true ∧ ZC zG d 77 [.ref r, .int w0, .int w1, .int w2] z (zk zG (d + 1) 46 (none) 24 ls st Q)) := zc_V3 rfl (Nat.le_of_ble_eq_true rfl)
theorem s46_24 {ls : List Value} {w0 : Int32} : ZW zG (d + 1) 46 24 ls (.int w0 :: st) z Q = (zcs st = true ∧ ZC zG d 251 [.int w0] z (zk zG (d + 1) 46 (none) 27 ls st Q)) := zc_S1 rfl (Nat.le_of_ble_eq_true rfl)
theorem s46_27 {x0 x1 x2 x3 x4 : Value} {a : Int32} : ZW zG d 46 27 [x0, x1, x2, x3, x4] (.int a :: st) z Q = ZW zG d 46 28 [x0, zclr x1, .int a, x3, x4] st z Q := zw_next (f := z_istore 2 28) rfl rfl
theorem s46_28 {ls : List Value}  : ZW zG d 46 28 ls (st) z Q = ZW zG d 46 29 ls ((.int (-1)) :: st) z Q := zw_push rfl
theorem s46_29 {x0 x1 x2 x3 x4 : Value} {a : Int32} : ZW zG d 46 29 [x0, x1, x2, x3, x4] (.int a :: st) z Q = ZW zG d 46 30 [x0, x1, zclr x2, .int a, x4] st z Q := zw_next (f := z_istore 3 30) rfl rfl
theorem s46_30 {ls : List Value}  : ZW zG d 46 30 ls (st) z Q = ZW zG d 46 31 ls ((.int (nI 0)) :: st) z Q := zw_push rfl
theorem s46_31 {x0 x1 x2 x3 x4 : Value} {a : Int32} : ZW zG d 46 31 [x0, x1, x2, x3, x4] (.int a :: st) z Q = ZW zG d 46 33 [x0, x1, x2, zclr x3, .int a] st z Q := zw_next (f := z_istore 4 33) rfl rfl
theorem s46_33 {x0 x1 x2 x3 : Value} {a : Int32} : ZW zG d 46 33 [x0, x1, x2, x3, .int a] st z Q = ZW zG d 46 35 [x0, x1, x2, x3, .int a] (.int a :: st) z Q := zw_next (f := z_iload 4 35) rfl rfl
theorem s46_35 {x0 x1 x2 x3 x4 : Value} : ZW zG d 46 35 [x0, x1, x2, x3, x4] st z Q = (zir x0 = true ∧ ZW zG d 46 36 [x0, x1, x2, x3, x4] (x0 :: st) z Q) := zw_cond (f := z_aload 0 36) rfl rfl
theorem s46_36 {ls : List Value} {r : Nat} : ZW zG d 46 36 ls (.ref r :: st) z Q = ((zcls z r = 0 ∧ zir (zfr z r 1) = true) ∧ ZW zG d 46 39 ls (zfr z r 1 :: st) (z) Q) := zw_getR rfl
theorem s46_39 {ls : List Value} {r : Nat} : ZW zG d 46 39 ls (.ref r :: st) z Q = ((zcls z r = 1 ∧ zir (zfr z r 0) = true) ∧ ZW zG d 46 42 ls (zfr z r 0 :: st) (z) Q) := zw_getR rfl
theorem s46_42 {ls : List Value}  {r : Nat} : ZW zG (d + 1) 46 42 ls (.ref r :: st) z Q = (zcls z r = 2 ∧ zcs st = true ∧ ZC zG d 63 [.ref r] z (zk zG (d + 1) 46 (none) 45 ls st Q)) := zc_V0 rfl (Nat.le_of_ble_eq_true rfl)
theorem s46_45 {ls : List Value} {a b : Int32} : ZW zG d 46 45 ls (.int b :: .int a :: st) z Q = if b ≤ a then ZW zG d 46 139 ls st z Q else ZW zG d 46 48 ls st z Q := zw_icge rfl
theorem s46_48 {x0 x1 x2 x3 x4 : Value} : ZW zG d 46 48 [x0, x1, x2, x3, x4] st z Q = (zir x0 = true ∧ ZW zG d 46 49 [x0, x1, x2, x3, x4] (x0 :: st) z Q) := zw_cond (f := z_aload 0 49) rfl rfl
theorem s46_49 {ls : List Value} {r : Nat} : ZW zG d 46 49 ls (.ref r :: st) z Q = ((zcls z r = 0 ∧ zir (zfr z r 1) = true) ∧ ZW zG d 46 52 ls (zfr z r 1 :: st) (z) Q) := zw_getR rfl
theorem s46_52 {ls : List Value} {r : Nat} : ZW zG d 46 52 ls (.ref r :: st) z Q = ((zcls z r = 1 ∧ zir (zfr z r 1) = true) ∧ ZW zG d 46 55 ls (zfr z r 1 :: st) (z) Q) := zw_getR rfl
theorem s46_55 {x0 x2 x3 x4 : Value} {a : Int32} : ZW zG d 46 55 [x0, .int a, x2, x3, x4] st z Q = ZW zG d 46 56 [x0, .int a, x2, x3, x4] (.int a :: st) z Q := zw_next (f := z_iload 1 56) rfl rfl
theorem s46_56 {x0 x1 x2 x3 : Value} {a : Int32} : ZW zG d 46 56 [x0, x1, x2, x3, .int a] st z Q = ZW zG d 46 58 [x0, x1, x2, x3, .int a] (.int a :: st) z Q := zw_next (f := z_iload 4 58) rfl rfl
theorem s46_58 {ls : List Value} {w0 : Int32} {w1 : Int32} {r : Nat} : ZW zG (d + 1) 46 58 ls (.int w1 :: .int w0 :: .ref r :: st) z Q = (zcls z r = 3 ∧ zcs st = true ∧ ZC zG d 68 [.ref r, .int w0, .int w1] z (zk zG (d + 1) 46 (none) 61 ls st Q)) := zc_V2 rfl (Nat.le_of_ble_eq_true rfl)
theorem s46_61 {ls : List Value} {a : Int32} : ZW zG d 46 61 ls (.int a :: st) z Q = if a = 0 then ZW zG d 46 133 ls st z Q else ZW zG d 46 64 ls st z Q := zw_ifeq rfl
theorem s46_64 {x0 x1 x2 x3 x4 : Value} : ZW zG d 46 64 [x0, x1, x2, x3, x4] st z Q = (zir x0 = true ∧ ZW zG d 46 65 [x0, x1, x2, x3, x4] (x0 :: st) z Q) := zw_cond (f := z_aload 0 65) rfl rfl
theorem s46_65 {ls : List Value} {r : Nat} : ZW zG d 46 65 ls (.ref r :: st) z Q = ((zcls z r = 0 ∧ zir (zfr z r 1) = true) ∧ ZW zG d 46 68 ls (zfr z r 1 :: st) (z) Q) := zw_getR rfl
theorem s46_68 {ls : List Value} {r : Nat} : ZW zG d 46 68 ls (.ref r :: st) z Q = ((zcls z r = 1 ∧ zir (zfr z r 1) = true) ∧ ZW zG d 46 71 ls (zfr z r 1 :: st) (z) Q) := zw_getR rfl
theorem s46_71 {x0 x2 x3 x4 : Value} {a : Int32} : ZW zG d 46 71 [x0, .int a, x2, x3, x4] st z Q = ZW zG d 46 72 [x0, .int a, x2, x3, x4] (.int a :: st) z Q := zw_next (f := z_iload 1 72) rfl rfl
theorem s46_72 {x0 x1 x2 x3 : Value} {a : Int32} : ZW zG d 46 72 [x0, x1, x2, x3, .int a] st z Q = ZW zG d 46 74 [x0, x1, x2, x3, .int a] (.int a :: st) z Q := zw_next (f := z_iload 4 74) rfl rfl
theorem s46_74 {ls : List Value} {w0 : Int32} {w1 : Int32} {r : Nat} : ZW zG (d + 1) 46 74 ls (.int w1 :: .int w0 :: .ref r :: st) z Q = (zcls z r = 3 ∧ zcs st = true ∧ ZC zG d 75 [.ref r, .int w0, .int w1] z (zk zG (d + 1) 46 (none) 77 ls st Q)) := zc_V2 rfl (Nat.le_of_ble_eq_true rfl)
theorem s46_77 {ls : List Value}  : ZW zG d 46 77 ls (st) z Q = ZW zG d 46 78 ls ((.int (-1)) :: st) z Q := zw_push rfl
theorem s46_78 {ls : List Value} {a b : Int32} : ZW zG d 46 78 ls (.int b :: .int a :: st) z Q = if ¬ a = b then ZW zG d 46 133 ls st z Q else ZW zG d 46 81 ls st z Q := zw_icne rfl
theorem s46_81 {x0 x1 x2 x3 x4 : Value} : ZW zG d 46 81 [x0, x1, x2, x3, x4] st z Q = (zir x0 = true ∧ ZW zG d 46 82 [x0, x1, x2, x3, x4] (x0 :: st) z Q) := zw_cond (f := z_aload 0 82) rfl rfl
theorem s46_82 {ls : List Value} {r : Nat} : ZW zG d 46 82 ls (.ref r :: st) z Q = ((zcls z r = 0 ∧ zir (zfr z r 1) = true) ∧ ZW zG d 46 85 ls (zfr z r 1 :: st) (z) Q) := zw_getR rfl
theorem s46_85 {ls : List Value} {r : Nat} : ZW zG d 46 85 ls (.ref r :: st) z Q = ((zcls z r = 1 ∧ zir (zfr z r 1) = true) ∧ ZW zG d 46 88 ls (zfr z r 1 :: st) (z) Q) := zw_getR rfl
theorem s46_88 {x0 x2 x3 x4 : Value} {a : Int32} : ZW zG d 46 88 [x0, .int a, x2, x3, x4] st z Q = ZW zG d 46 89 [x0, .int a, x2, x3, x4] (.int a :: st) z Q := zw_next (f := z_iload 1 89) rfl rfl
theorem s46_89 {x0 x2 x3 x4 : Value} {a : Int32} : ZW zG d 46 89 [x0, .int a, x2, x3, x4] st z Q = ZW zG d 46 90 [x0, .int a, x2, x3, x4] (.int a :: st) z Q := zw_next (f := z_iload 1 90) rfl rfl
theorem s46_90 {x0 x1 x2 x3 : Value} {a : Int32} : ZW zG d 46 90 [x0, x1, x2, x3, .int a] st z Q = ZW zG d 46 92 [x0, x1, x2, x3, .int a] (.int a :: st) z Q := zw_next (f := z_iload 4 92) rfl rfl
theorem s46_92 {ls : List Value} {w0 : Int32} {w1 : Int32} {w2 : Int32} {r : Nat} : ZW zG (d + 1) 46 92 ls (.int w2 :: .int w1 :: .int w0 :: .ref r :: st) z Q = (zcls z r = 3 ∧ zcs st = true ∧ ZC zG d 77 [.ref r, .int w0, .int w1, .int w2] z (zk zG (d + 1) 46 (none) 95 ls st Q)) := zc_V3 rfl (Nat.le_of_ble_eq_true rfl)
theorem s46_95 {ls : List Value} {w0 : Int32} : ZW zG (d + 1) 46 95 ls (.int w0 :: st) z Q = (zcs st = true ∧ ZC zG d 251 [.int w0] z (zk zG (d + 1) 46 (none) 98 ls st Q)) := zc_S1 rfl (Nat.le_of_ble_eq_true rfl)
theorem s46_98 {x0 x1 x3 x4 : Value} {a : Int32} : ZW zG d 46 98 [x0, x1, .int a, x3, x4] st z Q = ZW zG d 46 99 [x0, x1, .int a, x3, x4] (.int a :: st) z Q := zw_next (f := z_iload 2 99) rfl rfl
theorem s46_99 {ls : List Value} {a b : Int32} : ZW zG d 46 99 ls (.int b :: .int a :: st) z Q = if a = b then ZW zG d 46 105 ls st z Q else ZW zG d 46 102 ls st z Q := zw_iceq rfl
theorem s46_102 {ls : List Value}  : ZW zG d 46 102 ls (st) z Q = ZW zG d 46 133 ls st z Q := zw_goto rfl
theorem s46_105 {x0 x1 x2 x4 : Value} {a : Int32} : ZW zG d 46 105 [x0, x1, x2, .int a, x4] st z Q = ZW zG d 46 106 [x0, x1, x2, .int a, x4] (.int a :: st) z Q := zw_next (f := z_iload 3 106) rfl rfl
theorem s46_106 {ls : List Value}  : ZW zG d 46 106 ls (st) z Q = ZW zG d 46 107 ls ((.int (-1)) :: st) z Q := zw_push rfl
theorem s46_107 {ls : List Value} {a b : Int32} : ZW zG d 46 107 ls (.int b :: .int a :: st) z Q = if a = b then ZW zG d 46 130 ls st z Q else ZW zG d 46 110 ls st z Q := zw_iceq rfl
theorem s46_110 {x0 x1 x2 x3 x4 : Value} : ZW zG d 46 110 [x0, x1, x2, x3, x4] st z Q = (zir x0 = true ∧ ZW zG d 46 111 [x0, x1, x2, x3, x4] (x0 :: st) z Q) := zw_cond (f := z_aload 0 111) rfl rfl
theorem s46_111 {x0 x1 x2 x3 : Value} {a : Int32} : ZW zG d 46 111 [x0, x1, x2, x3, .int a] st z Q = ZW zG d 46 113 [x0, x1, x2, x3, .int a] (.int a :: st) z Q := zw_next (f := z_iload 4 113) rfl rfl
theorem s46_113 {ls : List Value} {w0 : Int32} {r : Nat} : ZW zG (d + 1) 46 113 ls (.int w0 :: .ref r :: st) z Q = (zcls z r = 0 ∧ zcs st = true ∧ ZC zG d 17 [.ref r, .int w0] z (zk zG (d + 1) 46 (none) 116 ls st Q)) := zc_V1 rfl (Nat.le_of_ble_eq_true rfl)
theorem s46_116 {ls : List Value} {r : Nat} : ZW zG d 46 116 ls (.ref r :: st) z Q = ((zcls z r = 21) ∧ ZW zG d 46 119 ls (.int (zfi z r 2) :: st) (z) Q) := zw_getI rfl
theorem s46_119 {x0 x1 x2 x3 x4 : Value} : ZW zG d 46 119 [x0, x1, x2, x3, x4] st z Q = (zir x0 = true ∧ ZW zG d 46 120 [x0, x1, x2, x3, x4] (x0 :: st) z Q) := zw_cond (f := z_aload 0 120) rfl rfl
theorem s46_120 {x0 x1 x2 x4 : Value} {a : Int32} : ZW zG d 46 120 [x0, x1, x2, .int a, x4] st z Q = ZW zG d 46 121 [x0, x1, x2, .int a, x4] (.int a :: st) z Q := zw_next (f := z_iload 3 121) rfl rfl
theorem s46_121 {ls : List Value} {w0 : Int32} {r : Nat} : ZW zG (d + 1) 46 121 ls (.int w0 :: .ref r :: st) z Q = (zcls z r = 0 ∧ zcs st = true ∧ ZC zG d 17 [.ref r, .int w0] z (zk zG (d + 1) 46 (none) 124 ls st Q)) := zc_V1 rfl (Nat.le_of_ble_eq_true rfl)
theorem s46_124 {ls : List Value} {r : Nat} : ZW zG d 46 124 ls (.ref r :: st) z Q = ((zcls z r = 21) ∧ ZW zG d 46 127 ls (.int (zfi z r 2) :: st) (z) Q) := zw_getI rfl
theorem s46_127 {ls : List Value} {a b : Int32} : ZW zG d 46 127 ls (.int b :: .int a :: st) z Q = if b ≤ a then ZW zG d 46 133 ls st z Q else ZW zG d 46 130 ls st z Q := zw_icge rfl
theorem s46_130 {x0 x1 x2 x3 : Value} {a : Int32} : ZW zG d 46 130 [x0, x1, x2, x3, .int a] st z Q = ZW zG d 46 132 [x0, x1, x2, x3, .int a] (.int a :: st) z Q := zw_next (f := z_iload 4 132) rfl rfl
theorem s46_132 {x0 x1 x2 x3 x4 : Value} {a : Int32} : ZW zG d 46 132 [x0, x1, x2, x3, x4] (.int a :: st) z Q = ZW zG d 46 133 [x0, x1, zclr x2, .int a, x4] st z Q := zw_next (f := z_istore 3 133) rfl rfl
theorem s46_133 {x0 x1 x2 x3 : Value} {a : Int32} : ZW zG d 46 133 [x0, x1, x2, x3, .int a] st z Q = ZW zG d 46 136 [x0, x1, x2, zclr x3, .int (a + (nI 1))] st z Q := zw_next (f := z_iinc 4 (nI 1) 136) rfl rfl
theorem s46_136 {ls : List Value}  : ZW zG d 46 136 ls (st) z Q = ZW zG d 46 33 ls st z Q := zw_goto rfl
theorem s46_139 {x0 x1 x2 x4 : Value} {a : Int32} : ZW zG d 46 139 [x0, x1, x2, .int a, x4] st z Q = ZW zG d 46 140 [x0, x1, x2, .int a, x4] (.int a :: st) z Q := zw_next (f := z_iload 3 140) rfl rfl
theorem s46_140 {ls : List Value} {a : Int32} : ZW zG d 46 140 ls ([.int a]) z Q = Q (.inl (some (.int a))) z := zw_reti rfl
/-- X0_tie (II)I -/
theorem e47 {r0 : Nat} {v0 : Int32} {v1 : Int32} : ZC zG d 47 [.ref r0, .int v0, .int v1] z Q = ZW zG d 47 0 [.ref r0, .int v0, .int v1] [] z Q := rfl
theorem s47_0 {x0 x1 x2 : Value} : ZW zG d 47 0 [x0, x1, x2] st z Q = (zir x0 = true ∧ ZW zG d 47 1 [x0, x1, x2] (x0 :: st) z Q) := zw_cond (f := z_aload 0 1) rfl rfl
theorem s47_1 {x0 x2 : Value} {a : Int32} : ZW zG d 47 1 [x0, .int a, x2] st z Q = ZW zG d 47 2 [x0, .int a, x2] (.int a :: st) z Q := zw_next (f := z_iload 1 2) rfl rfl
theorem s47_2 {x0 x1 : Value} {a : Int32} : ZW zG d 47 2 [x0, x1, .int a] st z Q = ZW zG d 47 3 [x0, x1, .int a] (.int a :: st) z Q := zw_next (f := z_iload 2 3) rfl rfl
theorem s47_3 {ls : List Value} {w0 : Int32} {w1 : Int32} {r : Nat} : ZW zG (d + 1) 47 3 ls (.int w1 :: .int w0 :: .ref r :: st) z Q = (zcls z r = 0 ∧ zcs st = true ∧ ZC zG d 13 [.ref r, .int w0, .int w1] z (zk zG (d + 1) 47 (none) 6 ls st Q)) := zc_V2 rfl (Nat.le_of_ble_eq_true rfl)
theorem s47_6 {ls : List Value} {a : Int32} : ZW zG d 47 6 ls (.int a :: st) z Q = if ¬ a = 0 then ZW zG d 47 12 ls st z Q else ZW zG d 47 9 ls st z Q := zw_ifne rfl
theorem s47_9 {ls : List Value}  : ZW zG d 47 9 ls (st) z Q = ZW zG d 47 11 ls ((.int (-2)) :: st) z Q := zw_push rfl
theorem s47_11 {ls : List Value} {a : Int32} : ZW zG d 47 11 ls ([.int a]) z Q = Q (.inl (some (.int a))) z := zw_reti rfl
theorem s47_12 {x0 x1 x2 : Value} : ZW zG d 47 12 [x0, x1, x2] st z Q = (zir x0 = true ∧ ZW zG d 47 13 [x0, x1, x2] (x0 :: st) z Q) := zw_cond (f := z_aload 0 13) rfl rfl
theorem s47_13 {ls : List Value} {r : Nat} : ZW zG d 47 13 ls (.ref r :: st) z Q = ((zcls z r = 0 ∧ zir (zfr z r 1) = true) ∧ ZW zG d 47 16 ls (zfr z r 1 :: st) (z) Q) := zw_getR rfl
theorem s47_16 {ls : List Value} {r : Nat} : ZW zG d 47 16 ls (.ref r :: st) z Q = ((zcls z r = 1 ∧ zir (zfr z r 1) = true) ∧ ZW zG d 47 19 ls (zfr z r 1 :: st) (z) Q) := zw_getR rfl
theorem s47_19 {x0 x2 : Value} {a : Int32} : ZW zG d 47 19 [x0, .int a, x2] st z Q = ZW zG d 47 20 [x0, .int a, x2] (.int a :: st) z Q := zw_next (f := z_iload 1 20) rfl rfl
theorem s47_20 {x0 x1 : Value} {a : Int32} : ZW zG d 47 20 [x0, x1, .int a] st z Q = ZW zG d 47 21 [x0, x1, .int a] (.int a :: st) z Q := zw_next (f := z_iload 2 21) rfl rfl
theorem s47_21 {ls : List Value} {w0 : Int32} {w1 : Int32} {r : Nat} : ZW zG (d + 1) 47 21 ls (.int w1 :: .int w0 :: .ref r :: st) z Q = (zcls z r = 3 ∧ zcs st = true ∧ ZC zG d 68 [.ref r, .int w0, .int w1] z (zk zG (d + 1) 47 (none) 24 ls st Q)) := zc_V2 rfl (Nat.le_of_ble_eq_true rfl)
theorem s47_24 {ls : List Value} {a : Int32} : ZW zG d 47 24 ls (.int a :: st) z Q = if ¬ a = 0 then ZW zG d 47 29 ls st z Q else ZW zG d 47 27 ls st z Q := zw_ifne rfl
theorem s47_27 {ls : List Value}  : ZW zG d 47 27 ls (st) z Q = ZW zG d 47 28 ls ((.int (-1)) :: st) z Q := zw_push rfl
theorem s47_28 {ls : List Value} {a : Int32} : ZW zG d 47 28 ls ([.int a]) z Q = Q (.inl (some (.int a))) z := zw_reti rfl
theorem s47_29 {x0 x1 x2 : Value} : ZW zG d 47 29 [x0, x1, x2] st z Q = (zir x0 = true ∧ ZW zG d 47 30 [x0, x1, x2] (x0 :: st) z Q) := zw_cond (f := z_aload 0 30) rfl rfl
theorem s47_30 {ls : List Value} {r : Nat} : ZW zG d 47 30 ls (.ref r :: st) z Q = ((zcls z r = 0 ∧ zir (zfr z r 1) = true) ∧ ZW zG d 47 33 ls (zfr z r 1 :: st) (z) Q) := zw_getR rfl
theorem s47_33 {ls : List Value} {r : Nat} : ZW zG d 47 33 ls (.ref r :: st) z Q = ((zcls z r = 1 ∧ zir (zfr z r 1) = true) ∧ ZW zG d 47 36 ls (zfr z r 1 :: st) (z) Q) := zw_getR rfl
theorem s47_36 {x0 x2 : Value} {a : Int32} : ZW zG d 47 36 [x0, .int a, x2] st z Q = ZW zG d 47 37 [x0, .int a, x2] (.int a :: st) z Q := zw_next (f := z_iload 1 37) rfl rfl
theorem s47_37 {x0 x2 : Value} {a : Int32} : ZW zG d 47 37 [x0, .int a, x2] st z Q = ZW zG d 47 38 [x0, .int a, x2] (.int a :: st) z Q := zw_next (f := z_iload 1 38) rfl rfl
theorem s47_38 {x0 x1 : Value} {a : Int32} : ZW zG d 47 38 [x0, x1, .int a] st z Q = ZW zG d 47 39 [x0, x1, .int a] (.int a :: st) z Q := zw_next (f := z_iload 2 39) rfl rfl
theorem s47_39 {ls : List Value} {w0 : Int32} {w1 : Int32} {w2 : Int32} {r : Nat} : ZW zG (d + 1) 47 39 ls (.int w2 :: .int w1 :: .int w0 :: .ref r :: st) z Q = (zcls z r = 3 ∧ zcs st = true ∧ ZC zG d 77 [.ref r, .int w0, .int w1, .int w2] z (zk zG (d + 1) 47 (none) 42 ls st Q)) := zc_V3 rfl (Nat.le_of_ble_eq_true rfl)
theorem s47_42 {x0 x1 : Value} {a : Int32} : ZW zG d 47 42 [x0, x1, .int a] st z Q = ZW zG d 47 43 [x0, x1, .int a] (.int a :: st) z Q := zw_next (f := z_iload 2 43) rfl rfl
theorem s47_43 {ls : List Value} {w0 : Int32} {w1 : Int32} : ZW zG (d + 1) 47 43 ls (.int w1 :: .int w0 :: st) z Q = (zcs st = true ∧ ZC zG d 18 [.int w0, .int w1] z (zk zG (d + 1) 47 (none) 46 ls st Q)) := zc_S2 rfl (Nat.le_of_ble_eq_true rfl)
theorem s47_46 {ls : List Value} {a : Int32} : ZW zG d 47 46 ls (.int a :: st) z Q = if a = 0 then ZW zG d 47 53 ls st z Q else ZW zG d 47 49 ls st z Q := zw_ifeq rfl
theorem s47_49 {ls : List Value}  : ZW zG d 47 49 ls (st) z Q = ZW zG d 47 50 ls ((.int (nI 0)) :: st) z Q := zw_push rfl
theorem s47_50 {ls : List Value}  : ZW zG d 47 50 ls (st) z Q = ZW zG d 47 54 ls st z Q := zw_goto rfl
theorem s47_53 {ls : List Value}  : ZW zG d 47 53 ls (st) z Q = ZW zG d 47 54 ls ((.int (nI 1)) :: st) z Q := zw_push rfl
theorem s47_54 {ls : List Value} {a : Int32} : ZW zG d 47 54 ls ([.int a]) z Q = Q (.inl (some (.int a))) z := zw_reti rfl
/-- X0_rings ()I -/
theorem e48 {r0 : Nat} : ZC zG d 48 [.ref r0] z Q = ZW zG d 48 0 [.ref r0, zdum, zdum, zdum] [] z Q := rfl
theorem s48_0 {ls : List Value}  : ZW zG d 48 0 ls (st) z Q = ZW zG d 48 1 ls ((.int (nI 0)) :: st) z Q := zw_push rfl
theorem s48_1 {x0 x1 x2 x3 : Value} {a : Int32} : ZW zG d 48 1 [x0, x1, x2, x3] (.int a :: st) z Q = ZW zG d 48 2 [zclr x0, .int a, x2, x3] st z Q := zw_next (f := z_istore 1 2) rfl rfl
theorem s48_2 {ls : List Value}  : ZW zG d 48 2 ls (st) z Q = ZW zG d 48 3 ls ((.int (nI 0)) :: st) z Q := zw_push rfl
theorem s48_3 {x0 x1 x2 x3 : Value} {a : Int32} : ZW zG d 48 3 [x0, x1, x2, x3] (.int a :: st) z Q = ZW zG d 48 4 [x0, zclr x1, .int a, x3] st z Q := zw_next (f := z_istore 2 4) rfl rfl
theorem s48_4 {x0 x1 x3 : Value} {a : Int32} : ZW zG d 48 4 [x0, x1, .int a, x3] st z Q = ZW zG d 48 5 [x0, x1, .int a, x3] (.int a :: st) z Q := zw_next (f := z_iload 2 5) rfl rfl
theorem s48_5 {x0 x1 x2 x3 : Value} : ZW zG d 48 5 [x0, x1, x2, x3] st z Q = (zir x0 = true ∧ ZW zG d 48 6 [x0, x1, x2, x3] (x0 :: st) z Q) := zw_cond (f := z_aload 0 6) rfl rfl
theorem s48_6 {ls : List Value} {r : Nat} : ZW zG d 48 6 ls (.ref r :: st) z Q = ((zcls z r = 0 ∧ zir (zfr z r 1) = true) ∧ ZW zG d 48 9 ls (zfr z r 1 :: st) (z) Q) := zw_getR rfl
theorem s48_9 {ls : List Value} {r : Nat} : ZW zG d 48 9 ls (.ref r :: st) z Q = ((zcls z r = 1 ∧ zir (zfr z r 0) = true) ∧ ZW zG d 48 12 ls (zfr z r 0 :: st) (z) Q) := zw_getR rfl
theorem s48_12 {ls : List Value}  {r : Nat} : ZW zG (d + 1) 48 12 ls (.ref r :: st) z Q = (zcls z r = 2 ∧ zcs st = true ∧ ZC zG d 63 [.ref r] z (zk zG (d + 1) 48 (none) 15 ls st Q)) := zc_V0 rfl (Nat.le_of_ble_eq_true rfl)
theorem s48_15 {ls : List Value} {a b : Int32} : ZW zG d 48 15 ls (.int b :: .int a :: st) z Q = if b ≤ a then ZW zG d 48 50 ls st z Q else ZW zG d 48 18 ls st z Q := zw_icge rfl
theorem s48_18 {x0 x1 x2 x3 : Value} : ZW zG d 48 18 [x0, x1, x2, x3] st z Q = (zir x0 = true ∧ ZW zG d 48 19 [x0, x1, x2, x3] (x0 :: st) z Q) := zw_cond (f := z_aload 0 19) rfl rfl
theorem s48_19 {x0 x1 x3 : Value} {a : Int32} : ZW zG d 48 19 [x0, x1, .int a, x3] st z Q = ZW zG d 48 20 [x0, x1, .int a, x3] (.int a :: st) z Q := zw_next (f := z_iload 2 20) rfl rfl
theorem s48_20 {ls : List Value} {w0 : Int32} {r : Nat} : ZW zG (d + 1) 48 20 ls (.int w0 :: .ref r :: st) z Q = (zcls z r = 0 ∧ zcs st = true ∧ ZC zG d 49 [.ref r, .int w0] z (zk zG (d + 1) 48 (none) 23 ls st Q)) := zc_V1 rfl (Nat.le_of_ble_eq_true rfl)
theorem s48_23 {x0 x1 x2 x3 : Value} {a : Int32} : ZW zG d 48 23 [x0, x1, x2, x3] (.int a :: st) z Q = ZW zG d 48 24 [x0, x1, zclr x2, .int a] st z Q := zw_next (f := z_istore 3 24) rfl rfl
theorem s48_24 {x0 x2 x3 : Value} {a : Int32} : ZW zG d 48 24 [x0, .int a, x2, x3] st z Q = ZW zG d 48 25 [x0, .int a, x2, x3] (.int a :: st) z Q := zw_next (f := z_iload 1 25) rfl rfl
theorem s48_25 {x0 x1 x2 : Value} {a : Int32} : ZW zG d 48 25 [x0, x1, x2, .int a] st z Q = ZW zG d 48 26 [x0, x1, x2, .int a] (.int a :: st) z Q := zw_next (f := z_iload 3 26) rfl rfl
theorem s48_26 {ls : List Value} {a : Int32} : ZW zG d 48 26 ls (.int a :: st) z Q = if a = 0 then ZW zG d 48 41 ls st z Q else ZW zG d 48 29 ls st z Q := zw_ifeq rfl
theorem s48_29 {x0 x1 x2 : Value} {a : Int32} : ZW zG d 48 29 [x0, x1, x2, .int a] st z Q = ZW zG d 48 30 [x0, x1, x2, .int a] (.int a :: st) z Q := zw_next (f := z_iload 3 30) rfl rfl
theorem s48_30 {ls : List Value} {w0 : Int32} : ZW zG (d + 1) 48 30 ls (.int w0 :: st) z Q = (zcs st = true ∧ ZC zG d 252 [.int w0] z (zk zG (d + 1) 48 (none) 33 ls st Q)) := zc_S1 rfl (Nat.le_of_ble_eq_true rfl)
theorem s48_33 {x0 x1 x3 : Value} {a : Int32} : ZW zG d 48 33 [x0, x1, .int a, x3] st z Q = ZW zG d 48 34 [x0, x1, .int a, x3] (.int a :: st) z Q := zw_next (f := z_iload 2 34) rfl rfl
theorem s48_34 {ls : List Value} {a b : Int32} : ZW zG d 48 34 ls (.int b :: .int a :: st) z Q = if ¬ a = b then ZW zG d 48 41 ls st z Q else ZW zG d 48 37 ls st z Q := zw_icne rfl
theorem s48_37 {ls : List Value}  : ZW zG d 48 37 ls (st) z Q = ZW zG d 48 38 ls ((.int (nI 1)) :: st) z Q := zw_push rfl
theorem s48_38 {ls : List Value}  : ZW zG d 48 38 ls (st) z Q = ZW zG d 48 42 ls st z Q := zw_goto rfl
theorem s48_41 {ls : List Value}  : ZW zG d 48 41 ls (st) z Q = ZW zG d 48 42 ls ((.int (nI 0)) :: st) z Q := zw_push rfl
theorem s48_42 {ls : List Value} {a b : Int32} : ZW zG d 48 42 ls (.int b :: .int a :: st) z Q = ZW zG d 48 43 ls (.int (a + b) :: st) z Q := zw_iadd rfl
theorem s48_43 {x0 x1 x2 x3 : Value} {a : Int32} : ZW zG d 48 43 [x0, x1, x2, x3] (.int a :: st) z Q = ZW zG d 48 44 [zclr x0, .int a, x2, x3] st z Q := zw_next (f := z_istore 1 44) rfl rfl
theorem s48_44 {x0 x1 x3 : Value} {a : Int32} : ZW zG d 48 44 [x0, x1, .int a, x3] st z Q = ZW zG d 48 47 [x0, zclr x1, .int (a + (nI 1)), x3] st z Q := zw_next (f := z_iinc 2 (nI 1) 47) rfl rfl
theorem s48_47 {ls : List Value}  : ZW zG d 48 47 ls (st) z Q = ZW zG d 48 4 ls st z Q := zw_goto rfl
theorem s48_50 {x0 x2 x3 : Value} {a : Int32} : ZW zG d 48 50 [x0, .int a, x2, x3] st z Q = ZW zG d 48 51 [x0, .int a, x2, x3] (.int a :: st) z Q := zw_next (f := z_iload 1 51) rfl rfl
theorem s48_51 {ls : List Value} {a : Int32} : ZW zG d 48 51 ls ([.int a]) z Q = Q (.inl (some (.int a))) z := zw_reti rfl
/-- X0_ringOf (I)I -/
theorem e49 {r0 : Nat} {v0 : Int32} : ZC zG d 49 [.ref r0, .int v0] z Q = ZW zG d 49 0 [.ref r0, .int v0, zdum, zdum] [] z Q := rfl
theorem s49_0 {x0 x1 x2 x3 : Value} : ZW zG d 49 0 [x0, x1, x2, x3] st z Q = (zir x0 = true ∧ ZW zG d 49 1 [x0, x1, x2, x3] (x0 :: st) z Q) := zw_cond (f := z_aload 0 1) rfl rfl
theorem s49_1 {x0 x2 x3 : Value} {a : Int32} : ZW zG d 49 1 [x0, .int a, x2, x3] st z Q = ZW zG d 49 2 [x0, .int a, x2, x3] (.int a :: st) z Q := zw_next (f := z_iload 1 2) rfl rfl
theorem s49_2 {ls : List Value} {w0 : Int32} {r : Nat} : ZW zG (d + 1) 49 2 ls (.int w0 :: .ref r :: st) z Q = (zcls z r = 0 ∧ zcs st = true ∧ ZC zG d 50 [.ref r, .int w0] z (zk zG (d + 1) 49 (none) 5 ls st Q)) := zc_V1 rfl (Nat.le_of_ble_eq_true rfl)
theorem s49_5 {x0 x1 x2 x3 : Value} {a : Int32} : ZW zG d 49 5 [x0, x1, x2, x3] (.int a :: st) z Q = ZW zG d 49 6 [x0, zclr x1, .int a, x3] st z Q := zw_next (f := z_istore 2 6) rfl rfl
theorem s49_6 {x0 x1 x3 : Value} {a : Int32} : ZW zG d 49 6 [x0, x1, .int a, x3] st z Q = ZW zG d 49 7 [x0, x1, .int a, x3] (.int a :: st) z Q := zw_next (f := z_iload 2 7) rfl rfl
theorem s49_7 {ls : List Value} {w0 : Int32} : ZW zG (d + 1) 49 7 ls (.int w0 :: st) z Q = (zcs st = true ∧ ZC zG d 251 [.int w0] z (zk zG (d + 1) 49 (none) 10 ls st Q)) := zc_S1 rfl (Nat.le_of_ble_eq_true rfl)
theorem s49_10 {ls : List Value}  : ZW zG d 49 10 ls (st) z Q = ZW zG d 49 11 ls ((.int (nI 2)) :: st) z Q := zw_push rfl
theorem s49_11 {ls : List Value} {a b : Int32} : ZW zG d 49 11 ls (.int b :: .int a :: st) z Q = if b ≤ a then ZW zG d 49 16 ls st z Q else ZW zG d 49 14 ls st z Q := zw_icge rfl
theorem s49_14 {ls : List Value}  : ZW zG d 49 14 ls (st) z Q = ZW zG d 49 15 ls ((.int (nI 0)) :: st) z Q := zw_push rfl
theorem s49_15 {ls : List Value} {a : Int32} : ZW zG d 49 15 ls ([.int a]) z Q = Q (.inl (some (.int a))) z := zw_reti rfl
theorem s49_16 {ls : List Value}  : ZW zG d 49 16 ls (st) z Q = ZW zG d 49 17 ls ((.int (nI 0)) :: st) z Q := zw_push rfl
theorem s49_17 {x0 x1 x2 x3 : Value} {a : Int32} : ZW zG d 49 17 [x0, x1, x2, x3] (.int a :: st) z Q = ZW zG d 49 18 [x0, x1, zclr x2, .int a] st z Q := zw_next (f := z_istore 3 18) rfl rfl
theorem s49_18 {x0 x1 x2 : Value} {a : Int32} : ZW zG d 49 18 [x0, x1, x2, .int a] st z Q = ZW zG d 49 19 [x0, x1, x2, .int a] (.int a :: st) z Q := zw_next (f := z_iload 3 19) rfl rfl
theorem s49_19 {x0 x1 x2 x3 : Value} : ZW zG d 49 19 [x0, x1, x2, x3] st z Q = (zir x0 = true ∧ ZW zG d 49 20 [x0, x1, x2, x3] (x0 :: st) z Q) := zw_cond (f := z_aload 0 20) rfl rfl
theorem s49_20 {ls : List Value} {r : Nat} : ZW zG d 49 20 ls (.ref r :: st) z Q = ((zcls z r = 0 ∧ zir (zfr z r 1) = true) ∧ ZW zG d 49 23 ls (zfr z r 1 :: st) (z) Q) := zw_getR rfl
theorem s49_23 {ls : List Value} {r : Nat} : ZW zG d 49 23 ls (.ref r :: st) z Q = ((zcls z r = 1 ∧ zir (zfr z r 0) = true) ∧ ZW zG d 49 26 ls (zfr z r 0 :: st) (z) Q) := zw_getR rfl
theorem s49_26 {ls : List Value}  {r : Nat} : ZW zG (d + 1) 49 26 ls (.ref r :: st) z Q = (zcls z r = 2 ∧ zcs st = true ∧ ZC zG d 63 [.ref r] z (zk zG (d + 1) 49 (none) 29 ls st Q)) := zc_V0 rfl (Nat.le_of_ble_eq_true rfl)
theorem s49_29 {ls : List Value} {a b : Int32} : ZW zG d 49 29 ls (.int b :: .int a :: st) z Q = if b ≤ a then ZW zG d 49 57 ls st z Q else ZW zG d 49 32 ls st z Q := zw_icge rfl
theorem s49_32 {x0 x1 x3 : Value} {a : Int32} : ZW zG d 49 32 [x0, x1, .int a, x3] st z Q = ZW zG d 49 33 [x0, x1, .int a, x3] (.int a :: st) z Q := zw_next (f := z_iload 2 33) rfl rfl
theorem s49_33 {x0 x1 x2 : Value} {a : Int32} : ZW zG d 49 33 [x0, x1, x2, .int a] st z Q = ZW zG d 49 34 [x0, x1, x2, .int a] (.int a :: st) z Q := zw_next (f := z_iload 3 34) rfl rfl
theorem s49_34 {ls : List Value} {w0 : Int32} {w1 : Int32} : ZW zG (d + 1) 49 34 ls (.int w1 :: .int w0 :: st) z Q = (zcs st = true ∧ ZC zG d 18 [.int w0, .int w1] z (zk zG (d + 1) 49 (none) 37 ls st Q)) := zc_S2 rfl (Nat.le_of_ble_eq_true rfl)
theorem s49_37 {ls : List Value} {a : Int32} : ZW zG d 49 37 ls (.int a :: st) z Q = if a = 0 then ZW zG d 49 51 ls st z Q else ZW zG d 49 40 ls st z Q := zw_ifeq rfl
theorem s49_40 {x0 x1 x2 x3 : Value} : ZW zG d 49 40 [x0, x1, x2, x3] st z Q = (zir x0 = true ∧ ZW zG d 49 41 [x0, x1, x2, x3] (x0 :: st) z Q) := zw_cond (f := z_aload 0 41) rfl rfl
theorem s49_41 {x0 x1 x2 : Value} {a : Int32} : ZW zG d 49 41 [x0, x1, x2, .int a] st z Q = ZW zG d 49 42 [x0, x1, x2, .int a] (.int a :: st) z Q := zw_next (f := z_iload 3 42) rfl rfl
theorem s49_42 {ls : List Value} {w0 : Int32} {r : Nat} : ZW zG (d + 1) 49 42 ls (.int w0 :: .ref r :: st) z Q = (zcls z r = 0 ∧ zcs st = true ∧ ZC zG d 50 [.ref r, .int w0] z (zk zG (d + 1) 49 (none) 45 ls st Q)) := zc_V1 rfl (Nat.le_of_ble_eq_true rfl)
theorem s49_45 {x0 x1 x3 : Value} {a : Int32} : ZW zG d 49 45 [x0, x1, .int a, x3] st z Q = ZW zG d 49 46 [x0, x1, .int a, x3] (.int a :: st) z Q := zw_next (f := z_iload 2 46) rfl rfl
theorem s49_46 {ls : List Value} {a b : Int32} : ZW zG d 49 46 ls (.int b :: .int a :: st) z Q = if a = b then ZW zG d 49 51 ls st z Q else ZW zG d 49 49 ls st z Q := zw_iceq rfl
theorem s49_49 {ls : List Value}  : ZW zG d 49 49 ls (st) z Q = ZW zG d 49 50 ls ((.int (nI 0)) :: st) z Q := zw_push rfl
theorem s49_50 {ls : List Value} {a : Int32} : ZW zG d 49 50 ls ([.int a]) z Q = Q (.inl (some (.int a))) z := zw_reti rfl
theorem s49_51 {x0 x1 x2 : Value} {a : Int32} : ZW zG d 49 51 [x0, x1, x2, .int a] st z Q = ZW zG d 49 54 [x0, x1, zclr x2, .int (a + (nI 1))] st z Q := zw_next (f := z_iinc 3 (nI 1) 54) rfl rfl
theorem s49_54 {ls : List Value}  : ZW zG d 49 54 ls (st) z Q = ZW zG d 49 18 ls st z Q := zw_goto rfl
theorem s49_57 {x0 x1 x3 : Value} {a : Int32} : ZW zG d 49 57 [x0, x1, .int a, x3] st z Q = ZW zG d 49 58 [x0, x1, .int a, x3] (.int a :: st) z Q := zw_next (f := z_iload 2 58) rfl rfl
theorem s49_58 {ls : List Value} {a : Int32} : ZW zG d 49 58 ls ([.int a]) z Q = Q (.inl (some (.int a))) z := zw_reti rfl
/-- X0_comesTo (I)I -/
theorem e50 {r0 : Nat} {v0 : Int32} : ZC zG d 50 [.ref r0, .int v0] z Q = ZW zG d 50 0 [.ref r0, .int v0, zdum, zdum, zdum] [] z Q := rfl
theorem s50_0 {ls : List Value}  : ZW zG d 50 0 ls (st) z Q = ZW zG d 50 1 ls ((.int (nI 1)) :: st) z Q := zw_push rfl
theorem s50_1 {x0 x2 x3 x4 : Value} {a : Int32} : ZW zG d 50 1 [x0, .int a, x2, x3, x4] st z Q = ZW zG d 50 2 [x0, .int a, x2, x3, x4] (.int a :: st) z Q := zw_next (f := z_iload 1 2) rfl rfl
theorem s50_2 {ls : List Value} {a b : Int32} : ZW zG d 50 2 ls (.int b :: .int a :: st) z Q = ZW zG d 50 3 ls (.int (a <<< (b &&& 31)) :: st) z Q := zw_ishl rfl
theorem s50_3 {x0 x1 x2 x3 x4 : Value} {a : Int32} : ZW zG d 50 3 [x0, x1, x2, x3, x4] (.int a :: st) z Q = ZW zG d 50 4 [x0, zclr x1, .int a, x3, x4] st z Q := zw_next (f := z_istore 2 4) rfl rfl
theorem s50_4 {ls : List Value}  : ZW zG d 50 4 ls (st) z Q = ZW zG d 50 5 ls ((.int (nI 0)) :: st) z Q := zw_push rfl
theorem s50_5 {x0 x1 x2 x3 x4 : Value} {a : Int32} : ZW zG d 50 5 [x0, x1, x2, x3, x4] (.int a :: st) z Q = ZW zG d 50 6 [x0, x1, zclr x2, .int a, x4] st z Q := zw_next (f := z_istore 3 6) rfl rfl
theorem s50_6 {x0 x1 x2 x4 : Value} {a : Int32} : ZW zG d 50 6 [x0, x1, x2, .int a, x4] st z Q = ZW zG d 50 7 [x0, x1, x2, .int a, x4] (.int a :: st) z Q := zw_next (f := z_iload 3 7) rfl rfl
theorem s50_7 {x0 x1 x3 x4 : Value} {a : Int32} : ZW zG d 50 7 [x0, x1, .int a, x3, x4] st z Q = ZW zG d 50 8 [x0, x1, .int a, x3, x4] (.int a :: st) z Q := zw_next (f := z_iload 2 8) rfl rfl
theorem s50_8 {ls : List Value} {a b : Int32} : ZW zG d 50 8 ls (.int b :: .int a :: st) z Q = if a = b then ZW zG d 50 58 ls st z Q else ZW zG d 50 11 ls st z Q := zw_iceq rfl
theorem s50_11 {x0 x1 x3 x4 : Value} {a : Int32} : ZW zG d 50 11 [x0, x1, .int a, x3, x4] st z Q = ZW zG d 50 12 [x0, x1, .int a, x3, x4] (.int a :: st) z Q := zw_next (f := z_iload 2 12) rfl rfl
theorem s50_12 {x0 x1 x2 x3 x4 : Value} {a : Int32} : ZW zG d 50 12 [x0, x1, x2, x3, x4] (.int a :: st) z Q = ZW zG d 50 13 [x0, x1, zclr x2, .int a, x4] st z Q := zw_next (f := z_istore 3 13) rfl rfl
theorem s50_13 {ls : List Value}  : ZW zG d 50 13 ls (st) z Q = ZW zG d 50 14 ls ((.int (nI 0)) :: st) z Q := zw_push rfl
theorem s50_14 {x0 x1 x2 x3 x4 : Value} {a : Int32} : ZW zG d 50 14 [x0, x1, x2, x3, x4] (.int a :: st) z Q = ZW zG d 50 16 [x0, x1, x2, zclr x3, .int a] st z Q := zw_next (f := z_istore 4 16) rfl rfl
theorem s50_16 {x0 x1 x2 x3 : Value} {a : Int32} : ZW zG d 50 16 [x0, x1, x2, x3, .int a] st z Q = ZW zG d 50 18 [x0, x1, x2, x3, .int a] (.int a :: st) z Q := zw_next (f := z_iload 4 18) rfl rfl
theorem s50_18 {x0 x1 x2 x3 x4 : Value} : ZW zG d 50 18 [x0, x1, x2, x3, x4] st z Q = (zir x0 = true ∧ ZW zG d 50 19 [x0, x1, x2, x3, x4] (x0 :: st) z Q) := zw_cond (f := z_aload 0 19) rfl rfl
theorem s50_19 {ls : List Value} {r : Nat} : ZW zG d 50 19 ls (.ref r :: st) z Q = ((zcls z r = 0 ∧ zir (zfr z r 1) = true) ∧ ZW zG d 50 22 ls (zfr z r 1 :: st) (z) Q) := zw_getR rfl
theorem s50_22 {ls : List Value} {r : Nat} : ZW zG d 50 22 ls (.ref r :: st) z Q = ((zcls z r = 1 ∧ zir (zfr z r 0) = true) ∧ ZW zG d 50 25 ls (zfr z r 0 :: st) (z) Q) := zw_getR rfl
theorem s50_25 {ls : List Value}  {r : Nat} : ZW zG (d + 1) 50 25 ls (.ref r :: st) z Q = (zcls z r = 2 ∧ zcs st = true ∧ ZC zG d 63 [.ref r] z (zk zG (d + 1) 50 (none) 28 ls st Q)) := zc_V0 rfl (Nat.le_of_ble_eq_true rfl)
theorem s50_28 {ls : List Value} {a b : Int32} : ZW zG d 50 28 ls (.int b :: .int a :: st) z Q = if b ≤ a then ZW zG d 50 55 ls st z Q else ZW zG d 50 31 ls st z Q := zw_icge rfl
theorem s50_31 {x0 x1 x2 x4 : Value} {a : Int32} : ZW zG d 50 31 [x0, x1, x2, .int a, x4] st z Q = ZW zG d 50 32 [x0, x1, x2, .int a, x4] (.int a :: st) z Q := zw_next (f := z_iload 3 32) rfl rfl
theorem s50_32 {x0 x1 x2 x3 : Value} {a : Int32} : ZW zG d 50 32 [x0, x1, x2, x3, .int a] st z Q = ZW zG d 50 34 [x0, x1, x2, x3, .int a] (.int a :: st) z Q := zw_next (f := z_iload 4 34) rfl rfl
theorem s50_34 {ls : List Value} {w0 : Int32} {w1 : Int32} : ZW zG (d + 1) 50 34 ls (.int w1 :: .int w0 :: st) z Q = (zcs st = true ∧ ZC zG d 18 [.int w0, .int w1] z (zk zG (d + 1) 50 (none) 37 ls st Q)) := zc_S2 rfl (Nat.le_of_ble_eq_true rfl)
theorem s50_37 {ls : List Value} {a : Int32} : ZW zG d 50 37 ls (.int a :: st) z Q = if a = 0 then ZW zG d 50 49 ls st z Q else ZW zG d 50 40 ls st z Q := zw_ifeq rfl
theorem s50_40 {x0 x1 x3 x4 : Value} {a : Int32} : ZW zG d 50 40 [x0, x1, .int a, x3, x4] st z Q = ZW zG d 50 41 [x0, x1, .int a, x3, x4] (.int a :: st) z Q := zw_next (f := z_iload 2 41) rfl rfl
theorem s50_41 {x0 x1 x2 x3 x4 : Value} : ZW zG d 50 41 [x0, x1, x2, x3, x4] st z Q = (zir x0 = true ∧ ZW zG d 50 42 [x0, x1, x2, x3, x4] (x0 :: st) z Q) := zw_cond (f := z_aload 0 42) rfl rfl
theorem s50_42 {x0 x1 x2 x3 : Value} {a : Int32} : ZW zG d 50 42 [x0, x1, x2, x3, .int a] st z Q = ZW zG d 50 44 [x0, x1, x2, x3, .int a] (.int a :: st) z Q := zw_next (f := z_iload 4 44) rfl rfl
theorem s50_44 {ls : List Value} {w0 : Int32} {r : Nat} : ZW zG (d + 1) 50 44 ls (.int w0 :: .ref r :: st) z Q = (zcls z r = 0 ∧ zcs st = true ∧ ZC zG d 51 [.ref r, .int w0] z (zk zG (d + 1) 50 (none) 47 ls st Q)) := zc_V1 rfl (Nat.le_of_ble_eq_true rfl)
theorem s50_47 {ls : List Value} {a b : Int32} : ZW zG d 50 47 ls (.int b :: .int a :: st) z Q = ZW zG d 50 48 ls (.int (a ||| b) :: st) z Q := zw_ior rfl
theorem s50_48 {x0 x1 x2 x3 x4 : Value} {a : Int32} : ZW zG d 50 48 [x0, x1, x2, x3, x4] (.int a :: st) z Q = ZW zG d 50 49 [x0, zclr x1, .int a, x3, x4] st z Q := zw_next (f := z_istore 2 49) rfl rfl
theorem s50_49 {x0 x1 x2 x3 : Value} {a : Int32} : ZW zG d 50 49 [x0, x1, x2, x3, .int a] st z Q = ZW zG d 50 52 [x0, x1, x2, zclr x3, .int (a + (nI 1))] st z Q := zw_next (f := z_iinc 4 (nI 1) 52) rfl rfl
theorem s50_52 {ls : List Value}  : ZW zG d 50 52 ls (st) z Q = ZW zG d 50 16 ls st z Q := zw_goto rfl
theorem s50_55 {ls : List Value}  : ZW zG d 50 55 ls (st) z Q = ZW zG d 50 6 ls st z Q := zw_goto rfl
theorem s50_58 {x0 x1 x3 x4 : Value} {a : Int32} : ZW zG d 50 58 [x0, x1, .int a, x3, x4] st z Q = ZW zG d 50 59 [x0, x1, .int a, x3, x4] (.int a :: st) z Q := zw_next (f := z_iload 2 59) rfl rfl
theorem s50_59 {ls : List Value} {a : Int32} : ZW zG d 50 59 ls ([.int a]) z Q = Q (.inl (some (.int a))) z := zw_reti rfl
/-- X0_calledBy (I)I -/
theorem e51 {r0 : Nat} {v0 : Int32} : ZC zG d 51 [.ref r0, .int v0] z Q = ZW zG d 51 0 [.ref r0, .int v0, zdum, zdum] [] z Q := rfl
theorem s51_0 {ls : List Value}  : ZW zG d 51 0 ls (st) z Q = ZW zG d 51 1 ls ((.int (nI 0)) :: st) z Q := zw_push rfl
theorem s51_1 {x0 x1 x2 x3 : Value} {a : Int32} : ZW zG d 51 1 [x0, x1, x2, x3] (.int a :: st) z Q = ZW zG d 51 2 [x0, zclr x1, .int a, x3] st z Q := zw_next (f := z_istore 2 2) rfl rfl
theorem s51_2 {ls : List Value}  : ZW zG d 51 2 ls (st) z Q = ZW zG d 51 3 ls ((.int (nI 0)) :: st) z Q := zw_push rfl
theorem s51_3 {x0 x1 x2 x3 : Value} {a : Int32} : ZW zG d 51 3 [x0, x1, x2, x3] (.int a :: st) z Q = ZW zG d 51 4 [x0, x1, zclr x2, .int a] st z Q := zw_next (f := z_istore 3 4) rfl rfl
theorem s51_4 {x0 x1 x2 : Value} {a : Int32} : ZW zG d 51 4 [x0, x1, x2, .int a] st z Q = ZW zG d 51 5 [x0, x1, x2, .int a] (.int a :: st) z Q := zw_next (f := z_iload 3 5) rfl rfl
theorem s51_5 {x0 x1 x2 x3 : Value} : ZW zG d 51 5 [x0, x1, x2, x3] st z Q = (zir x0 = true ∧ ZW zG d 51 6 [x0, x1, x2, x3] (x0 :: st) z Q) := zw_cond (f := z_aload 0 6) rfl rfl
theorem s51_6 {ls : List Value} {r : Nat} : ZW zG d 51 6 ls (.ref r :: st) z Q = ((zcls z r = 0 ∧ zir (zfr z r 1) = true) ∧ ZW zG d 51 9 ls (zfr z r 1 :: st) (z) Q) := zw_getR rfl
theorem s51_9 {ls : List Value} {r : Nat} : ZW zG d 51 9 ls (.ref r :: st) z Q = ((zcls z r = 1 ∧ zir (zfr z r 2) = true) ∧ ZW zG d 51 12 ls (zfr z r 2 :: st) (z) Q) := zw_getR rfl
theorem s51_12 {ls : List Value} {r : Nat} : ZW zG d 51 12 ls (.ref r :: st) z Q = ((zcs st = true ∧ zcls z r = 90) ∧ ZW zG d 51 17 ls (.int (nI (zls z r).length) :: st) (z) Q) := zw_lsize rfl
theorem s51_17 {ls : List Value} {a b : Int32} : ZW zG d 51 17 ls (.int b :: .int a :: st) z Q = if b ≤ a then ZW zG d 51 95 ls st z Q else ZW zG d 51 20 ls st z Q := zw_icge rfl
theorem s51_20 {x0 x1 x2 x3 : Value} : ZW zG d 51 20 [x0, x1, x2, x3] st z Q = (zir x0 = true ∧ ZW zG d 51 21 [x0, x1, x2, x3] (x0 :: st) z Q) := zw_cond (f := z_aload 0 21) rfl rfl
theorem s51_21 {ls : List Value} {r : Nat} : ZW zG d 51 21 ls (.ref r :: st) z Q = ((zcls z r = 0 ∧ zir (zfr z r 1) = true) ∧ ZW zG d 51 24 ls (zfr z r 1 :: st) (z) Q) := zw_getR rfl
theorem s51_24 {ls : List Value} {r : Nat} : ZW zG d 51 24 ls (.ref r :: st) z Q = ((zcls z r = 1 ∧ zir (zfr z r 2) = true) ∧ ZW zG d 51 27 ls (zfr z r 2 :: st) (z) Q) := zw_getR rfl
theorem s51_27 {x0 x1 x2 : Value} {a : Int32} : ZW zG d 51 27 [x0, x1, x2, .int a] st z Q = ZW zG d 51 28 [x0, x1, x2, .int a] (.int a :: st) z Q := zw_next (f := z_iload 3 28) rfl rfl
theorem s51_28 {ls : List Value} {a : Int32} {r : Nat} : ZW zG d 51 28 ls (.int a :: .ref r :: st) z Q = ((zcs st = true ∧ zcls z r = 90 ∧ zin a (zls z r).length = true) ∧ ZW zG d 51 33 ls ((zls z r).getD (zx a) .null :: st) (z) Q) := zw_lget rfl
theorem s51_33 {ls : List Value} {r : Nat} : ZW zG d 51 33 ls (.ref r :: st) z Q = ((zcls z r = 22) ∧ ZW zG d 51 36 ls (.ref r :: st) (z) Q) := zw_cast rfl
theorem s51_36 {ls : List Value} {r : Nat} : ZW zG d 51 36 ls (.ref r :: st) z Q = ((zcls z r = 22) ∧ ZW zG d 51 39 ls (.int (zfi z r 0) :: st) (z) Q) := zw_getI rfl
theorem s51_39 {x0 x2 x3 : Value} {a : Int32} : ZW zG d 51 39 [x0, .int a, x2, x3] st z Q = ZW zG d 51 40 [x0, .int a, x2, x3] (.int a :: st) z Q := zw_next (f := z_iload 1 40) rfl rfl
theorem s51_40 {ls : List Value} {a b : Int32} : ZW zG d 51 40 ls (.int b :: .int a :: st) z Q = if ¬ a = b then ZW zG d 51 89 ls st z Q else ZW zG d 51 43 ls st z Q := zw_icne rfl
theorem s51_43 {x0 x1 x2 x3 : Value} : ZW zG d 51 43 [x0, x1, x2, x3] st z Q = (zir x0 = true ∧ ZW zG d 51 44 [x0, x1, x2, x3] (x0 :: st) z Q) := zw_cond (f := z_aload 0 44) rfl rfl
theorem s51_44 {ls : List Value} {r : Nat} : ZW zG d 51 44 ls (.ref r :: st) z Q = ((zcls z r = 0 ∧ zir (zfr z r 1) = true) ∧ ZW zG d 51 47 ls (zfr z r 1 :: st) (z) Q) := zw_getR rfl
theorem s51_47 {ls : List Value} {r : Nat} : ZW zG d 51 47 ls (.ref r :: st) z Q = ((zcls z r = 1 ∧ zir (zfr z r 2) = true) ∧ ZW zG d 51 50 ls (zfr z r 2 :: st) (z) Q) := zw_getR rfl
theorem s51_50 {x0 x1 x2 : Value} {a : Int32} : ZW zG d 51 50 [x0, x1, x2, .int a] st z Q = ZW zG d 51 51 [x0, x1, x2, .int a] (.int a :: st) z Q := zw_next (f := z_iload 3 51) rfl rfl
theorem s51_51 {ls : List Value} {a : Int32} {r : Nat} : ZW zG d 51 51 ls (.int a :: .ref r :: st) z Q = ((zcs st = true ∧ zcls z r = 90 ∧ zin a (zls z r).length = true) ∧ ZW zG d 51 56 ls ((zls z r).getD (zx a) .null :: st) (z) Q) := zw_lget rfl
theorem s51_56 {ls : List Value} {r : Nat} : ZW zG d 51 56 ls (.ref r :: st) z Q = ((zcls z r = 22) ∧ ZW zG d 51 59 ls (.ref r :: st) (z) Q) := zw_cast rfl
theorem s51_59 {ls : List Value} {w0 : Nat} : ZW zG (d + 1) 51 59 ls (.ref w0 :: st) z Q = (zcs st = true ∧ ZC zG d 52 [.ref w0] z (zk zG (d + 1) 51 (none) 62 ls st Q)) := zc_S1 rfl (Nat.le_of_ble_eq_true rfl)
theorem s51_62 {ls : List Value} {a : Int32} : ZW zG d 51 62 ls (.int a :: st) z Q = if a = 0 then ZW zG d 51 89 ls st z Q else ZW zG d 51 65 ls st z Q := zw_ifeq rfl
theorem s51_65 {x0 x1 x3 : Value} {a : Int32} : ZW zG d 51 65 [x0, x1, .int a, x3] st z Q = ZW zG d 51 66 [x0, x1, .int a, x3] (.int a :: st) z Q := zw_next (f := z_iload 2 66) rfl rfl
theorem s51_66 {ls : List Value}  : ZW zG d 51 66 ls (st) z Q = ZW zG d 51 67 ls ((.int (nI 1)) :: st) z Q := zw_push rfl
theorem s51_67 {x0 x1 x2 x3 : Value} : ZW zG d 51 67 [x0, x1, x2, x3] st z Q = (zir x0 = true ∧ ZW zG d 51 68 [x0, x1, x2, x3] (x0 :: st) z Q) := zw_cond (f := z_aload 0 68) rfl rfl
theorem s51_68 {ls : List Value} {r : Nat} : ZW zG d 51 68 ls (.ref r :: st) z Q = ((zcls z r = 0 ∧ zir (zfr z r 1) = true) ∧ ZW zG d 51 71 ls (zfr z r 1 :: st) (z) Q) := zw_getR rfl
theorem s51_71 {ls : List Value} {r : Nat} : ZW zG d 51 71 ls (.ref r :: st) z Q = ((zcls z r = 1 ∧ zir (zfr z r 2) = true) ∧ ZW zG d 51 74 ls (zfr z r 2 :: st) (z) Q) := zw_getR rfl
theorem s51_74 {x0 x1 x2 : Value} {a : Int32} : ZW zG d 51 74 [x0, x1, x2, .int a] st z Q = ZW zG d 51 75 [x0, x1, x2, .int a] (.int a :: st) z Q := zw_next (f := z_iload 3 75) rfl rfl
theorem s51_75 {ls : List Value} {a : Int32} {r : Nat} : ZW zG d 51 75 ls (.int a :: .ref r :: st) z Q = ((zcs st = true ∧ zcls z r = 90 ∧ zin a (zls z r).length = true) ∧ ZW zG d 51 80 ls ((zls z r).getD (zx a) .null :: st) (z) Q) := zw_lget rfl
theorem s51_80 {ls : List Value} {r : Nat} : ZW zG d 51 80 ls (.ref r :: st) z Q = ((zcls z r = 22) ∧ ZW zG d 51 83 ls (.ref r :: st) (z) Q) := zw_cast rfl
theorem s51_83 {ls : List Value} {r : Nat} : ZW zG d 51 83 ls (.ref r :: st) z Q = ((zcls z r = 22) ∧ ZW zG d 51 86 ls (.int (zfi z r 1) :: st) (z) Q) := zw_getI rfl
theorem s51_86 {ls : List Value} {a b : Int32} : ZW zG d 51 86 ls (.int b :: .int a :: st) z Q = ZW zG d 51 87 ls (.int (a <<< (b &&& 31)) :: st) z Q := zw_ishl rfl
theorem s51_87 {ls : List Value} {a b : Int32} : ZW zG d 51 87 ls (.int b :: .int a :: st) z Q = ZW zG d 51 88 ls (.int (a ||| b) :: st) z Q := zw_ior rfl
theorem s51_88 {x0 x1 x2 x3 : Value} {a : Int32} : ZW zG d 51 88 [x0, x1, x2, x3] (.int a :: st) z Q = ZW zG d 51 89 [x0, zclr x1, .int a, x3] st z Q := zw_next (f := z_istore 2 89) rfl rfl
theorem s51_89 {x0 x1 x2 : Value} {a : Int32} : ZW zG d 51 89 [x0, x1, x2, .int a] st z Q = ZW zG d 51 92 [x0, x1, zclr x2, .int (a + (nI 1))] st z Q := zw_next (f := z_iinc 3 (nI 1) 92) rfl rfl
theorem s51_92 {ls : List Value}  : ZW zG d 51 92 ls (st) z Q = ZW zG d 51 4 ls st z Q := zw_goto rfl
theorem s51_95 {x0 x1 x3 : Value} {a : Int32} : ZW zG d 51 95 [x0, x1, .int a, x3] st z Q = ZW zG d 51 96 [x0, x1, .int a, x3] (.int a :: st) z Q := zw_next (f := z_iload 2 96) rfl rfl
theorem s51_96 {ls : List Value} {a : Int32} : ZW zG d 51 96 ls ([.int a]) z Q = Q (.inl (some (.int a))) z := zw_reti rfl
/-- X0_isSeeing (LCardBowl$Deed;)Z -/
theorem e52 {v0 : Nat} : ZC zG d 52 [.ref v0] z Q = ZW zG d 52 0 [.ref v0] [] z Q := rfl
theorem s52_0 {x0 : Value} : ZW zG d 52 0 [x0] st z Q = (zir x0 = true ∧ ZW zG d 52 1 [x0] (x0 :: st) z Q) := zw_cond (f := z_aload 0 1) rfl rfl
theorem s52_1 {ls : List Value} {r : Nat} : ZW zG d 52 1 ls (.ref r :: st) z Q = ((zcls z r = 22) ∧ ZW zG d 52 4 ls (.int (zfi z r 2) :: st) (z) Q) := zw_getI rfl
theorem s52_4 {ls : List Value}  : ZW zG d 52 4 ls (st) z Q = ZW zG d 52 5 ls ((.int (nI 2)) :: st) z Q := zw_push rfl
theorem s52_5 {ls : List Value} {a b : Int32} : ZW zG d 52 5 ls (.int b :: .int a :: st) z Q = if a = b then ZW zG d 52 16 ls st z Q else ZW zG d 52 8 ls st z Q := zw_iceq rfl
theorem s52_8 {x0 : Value} : ZW zG d 52 8 [x0] st z Q = (zir x0 = true ∧ ZW zG d 52 9 [x0] (x0 :: st) z Q) := zw_cond (f := z_aload 0 9) rfl rfl
theorem s52_9 {ls : List Value} {r : Nat} : ZW zG d 52 9 ls (.ref r :: st) z Q = ((zcls z r = 22) ∧ ZW zG d 52 12 ls (.int (zfi z r 2) :: st) (z) Q) := zw_getI rfl
theorem s52_12 {ls : List Value}  : ZW zG d 52 12 ls (st) z Q = ZW zG d 52 13 ls ((.int (nI 3)) :: st) z Q := zw_push rfl
theorem s52_13 {ls : List Value} {a b : Int32} : ZW zG d 52 13 ls (.int b :: .int a :: st) z Q = if ¬ a = b then ZW zG d 52 20 ls st z Q else ZW zG d 52 16 ls st z Q := zw_icne rfl
theorem s52_16 {ls : List Value}  : ZW zG d 52 16 ls (st) z Q = ZW zG d 52 17 ls ((.int (nI 1)) :: st) z Q := zw_push rfl
theorem s52_17 {ls : List Value}  : ZW zG d 52 17 ls (st) z Q = ZW zG d 52 21 ls st z Q := zw_goto rfl
theorem s52_20 {ls : List Value}  : ZW zG d 52 20 ls (st) z Q = ZW zG d 52 21 ls ((.int (nI 0)) :: st) z Q := zw_push rfl
theorem s52_21 {ls : List Value} {a : Int32} : ZW zG d 52 21 ls ([.int a]) z Q = ((a = 0 ∨ a = 1) ∧ Q (.inl (some (.int a))) z) := zw_retz rfl
/-- X0_ring (I)I -/
theorem e53 {r0 : Nat} {v0 : Int32} : ZC zG d 53 [.ref r0, .int v0] z Q = ZW zG d 53 0 [.ref r0, .int v0] [] z Q := rfl
theorem s53_0 {x0 x1 : Value} : ZW zG d 53 0 [x0, x1] st z Q = (zir x0 = true ∧ ZW zG d 53 1 [x0, x1] (x0 :: st) z Q) := zw_cond (f := z_aload 0 1) rfl rfl
theorem s53_1 {x0 : Value} {a : Int32} : ZW zG d 53 1 [x0, .int a] st z Q = ZW zG d 53 2 [x0, .int a] (.int a :: st) z Q := zw_next (f := z_iload 1 2) rfl rfl
theorem s53_2 {ls : List Value} {w0 : Int32} {r : Nat} : ZW zG (d + 1) 53 2 ls (.int w0 :: .ref r :: st) z Q = (zcls z r = 0 ∧ zcs st = true ∧ ZC zG d 14 [.ref r, .int w0] z (zk zG (d + 1) 53 (none) 5 ls st Q)) := zc_V1 rfl (Nat.le_of_ble_eq_true rfl)
theorem s53_5 {ls : List Value} {a : Int32} : ZW zG d 53 5 ls (.int a :: st) z Q = if a = 0 then ZW zG d 53 16 ls st z Q else ZW zG d 53 8 ls st z Q := zw_ifeq rfl
theorem s53_8 {x0 x1 : Value} : ZW zG d 53 8 [x0, x1] st z Q = (zir x0 = true ∧ ZW zG d 53 9 [x0, x1] (x0 :: st) z Q) := zw_cond (f := z_aload 0 9) rfl rfl
theorem s53_9 {x0 : Value} {a : Int32} : ZW zG d 53 9 [x0, .int a] st z Q = ZW zG d 53 10 [x0, .int a] (.int a :: st) z Q := zw_next (f := z_iload 1 10) rfl rfl
theorem s53_10 {ls : List Value} {w0 : Int32} {r : Nat} : ZW zG (d + 1) 53 10 ls (.int w0 :: .ref r :: st) z Q = (zcls z r = 0 ∧ zcs st = true ∧ ZC zG d 49 [.ref r, .int w0] z (zk zG (d + 1) 53 (none) 13 ls st Q)) := zc_V1 rfl (Nat.le_of_ble_eq_true rfl)
theorem s53_13 {ls : List Value}  : ZW zG d 53 13 ls (st) z Q = ZW zG d 53 18 ls st z Q := zw_goto rfl
theorem s53_16 {ls : List Value}  : ZW zG d 53 16 ls (st) z Q = ZW zG d 53 18 ls ((.int (-2)) :: st) z Q := zw_push rfl
theorem s53_18 {ls : List Value} {a : Int32} : ZW zG d 53 18 ls ([.int a]) z Q = Q (.inl (some (.int a))) z := zw_reti rfl
/-- X0_house (II)I -/
theorem e54 {r0 : Nat} {v0 : Int32} {v1 : Int32} : ZC zG d 54 [.ref r0, .int v0, .int v1] z Q = ZW zG d 54 0 [.ref r0, .int v0, .int v1, zdum, zdum, zdum, zdum, zdum] [] z Q := rfl
theorem s54_0 {x0 x1 x2 x3 x4 x5 x6 x7 : Value} : ZW zG d 54 0 [x0, x1, x2, x3, x4, x5, x6, x7] st z Q = (zir x0 = true ∧ ZW zG d 54 1 [x0, x1, x2, x3, x4, x5, x6, x7] (x0 :: st) z Q) := zw_cond (f := z_aload 0 1) rfl rfl
theorem s54_1 {x0 x2 x3 x4 x5 x6 x7 : Value} {a : Int32} : ZW zG d 54 1 [x0, .int a, x2, x3, x4, x5, x6, x7] st z Q = ZW zG d 54 2 [x0, .int a, x2, x3, x4, x5, x6, x7] (.int a :: st) z Q := zw_next (f := z_iload 1 2) rfl rfl
theorem s54_2 {ls : List Value} {w0 : Int32} {r : Nat} : ZW zG (d + 1) 54 2 ls (.int w0 :: .ref r :: st) z Q = (zcls z r = 0 ∧ zcs st = true ∧ ZC zG d 14 [.ref r, .int w0] z (zk zG (d + 1) 54 (none) 5 ls st Q)) := zc_V1 rfl (Nat.le_of_ble_eq_true rfl)
theorem s54_5 {ls : List Value} {a : Int32} : ZW zG d 54 5 ls (.int a :: st) z Q = if ¬ a = 0 then ZW zG d 54 12 ls st z Q else ZW zG d 54 8 ls st z Q := zw_ifne rfl
theorem s54_8 {ls : List Value}  : ZW zG d 54 8 ls (st) z Q = ZW zG d 54 11 ls ((.int (-2000000000)) :: st) z Q := zw_push rfl
theorem s54_11 {ls : List Value} {a : Int32} : ZW zG d 54 11 ls ([.int a]) z Q = Q (.inl (some (.int a))) z := zw_reti rfl
theorem s54_12 {x0 x1 x2 x3 x4 x5 x6 x7 : Value} : ZW zG d 54 12 [x0, x1, x2, x3, x4, x5, x6, x7] st z Q = (zir x0 = true ∧ ZW zG d 54 13 [x0, x1, x2, x3, x4, x5, x6, x7] (x0 :: st) z Q) := zw_cond (f := z_aload 0 13) rfl rfl
theorem s54_13 {x0 x2 x3 x4 x5 x6 x7 : Value} {a : Int32} : ZW zG d 54 13 [x0, .int a, x2, x3, x4, x5, x6, x7] st z Q = ZW zG d 54 14 [x0, .int a, x2, x3, x4, x5, x6, x7] (.int a :: st) z Q := zw_next (f := z_iload 1 14) rfl rfl
theorem s54_14 {ls : List Value} {w0 : Int32} {r : Nat} : ZW zG (d + 1) 54 14 ls (.int w0 :: .ref r :: st) z Q = (zcls z r = 0 ∧ zcs st = true ∧ ZC zG d 17 [.ref r, .int w0] z (zk zG (d + 1) 54 (none) 17 ls st Q)) := zc_V1 rfl (Nat.le_of_ble_eq_true rfl)
theorem s54_17 {x0 x1 x2 x3 x4 x5 x6 x7 : Value} {v : Value} : ZW zG d 54 17 [x0, x1, x2, x3, x4, x5, x6, x7] (v :: st) z Q = (zir v = true ∧ ZW zG d 54 18 [x0, x1, zclr x2, v, x4, x5, x6, x7] st z Q) := by rw [zw_cond (f := z_astore 3 18) (G := zG) rfl rfl]; exact propext ⟨fun h => ⟨h.1.1, h.2⟩, fun h => ⟨⟨h.1, Nat.le_of_ble_eq_true rfl⟩, h.2⟩⟩
theorem s54_18 {ls : List Value}  : ZW zG d 54 18 ls (st) z Q = ZW zG d 54 19 ls ((.int (nI 0)) :: st) z Q := zw_push rfl
theorem s54_19 {x0 x1 x2 x3 x4 x5 x6 x7 : Value} {a : Int32} : ZW zG d 54 19 [x0, x1, x2, x3, x4, x5, x6, x7] (.int a :: st) z Q = ZW zG d 54 21 [x0, x1, x2, zclr x3, .int a, x5, x6, x7] st z Q := zw_next (f := z_istore 4 21) rfl rfl
theorem s54_21 {ls : List Value}  : ZW zG d 54 21 ls (st) z Q = ZW zG d 54 22 ls ((.int (nI 0)) :: st) z Q := zw_push rfl
theorem s54_22 {x0 x1 x2 x3 x4 x5 x6 x7 : Value} {a : Int32} : ZW zG d 54 22 [x0, x1, x2, x3, x4, x5, x6, x7] (.int a :: st) z Q = ZW zG d 54 24 [x0, x1, x2, x3, zclr x4, .int a, x6, x7] st z Q := zw_next (f := z_istore 5 24) rfl rfl
theorem s54_24 {ls : List Value}  : ZW zG d 54 24 ls (st) z Q = ZW zG d 54 25 ls ((.int (nI 0)) :: st) z Q := zw_push rfl
theorem s54_25 {x0 x1 x2 x3 x4 x5 x6 x7 : Value} {a : Int32} : ZW zG d 54 25 [x0, x1, x2, x3, x4, x5, x6, x7] (.int a :: st) z Q = ZW zG d 54 27 [x0, x1, x2, x3, x4, zclr x5, .int a, x7] st z Q := zw_next (f := z_istore 6 27) rfl rfl
theorem s54_27 {x0 x1 x2 x3 x4 x5 x7 : Value} {a : Int32} : ZW zG d 54 27 [x0, x1, x2, x3, x4, x5, .int a, x7] st z Q = ZW zG d 54 29 [x0, x1, x2, x3, x4, x5, .int a, x7] (.int a :: st) z Q := zw_next (f := z_iload 6 29) rfl rfl
theorem s54_29 {x0 x1 x2 x3 x4 x5 x6 x7 : Value} : ZW zG d 54 29 [x0, x1, x2, x3, x4, x5, x6, x7] st z Q = (zir x0 = true ∧ ZW zG d 54 30 [x0, x1, x2, x3, x4, x5, x6, x7] (x0 :: st) z Q) := zw_cond (f := z_aload 0 30) rfl rfl
theorem s54_30 {ls : List Value} {r : Nat} : ZW zG d 54 30 ls (.ref r :: st) z Q = ((zcls z r = 0 ∧ zir (zfr z r 1) = true) ∧ ZW zG d 54 33 ls (zfr z r 1 :: st) (z) Q) := zw_getR rfl
theorem s54_33 {ls : List Value} {r : Nat} : ZW zG d 54 33 ls (.ref r :: st) z Q = ((zcls z r = 1 ∧ zir (zfr z r 2) = true) ∧ ZW zG d 54 36 ls (zfr z r 2 :: st) (z) Q) := zw_getR rfl
theorem s54_36 {ls : List Value} {r : Nat} : ZW zG d 54 36 ls (.ref r :: st) z Q = ((zcs st = true ∧ zcls z r = 90) ∧ ZW zG d 54 41 ls (.int (nI (zls z r).length) :: st) (z) Q) := zw_lsize rfl
theorem s54_41 {ls : List Value} {a b : Int32} : ZW zG d 54 41 ls (.int b :: .int a :: st) z Q = if b ≤ a then ZW zG d 54 123 ls st z Q else ZW zG d 54 44 ls st z Q := zw_icge rfl
theorem s54_44 {x0 x1 x2 x3 x4 x5 x6 x7 : Value} : ZW zG d 54 44 [x0, x1, x2, x3, x4, x5, x6, x7] st z Q = (zir x0 = true ∧ ZW zG d 54 45 [x0, x1, x2, x3, x4, x5, x6, x7] (x0 :: st) z Q) := zw_cond (f := z_aload 0 45) rfl rfl
theorem s54_45 {ls : List Value} {r : Nat} : ZW zG d 54 45 ls (.ref r :: st) z Q = ((zcls z r = 0 ∧ zir (zfr z r 1) = true) ∧ ZW zG d 54 48 ls (zfr z r 1 :: st) (z) Q) := zw_getR rfl
theorem s54_48 {ls : List Value} {r : Nat} : ZW zG d 54 48 ls (.ref r :: st) z Q = ((zcls z r = 1 ∧ zir (zfr z r 2) = true) ∧ ZW zG d 54 51 ls (zfr z r 2 :: st) (z) Q) := zw_getR rfl
theorem s54_51 {x0 x1 x2 x3 x4 x5 x7 : Value} {a : Int32} : ZW zG d 54 51 [x0, x1, x2, x3, x4, x5, .int a, x7] st z Q = ZW zG d 54 53 [x0, x1, x2, x3, x4, x5, .int a, x7] (.int a :: st) z Q := zw_next (f := z_iload 6 53) rfl rfl
theorem s54_53 {ls : List Value} {a : Int32} {r : Nat} : ZW zG d 54 53 ls (.int a :: .ref r :: st) z Q = ((zcs st = true ∧ zcls z r = 90 ∧ zin a (zls z r).length = true) ∧ ZW zG d 54 58 ls ((zls z r).getD (zx a) .null :: st) (z) Q) := zw_lget rfl
theorem s54_58 {ls : List Value} {r : Nat} : ZW zG d 54 58 ls (.ref r :: st) z Q = ((zcls z r = 22) ∧ ZW zG d 54 61 ls (.ref r :: st) (z) Q) := zw_cast rfl
theorem s54_61 {x0 x1 x2 x3 x4 x5 x6 x7 : Value} {v : Value} : ZW zG d 54 61 [x0, x1, x2, x3, x4, x5, x6, x7] (v :: st) z Q = (zir v = true ∧ ZW zG d 54 63 [x0, x1, x2, x3, x4, x5, zclr x6, v] st z Q) := by rw [zw_cond (f := z_astore 7 63) (G := zG) rfl rfl]; exact propext ⟨fun h => ⟨h.1.1, h.2⟩, fun h => ⟨⟨h.1, Nat.le_of_ble_eq_true rfl⟩, h.2⟩⟩
theorem s54_63 {x0 x1 x2 x3 x5 x6 x7 : Value} {a : Int32} : ZW zG d 54 63 [x0, x1, x2, x3, .int a, x5, x6, x7] st z Q = ZW zG d 54 65 [x0, x1, x2, x3, .int a, x5, x6, x7] (.int a :: st) z Q := zw_next (f := z_iload 4 65) rfl rfl
theorem s54_65 {x0 x1 x2 x3 x4 x5 x6 x7 : Value} : ZW zG d 54 65 [x0, x1, x2, x3, x4, x5, x6, x7] st z Q = (zir x7 = true ∧ ZW zG d 54 67 [x0, x1, x2, x3, x4, x5, x6, x7] (x7 :: st) z Q) := zw_cond (f := z_aload 7 67) rfl rfl
theorem s54_67 {ls : List Value} {w0 : Nat} : ZW zG (d + 1) 54 67 ls (.ref w0 :: st) z Q = (zcs st = true ∧ ZC zG d 52 [.ref w0] z (zk zG (d + 1) 54 (none) 70 ls st Q)) := zc_S1 rfl (Nat.le_of_ble_eq_true rfl)
theorem s54_70 {ls : List Value} {a : Int32} : ZW zG d 54 70 ls (.int a :: st) z Q = if a = 0 then ZW zG d 54 86 ls st z Q else ZW zG d 54 73 ls st z Q := zw_ifeq rfl
theorem s54_73 {x0 x1 x2 x3 x4 x5 x6 x7 : Value} : ZW zG d 54 73 [x0, x1, x2, x3, x4, x5, x6, x7] st z Q = (zir x7 = true ∧ ZW zG d 54 75 [x0, x1, x2, x3, x4, x5, x6, x7] (x7 :: st) z Q) := zw_cond (f := z_aload 7 75) rfl rfl
theorem s54_75 {ls : List Value} {r : Nat} : ZW zG d 54 75 ls (.ref r :: st) z Q = ((zcls z r = 22) ∧ ZW zG d 54 78 ls (.int (zfi z r 0) :: st) (z) Q) := zw_getI rfl
theorem s54_78 {x0 x2 x3 x4 x5 x6 x7 : Value} {a : Int32} : ZW zG d 54 78 [x0, .int a, x2, x3, x4, x5, x6, x7] st z Q = ZW zG d 54 79 [x0, .int a, x2, x3, x4, x5, x6, x7] (.int a :: st) z Q := zw_next (f := z_iload 1 79) rfl rfl
theorem s54_79 {ls : List Value} {a b : Int32} : ZW zG d 54 79 ls (.int b :: .int a :: st) z Q = if ¬ a = b then ZW zG d 54 86 ls st z Q else ZW zG d 54 82 ls st z Q := zw_icne rfl
theorem s54_82 {ls : List Value}  : ZW zG d 54 82 ls (st) z Q = ZW zG d 54 83 ls ((.int (nI 1)) :: st) z Q := zw_push rfl
theorem s54_83 {ls : List Value}  : ZW zG d 54 83 ls (st) z Q = ZW zG d 54 87 ls st z Q := zw_goto rfl
theorem s54_86 {ls : List Value}  : ZW zG d 54 86 ls (st) z Q = ZW zG d 54 87 ls ((.int (nI 0)) :: st) z Q := zw_push rfl
theorem s54_87 {ls : List Value} {a b : Int32} : ZW zG d 54 87 ls (.int b :: .int a :: st) z Q = ZW zG d 54 88 ls (.int (a + b) :: st) z Q := zw_iadd rfl
theorem s54_88 {x0 x1 x2 x3 x4 x5 x6 x7 : Value} {a : Int32} : ZW zG d 54 88 [x0, x1, x2, x3, x4, x5, x6, x7] (.int a :: st) z Q = ZW zG d 54 90 [x0, x1, x2, zclr x3, .int a, x5, x6, x7] st z Q := zw_next (f := z_istore 4 90) rfl rfl
theorem s54_90 {x0 x1 x2 x3 x4 x6 x7 : Value} {a : Int32} : ZW zG d 54 90 [x0, x1, x2, x3, x4, .int a, x6, x7] st z Q = ZW zG d 54 92 [x0, x1, x2, x3, x4, .int a, x6, x7] (.int a :: st) z Q := zw_next (f := z_iload 5 92) rfl rfl
theorem s54_92 {x0 x1 x2 x3 x4 x5 x6 x7 : Value} : ZW zG d 54 92 [x0, x1, x2, x3, x4, x5, x6, x7] st z Q = (zir x7 = true ∧ ZW zG d 54 94 [x0, x1, x2, x3, x4, x5, x6, x7] (x7 :: st) z Q) := zw_cond (f := z_aload 7 94) rfl rfl
theorem s54_94 {ls : List Value} {w0 : Nat} : ZW zG (d + 1) 54 94 ls (.ref w0 :: st) z Q = (zcs st = true ∧ ZC zG d 52 [.ref w0] z (zk zG (d + 1) 54 (none) 97 ls st Q)) := zc_S1 rfl (Nat.le_of_ble_eq_true rfl)
theorem s54_97 {ls : List Value} {a : Int32} : ZW zG d 54 97 ls (.int a :: st) z Q = if a = 0 then ZW zG d 54 113 ls st z Q else ZW zG d 54 100 ls st z Q := zw_ifeq rfl
theorem s54_100 {x0 x1 x2 x3 x4 x5 x6 x7 : Value} : ZW zG d 54 100 [x0, x1, x2, x3, x4, x5, x6, x7] st z Q = (zir x7 = true ∧ ZW zG d 54 102 [x0, x1, x2, x3, x4, x5, x6, x7] (x7 :: st) z Q) := zw_cond (f := z_aload 7 102) rfl rfl
theorem s54_102 {ls : List Value} {r : Nat} : ZW zG d 54 102 ls (.ref r :: st) z Q = ((zcls z r = 22) ∧ ZW zG d 54 105 ls (.int (zfi z r 1) :: st) (z) Q) := zw_getI rfl
theorem s54_105 {x0 x2 x3 x4 x5 x6 x7 : Value} {a : Int32} : ZW zG d 54 105 [x0, .int a, x2, x3, x4, x5, x6, x7] st z Q = ZW zG d 54 106 [x0, .int a, x2, x3, x4, x5, x6, x7] (.int a :: st) z Q := zw_next (f := z_iload 1 106) rfl rfl
theorem s54_106 {ls : List Value} {a b : Int32} : ZW zG d 54 106 ls (.int b :: .int a :: st) z Q = if ¬ a = b then ZW zG d 54 113 ls st z Q else ZW zG d 54 109 ls st z Q := zw_icne rfl
theorem s54_109 {ls : List Value}  : ZW zG d 54 109 ls (st) z Q = ZW zG d 54 110 ls ((.int (nI 1)) :: st) z Q := zw_push rfl
theorem s54_110 {ls : List Value}  : ZW zG d 54 110 ls (st) z Q = ZW zG d 54 114 ls st z Q := zw_goto rfl
theorem s54_113 {ls : List Value}  : ZW zG d 54 113 ls (st) z Q = ZW zG d 54 114 ls ((.int (nI 0)) :: st) z Q := zw_push rfl
theorem s54_114 {ls : List Value} {a b : Int32} : ZW zG d 54 114 ls (.int b :: .int a :: st) z Q = ZW zG d 54 115 ls (.int (a + b) :: st) z Q := zw_iadd rfl
theorem s54_115 {x0 x1 x2 x3 x4 x5 x6 x7 : Value} {a : Int32} : ZW zG d 54 115 [x0, x1, x2, x3, x4, x5, x6, x7] (.int a :: st) z Q = ZW zG d 54 117 [x0, x1, x2, x3, zclr x4, .int a, x6, x7] st z Q := zw_next (f := z_istore 5 117) rfl rfl
theorem s54_117 {x0 x1 x2 x3 x4 x5 x7 : Value} {a : Int32} : ZW zG d 54 117 [x0, x1, x2, x3, x4, x5, .int a, x7] st z Q = ZW zG d 54 120 [x0, x1, x2, x3, x4, zclr x5, .int (a + (nI 1)), x7] st z Q := zw_next (f := z_iinc 6 (nI 1) 120) rfl rfl
theorem s54_120 {ls : List Value}  : ZW zG d 54 120 ls (st) z Q = ZW zG d 54 27 ls st z Q := zw_goto rfl
theorem s54_123 {x0 x1 x3 x4 x5 x6 x7 : Value} {a : Int32} : ZW zG d 54 123 [x0, x1, .int a, x3, x4, x5, x6, x7] st z Q = ZW zG d 54 124 [x0, x1, .int a, x3, x4, x5, x6, x7] (.int a :: st) z Q := zw_next (f := z_iload 2 124) rfl rfl
theorem s54_124 {ls : List Value} {a : Int32} : ZW zG d 54 124 ls (.int a :: st) z Q = ZW zG d 54 (ztsw [176, 181, 186, 191, 196, 201, 206, 211, 214] 217 a) ls st z Q := zw_tsw rfl
theorem s54_176 {x0 x1 x2 x3 x4 x5 x6 x7 : Value} : ZW zG d 54 176 [x0, x1, x2, x3, x4, x5, x6, x7] st z Q = (zir x3 = true ∧ ZW zG d 54 177 [x0, x1, x2, x3, x4, x5, x6, x7] (x3 :: st) z Q) := zw_cond (f := z_aload 3 177) rfl rfl
theorem s54_177 {ls : List Value} {r : Nat} : ZW zG d 54 177 ls (.ref r :: st) z Q = ((zcls z r = 21) ∧ ZW zG d 54 180 ls (.int (zfi z r 0) :: st) (z) Q) := zw_getI rfl
theorem s54_180 {ls : List Value} {a : Int32} : ZW zG d 54 180 ls ([.int a]) z Q = Q (.inl (some (.int a))) z := zw_reti rfl
theorem s54_181 {x0 x1 x2 x3 x4 x5 x6 x7 : Value} : ZW zG d 54 181 [x0, x1, x2, x3, x4, x5, x6, x7] st z Q = (zir x3 = true ∧ ZW zG d 54 182 [x0, x1, x2, x3, x4, x5, x6, x7] (x3 :: st) z Q) := zw_cond (f := z_aload 3 182) rfl rfl
theorem s54_182 {ls : List Value} {r : Nat} : ZW zG d 54 182 ls (.ref r :: st) z Q = ((zcls z r = 21) ∧ ZW zG d 54 185 ls (.int (zfi z r 1) :: st) (z) Q) := zw_getI rfl
theorem s54_185 {ls : List Value} {a : Int32} : ZW zG d 54 185 ls ([.int a]) z Q = Q (.inl (some (.int a))) z := zw_reti rfl
theorem s54_186 {x0 x1 x2 x3 x4 x5 x6 x7 : Value} : ZW zG d 54 186 [x0, x1, x2, x3, x4, x5, x6, x7] st z Q = (zir x3 = true ∧ ZW zG d 54 187 [x0, x1, x2, x3, x4, x5, x6, x7] (x3 :: st) z Q) := zw_cond (f := z_aload 3 187) rfl rfl
theorem s54_187 {ls : List Value} {r : Nat} : ZW zG d 54 187 ls (.ref r :: st) z Q = ((zcls z r = 21) ∧ ZW zG d 54 190 ls (.int (zfi z r 2) :: st) (z) Q) := zw_getI rfl
theorem s54_190 {ls : List Value} {a : Int32} : ZW zG d 54 190 ls ([.int a]) z Q = Q (.inl (some (.int a))) z := zw_reti rfl
theorem s54_191 {x0 x1 x2 x3 x4 x5 x6 x7 : Value} : ZW zG d 54 191 [x0, x1, x2, x3, x4, x5, x6, x7] st z Q = (zir x3 = true ∧ ZW zG d 54 192 [x0, x1, x2, x3, x4, x5, x6, x7] (x3 :: st) z Q) := zw_cond (f := z_aload 3 192) rfl rfl
theorem s54_192 {ls : List Value} {r : Nat} : ZW zG d 54 192 ls (.ref r :: st) z Q = ((zcls z r = 21) ∧ ZW zG d 54 195 ls (.int (zfi z r 3) :: st) (z) Q) := zw_getI rfl
theorem s54_195 {ls : List Value} {a : Int32} : ZW zG d 54 195 ls ([.int a]) z Q = Q (.inl (some (.int a))) z := zw_reti rfl
theorem s54_196 {x0 x1 x2 x3 x4 x5 x6 x7 : Value} : ZW zG d 54 196 [x0, x1, x2, x3, x4, x5, x6, x7] st z Q = (zir x3 = true ∧ ZW zG d 54 197 [x0, x1, x2, x3, x4, x5, x6, x7] (x3 :: st) z Q) := zw_cond (f := z_aload 3 197) rfl rfl
theorem s54_197 {ls : List Value} {r : Nat} : ZW zG d 54 197 ls (.ref r :: st) z Q = ((zcls z r = 21) ∧ ZW zG d 54 200 ls (.int (zfi z r 4) :: st) (z) Q) := zw_getI rfl
theorem s54_200 {ls : List Value} {a : Int32} : ZW zG d 54 200 ls ([.int a]) z Q = Q (.inl (some (.int a))) z := zw_reti rfl
theorem s54_201 {x0 x1 x2 x3 x4 x5 x6 x7 : Value} : ZW zG d 54 201 [x0, x1, x2, x3, x4, x5, x6, x7] st z Q = (zir x3 = true ∧ ZW zG d 54 202 [x0, x1, x2, x3, x4, x5, x6, x7] (x3 :: st) z Q) := zw_cond (f := z_aload 3 202) rfl rfl
theorem s54_202 {ls : List Value} {r : Nat} : ZW zG d 54 202 ls (.ref r :: st) z Q = ((zcls z r = 21) ∧ ZW zG d 54 205 ls (.int (zfi z r 5) :: st) (z) Q) := zw_getI rfl
theorem s54_205 {ls : List Value} {a : Int32} : ZW zG d 54 205 ls ([.int a]) z Q = Q (.inl (some (.int a))) z := zw_reti rfl
theorem s54_206 {x0 x1 x2 x3 x4 x5 x6 x7 : Value} : ZW zG d 54 206 [x0, x1, x2, x3, x4, x5, x6, x7] st z Q = (zir x3 = true ∧ ZW zG d 54 207 [x0, x1, x2, x3, x4, x5, x6, x7] (x3 :: st) z Q) := zw_cond (f := z_aload 3 207) rfl rfl
theorem s54_207 {ls : List Value} {r : Nat} : ZW zG d 54 207 ls (.ref r :: st) z Q = ((zcls z r = 21) ∧ ZW zG d 54 210 ls (.int (zfi z r 6) :: st) (z) Q) := zw_getI rfl
theorem s54_210 {ls : List Value} {a : Int32} : ZW zG d 54 210 ls ([.int a]) z Q = Q (.inl (some (.int a))) z := zw_reti rfl
theorem s54_211 {x0 x1 x2 x3 x5 x6 x7 : Value} {a : Int32} : ZW zG d 54 211 [x0, x1, x2, x3, .int a, x5, x6, x7] st z Q = ZW zG d 54 213 [x0, x1, x2, x3, .int a, x5, x6, x7] (.int a :: st) z Q := zw_next (f := z_iload 4 213) rfl rfl
theorem s54_213 {ls : List Value} {a : Int32} : ZW zG d 54 213 ls ([.int a]) z Q = Q (.inl (some (.int a))) z := zw_reti rfl
theorem s54_214 {x0 x1 x2 x3 x4 x6 x7 : Value} {a : Int32} : ZW zG d 54 214 [x0, x1, x2, x3, x4, .int a, x6, x7] st z Q = ZW zG d 54 216 [x0, x1, x2, x3, x4, .int a, x6, x7] (.int a :: st) z Q := zw_next (f := z_iload 5 216) rfl rfl
theorem s54_216 {ls : List Value} {a : Int32} : ZW zG d 54 216 ls ([.int a]) z Q = Q (.inl (some (.int a))) z := zw_reti rfl
theorem s54_217 {ls : List Value}  : ZW zG d 54 217 ls (st) z Q = ZW zG d 54 220 ls ((.int (-2000000000)) :: st) z Q := zw_push rfl
theorem s54_220 {ls : List Value} {a : Int32} : ZW zG d 54 220 ls ([.int a]) z Q = Q (.inl (some (.int a))) z := zw_reti rfl
/-- X0_beside (I)I -/
theorem e55 {r0 : Nat} {v0 : Int32} : ZC zG d 55 [.ref r0, .int v0] z Q = ZW zG d 55 0 [.ref r0, .int v0, zdum, zdum, zdum] [] z Q := rfl
theorem s55_0 {x0 x2 x3 x4 : Value} {a : Int32} : ZW zG d 55 0 [x0, .int a, x2, x3, x4] st z Q = ZW zG d 55 1 [x0, .int a, x2, x3, x4] (.int a :: st) z Q := zw_next (f := z_iload 1 1) rfl rfl
theorem s55_1 {ls : List Value} {a : Int32} : ZW zG d 55 1 ls (.int a :: st) z Q = ZW zG d 55 2 ls (.long a.toInt64 :: st) z Q := zw_i2l rfl
theorem s55_2 {ls : List Value}  : ZW zG d 55 2 ls (st) z Q = ZW zG d 55 3 ls ((.long (lN 0)) :: st) z Q := zw_push rfl
theorem s55_3 {ls : List Value}  : ZW zG d 55 3 ls (st) z Q = ZW zG d 55 6 ls ((.long (lN 2)) :: st) z Q := zw_push rfl
theorem s55_6 {ls : List Value} {w0 : Int64} {w1 : Int64} {w2 : Int64} : ZW zG (d + 1) 55 6 ls (.long w2 :: .long w1 :: .long w0 :: st) z Q = (zcs st = true ∧ ZC zG d 2 [.long w0, .long w1, .long w2] z (zk zG (d + 1) 55 (none) 9 ls st Q)) := zc_S3 rfl (Nat.le_of_ble_eq_true rfl)
theorem s55_9 {ls : List Value} {a : Int32} : ZW zG d 55 9 ls (.int a :: st) z Q = if ¬ a = 0 then ZW zG d 55 15 ls st z Q else ZW zG d 55 12 ls st z Q := zw_ifne rfl
theorem s55_12 {ls : List Value}  : ZW zG d 55 12 ls (st) z Q = ZW zG d 55 14 ls ((.int (-2)) :: st) z Q := zw_push rfl
theorem s55_14 {ls : List Value} {a : Int32} : ZW zG d 55 14 ls ([.int a]) z Q = Q (.inl (some (.int a))) z := zw_reti rfl
theorem s55_15 {x0 x1 x2 x3 x4 : Value} : ZW zG d 55 15 [x0, x1, x2, x3, x4] st z Q = (zir x0 = true ∧ ZW zG d 55 16 [x0, x1, x2, x3, x4] (x0 :: st) z Q) := zw_cond (f := z_aload 0 16) rfl rfl
theorem s55_16 {ls : List Value} {r : Nat} : ZW zG d 55 16 ls (.ref r :: st) z Q = ((zcls z r = 0 ∧ zir (zfr z r 2) = true) ∧ ZW zG d 55 19 ls (zfr z r 2 :: st) (z) Q) := zw_getR rfl
theorem s55_19 {x0 x2 x3 x4 : Value} {a : Int32} : ZW zG d 55 19 [x0, .int a, x2, x3, x4] st z Q = ZW zG d 55 20 [x0, .int a, x2, x3, x4] (.int a :: st) z Q := zw_next (f := z_iload 1 20) rfl rfl
theorem s55_20 {ls : List Value} {a : Int32} {r : Nat} : ZW zG d 55 20 ls (.int a :: .ref r :: st) z Q = ((zcls z r = 61 ∧ zin a (zlen z r) = true ∧ zir (zra z r (zx a)) = true) ∧ ZW zG d 55 21 ls (zra z r (zx a) :: st) (z) Q) := zw_aald rfl
theorem s55_21 {ls : List Value} : ZW zG d 55 21 ls (.null :: st) z Q = ZW zG d 55 24 ls st z Q := zw_ifnon0 rfl
theorem s55_21r {ls : List Value} {r : Nat} : ZW zG d 55 21 ls (.ref r :: st) z Q = ZW zG d 55 27 ls st z Q := zw_ifnon1 rfl
theorem s55_24 {ls : List Value}  : ZW zG d 55 24 ls (st) z Q = ZW zG d 55 26 ls ((.int (-6)) :: st) z Q := zw_push rfl
theorem s55_26 {ls : List Value} {a : Int32} : ZW zG d 55 26 ls ([.int a]) z Q = Q (.inl (some (.int a))) z := zw_reti rfl
theorem s55_27 {ls : List Value}  : ZW zG d 55 27 ls (st) z Q = ZW zG d 55 30 ls (.ref (zn z) :: st) (snew z 3 6) Q := zw_new rfl
theorem s55_30 {ls : List Value} {r : Nat} : ZW zG d 55 30 ls (.ref r :: st) z Q = ZW zG d 55 31 ls (.ref r :: .ref r :: st) z Q := zw_dupr rfl
theorem s55_31 {ls : List Value}  {r : Nat} : ZW zG (d + 1) 55 31 ls (.ref r :: st) z Q = (zcs st = true ∧ ZC zG d 66 [.ref r] z (zk zG (d + 1) 55 (none) 34 ls st Q)) := zc_I0 rfl (Nat.le_of_ble_eq_true rfl)
theorem s55_34 {x0 x1 x2 x3 x4 : Value} {v : Value} : ZW zG d 55 34 [x0, x1, x2, x3, x4] (v :: st) z Q = (zir v = true ∧ ZW zG d 55 35 [x0, zclr x1, v, x3, x4] st z Q) := by rw [zw_cond (f := z_astore 2 35) (G := zG) rfl rfl]; exact propext ⟨fun h => ⟨h.1.1, h.2⟩, fun h => ⟨⟨h.1, Nat.le_of_ble_eq_true rfl⟩, h.2⟩⟩
theorem s55_35 {x0 x1 x2 x3 x4 : Value} : ZW zG d 55 35 [x0, x1, x2, x3, x4] st z Q = (zir x2 = true ∧ ZW zG d 55 36 [x0, x1, x2, x3, x4] (x2 :: st) z Q) := zw_cond (f := z_aload 2 36) rfl rfl
theorem s55_36 {x0 x1 x2 x3 x4 : Value} : ZW zG d 55 36 [x0, x1, x2, x3, x4] st z Q = (zir x0 = true ∧ ZW zG d 55 37 [x0, x1, x2, x3, x4] (x0 :: st) z Q) := zw_cond (f := z_aload 0 37) rfl rfl
theorem s55_37 {ls : List Value} {r : Nat} : ZW zG d 55 37 ls (.ref r :: st) z Q = ((zcls z r = 0 ∧ zir (zfr z r 1) = true) ∧ ZW zG d 55 40 ls (zfr z r 1 :: st) (z) Q) := zw_getR rfl
theorem s55_40 {ls : List Value} {r : Nat} : ZW zG d 55 40 ls (.ref r :: st) z Q = ((zcls z r = 1 ∧ zir (zfr z r 0) = true) ∧ ZW zG d 55 43 ls (zfr z r 0 :: st) (z) Q) := zw_getR rfl
theorem s55_43 {x0 x1 x2 x3 x4 : Value} : ZW zG d 55 43 [x0, x1, x2, x3, x4] st z Q = (zir x0 = true ∧ ZW zG d 55 44 [x0, x1, x2, x3, x4] (x0 :: st) z Q) := zw_cond (f := z_aload 0 44) rfl rfl
theorem s55_44 {ls : List Value} {r : Nat} : ZW zG d 55 44 ls (.ref r :: st) z Q = ((zcls z r = 0 ∧ zir (zfr z r 2) = true) ∧ ZW zG d 55 47 ls (zfr z r 2 :: st) (z) Q) := zw_getR rfl
theorem s55_47 {x0 x2 x3 x4 : Value} {a : Int32} : ZW zG d 55 47 [x0, .int a, x2, x3, x4] st z Q = ZW zG d 55 48 [x0, .int a, x2, x3, x4] (.int a :: st) z Q := zw_next (f := z_iload 1 48) rfl rfl
theorem s55_48 {ls : List Value} {a : Int32} {r : Nat} : ZW zG d 55 48 ls (.int a :: .ref r :: st) z Q = ((zcls z r = 61 ∧ zin a (zlen z r) = true ∧ zir (zra z r (zx a)) = true) ∧ ZW zG d 55 49 ls (zra z r (zx a) :: st) (z) Q) := zw_aald rfl
theorem s55_49 {ls : List Value} {r : Nat} : ZW zG d 55 49 ls (.ref r :: st) z Q = ((zcls z r = 1 ∧ zir (zfr z r 0) = true) ∧ ZW zG d 55 52 ls (zfr z r 0 :: st) (z) Q) := zw_getR rfl
theorem s55_52 {ls : List Value} {r : Nat} : ZW zG d 55 52 ls (.ref r :: st) z Q = ((zcls z r = 2 ∧ zir (zfr z r 2) = true) ∧ ZW zG d 55 55 ls (zfr z r 2 :: st) (z) Q) := zw_getR rfl
theorem s55_55 {ls : List Value} {w0 : Nat} {w1 : Nat} {r : Nat} : ZW zG (d + 1) 55 55 ls (.ref w1 :: .ref w0 :: .ref r :: st) z Q = (zcls z r = 3 ∧ zcs st = true ∧ ZC zG d 67 [.ref r, .ref w0, .ref w1] z (zk zG (d + 1) 55 (none) 58 ls st Q)) := zc_V2 rfl (Nat.le_of_ble_eq_true rfl)
theorem s55_58 {ls : List Value}  : ZW zG d 55 58 ls (st) z Q = ZW zG d 55 59 ls ((.int (nI 0)) :: st) z Q := zw_push rfl
theorem s55_59 {x0 x1 x2 x3 x4 : Value} {a : Int32} : ZW zG d 55 59 [x0, x1, x2, x3, x4] (.int a :: st) z Q = ZW zG d 55 60 [x0, x1, zclr x2, .int a, x4] st z Q := zw_next (f := z_istore 3 60) rfl rfl
theorem s55_60 {x0 x1 x2 x4 : Value} {a : Int32} : ZW zG d 55 60 [x0, x1, x2, .int a, x4] st z Q = ZW zG d 55 61 [x0, x1, x2, .int a, x4] (.int a :: st) z Q := zw_next (f := z_iload 3 61) rfl rfl
theorem s55_61 {x0 x1 x2 x3 x4 : Value} : ZW zG d 55 61 [x0, x1, x2, x3, x4] st z Q = (zir x0 = true ∧ ZW zG d 55 62 [x0, x1, x2, x3, x4] (x0 :: st) z Q) := zw_cond (f := z_aload 0 62) rfl rfl
theorem s55_62 {ls : List Value} {r : Nat} : ZW zG d 55 62 ls (.ref r :: st) z Q = ((zcls z r = 0 ∧ zir (zfr z r 1) = true) ∧ ZW zG d 55 65 ls (zfr z r 1 :: st) (z) Q) := zw_getR rfl
theorem s55_65 {ls : List Value} {r : Nat} : ZW zG d 55 65 ls (.ref r :: st) z Q = ((zcls z r = 1 ∧ zir (zfr z r 2) = true) ∧ ZW zG d 55 68 ls (zfr z r 2 :: st) (z) Q) := zw_getR rfl
theorem s55_68 {ls : List Value} {r : Nat} : ZW zG d 55 68 ls (.ref r :: st) z Q = ((zcs st = true ∧ zcls z r = 90) ∧ ZW zG d 55 73 ls (.int (nI (zls z r).length) :: st) (z) Q) := zw_lsize rfl
theorem s55_73 {ls : List Value} {a b : Int32} : ZW zG d 55 73 ls (.int b :: .int a :: st) z Q = if b ≤ a then ZW zG d 55 156 ls st z Q else ZW zG d 55 76 ls st z Q := zw_icge rfl
theorem s55_76 {x0 x1 x2 x3 x4 : Value} : ZW zG d 55 76 [x0, x1, x2, x3, x4] st z Q = (zir x0 = true ∧ ZW zG d 55 77 [x0, x1, x2, x3, x4] (x0 :: st) z Q) := zw_cond (f := z_aload 0 77) rfl rfl
theorem s55_77 {ls : List Value} {r : Nat} : ZW zG d 55 77 ls (.ref r :: st) z Q = ((zcls z r = 0 ∧ zir (zfr z r 1) = true) ∧ ZW zG d 55 80 ls (zfr z r 1 :: st) (z) Q) := zw_getR rfl
theorem s55_80 {ls : List Value} {r : Nat} : ZW zG d 55 80 ls (.ref r :: st) z Q = ((zcls z r = 1 ∧ zir (zfr z r 2) = true) ∧ ZW zG d 55 83 ls (zfr z r 2 :: st) (z) Q) := zw_getR rfl
theorem s55_83 {x0 x1 x2 x4 : Value} {a : Int32} : ZW zG d 55 83 [x0, x1, x2, .int a, x4] st z Q = ZW zG d 55 84 [x0, x1, x2, .int a, x4] (.int a :: st) z Q := zw_next (f := z_iload 3 84) rfl rfl
theorem s55_84 {ls : List Value} {a : Int32} {r : Nat} : ZW zG d 55 84 ls (.int a :: .ref r :: st) z Q = ((zcs st = true ∧ zcls z r = 90 ∧ zin a (zls z r).length = true) ∧ ZW zG d 55 89 ls ((zls z r).getD (zx a) .null :: st) (z) Q) := zw_lget rfl
theorem s55_89 {ls : List Value} {r : Nat} : ZW zG d 55 89 ls (.ref r :: st) z Q = ((zcls z r = 22) ∧ ZW zG d 55 92 ls (.ref r :: st) (z) Q) := zw_cast rfl
theorem s55_92 {x0 x1 x2 x3 x4 : Value} {v : Value} : ZW zG d 55 92 [x0, x1, x2, x3, x4] (v :: st) z Q = (zir v = true ∧ ZW zG d 55 94 [x0, x1, x2, zclr x3, v] st z Q) := by rw [zw_cond (f := z_astore 4 94) (G := zG) rfl rfl]; exact propext ⟨fun h => ⟨h.1.1, h.2⟩, fun h => ⟨⟨h.1, Nat.le_of_ble_eq_true rfl⟩, h.2⟩⟩
theorem s55_94 {x0 x1 x2 x3 x4 : Value} : ZW zG d 55 94 [x0, x1, x2, x3, x4] st z Q = (zir x4 = true ∧ ZW zG d 55 96 [x0, x1, x2, x3, x4] (x4 :: st) z Q) := zw_cond (f := z_aload 4 96) rfl rfl
theorem s55_96 {ls : List Value} {r : Nat} : ZW zG d 55 96 ls (.ref r :: st) z Q = ((zcls z r = 22) ∧ ZW zG d 55 99 ls (.int (zfi z r 2) :: st) (z) Q) := zw_getI rfl
theorem s55_99 {ls : List Value}  : ZW zG d 55 99 ls (st) z Q = ZW zG d 55 100 ls ((.int (nI 4)) :: st) z Q := zw_push rfl
theorem s55_100 {ls : List Value} {a b : Int32} : ZW zG d 55 100 ls (.int b :: .int a :: st) z Q = if ¬ a = b then ZW zG d 55 120 ls st z Q else ZW zG d 55 103 ls st z Q := zw_icne rfl
theorem s55_103 {x0 x1 x2 x3 x4 : Value} : ZW zG d 55 103 [x0, x1, x2, x3, x4] st z Q = (zir x2 = true ∧ ZW zG d 55 104 [x0, x1, x2, x3, x4] (x2 :: st) z Q) := zw_cond (f := z_aload 2 104) rfl rfl
theorem s55_104 {x0 x1 x2 x3 x4 : Value} : ZW zG d 55 104 [x0, x1, x2, x3, x4] st z Q = (zir x4 = true ∧ ZW zG d 55 106 [x0, x1, x2, x3, x4] (x4 :: st) z Q) := zw_cond (f := z_aload 4 106) rfl rfl
theorem s55_106 {ls : List Value} {r : Nat} : ZW zG d 55 106 ls (.ref r :: st) z Q = ((zcls z r = 22) ∧ ZW zG d 55 109 ls (.int (zfi z r 0) :: st) (z) Q) := zw_getI rfl
theorem s55_109 {x0 x1 x2 x3 x4 : Value} : ZW zG d 55 109 [x0, x1, x2, x3, x4] st z Q = (zir x4 = true ∧ ZW zG d 55 111 [x0, x1, x2, x3, x4] (x4 :: st) z Q) := zw_cond (f := z_aload 4 111) rfl rfl
theorem s55_111 {ls : List Value} {r : Nat} : ZW zG d 55 111 ls (.ref r :: st) z Q = ((zcls z r = 22) ∧ ZW zG d 55 114 ls (.int (zfi z r 1) :: st) (z) Q) := zw_getI rfl
theorem s55_114 {ls : List Value} {w0 : Int32} {w1 : Int32} {r : Nat} : ZW zG (d + 1) 55 114 ls (.int w1 :: .int w0 :: .ref r :: st) z Q = (zcls z r = 3 ∧ zcs st = true ∧ ZC zG d 73 [.ref r, .int w0, .int w1] z (zk zG (d + 1) 55 (none) 117 ls st Q)) := zc_V2 rfl (Nat.le_of_ble_eq_true rfl)
theorem s55_117 {ls : List Value}  : ZW zG d 55 117 ls (st) z Q = ZW zG d 55 150 ls st z Q := zw_goto rfl
theorem s55_120 {x0 x1 x2 x3 x4 : Value} : ZW zG d 55 120 [x0, x1, x2, x3, x4] st z Q = (zir x2 = true ∧ ZW zG d 55 121 [x0, x1, x2, x3, x4] (x2 :: st) z Q) := zw_cond (f := z_aload 2 121) rfl rfl
theorem s55_121 {x0 x1 x2 x3 x4 : Value} : ZW zG d 55 121 [x0, x1, x2, x3, x4] st z Q = (zir x4 = true ∧ ZW zG d 55 123 [x0, x1, x2, x3, x4] (x4 :: st) z Q) := zw_cond (f := z_aload 4 123) rfl rfl
theorem s55_123 {ls : List Value} {r : Nat} : ZW zG d 55 123 ls (.ref r :: st) z Q = ((zcls z r = 22) ∧ ZW zG d 55 126 ls (.int (zfi z r 0) :: st) (z) Q) := zw_getI rfl
theorem s55_126 {x0 x1 x2 x3 x4 : Value} : ZW zG d 55 126 [x0, x1, x2, x3, x4] st z Q = (zir x4 = true ∧ ZW zG d 55 128 [x0, x1, x2, x3, x4] (x4 :: st) z Q) := zw_cond (f := z_aload 4 128) rfl rfl
theorem s55_128 {ls : List Value} {r : Nat} : ZW zG d 55 128 ls (.ref r :: st) z Q = ((zcls z r = 22) ∧ ZW zG d 55 131 ls (.int (zfi z r 1) :: st) (z) Q) := zw_getI rfl
theorem s55_131 {x0 x1 x2 x3 x4 : Value} : ZW zG d 55 131 [x0, x1, x2, x3, x4] st z Q = (zir x0 = true ∧ ZW zG d 55 132 [x0, x1, x2, x3, x4] (x0 :: st) z Q) := zw_cond (f := z_aload 0 132) rfl rfl
theorem s55_132 {ls : List Value} {r : Nat} : ZW zG d 55 132 ls (.ref r :: st) z Q = ((zcls z r = 0 ∧ zir (zfr z r 3) = true) ∧ ZW zG d 55 135 ls (zfr z r 3 :: st) (z) Q) := zw_getR rfl
theorem s55_135 {x0 x1 x2 x3 x4 : Value} : ZW zG d 55 135 [x0, x1, x2, x3, x4] st z Q = (zir x4 = true ∧ ZW zG d 55 137 [x0, x1, x2, x3, x4] (x4 :: st) z Q) := zw_cond (f := z_aload 4 137) rfl rfl
theorem s55_137 {ls : List Value} {r : Nat} : ZW zG d 55 137 ls (.ref r :: st) z Q = ((zcls z r = 22) ∧ ZW zG d 55 140 ls (.int (zfi z r 2) :: st) (z) Q) := zw_getI rfl
theorem s55_140 {ls : List Value} {a : Int32} {r : Nat} : ZW zG d 55 140 ls (.int a :: .ref r :: st) z Q = ((zcls z r = 62 ∧ zin a (zlen z r) = true ∧ zir (zra z r (zx a)) = true) ∧ ZW zG d 55 141 ls (zra z r (zx a) :: st) (z) Q) := zw_aald rfl
theorem s55_141 {x0 x1 x2 x3 x4 : Value} : ZW zG d 55 141 [x0, x1, x2, x3, x4] st z Q = (zir x4 = true ∧ ZW zG d 55 143 [x0, x1, x2, x3, x4] (x4 :: st) z Q) := zw_cond (f := z_aload 4 143) rfl rfl
theorem s55_143 {ls : List Value} {r : Nat} : ZW zG d 55 143 ls (.ref r :: st) z Q = ((zcls z r = 22) ∧ ZW zG d 55 146 ls (.int (zfi z r 3) :: st) (z) Q) := zw_getI rfl
theorem s55_146 {ls : List Value} {w0 : Int32} {w1 : Int32} {w2 : Nat} {w3 : Int32} {r : Nat} : ZW zG (d + 1) 55 146 ls (.int w3 :: .ref w2 :: .int w1 :: .int w0 :: .ref r :: st) z Q = (zcls z r = 3 ∧ zcs st = true ∧ ZC zG d 69 [.ref r, .int w0, .int w1, .ref w2, .int w3] z (zk zG (d + 1) 55 (none) 149 ls st Q)) := zc_V4 rfl (Nat.le_of_ble_eq_true rfl)
theorem s55_149 {ls : List Value} {a : Int32} : ZW zG d 55 149 ls (.int a :: st) z Q = ZW zG d 55 150 ls (st) z Q := zw_popi rfl
theorem s55_150 {x0 x1 x2 x4 : Value} {a : Int32} : ZW zG d 55 150 [x0, x1, x2, .int a, x4] st z Q = ZW zG d 55 153 [x0, x1, zclr x2, .int (a + (nI 1)), x4] st z Q := zw_next (f := z_iinc 3 (nI 1) 153) rfl rfl
theorem s55_153 {ls : List Value}  : ZW zG d 55 153 ls (st) z Q = ZW zG d 55 60 ls st z Q := zw_goto rfl
theorem s55_156 {x0 x1 x2 x3 x4 : Value} : ZW zG d 55 156 [x0, x1, x2, x3, x4] st z Q = (zir x2 = true ∧ ZW zG d 55 157 [x0, x1, x2, x3, x4] (x2 :: st) z Q) := zw_cond (f := z_aload 2 157) rfl rfl
theorem s55_157 {ls : List Value} {r : Nat} : ZW zG d 55 157 ls (.ref r :: st) z Q = ((zcls z r = 3 ∧ zir (zfr z r 3) = true) ∧ ZW zG d 55 160 ls (zfr z r 3 :: st) (z) Q) := zw_getR rfl
theorem s55_160 {ls : List Value} {r : Nat} : ZW zG d 55 160 ls (.ref r :: st) z Q = ((zcs st = true ∧ zcls z r = 90) ∧ ZW zG d 55 165 ls (.int (nI (zls z r).length) :: st) (z) Q) := zw_lsize rfl
theorem s55_165 {ls : List Value} {a : Int32} : ZW zG d 55 165 ls ([.int a]) z Q = Q (.inl (some (.int a))) z := zw_reti rfl
/-- X0_count (I)I -/
theorem e56 {r0 : Nat} {v0 : Int32} : ZC zG d 56 [.ref r0, .int v0] z Q = ZW zG d 56 0 [.ref r0, .int v0, zdum, zdum] [] z Q := rfl
theorem s56_0 {ls : List Value}  : ZW zG d 56 0 ls (st) z Q = ZW zG d 56 1 ls ((.int (nI 0)) :: st) z Q := zw_push rfl
theorem s56_1 {x0 x1 x2 x3 : Value} {a : Int32} : ZW zG d 56 1 [x0, x1, x2, x3] (.int a :: st) z Q = ZW zG d 56 2 [x0, zclr x1, .int a, x3] st z Q := zw_next (f := z_istore 2 2) rfl rfl
theorem s56_2 {x0 x2 x3 : Value} {a : Int32} : ZW zG d 56 2 [x0, .int a, x2, x3] st z Q = ZW zG d 56 3 [x0, .int a, x2, x3] (.int a :: st) z Q := zw_next (f := z_iload 1 3) rfl rfl
theorem s56_3 {ls : List Value} {a : Int32} : ZW zG d 56 3 ls (.int a :: st) z Q = ZW zG d 56 (ztsw [60, 71, 87, 95, 111, 117, 130, 141, 146, 157, 168] 203 a) ls st z Q := zw_tsw rfl
theorem s56_60 {x0 x1 x2 x3 : Value} : ZW zG d 56 60 [x0, x1, x2, x3] st z Q = (zir x0 = true ∧ ZW zG d 56 61 [x0, x1, x2, x3] (x0 :: st) z Q) := zw_cond (f := z_aload 0 61) rfl rfl
theorem s56_61 {ls : List Value} {r : Nat} : ZW zG d 56 61 ls (.ref r :: st) z Q = ((zcls z r = 0 ∧ zir (zfr z r 1) = true) ∧ ZW zG d 56 64 ls (zfr z r 1 :: st) (z) Q) := zw_getR rfl
theorem s56_64 {ls : List Value} {r : Nat} : ZW zG d 56 64 ls (.ref r :: st) z Q = ((zcls z r = 1 ∧ zir (zfr z r 0) = true) ∧ ZW zG d 56 67 ls (zfr z r 0 :: st) (z) Q) := zw_getR rfl
theorem s56_67 {ls : List Value}  {r : Nat} : ZW zG (d + 1) 56 67 ls (.ref r :: st) z Q = (zcls z r = 2 ∧ zcs st = true ∧ ZC zG d 63 [.ref r] z (zk zG (d + 1) 56 (none) 70 ls st Q)) := zc_V0 rfl (Nat.le_of_ble_eq_true rfl)
theorem s56_70 {ls : List Value} {a : Int32} : ZW zG d 56 70 ls ([.int a]) z Q = Q (.inl (some (.int a))) z := zw_reti rfl
theorem s56_71 {x0 x1 x2 x3 : Value} : ZW zG d 56 71 [x0, x1, x2, x3] st z Q = (zir x0 = true ∧ ZW zG d 56 72 [x0, x1, x2, x3] (x0 :: st) z Q) := zw_cond (f := z_aload 0 72) rfl rfl
theorem s56_72 {ls : List Value} {r : Nat} : ZW zG d 56 72 ls (.ref r :: st) z Q = ((zcls z r = 0 ∧ zir (zfr z r 1) = true) ∧ ZW zG d 56 75 ls (zfr z r 1 :: st) (z) Q) := zw_getR rfl
theorem s56_75 {ls : List Value} {r : Nat} : ZW zG d 56 75 ls (.ref r :: st) z Q = ((zcls z r = 1 ∧ zir (zfr z r 0) = true) ∧ ZW zG d 56 78 ls (zfr z r 0 :: st) (z) Q) := zw_getR rfl
theorem s56_78 {ls : List Value} {r : Nat} : ZW zG d 56 78 ls (.ref r :: st) z Q = ((zcls z r = 2 ∧ zir (zfr z r 2) = true) ∧ ZW zG d 56 81 ls (zfr z r 2 :: st) (z) Q) := zw_getR rfl
theorem s56_81 {ls : List Value} {r : Nat} : ZW zG d 56 81 ls (.ref r :: st) z Q = ((zcs st = true ∧ zcls z r = 90) ∧ ZW zG d 56 86 ls (.int (nI (zls z r).length) :: st) (z) Q) := zw_lsize rfl
theorem s56_86 {ls : List Value} {a : Int32} : ZW zG d 56 86 ls ([.int a]) z Q = Q (.inl (some (.int a))) z := zw_reti rfl
theorem s56_87 {x0 x1 x2 x3 : Value} : ZW zG d 56 87 [x0, x1, x2, x3] st z Q = (zir x0 = true ∧ ZW zG d 56 88 [x0, x1, x2, x3] (x0 :: st) z Q) := zw_cond (f := z_aload 0 88) rfl rfl
theorem s56_88 {ls : List Value} {r : Nat} : ZW zG d 56 88 ls (.ref r :: st) z Q = ((zcls z r = 0 ∧ zir (zfr z r 1) = true) ∧ ZW zG d 56 91 ls (zfr z r 1 :: st) (z) Q) := zw_getR rfl
theorem s56_91 {ls : List Value} {r : Nat} : ZW zG d 56 91 ls (.ref r :: st) z Q = ((zcls z r = 1) ∧ ZW zG d 56 94 ls (.int (zfi z r 3) :: st) (z) Q) := zw_getI rfl
theorem s56_94 {ls : List Value} {a : Int32} : ZW zG d 56 94 ls ([.int a]) z Q = Q (.inl (some (.int a))) z := zw_reti rfl
theorem s56_95 {x0 x1 x2 x3 : Value} : ZW zG d 56 95 [x0, x1, x2, x3] st z Q = (zir x0 = true ∧ ZW zG d 56 96 [x0, x1, x2, x3] (x0 :: st) z Q) := zw_cond (f := z_aload 0 96) rfl rfl
theorem s56_96 {ls : List Value} {r : Nat} : ZW zG d 56 96 ls (.ref r :: st) z Q = ((zcls z r = 0 ∧ zir (zfr z r 1) = true) ∧ ZW zG d 56 99 ls (zfr z r 1 :: st) (z) Q) := zw_getR rfl
theorem s56_99 {ls : List Value} {r : Nat} : ZW zG d 56 99 ls (.ref r :: st) z Q = ((zcls z r = 1 ∧ zir (zfr z r 1) = true) ∧ ZW zG d 56 102 ls (zfr z r 1 :: st) (z) Q) := zw_getR rfl
theorem s56_102 {ls : List Value} {r : Nat} : ZW zG d 56 102 ls (.ref r :: st) z Q = ((zcls z r = 3 ∧ zir (zfr z r 3) = true) ∧ ZW zG d 56 105 ls (zfr z r 3 :: st) (z) Q) := zw_getR rfl
theorem s56_105 {ls : List Value} {r : Nat} : ZW zG d 56 105 ls (.ref r :: st) z Q = ((zcs st = true ∧ zcls z r = 90) ∧ ZW zG d 56 110 ls (.int (nI (zls z r).length) :: st) (z) Q) := zw_lsize rfl
theorem s56_110 {ls : List Value} {a : Int32} : ZW zG d 56 110 ls ([.int a]) z Q = Q (.inl (some (.int a))) z := zw_reti rfl
theorem s56_111 {x0 x1 x2 x3 : Value} : ZW zG d 56 111 [x0, x1, x2, x3] st z Q = (zir x0 = true ∧ ZW zG d 56 112 [x0, x1, x2, x3] (x0 :: st) z Q) := zw_cond (f := z_aload 0 112) rfl rfl
theorem s56_112 {ls : List Value}  : ZW zG d 56 112 ls (st) z Q = ZW zG d 56 113 ls ((.int (-1)) :: st) z Q := zw_push rfl
theorem s56_113 {ls : List Value} {w0 : Int32} {r : Nat} : ZW zG (d + 1) 56 113 ls (.int w0 :: .ref r :: st) z Q = (zcls z r = 0 ∧ zcs st = true ∧ ZC zG d 27 [.ref r, .int w0] z (zk zG (d + 1) 56 (none) 116 ls st Q)) := zc_V1 rfl (Nat.le_of_ble_eq_true rfl)
theorem s56_116 {ls : List Value} {a : Int32} : ZW zG d 56 116 ls ([.int a]) z Q = Q (.inl (some (.int a))) z := zw_reti rfl
theorem s56_117 {x0 x1 x2 x3 : Value} : ZW zG d 56 117 [x0, x1, x2, x3] st z Q = (zir x0 = true ∧ ZW zG d 56 118 [x0, x1, x2, x3] (x0 :: st) z Q) := zw_cond (f := z_aload 0 118) rfl rfl
theorem s56_118 {ls : List Value} {r : Nat} : ZW zG d 56 118 ls (.ref r :: st) z Q = ((zcls z r = 0 ∧ zir (zfr z r 1) = true) ∧ ZW zG d 56 121 ls (zfr z r 1 :: st) (z) Q) := zw_getR rfl
theorem s56_121 {ls : List Value} {r : Nat} : ZW zG d 56 121 ls (.ref r :: st) z Q = ((zcls z r = 1 ∧ zir (zfr z r 2) = true) ∧ ZW zG d 56 124 ls (zfr z r 2 :: st) (z) Q) := zw_getR rfl
theorem s56_124 {ls : List Value} {r : Nat} : ZW zG d 56 124 ls (.ref r :: st) z Q = ((zcs st = true ∧ zcls z r = 90) ∧ ZW zG d 56 129 ls (.int (nI (zls z r).length) :: st) (z) Q) := zw_lsize rfl
theorem s56_129 {ls : List Value} {a : Int32} : ZW zG d 56 129 ls ([.int a]) z Q = Q (.inl (some (.int a))) z := zw_reti rfl
theorem s56_130 {x0 x1 x2 x3 : Value} : ZW zG d 56 130 [x0, x1, x2, x3] st z Q = (zir x0 = true ∧ ZW zG d 56 131 [x0, x1, x2, x3] (x0 :: st) z Q) := zw_cond (f := z_aload 0 131) rfl rfl
theorem s56_131 {ls : List Value} {r : Nat} : ZW zG d 56 131 ls (.ref r :: st) z Q = ((zcls z r = 0 ∧ zir (zfr z r 1) = true) ∧ ZW zG d 56 134 ls (zfr z r 1 :: st) (z) Q) := zw_getR rfl
theorem s56_134 {ls : List Value} {r : Nat} : ZW zG d 56 134 ls (.ref r :: st) z Q = ((zcls z r = 1 ∧ zir (zfr z r 1) = true) ∧ ZW zG d 56 137 ls (zfr z r 1 :: st) (z) Q) := zw_getR rfl
theorem s56_137 {ls : List Value} {r : Nat} : ZW zG d 56 137 ls (.ref r :: st) z Q = ((zcls z r = 3) ∧ ZW zG d 56 140 ls (.int (zfi z r 5) :: st) (z) Q) := zw_getI rfl
theorem s56_140 {ls : List Value} {a : Int32} : ZW zG d 56 140 ls ([.int a]) z Q = Q (.inl (some (.int a))) z := zw_reti rfl
theorem s56_141 {x0 x1 x2 x3 : Value} : ZW zG d 56 141 [x0, x1, x2, x3] st z Q = (zir x0 = true ∧ ZW zG d 56 142 [x0, x1, x2, x3] (x0 :: st) z Q) := zw_cond (f := z_aload 0 142) rfl rfl
theorem s56_142 {ls : List Value} {r : Nat} : ZW zG d 56 142 ls (.ref r :: st) z Q = ((zcls z r = 0) ∧ ZW zG d 56 145 ls (.int (zfi z r 6) :: st) (z) Q) := zw_getI rfl
theorem s56_145 {ls : List Value} {a : Int32} : ZW zG d 56 145 ls ([.int a]) z Q = Q (.inl (some (.int a))) z := zw_reti rfl
theorem s56_146 {x0 x1 x2 x3 : Value} : ZW zG d 56 146 [x0, x1, x2, x3] st z Q = (zir x0 = true ∧ ZW zG d 56 147 [x0, x1, x2, x3] (x0 :: st) z Q) := zw_cond (f := z_aload 0 147) rfl rfl
theorem s56_147 {ls : List Value} {r : Nat} : ZW zG d 56 147 ls (.ref r :: st) z Q = ((zcls z r = 0 ∧ zir (zfr z r 1) = true) ∧ ZW zG d 56 150 ls (zfr z r 1 :: st) (z) Q) := zw_getR rfl
theorem s56_150 {ls : List Value} {r : Nat} : ZW zG d 56 150 ls (.ref r :: st) z Q = ((zcls z r = 1 ∧ zir (zfr z r 0) = true) ∧ ZW zG d 56 153 ls (zfr z r 0 :: st) (z) Q) := zw_getR rfl
theorem s56_153 {ls : List Value} {r : Nat} : ZW zG d 56 153 ls (.ref r :: st) z Q = ((zcls z r = 2) ∧ ZW zG d 56 156 ls (.int (zfi z r 4) :: st) (z) Q) := zw_getI rfl
theorem s56_156 {ls : List Value} {a : Int32} : ZW zG d 56 156 ls ([.int a]) z Q = Q (.inl (some (.int a))) z := zw_reti rfl
theorem s56_157 {x0 x1 x2 x3 : Value} : ZW zG d 56 157 [x0, x1, x2, x3] st z Q = (zir x0 = true ∧ ZW zG d 56 158 [x0, x1, x2, x3] (x0 :: st) z Q) := zw_cond (f := z_aload 0 158) rfl rfl
theorem s56_158 {ls : List Value} {r : Nat} : ZW zG d 56 158 ls (.ref r :: st) z Q = ((zcls z r = 0 ∧ zir (zfr z r 1) = true) ∧ ZW zG d 56 161 ls (zfr z r 1 :: st) (z) Q) := zw_getR rfl
theorem s56_161 {ls : List Value} {r : Nat} : ZW zG d 56 161 ls (.ref r :: st) z Q = ((zcls z r = 1 ∧ zir (zfr z r 0) = true) ∧ ZW zG d 56 164 ls (zfr z r 0 :: st) (z) Q) := zw_getR rfl
theorem s56_164 {ls : List Value} {r : Nat} : ZW zG d 56 164 ls (.ref r :: st) z Q = ((zcls z r = 2) ∧ ZW zG d 56 167 ls (.int (zfi z r 3) :: st) (z) Q) := zw_getI rfl
theorem s56_167 {ls : List Value} {a : Int32} : ZW zG d 56 167 ls ([.int a]) z Q = Q (.inl (some (.int a))) z := zw_reti rfl
theorem s56_168 {ls : List Value}  : ZW zG d 56 168 ls (st) z Q = ZW zG d 56 169 ls ((.int (nI 0)) :: st) z Q := zw_push rfl
theorem s56_169 {x0 x1 x2 x3 : Value} {a : Int32} : ZW zG d 56 169 [x0, x1, x2, x3] (.int a :: st) z Q = ZW zG d 56 170 [x0, x1, zclr x2, .int a] st z Q := zw_next (f := z_istore 3 170) rfl rfl
theorem s56_170 {x0 x1 x2 : Value} {a : Int32} : ZW zG d 56 170 [x0, x1, x2, .int a] st z Q = ZW zG d 56 171 [x0, x1, x2, .int a] (.int a :: st) z Q := zw_next (f := z_iload 3 171) rfl rfl
theorem s56_171 {ls : List Value}  : ZW zG d 56 171 ls (st) z Q = ZW zG d 56 172 ls ((.int (nI 4)) :: st) z Q := zw_push rfl
theorem s56_172 {ls : List Value} {a b : Int32} : ZW zG d 56 172 ls (.int b :: .int a :: st) z Q = if b ≤ a then ZW zG d 56 201 ls st z Q else ZW zG d 56 175 ls st z Q := zw_icge rfl
theorem s56_175 {x0 x1 x3 : Value} {a : Int32} : ZW zG d 56 175 [x0, x1, .int a, x3] st z Q = ZW zG d 56 176 [x0, x1, .int a, x3] (.int a :: st) z Q := zw_next (f := z_iload 2 176) rfl rfl
theorem s56_176 {x0 x1 x2 x3 : Value} : ZW zG d 56 176 [x0, x1, x2, x3] st z Q = (zir x0 = true ∧ ZW zG d 56 177 [x0, x1, x2, x3] (x0 :: st) z Q) := zw_cond (f := z_aload 0 177) rfl rfl
theorem s56_177 {ls : List Value} {r : Nat} : ZW zG d 56 177 ls (.ref r :: st) z Q = ((zcls z r = 0 ∧ zir (zfr z r 0) = true) ∧ ZW zG d 56 180 ls (zfr z r 0 :: st) (z) Q) := zw_getR rfl
theorem s56_180 {x0 x1 x2 : Value} {a : Int32} : ZW zG d 56 180 [x0, x1, x2, .int a] st z Q = ZW zG d 56 181 [x0, x1, x2, .int a] (.int a :: st) z Q := zw_next (f := z_iload 3 181) rfl rfl
theorem s56_181 {ls : List Value} {a : Int32} {r : Nat} : ZW zG d 56 181 ls (.int a :: .ref r :: st) z Q = ((zcls z r = 60 ∧ zin a (zlen z r) = true ∧ zir (zra z r (zx a)) = true) ∧ ZW zG d 56 182 ls (zra z r (zx a) :: st) (z) Q) := zw_aald rfl
theorem s56_182 {ls : List Value} {r : Nat} : ZW zG d 56 182 ls (.ref r :: st) z Q = ((zcls z r = 11 ∧ zir (zfr z r 0) = true) ∧ ZW zG d 56 185 ls (zfr z r 0 :: st) (z) Q) := zw_getR rfl
theorem s56_185 {ls : List Value} : ZW zG d 56 185 ls (.null :: st) z Q = ZW zG d 56 188 ls st z Q := zw_ifnon0 rfl
theorem s56_185r {ls : List Value} {r : Nat} : ZW zG d 56 185 ls (.ref r :: st) z Q = ZW zG d 56 192 ls st z Q := zw_ifnon1 rfl
theorem s56_188 {ls : List Value}  : ZW zG d 56 188 ls (st) z Q = ZW zG d 56 189 ls ((.int (nI 0)) :: st) z Q := zw_push rfl
theorem s56_189 {ls : List Value}  : ZW zG d 56 189 ls (st) z Q = ZW zG d 56 193 ls st z Q := zw_goto rfl
theorem s56_192 {ls : List Value}  : ZW zG d 56 192 ls (st) z Q = ZW zG d 56 193 ls ((.int (nI 1)) :: st) z Q := zw_push rfl
theorem s56_193 {ls : List Value} {a b : Int32} : ZW zG d 56 193 ls (.int b :: .int a :: st) z Q = ZW zG d 56 194 ls (.int (a + b) :: st) z Q := zw_iadd rfl
theorem s56_194 {x0 x1 x2 x3 : Value} {a : Int32} : ZW zG d 56 194 [x0, x1, x2, x3] (.int a :: st) z Q = ZW zG d 56 195 [x0, zclr x1, .int a, x3] st z Q := zw_next (f := z_istore 2 195) rfl rfl
theorem s56_195 {x0 x1 x2 : Value} {a : Int32} : ZW zG d 56 195 [x0, x1, x2, .int a] st z Q = ZW zG d 56 198 [x0, x1, zclr x2, .int (a + (nI 1))] st z Q := zw_next (f := z_iinc 3 (nI 1) 198) rfl rfl
theorem s56_198 {ls : List Value}  : ZW zG d 56 198 ls (st) z Q = ZW zG d 56 170 ls st z Q := zw_goto rfl
theorem s56_201 {x0 x1 x3 : Value} {a : Int32} : ZW zG d 56 201 [x0, x1, .int a, x3] st z Q = ZW zG d 56 202 [x0, x1, .int a, x3] (.int a :: st) z Q := zw_next (f := z_iload 2 202) rfl rfl
theorem s56_202 {ls : List Value} {a : Int32} : ZW zG d 56 202 ls ([.int a]) z Q = Q (.inl (some (.int a))) z := zw_reti rfl
theorem s56_203 {ls : List Value}  : ZW zG d 56 203 ls (st) z Q = ZW zG d 56 204 ls ((.int (-1)) :: st) z Q := zw_push rfl
theorem s56_204 {ls : List Value} {a : Int32} : ZW zG d 56 204 ls ([.int a]) z Q = Q (.inl (some (.int a))) z := zw_reti rfl
/-- X0_keep (I)I -/
theorem e57 {r0 : Nat} {v0 : Int32} : ZC zG d 57 [.ref r0, .int v0] z Q = ZW zG d 57 0 [.ref r0, .int v0] [] z Q := rfl
theorem s57_0 {x0 : Value} {a : Int32} : ZW zG d 57 0 [x0, .int a] st z Q = ZW zG d 57 1 [x0, .int a] (.int a :: st) z Q := zw_next (f := z_iload 1 1) rfl rfl
theorem s57_1 {ls : List Value} {a : Int32} : ZW zG d 57 1 ls (.int a :: st) z Q = ZW zG d 57 2 ls (.long a.toInt64 :: st) z Q := zw_i2l rfl
theorem s57_2 {ls : List Value}  : ZW zG d 57 2 ls (st) z Q = ZW zG d 57 3 ls ((.long (lN 0)) :: st) z Q := zw_push rfl
theorem s57_3 {ls : List Value}  : ZW zG d 57 3 ls (st) z Q = ZW zG d 57 6 ls ((.long (lN 2)) :: st) z Q := zw_push rfl
theorem s57_6 {ls : List Value} {w0 : Int64} {w1 : Int64} {w2 : Int64} : ZW zG (d + 1) 57 6 ls (.long w2 :: .long w1 :: .long w0 :: st) z Q = (zcs st = true ∧ ZC zG d 2 [.long w0, .long w1, .long w2] z (zk zG (d + 1) 57 (none) 9 ls st Q)) := zc_S3 rfl (Nat.le_of_ble_eq_true rfl)
theorem s57_9 {ls : List Value} {a : Int32} : ZW zG d 57 9 ls (.int a :: st) z Q = if ¬ a = 0 then ZW zG d 57 15 ls st z Q else ZW zG d 57 12 ls st z Q := zw_ifne rfl
theorem s57_12 {ls : List Value}  : ZW zG d 57 12 ls (st) z Q = ZW zG d 57 14 ls ((.int (-2)) :: st) z Q := zw_push rfl
theorem s57_14 {ls : List Value} {a : Int32} : ZW zG d 57 14 ls ([.int a]) z Q = Q (.inl (some (.int a))) z := zw_reti rfl
theorem s57_15 {x0 x1 : Value} : ZW zG d 57 15 [x0, x1] st z Q = (zir x0 = true ∧ ZW zG d 57 16 [x0, x1] (x0 :: st) z Q) := zw_cond (f := z_aload 0 16) rfl rfl
theorem s57_16 {ls : List Value} {r : Nat} : ZW zG d 57 16 ls (.ref r :: st) z Q = ((zcls z r = 0 ∧ zir (zfr z r 2) = true) ∧ ZW zG d 57 19 ls (zfr z r 2 :: st) (z) Q) := zw_getR rfl
theorem s57_19 {x0 : Value} {a : Int32} : ZW zG d 57 19 [x0, .int a] st z Q = ZW zG d 57 20 [x0, .int a] (.int a :: st) z Q := zw_next (f := z_iload 1 20) rfl rfl
theorem s57_20 {ls : List Value} {a : Int32} {r : Nat} : ZW zG d 57 20 ls (.int a :: .ref r :: st) z Q = ((zcls z r = 61 ∧ zin a (zlen z r) = true ∧ zir (zra z r (zx a)) = true) ∧ ZW zG d 57 21 ls (zra z r (zx a) :: st) (z) Q) := zw_aald rfl
theorem s57_21 {ls : List Value} : ZW zG d 57 21 ls (.null :: st) z Q = ZW zG d 57 24 ls st z Q := zw_ifnon0 rfl
theorem s57_21r {ls : List Value} {r : Nat} : ZW zG d 57 21 ls (.ref r :: st) z Q = ZW zG d 57 37 ls st z Q := zw_ifnon1 rfl
theorem s57_24 {x0 x1 : Value} : ZW zG d 57 24 [x0, x1] st z Q = (zir x0 = true ∧ ZW zG d 57 25 [x0, x1] (x0 :: st) z Q) := zw_cond (f := z_aload 0 25) rfl rfl
theorem s57_25 {ls : List Value} {r : Nat} : ZW zG d 57 25 ls (.ref r :: st) z Q = ((zcls z r = 0 ∧ zir (zfr z r 2) = true) ∧ ZW zG d 57 28 ls (zfr z r 2 :: st) (z) Q) := zw_getR rfl
theorem s57_28 {x0 : Value} {a : Int32} : ZW zG d 57 28 [x0, .int a] st z Q = ZW zG d 57 29 [x0, .int a] (.int a :: st) z Q := zw_next (f := z_iload 1 29) rfl rfl
theorem s57_29 {ls : List Value}  : ZW zG d 57 29 ls (st) z Q = ZW zG d 57 32 ls (.ref (zn z) :: st) (snew z 1 4) Q := zw_new rfl
theorem s57_32 {ls : List Value} {r : Nat} : ZW zG d 57 32 ls (.ref r :: st) z Q = ZW zG d 57 33 ls (.ref r :: .ref r :: st) z Q := zw_dupr rfl
theorem s57_33 {ls : List Value}  {r : Nat} : ZW zG (d + 1) 57 33 ls (.ref r :: st) z Q = (zcs st = true ∧ ZC zG d 59 [.ref r] z (zk zG (d + 1) 57 (none) 36 ls st Q)) := zc_I0 rfl (Nat.le_of_ble_eq_true rfl)
theorem s57_36 {ls : List Value} {a : Int32} {v : Value} {r : Nat} : ZW zG d 57 36 ls (v :: .int a :: .ref r :: st) z Q = ((zcls z r = 61 ∧ zin a (zlen z r) = true ∧ zael z 61 v = true) ∧ ZW zG d 57 37 ls (st) (sra z r (zx a) v) Q) := zw_aast rfl
theorem s57_37 {x0 x1 : Value} : ZW zG d 57 37 [x0, x1] st z Q = (zir x0 = true ∧ ZW zG d 57 38 [x0, x1] (x0 :: st) z Q) := zw_cond (f := z_aload 0 38) rfl rfl
theorem s57_38 {ls : List Value} {r : Nat} : ZW zG d 57 38 ls (.ref r :: st) z Q = ((zcls z r = 0 ∧ zir (zfr z r 2) = true) ∧ ZW zG d 57 41 ls (zfr z r 2 :: st) (z) Q) := zw_getR rfl
theorem s57_41 {x0 : Value} {a : Int32} : ZW zG d 57 41 [x0, .int a] st z Q = ZW zG d 57 42 [x0, .int a] (.int a :: st) z Q := zw_next (f := z_iload 1 42) rfl rfl
theorem s57_42 {ls : List Value} {a : Int32} {r : Nat} : ZW zG d 57 42 ls (.int a :: .ref r :: st) z Q = ((zcls z r = 61 ∧ zin a (zlen z r) = true ∧ zir (zra z r (zx a)) = true) ∧ ZW zG d 57 43 ls (zra z r (zx a) :: st) (z) Q) := zw_aald rfl
theorem s57_43 {x0 x1 : Value} : ZW zG d 57 43 [x0, x1] st z Q = (zir x0 = true ∧ ZW zG d 57 44 [x0, x1] (x0 :: st) z Q) := zw_cond (f := z_aload 0 44) rfl rfl
theorem s57_44 {ls : List Value} {r : Nat} : ZW zG d 57 44 ls (.ref r :: st) z Q = ((zcls z r = 0 ∧ zir (zfr z r 1) = true) ∧ ZW zG d 57 47 ls (zfr z r 1 :: st) (z) Q) := zw_getR rfl
theorem s57_47 {ls : List Value} {w0 : Nat} {r : Nat} : ZW zG (d + 1) 57 47 ls (.ref w0 :: .ref r :: st) z Q = (zcls z r = 1 ∧ zcs st = true ∧ ZC zG d 61 [.ref r, .ref w0] z (zk zG (d + 1) 57 (none) 50 ls st Q)) := zc_V1 rfl (Nat.le_of_ble_eq_true rfl)
theorem s57_50 {ls : List Value}  : ZW zG d 57 50 ls (st) z Q = ZW zG d 57 51 ls ((.int (nI 0)) :: st) z Q := zw_push rfl
theorem s57_51 {ls : List Value} {a : Int32} : ZW zG d 57 51 ls ([.int a]) z Q = Q (.inl (some (.int a))) z := zw_reti rfl
/-- X0_back (I)I -/
theorem e58 {r0 : Nat} {v0 : Int32} : ZC zG d 58 [.ref r0, .int v0] z Q = ZW zG d 58 0 [.ref r0, .int v0] [] z Q := rfl
theorem s58_0 {x0 : Value} {a : Int32} : ZW zG d 58 0 [x0, .int a] st z Q = ZW zG d 58 1 [x0, .int a] (.int a :: st) z Q := zw_next (f := z_iload 1 1) rfl rfl
theorem s58_1 {ls : List Value} {a : Int32} : ZW zG d 58 1 ls (.int a :: st) z Q = ZW zG d 58 2 ls (.long a.toInt64 :: st) z Q := zw_i2l rfl
theorem s58_2 {ls : List Value}  : ZW zG d 58 2 ls (st) z Q = ZW zG d 58 3 ls ((.long (lN 0)) :: st) z Q := zw_push rfl
theorem s58_3 {ls : List Value}  : ZW zG d 58 3 ls (st) z Q = ZW zG d 58 6 ls ((.long (lN 2)) :: st) z Q := zw_push rfl
theorem s58_6 {ls : List Value} {w0 : Int64} {w1 : Int64} {w2 : Int64} : ZW zG (d + 1) 58 6 ls (.long w2 :: .long w1 :: .long w0 :: st) z Q = (zcs st = true ∧ ZC zG d 2 [.long w0, .long w1, .long w2] z (zk zG (d + 1) 58 (none) 9 ls st Q)) := zc_S3 rfl (Nat.le_of_ble_eq_true rfl)
theorem s58_9 {ls : List Value} {a : Int32} : ZW zG d 58 9 ls (.int a :: st) z Q = if ¬ a = 0 then ZW zG d 58 15 ls st z Q else ZW zG d 58 12 ls st z Q := zw_ifne rfl
theorem s58_12 {ls : List Value}  : ZW zG d 58 12 ls (st) z Q = ZW zG d 58 14 ls ((.int (-2)) :: st) z Q := zw_push rfl
theorem s58_14 {ls : List Value} {a : Int32} : ZW zG d 58 14 ls ([.int a]) z Q = Q (.inl (some (.int a))) z := zw_reti rfl
theorem s58_15 {x0 x1 : Value} : ZW zG d 58 15 [x0, x1] st z Q = (zir x0 = true ∧ ZW zG d 58 16 [x0, x1] (x0 :: st) z Q) := zw_cond (f := z_aload 0 16) rfl rfl
theorem s58_16 {ls : List Value} {r : Nat} : ZW zG d 58 16 ls (.ref r :: st) z Q = ((zcls z r = 0 ∧ zir (zfr z r 2) = true) ∧ ZW zG d 58 19 ls (zfr z r 2 :: st) (z) Q) := zw_getR rfl
theorem s58_19 {x0 : Value} {a : Int32} : ZW zG d 58 19 [x0, .int a] st z Q = ZW zG d 58 20 [x0, .int a] (.int a :: st) z Q := zw_next (f := z_iload 1 20) rfl rfl
theorem s58_20 {ls : List Value} {a : Int32} {r : Nat} : ZW zG d 58 20 ls (.int a :: .ref r :: st) z Q = ((zcls z r = 61 ∧ zin a (zlen z r) = true ∧ zir (zra z r (zx a)) = true) ∧ ZW zG d 58 21 ls (zra z r (zx a) :: st) (z) Q) := zw_aald rfl
theorem s58_21 {ls : List Value} : ZW zG d 58 21 ls (.null :: st) z Q = ZW zG d 58 24 ls st z Q := zw_ifnon0 rfl
theorem s58_21r {ls : List Value} {r : Nat} : ZW zG d 58 21 ls (.ref r :: st) z Q = ZW zG d 58 27 ls st z Q := zw_ifnon1 rfl
theorem s58_24 {ls : List Value}  : ZW zG d 58 24 ls (st) z Q = ZW zG d 58 26 ls ((.int (-6)) :: st) z Q := zw_push rfl
theorem s58_26 {ls : List Value} {a : Int32} : ZW zG d 58 26 ls ([.int a]) z Q = Q (.inl (some (.int a))) z := zw_reti rfl
theorem s58_27 {x0 x1 : Value} : ZW zG d 58 27 [x0, x1] st z Q = (zir x0 = true ∧ ZW zG d 58 28 [x0, x1] (x0 :: st) z Q) := zw_cond (f := z_aload 0 28) rfl rfl
theorem s58_28 {ls : List Value} {r : Nat} : ZW zG d 58 28 ls (.ref r :: st) z Q = ((zcls z r = 0 ∧ zir (zfr z r 1) = true) ∧ ZW zG d 58 31 ls (zfr z r 1 :: st) (z) Q) := zw_getR rfl
theorem s58_31 {x0 x1 : Value} : ZW zG d 58 31 [x0, x1] st z Q = (zir x0 = true ∧ ZW zG d 58 32 [x0, x1] (x0 :: st) z Q) := zw_cond (f := z_aload 0 32) rfl rfl
theorem s58_32 {ls : List Value} {r : Nat} : ZW zG d 58 32 ls (.ref r :: st) z Q = ((zcls z r = 0 ∧ zir (zfr z r 2) = true) ∧ ZW zG d 58 35 ls (zfr z r 2 :: st) (z) Q) := zw_getR rfl
theorem s58_35 {x0 : Value} {a : Int32} : ZW zG d 58 35 [x0, .int a] st z Q = ZW zG d 58 36 [x0, .int a] (.int a :: st) z Q := zw_next (f := z_iload 1 36) rfl rfl
theorem s58_36 {ls : List Value} {a : Int32} {r : Nat} : ZW zG d 58 36 ls (.int a :: .ref r :: st) z Q = ((zcls z r = 61 ∧ zin a (zlen z r) = true ∧ zir (zra z r (zx a)) = true) ∧ ZW zG d 58 37 ls (zra z r (zx a) :: st) (z) Q) := zw_aald rfl
theorem s58_37 {ls : List Value} {w0 : Nat} {r : Nat} : ZW zG (d + 1) 58 37 ls (.ref w0 :: .ref r :: st) z Q = (zcls z r = 1 ∧ zcs st = true ∧ ZC zG d 61 [.ref r, .ref w0] z (zk zG (d + 1) 58 (none) 40 ls st Q)) := zc_V1 rfl (Nat.le_of_ble_eq_true rfl)
theorem s58_40 {ls : List Value}  : ZW zG d 58 40 ls (st) z Q = ZW zG d 58 41 ls ((.int (nI 0)) :: st) z Q := zw_push rfl
theorem s58_41 {ls : List Value} {a : Int32} : ZW zG d 58 41 ls ([.int a]) z Q = Q (.inl (some (.int a))) z := zw_reti rfl
end ZSITE
