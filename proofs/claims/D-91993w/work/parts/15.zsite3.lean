set_option maxRecDepth 100000
section ZSITE
variable {d : Nat} {st : List Value} {z : ZH} {Q : ZQ}
/-- X12_placeOf (II)I -/
theorem e172 {r0 : Nat} {v0 : Int32} {v1 : Int32} : ZC zG d 172 [.ref r0, .int v0, .int v1] z Q = ZW zG d 172 0 [.ref r0, .int v0, .int v1, zdum, zdum] [] z Q := rfl
theorem s172_0 {ls : List Value}  : ZW zG d 172 0 ls (st) z Q = ZW zG d 172 1 ls ((.int (nI 0)) :: st) z Q := zw_push rfl
theorem s172_1 {x0 x1 x2 x3 x4 : Value} {a : Int32} : ZW zG d 172 1 [x0, x1, x2, x3, x4] (.int a :: st) z Q = ZW zG d 172 2 [x0, x1, zclr x2, .int a, x4] st z Q := zw_next (f := z_istore 3 2) rfl rfl
theorem s172_2 {ls : List Value}  : ZW zG d 172 2 ls (st) z Q = ZW zG d 172 3 ls ((.int (nI 0)) :: st) z Q := zw_push rfl
theorem s172_3 {x0 x1 x2 x3 x4 : Value} {a : Int32} : ZW zG d 172 3 [x0, x1, x2, x3, x4] (.int a :: st) z Q = ZW zG d 172 5 [x0, x1, x2, zclr x3, .int a] st z Q := zw_next (f := z_istore 4 5) rfl rfl
theorem s172_5 {x0 x1 x2 x3 : Value} {a : Int32} : ZW zG d 172 5 [x0, x1, x2, x3, .int a] st z Q = ZW zG d 172 7 [x0, x1, x2, x3, .int a] (.int a :: st) z Q := zw_next (f := z_iload 4 7) rfl rfl
theorem s172_7 {x0 x1 x2 x3 x4 : Value} : ZW zG d 172 7 [x0, x1, x2, x3, x4] st z Q = (zir x0 = true ∧ ZW zG d 172 8 [x0, x1, x2, x3, x4] (x0 :: st) z Q) := zw_cond (f := z_aload 0 8) rfl rfl
theorem s172_8 {ls : List Value} {r : Nat} : ZW zG d 172 8 ls (.ref r :: st) z Q = ((zcls z r = 12 ∧ zir (zfr z r 1) = true) ∧ ZW zG d 172 11 ls (zfr z r 1 :: st) (z) Q) := zw_getR rfl
theorem s172_11 {ls : List Value}  : ZW zG d 172 11 ls (st) z Q = ZW zG d 172 13 ls ((.int (nI 7)) :: st) z Q := zw_push rfl
theorem s172_13 {ls : List Value} {a : Int32} {r : Nat} : ZW zG d 172 13 ls (.int a :: .ref r :: st) z Q = ((zcls z r = 50 ∧ zin a (zlen z r) = true) ∧ ZW zG d 172 14 ls (.int (zia z r (zx a)) :: st) (z) Q) := zw_iald rfl
theorem s172_14 {ls : List Value} {a b : Int32} : ZW zG d 172 14 ls (.int b :: .int a :: st) z Q = if b ≤ a then ZW zG d 172 48 ls st z Q else ZW zG d 172 17 ls st z Q := zw_icge rfl
theorem s172_17 {x0 x1 x2 x3 x4 : Value} : ZW zG d 172 17 [x0, x1, x2, x3, x4] st z Q = (zir x0 = true ∧ ZW zG d 172 18 [x0, x1, x2, x3, x4] (x0 :: st) z Q) := zw_cond (f := z_aload 0 18) rfl rfl
theorem s172_18 {x0 x1 x2 x3 : Value} {a : Int32} : ZW zG d 172 18 [x0, x1, x2, x3, .int a] st z Q = ZW zG d 172 20 [x0, x1, x2, x3, .int a] (.int a :: st) z Q := zw_next (f := z_iload 4 20) rfl rfl
theorem s172_20 {ls : List Value}  : ZW zG d 172 20 ls (st) z Q = ZW zG d 172 21 ls ((.int (nI 0)) :: st) z Q := zw_push rfl
theorem s172_21 {ls : List Value} {w0 : Int32} {w1 : Int32} {r : Nat} : ZW zG (d + 1) 172 21 ls (.int w1 :: .int w0 :: .ref r :: st) z Q = (zcls z r = 12 ∧ zcs st = true ∧ ZC zG d 159 [.ref r, .int w0, .int w1] z (zk zG (d + 1) 172 (none) 24 ls st Q)) := zc_V2 rfl (Nat.le_of_ble_eq_true rfl)
theorem s172_24 {x0 x2 x3 x4 : Value} {a : Int32} : ZW zG d 172 24 [x0, .int a, x2, x3, x4] st z Q = ZW zG d 172 25 [x0, .int a, x2, x3, x4] (.int a :: st) z Q := zw_next (f := z_iload 1 25) rfl rfl
theorem s172_25 {ls : List Value} {a b : Int32} : ZW zG d 172 25 ls (.int b :: .int a :: st) z Q = if a = b then ZW zG d 172 31 ls st z Q else ZW zG d 172 28 ls st z Q := zw_iceq rfl
theorem s172_28 {ls : List Value}  : ZW zG d 172 28 ls (st) z Q = ZW zG d 172 42 ls st z Q := zw_goto rfl
theorem s172_31 {x0 x1 x2 x4 : Value} {a : Int32} : ZW zG d 172 31 [x0, x1, x2, .int a, x4] st z Q = ZW zG d 172 32 [x0, x1, x2, .int a, x4] (.int a :: st) z Q := zw_next (f := z_iload 3 32) rfl rfl
theorem s172_32 {x0 x1 x3 x4 : Value} {a : Int32} : ZW zG d 172 32 [x0, x1, .int a, x3, x4] st z Q = ZW zG d 172 33 [x0, x1, .int a, x3, x4] (.int a :: st) z Q := zw_next (f := z_iload 2 33) rfl rfl
theorem s172_33 {ls : List Value} {a b : Int32} : ZW zG d 172 33 ls (.int b :: .int a :: st) z Q = if ¬ a = b then ZW zG d 172 39 ls st z Q else ZW zG d 172 36 ls st z Q := zw_icne rfl
theorem s172_36 {x0 x1 x2 x3 : Value} {a : Int32} : ZW zG d 172 36 [x0, x1, x2, x3, .int a] st z Q = ZW zG d 172 38 [x0, x1, x2, x3, .int a] (.int a :: st) z Q := zw_next (f := z_iload 4 38) rfl rfl
theorem s172_38 {ls : List Value} {a : Int32} : ZW zG d 172 38 ls ([.int a]) z Q = Q (.inl (some (.int a))) z := zw_reti rfl
theorem s172_39 {x0 x1 x2 x4 : Value} {a : Int32} : ZW zG d 172 39 [x0, x1, x2, .int a, x4] st z Q = ZW zG d 172 42 [x0, x1, zclr x2, .int (a + (nI 1)), x4] st z Q := zw_next (f := z_iinc 3 (nI 1) 42) rfl rfl
theorem s172_42 {x0 x1 x2 x3 : Value} {a : Int32} : ZW zG d 172 42 [x0, x1, x2, x3, .int a] st z Q = ZW zG d 172 45 [x0, x1, x2, zclr x3, .int (a + (nI 1))] st z Q := zw_next (f := z_iinc 4 (nI 1) 45) rfl rfl
theorem s172_45 {ls : List Value}  : ZW zG d 172 45 ls (st) z Q = ZW zG d 172 5 ls st z Q := zw_goto rfl
theorem s172_48 {ls : List Value}  : ZW zG d 172 48 ls (st) z Q = ZW zG d 172 49 ls ((.int (-1)) :: st) z Q := zw_push rfl
theorem s172_49 {ls : List Value} {a : Int32} : ZW zG d 172 49 ls ([.int a]) z Q = Q (.inl (some (.int a))) z := zw_reti rfl
/-- X12_slights (I)I -/
theorem e173 {r0 : Nat} {v0 : Int32} : ZC zG d 173 [.ref r0, .int v0] z Q = ZW zG d 173 0 [.ref r0, .int v0] [] z Q := rfl
theorem s173_0 {x0 x1 : Value} : ZW zG d 173 0 [x0, x1] st z Q = (zir x0 = true ∧ ZW zG d 173 1 [x0, x1] (x0 :: st) z Q) := zw_cond (f := z_aload 0 1) rfl rfl
theorem s173_1 {x0 : Value} {a : Int32} : ZW zG d 173 1 [x0, .int a] st z Q = ZW zG d 173 2 [x0, .int a] (.int a :: st) z Q := zw_next (f := z_iload 1 2) rfl rfl
theorem s173_2 {ls : List Value} {w0 : Int32} {r : Nat} : ZW zG (d + 1) 173 2 ls (.int w0 :: .ref r :: st) z Q = (zcls z r = 12 ∧ zcs st = true ∧ ZC zG d 144 [.ref r, .int w0] z (zk zG (d + 1) 173 (none) 5 ls st Q)) := zc_V1 rfl (Nat.le_of_ble_eq_true rfl)
theorem s173_5 {ls : List Value} {a : Int32} : ZW zG d 173 5 ls (.int a :: st) z Q = if a = 0 then ZW zG d 173 16 ls st z Q else ZW zG d 173 8 ls st z Q := zw_ifeq rfl
theorem s173_8 {x0 x1 : Value} : ZW zG d 173 8 [x0, x1] st z Q = (zir x0 = true ∧ ZW zG d 173 9 [x0, x1] (x0 :: st) z Q) := zw_cond (f := z_aload 0 9) rfl rfl
theorem s173_9 {x0 : Value} {a : Int32} : ZW zG d 173 9 [x0, .int a] st z Q = ZW zG d 173 10 [x0, .int a] (.int a :: st) z Q := zw_next (f := z_iload 1 10) rfl rfl
theorem s173_10 {ls : List Value} {w0 : Int32} {r : Nat} : ZW zG (d + 1) 173 10 ls (.int w0 :: .ref r :: st) z Q = (zcls z r = 12 ∧ zcs st = true ∧ ZC zG d 174 [.ref r, .int w0] z (zk zG (d + 1) 173 (none) 13 ls st Q)) := zc_V1 rfl (Nat.le_of_ble_eq_true rfl)
theorem s173_13 {ls : List Value}  : ZW zG d 173 13 ls (st) z Q = ZW zG d 173 18 ls st z Q := zw_goto rfl
theorem s173_16 {ls : List Value}  : ZW zG d 173 16 ls (st) z Q = ZW zG d 173 18 ls ((.int (-2)) :: st) z Q := zw_push rfl
theorem s173_18 {ls : List Value} {a : Int32} : ZW zG d 173 18 ls ([.int a]) z Q = Q (.inl (some (.int a))) z := zw_reti rfl
/-- X12_slightsOf (I)I -/
theorem e174 {r0 : Nat} {v0 : Int32} : ZC zG d 174 [.ref r0, .int v0] z Q = ZW zG d 174 0 [.ref r0, .int v0, zdum, zdum] [] z Q := rfl
theorem s174_0 {ls : List Value}  : ZW zG d 174 0 ls (st) z Q = ZW zG d 174 1 ls ((.int (nI 0)) :: st) z Q := zw_push rfl
theorem s174_1 {x0 x1 x2 x3 : Value} {a : Int32} : ZW zG d 174 1 [x0, x1, x2, x3] (.int a :: st) z Q = ZW zG d 174 2 [x0, zclr x1, .int a, x3] st z Q := zw_next (f := z_istore 2 2) rfl rfl
theorem s174_2 {ls : List Value}  : ZW zG d 174 2 ls (st) z Q = ZW zG d 174 3 ls ((.int (nI 0)) :: st) z Q := zw_push rfl
theorem s174_3 {x0 x1 x2 x3 : Value} {a : Int32} : ZW zG d 174 3 [x0, x1, x2, x3] (.int a :: st) z Q = ZW zG d 174 4 [x0, x1, zclr x2, .int a] st z Q := zw_next (f := z_istore 3 4) rfl rfl
theorem s174_4 {x0 x1 x2 : Value} {a : Int32} : ZW zG d 174 4 [x0, x1, x2, .int a] st z Q = ZW zG d 174 5 [x0, x1, x2, .int a] (.int a :: st) z Q := zw_next (f := z_iload 3 5) rfl rfl
theorem s174_5 {x0 x1 x2 x3 : Value} : ZW zG d 174 5 [x0, x1, x2, x3] st z Q = (zir x0 = true ∧ ZW zG d 174 6 [x0, x1, x2, x3] (x0 :: st) z Q) := zw_cond (f := z_aload 0 6) rfl rfl
theorem s174_6 {ls : List Value} {r : Nat} : ZW zG d 174 6 ls (.ref r :: st) z Q = ((zcls z r = 12 ∧ zir (zfr z r 1) = true) ∧ ZW zG d 174 9 ls (zfr z r 1 :: st) (z) Q) := zw_getR rfl
theorem s174_9 {ls : List Value}  : ZW zG d 174 9 ls (st) z Q = ZW zG d 174 11 ls ((.int (nI 7)) :: st) z Q := zw_push rfl
theorem s174_11 {ls : List Value} {a : Int32} {r : Nat} : ZW zG d 174 11 ls (.int a :: .ref r :: st) z Q = ((zcls z r = 50 ∧ zin a (zlen z r) = true) ∧ ZW zG d 174 12 ls (.int (zia z r (zx a)) :: st) (z) Q) := zw_iald rfl
theorem s174_12 {ls : List Value} {a b : Int32} : ZW zG d 174 12 ls (.int b :: .int a :: st) z Q = if b ≤ a then ZW zG d 174 52 ls st z Q else ZW zG d 174 15 ls st z Q := zw_icge rfl
theorem s174_15 {x0 x1 x3 : Value} {a : Int32} : ZW zG d 174 15 [x0, x1, .int a, x3] st z Q = ZW zG d 174 16 [x0, x1, .int a, x3] (.int a :: st) z Q := zw_next (f := z_iload 2 16) rfl rfl
theorem s174_16 {x0 x1 x2 x3 : Value} : ZW zG d 174 16 [x0, x1, x2, x3] st z Q = (zir x0 = true ∧ ZW zG d 174 17 [x0, x1, x2, x3] (x0 :: st) z Q) := zw_cond (f := z_aload 0 17) rfl rfl
theorem s174_17 {x0 x1 x2 : Value} {a : Int32} : ZW zG d 174 17 [x0, x1, x2, .int a] st z Q = ZW zG d 174 18 [x0, x1, x2, .int a] (.int a :: st) z Q := zw_next (f := z_iload 3 18) rfl rfl
theorem s174_18 {ls : List Value}  : ZW zG d 174 18 ls (st) z Q = ZW zG d 174 19 ls ((.int (nI 1)) :: st) z Q := zw_push rfl
theorem s174_19 {ls : List Value} {w0 : Int32} {w1 : Int32} {r : Nat} : ZW zG (d + 1) 174 19 ls (.int w1 :: .int w0 :: .ref r :: st) z Q = (zcls z r = 12 ∧ zcs st = true ∧ ZC zG d 159 [.ref r, .int w0, .int w1] z (zk zG (d + 1) 174 (none) 22 ls st Q)) := zc_V2 rfl (Nat.le_of_ble_eq_true rfl)
theorem s174_22 {x0 x2 x3 : Value} {a : Int32} : ZW zG d 174 22 [x0, .int a, x2, x3] st z Q = ZW zG d 174 23 [x0, .int a, x2, x3] (.int a :: st) z Q := zw_next (f := z_iload 1 23) rfl rfl
theorem s174_23 {ls : List Value} {a b : Int32} : ZW zG d 174 23 ls (.int b :: .int a :: st) z Q = if ¬ a = b then ZW zG d 174 43 ls st z Q else ZW zG d 174 26 ls st z Q := zw_icne rfl
theorem s174_26 {x0 x1 x2 x3 : Value} : ZW zG d 174 26 [x0, x1, x2, x3] st z Q = (zir x0 = true ∧ ZW zG d 174 27 [x0, x1, x2, x3] (x0 :: st) z Q) := zw_cond (f := z_aload 0 27) rfl rfl
theorem s174_27 {x0 x1 x2 : Value} {a : Int32} : ZW zG d 174 27 [x0, x1, x2, .int a] st z Q = ZW zG d 174 28 [x0, x1, x2, .int a] (.int a :: st) z Q := zw_next (f := z_iload 3 28) rfl rfl
theorem s174_28 {ls : List Value}  : ZW zG d 174 28 ls (st) z Q = ZW zG d 174 29 ls ((.int (nI 3)) :: st) z Q := zw_push rfl
theorem s174_29 {ls : List Value} {w0 : Int32} {w1 : Int32} {r : Nat} : ZW zG (d + 1) 174 29 ls (.int w1 :: .int w0 :: .ref r :: st) z Q = (zcls z r = 12 ∧ zcs st = true ∧ ZC zG d 159 [.ref r, .int w0, .int w1] z (zk zG (d + 1) 174 (none) 32 ls st Q)) := zc_V2 rfl (Nat.le_of_ble_eq_true rfl)
theorem s174_32 {x0 x1 x2 x3 : Value} : ZW zG d 174 32 [x0, x1, x2, x3] st z Q = (zir x0 = true ∧ ZW zG d 174 33 [x0, x1, x2, x3] (x0 :: st) z Q) := zw_cond (f := z_aload 0 33) rfl rfl
theorem s174_33 {ls : List Value}  {r : Nat} : ZW zG (d + 1) 174 33 ls (.ref r :: st) z Q = (zcls z r = 12 ∧ zcs st = true ∧ ZC zG d 141 [.ref r] z (zk zG (d + 1) 174 (none) 36 ls st Q)) := zc_V0 rfl (Nat.le_of_ble_eq_true rfl)
theorem s174_36 {ls : List Value} {a b : Int32} : ZW zG d 174 36 ls (.int b :: .int a :: st) z Q = if b ≤ a then ZW zG d 174 43 ls st z Q else ZW zG d 174 39 ls st z Q := zw_icge rfl
theorem s174_39 {ls : List Value}  : ZW zG d 174 39 ls (st) z Q = ZW zG d 174 40 ls ((.int (nI 1)) :: st) z Q := zw_push rfl
theorem s174_40 {ls : List Value}  : ZW zG d 174 40 ls (st) z Q = ZW zG d 174 44 ls st z Q := zw_goto rfl
theorem s174_43 {ls : List Value}  : ZW zG d 174 43 ls (st) z Q = ZW zG d 174 44 ls ((.int (nI 0)) :: st) z Q := zw_push rfl
theorem s174_44 {ls : List Value} {a b : Int32} : ZW zG d 174 44 ls (.int b :: .int a :: st) z Q = ZW zG d 174 45 ls (.int (a + b) :: st) z Q := zw_iadd rfl
theorem s174_45 {x0 x1 x2 x3 : Value} {a : Int32} : ZW zG d 174 45 [x0, x1, x2, x3] (.int a :: st) z Q = ZW zG d 174 46 [x0, zclr x1, .int a, x3] st z Q := zw_next (f := z_istore 2 46) rfl rfl
theorem s174_46 {x0 x1 x2 : Value} {a : Int32} : ZW zG d 174 46 [x0, x1, x2, .int a] st z Q = ZW zG d 174 49 [x0, x1, zclr x2, .int (a + (nI 1))] st z Q := zw_next (f := z_iinc 3 (nI 1) 49) rfl rfl
theorem s174_49 {ls : List Value}  : ZW zG d 174 49 ls (st) z Q = ZW zG d 174 4 ls st z Q := zw_goto rfl
theorem s174_52 {x0 x1 x3 : Value} {a : Int32} : ZW zG d 174 52 [x0, x1, .int a, x3] st z Q = ZW zG d 174 53 [x0, x1, .int a, x3] (.int a :: st) z Q := zw_next (f := z_iload 2 53) rfl rfl
theorem s174_53 {ls : List Value} {a : Int32} : ZW zG d 174 53 ls ([.int a]) z Q = Q (.inl (some (.int a))) z := zw_reti rfl
/-- X12_first ()I -/
theorem e175 {r0 : Nat} : ZC zG d 175 [.ref r0] z Q = ZW zG d 175 0 [.ref r0, zdum, zdum, zdum, zdum] [] z Q := rfl
theorem s175_0 {ls : List Value}  : ZW zG d 175 0 ls (st) z Q = ZW zG d 175 1 ls ((.int (-1)) :: st) z Q := zw_push rfl
theorem s175_1 {x0 x1 x2 x3 x4 : Value} {a : Int32} : ZW zG d 175 1 [x0, x1, x2, x3, x4] (.int a :: st) z Q = ZW zG d 175 2 [zclr x0, .int a, x2, x3, x4] st z Q := zw_next (f := z_istore 1 2) rfl rfl
theorem s175_2 {ls : List Value}  : ZW zG d 175 2 ls (st) z Q = ZW zG d 175 3 ls ((.int (nI 0)) :: st) z Q := zw_push rfl
theorem s175_3 {x0 x1 x2 x3 x4 : Value} {a : Int32} : ZW zG d 175 3 [x0, x1, x2, x3, x4] (.int a :: st) z Q = ZW zG d 175 4 [x0, zclr x1, .int a, x3, x4] st z Q := zw_next (f := z_istore 2 4) rfl rfl
theorem s175_4 {ls : List Value}  : ZW zG d 175 4 ls (st) z Q = ZW zG d 175 5 ls ((.int (nI 0)) :: st) z Q := zw_push rfl
theorem s175_5 {x0 x1 x2 x3 x4 : Value} {a : Int32} : ZW zG d 175 5 [x0, x1, x2, x3, x4] (.int a :: st) z Q = ZW zG d 175 6 [x0, x1, zclr x2, .int a, x4] st z Q := zw_next (f := z_istore 3 6) rfl rfl
theorem s175_6 {x0 x1 x2 x4 : Value} {a : Int32} : ZW zG d 175 6 [x0, x1, x2, .int a, x4] st z Q = ZW zG d 175 7 [x0, x1, x2, .int a, x4] (.int a :: st) z Q := zw_next (f := z_iload 3 7) rfl rfl
theorem s175_7 {x0 x1 x2 x3 x4 : Value} : ZW zG d 175 7 [x0, x1, x2, x3, x4] st z Q = (zir x0 = true ∧ ZW zG d 175 8 [x0, x1, x2, x3, x4] (x0 :: st) z Q) := zw_cond (f := z_aload 0 8) rfl rfl
theorem s175_8 {ls : List Value} {r : Nat} : ZW zG d 175 8 ls (.ref r :: st) z Q = ((zcls z r = 12 ∧ zir (zfr z r 1) = true) ∧ ZW zG d 175 11 ls (zfr z r 1 :: st) (z) Q) := zw_getR rfl
theorem s175_11 {ls : List Value}  : ZW zG d 175 11 ls (st) z Q = ZW zG d 175 12 ls ((.int (nI 0)) :: st) z Q := zw_push rfl
theorem s175_12 {ls : List Value} {a : Int32} {r : Nat} : ZW zG d 175 12 ls (.int a :: .ref r :: st) z Q = ((zcls z r = 50 ∧ zin a (zlen z r) = true) ∧ ZW zG d 175 13 ls (.int (zia z r (zx a)) :: st) (z) Q) := zw_iald rfl
theorem s175_13 {ls : List Value} {a b : Int32} : ZW zG d 175 13 ls (.int b :: .int a :: st) z Q = if b ≤ a then ZW zG d 175 69 ls st z Q else ZW zG d 175 16 ls st z Q := zw_icge rfl
theorem s175_16 {x0 x1 x2 x3 x4 : Value} : ZW zG d 175 16 [x0, x1, x2, x3, x4] st z Q = (zir x0 = true ∧ ZW zG d 175 17 [x0, x1, x2, x3, x4] (x0 :: st) z Q) := zw_cond (f := z_aload 0 17) rfl rfl
theorem s175_17 {x0 x1 x2 x4 : Value} {a : Int32} : ZW zG d 175 17 [x0, x1, x2, .int a, x4] st z Q = ZW zG d 175 18 [x0, x1, x2, .int a, x4] (.int a :: st) z Q := zw_next (f := z_iload 3 18) rfl rfl
theorem s175_18 {ls : List Value} {w0 : Int32} {r : Nat} : ZW zG (d + 1) 175 18 ls (.int w0 :: .ref r :: st) z Q = (zcls z r = 12 ∧ zcs st = true ∧ ZC zG d 174 [.ref r, .int w0] z (zk zG (d + 1) 175 (none) 21 ls st Q)) := zc_V1 rfl (Nat.le_of_ble_eq_true rfl)
theorem s175_21 {x0 x1 x2 x3 x4 : Value} {a : Int32} : ZW zG d 175 21 [x0, x1, x2, x3, x4] (.int a :: st) z Q = ZW zG d 175 23 [x0, x1, x2, zclr x3, .int a] st z Q := zw_next (f := z_istore 4 23) rfl rfl
theorem s175_23 {x0 x1 x2 x3 : Value} {a : Int32} : ZW zG d 175 23 [x0, x1, x2, x3, .int a] st z Q = ZW zG d 175 25 [x0, x1, x2, x3, .int a] (.int a :: st) z Q := zw_next (f := z_iload 4 25) rfl rfl
theorem s175_25 {ls : List Value} {a : Int32} : ZW zG d 175 25 ls (.int a :: st) z Q = if a = 0 then ZW zG d 175 63 ls st z Q else ZW zG d 175 28 ls st z Q := zw_ifeq rfl
theorem s175_28 {x0 x1 x2 x3 : Value} {a : Int32} : ZW zG d 175 28 [x0, x1, x2, x3, .int a] st z Q = ZW zG d 175 30 [x0, x1, x2, x3, .int a] (.int a :: st) z Q := zw_next (f := z_iload 4 30) rfl rfl
theorem s175_30 {x0 x1 x3 x4 : Value} {a : Int32} : ZW zG d 175 30 [x0, x1, .int a, x3, x4] st z Q = ZW zG d 175 31 [x0, x1, .int a, x3, x4] (.int a :: st) z Q := zw_next (f := z_iload 2 31) rfl rfl
theorem s175_31 {ls : List Value} {a b : Int32} : ZW zG d 175 31 ls (.int b :: .int a :: st) z Q = if a < b then ZW zG d 175 63 ls st z Q else ZW zG d 175 34 ls st z Q := zw_iclt rfl
theorem s175_34 {x0 x1 x2 x3 : Value} {a : Int32} : ZW zG d 175 34 [x0, x1, x2, x3, .int a] st z Q = ZW zG d 175 36 [x0, x1, x2, x3, .int a] (.int a :: st) z Q := zw_next (f := z_iload 4 36) rfl rfl
theorem s175_36 {x0 x1 x3 x4 : Value} {a : Int32} : ZW zG d 175 36 [x0, x1, .int a, x3, x4] st z Q = ZW zG d 175 37 [x0, x1, .int a, x3, x4] (.int a :: st) z Q := zw_next (f := z_iload 2 37) rfl rfl
theorem s175_37 {ls : List Value} {a b : Int32} : ZW zG d 175 37 ls (.int b :: .int a :: st) z Q = if ¬ a = b then ZW zG d 175 58 ls st z Q else ZW zG d 175 40 ls st z Q := zw_icne rfl
theorem s175_40 {x0 x1 x2 x3 x4 : Value} : ZW zG d 175 40 [x0, x1, x2, x3, x4] st z Q = (zir x0 = true ∧ ZW zG d 175 41 [x0, x1, x2, x3, x4] (x0 :: st) z Q) := zw_cond (f := z_aload 0 41) rfl rfl
theorem s175_41 {x0 x1 x2 x4 : Value} {a : Int32} : ZW zG d 175 41 [x0, x1, x2, .int a, x4] st z Q = ZW zG d 175 42 [x0, x1, x2, .int a, x4] (.int a :: st) z Q := zw_next (f := z_iload 3 42) rfl rfl
theorem s175_42 {ls : List Value}  : ZW zG d 175 42 ls (st) z Q = ZW zG d 175 43 ls ((.int (nI 2)) :: st) z Q := zw_push rfl
theorem s175_43 {ls : List Value} {w0 : Int32} {w1 : Int32} {r : Nat} : ZW zG (d + 1) 175 43 ls (.int w1 :: .int w0 :: .ref r :: st) z Q = (zcls z r = 12 ∧ zcs st = true ∧ ZC zG d 139 [.ref r, .int w0, .int w1] z (zk zG (d + 1) 175 (none) 46 ls st Q)) := zc_V2 rfl (Nat.le_of_ble_eq_true rfl)
theorem s175_46 {x0 x1 x2 x3 x4 : Value} : ZW zG d 175 46 [x0, x1, x2, x3, x4] st z Q = (zir x0 = true ∧ ZW zG d 175 47 [x0, x1, x2, x3, x4] (x0 :: st) z Q) := zw_cond (f := z_aload 0 47) rfl rfl
theorem s175_47 {x0 x2 x3 x4 : Value} {a : Int32} : ZW zG d 175 47 [x0, .int a, x2, x3, x4] st z Q = ZW zG d 175 48 [x0, .int a, x2, x3, x4] (.int a :: st) z Q := zw_next (f := z_iload 1 48) rfl rfl
theorem s175_48 {ls : List Value}  : ZW zG d 175 48 ls (st) z Q = ZW zG d 175 49 ls ((.int (nI 2)) :: st) z Q := zw_push rfl
theorem s175_49 {ls : List Value} {w0 : Int32} {w1 : Int32} {r : Nat} : ZW zG (d + 1) 175 49 ls (.int w1 :: .int w0 :: .ref r :: st) z Q = (zcls z r = 12 ∧ zcs st = true ∧ ZC zG d 139 [.ref r, .int w0, .int w1] z (zk zG (d + 1) 175 (none) 52 ls st Q)) := zc_V2 rfl (Nat.le_of_ble_eq_true rfl)
theorem s175_52 {ls : List Value} {a b : Int32} : ZW zG d 175 52 ls (.int b :: .int a :: st) z Q = if b < a then ZW zG d 175 58 ls st z Q else ZW zG d 175 55 ls st z Q := zw_icgt rfl
theorem s175_55 {ls : List Value}  : ZW zG d 175 55 ls (st) z Q = ZW zG d 175 63 ls st z Q := zw_goto rfl
theorem s175_58 {x0 x1 x2 x4 : Value} {a : Int32} : ZW zG d 175 58 [x0, x1, x2, .int a, x4] st z Q = ZW zG d 175 59 [x0, x1, x2, .int a, x4] (.int a :: st) z Q := zw_next (f := z_iload 3 59) rfl rfl
theorem s175_59 {x0 x1 x2 x3 x4 : Value} {a : Int32} : ZW zG d 175 59 [x0, x1, x2, x3, x4] (.int a :: st) z Q = ZW zG d 175 60 [zclr x0, .int a, x2, x3, x4] st z Q := zw_next (f := z_istore 1 60) rfl rfl
theorem s175_60 {x0 x1 x2 x3 : Value} {a : Int32} : ZW zG d 175 60 [x0, x1, x2, x3, .int a] st z Q = ZW zG d 175 62 [x0, x1, x2, x3, .int a] (.int a :: st) z Q := zw_next (f := z_iload 4 62) rfl rfl
theorem s175_62 {x0 x1 x2 x3 x4 : Value} {a : Int32} : ZW zG d 175 62 [x0, x1, x2, x3, x4] (.int a :: st) z Q = ZW zG d 175 63 [x0, zclr x1, .int a, x3, x4] st z Q := zw_next (f := z_istore 2 63) rfl rfl
theorem s175_63 {x0 x1 x2 x4 : Value} {a : Int32} : ZW zG d 175 63 [x0, x1, x2, .int a, x4] st z Q = ZW zG d 175 66 [x0, x1, zclr x2, .int (a + (nI 1)), x4] st z Q := zw_next (f := z_iinc 3 (nI 1) 66) rfl rfl
theorem s175_66 {ls : List Value}  : ZW zG d 175 66 ls (st) z Q = ZW zG d 175 6 ls st z Q := zw_goto rfl
theorem s175_69 {x0 x2 x3 x4 : Value} {a : Int32} : ZW zG d 175 69 [x0, .int a, x2, x3, x4] st z Q = ZW zG d 175 70 [x0, .int a, x2, x3, x4] (.int a :: st) z Q := zw_next (f := z_iload 1 70) rfl rfl
theorem s175_70 {ls : List Value} {a : Int32} : ZW zG d 175 70 ls ([.int a]) z Q = Q (.inl (some (.int a))) z := zw_reti rfl
/-- X12_owes (III)I -/
theorem e176 {r0 : Nat} {v0 : Int32} {v1 : Int32} {v2 : Int32} : ZC zG d 176 [.ref r0, .int v0, .int v1, .int v2] z Q = ZW zG d 176 0 [.ref r0, .int v0, .int v1, .int v2, zdum, zdum] [] z Q := rfl
theorem s176_0 {x0 x1 x2 x3 x4 x5 : Value} : ZW zG d 176 0 [x0, x1, x2, x3, x4, x5] st z Q = (zir x0 = true ∧ ZW zG d 176 1 [x0, x1, x2, x3, x4, x5] (x0 :: st) z Q) := zw_cond (f := z_aload 0 1) rfl rfl
theorem s176_1 {x0 x2 x3 x4 x5 : Value} {a : Int32} : ZW zG d 176 1 [x0, .int a, x2, x3, x4, x5] st z Q = ZW zG d 176 2 [x0, .int a, x2, x3, x4, x5] (.int a :: st) z Q := zw_next (f := z_iload 1 2) rfl rfl
theorem s176_2 {x0 x1 x3 x4 x5 : Value} {a : Int32} : ZW zG d 176 2 [x0, x1, .int a, x3, x4, x5] st z Q = ZW zG d 176 3 [x0, x1, .int a, x3, x4, x5] (.int a :: st) z Q := zw_next (f := z_iload 2 3) rfl rfl
theorem s176_3 {ls : List Value} {w0 : Int32} {w1 : Int32} {r : Nat} : ZW zG (d + 1) 176 3 ls (.int w1 :: .int w0 :: .ref r :: st) z Q = (zcls z r = 12 ∧ zcs st = true ∧ ZC zG d 143 [.ref r, .int w0, .int w1] z (zk zG (d + 1) 176 (none) 6 ls st Q)) := zc_V2 rfl (Nat.le_of_ble_eq_true rfl)
theorem s176_6 {ls : List Value} {a : Int32} : ZW zG d 176 6 ls (.int a :: st) z Q = if a = 0 then ZW zG d 176 16 ls st z Q else ZW zG d 176 9 ls st z Q := zw_ifeq rfl
theorem s176_9 {x0 x1 x2 x4 x5 : Value} {a : Int32} : ZW zG d 176 9 [x0, x1, x2, .int a, x4, x5] st z Q = ZW zG d 176 10 [x0, x1, x2, .int a, x4, x5] (.int a :: st) z Q := zw_next (f := z_iload 3 10) rfl rfl
theorem s176_10 {ls : List Value} {w0 : Int32} : ZW zG (d + 1) 176 10 ls (.int w0 :: st) z Q = (zcs st = true ∧ ZC zG d 145 [.int w0] z (zk zG (d + 1) 176 (none) 13 ls st Q)) := zc_S1 rfl (Nat.le_of_ble_eq_true rfl)
theorem s176_13 {ls : List Value} {a : Int32} : ZW zG d 176 13 ls (.int a :: st) z Q = if ¬ a = 0 then ZW zG d 176 19 ls st z Q else ZW zG d 176 16 ls st z Q := zw_ifne rfl
theorem s176_16 {ls : List Value}  : ZW zG d 176 16 ls (st) z Q = ZW zG d 176 18 ls ((.int (-2)) :: st) z Q := zw_push rfl
theorem s176_18 {ls : List Value} {a : Int32} : ZW zG d 176 18 ls ([.int a]) z Q = Q (.inl (some (.int a))) z := zw_reti rfl
theorem s176_19 {x0 x1 x2 x3 x4 x5 : Value} : ZW zG d 176 19 [x0, x1, x2, x3, x4, x5] st z Q = (zir x0 = true ∧ ZW zG d 176 20 [x0, x1, x2, x3, x4, x5] (x0 :: st) z Q) := zw_cond (f := z_aload 0 20) rfl rfl
theorem s176_20 {x0 x2 x3 x4 x5 : Value} {a : Int32} : ZW zG d 176 20 [x0, .int a, x2, x3, x4, x5] st z Q = ZW zG d 176 21 [x0, .int a, x2, x3, x4, x5] (.int a :: st) z Q := zw_next (f := z_iload 1 21) rfl rfl
theorem s176_21 {x0 x1 x3 x4 x5 : Value} {a : Int32} : ZW zG d 176 21 [x0, x1, .int a, x3, x4, x5] st z Q = ZW zG d 176 22 [x0, x1, .int a, x3, x4, x5] (.int a :: st) z Q := zw_next (f := z_iload 2 22) rfl rfl
theorem s176_22 {x0 x1 x2 x4 x5 : Value} {a : Int32} : ZW zG d 176 22 [x0, x1, x2, .int a, x4, x5] st z Q = ZW zG d 176 23 [x0, x1, x2, .int a, x4, x5] (.int a :: st) z Q := zw_next (f := z_iload 3 23) rfl rfl
theorem s176_23 {x0 x1 x2 x3 x4 x5 : Value} : ZW zG d 176 23 [x0, x1, x2, x3, x4, x5] st z Q = (zir x0 = true ∧ ZW zG d 176 24 [x0, x1, x2, x3, x4, x5] (x0 :: st) z Q) := zw_cond (f := z_aload 0 24) rfl rfl
theorem s176_24 {x0 x2 x3 x4 x5 : Value} {a : Int32} : ZW zG d 176 24 [x0, .int a, x2, x3, x4, x5] st z Q = ZW zG d 176 25 [x0, .int a, x2, x3, x4, x5] (.int a :: st) z Q := zw_next (f := z_iload 1 25) rfl rfl
theorem s176_25 {x0 x1 x3 x4 x5 : Value} {a : Int32} : ZW zG d 176 25 [x0, x1, .int a, x3, x4, x5] st z Q = ZW zG d 176 26 [x0, x1, .int a, x3, x4, x5] (.int a :: st) z Q := zw_next (f := z_iload 2 26) rfl rfl
theorem s176_26 {ls : List Value} {w0 : Int32} {w1 : Int32} {r : Nat} : ZW zG (d + 1) 176 26 ls (.int w1 :: .int w0 :: .ref r :: st) z Q = (zcls z r = 12 ∧ zcs st = true ∧ ZC zG d 148 [.ref r, .int w0, .int w1] z (zk zG (d + 1) 176 (none) 29 ls st Q)) := zc_V2 rfl (Nat.le_of_ble_eq_true rfl)
theorem s176_29 {x0 x1 x2 x3 x4 x5 : Value} : ZW zG d 176 29 [x0, x1, x2, x3, x4, x5] st z Q = (zir x0 = true ∧ ZW zG d 176 30 [x0, x1, x2, x3, x4, x5] (x0 :: st) z Q) := zw_cond (f := z_aload 0 30) rfl rfl
theorem s176_30 {ls : List Value}  {r : Nat} : ZW zG (d + 1) 176 30 ls (.ref r :: st) z Q = (zcls z r = 12 ∧ zcs st = true ∧ ZC zG d 141 [.ref r] z (zk zG (d + 1) 176 (none) 33 ls st Q)) := zc_V0 rfl (Nat.le_of_ble_eq_true rfl)
theorem s176_33 {ls : List Value} {w0 : Int32} {w1 : Int32} {w2 : Int32} {w3 : Int32} {w4 : Int32} {r : Nat} : ZW zG (d + 1) 176 33 ls (.int w4 :: .int w3 :: .int w2 :: .int w1 :: .int w0 :: .ref r :: st) z Q = (zcls z r = 12 ∧ zcs st = true ∧ ZC zG d 161 [.ref r, .int w0, .int w1, .int w2, .int w3, .int w4] z (zk zG (d + 1) 176 (none) 36 ls st Q)) := zc_V5 rfl (Nat.le_of_ble_eq_true rfl)
theorem s176_36 {x0 x1 x2 x3 x4 x5 : Value} {a : Int32} : ZW zG d 176 36 [x0, x1, x2, x3, x4, x5] (.int a :: st) z Q = ZW zG d 176 38 [x0, x1, x2, zclr x3, .int a, x5] st z Q := zw_next (f := z_istore 4 38) rfl rfl
theorem s176_38 {x0 x1 x2 x3 x5 : Value} {a : Int32} : ZW zG d 176 38 [x0, x1, x2, x3, .int a, x5] st z Q = ZW zG d 176 40 [x0, x1, x2, x3, .int a, x5] (.int a :: st) z Q := zw_next (f := z_iload 4 40) rfl rfl
theorem s176_40 {ls : List Value}  : ZW zG d 176 40 ls (st) z Q = ZW zG d 176 41 ls ((.int (-1)) :: st) z Q := zw_push rfl
theorem s176_41 {ls : List Value} {a b : Int32} : ZW zG d 176 41 ls (.int b :: .int a :: st) z Q = if ¬ a = b then ZW zG d 176 46 ls st z Q else ZW zG d 176 44 ls st z Q := zw_icne rfl
theorem s176_44 {ls : List Value}  : ZW zG d 176 44 ls (st) z Q = ZW zG d 176 45 ls ((.int (-1)) :: st) z Q := zw_push rfl
theorem s176_45 {ls : List Value} {a : Int32} : ZW zG d 176 45 ls ([.int a]) z Q = Q (.inl (some (.int a))) z := zw_reti rfl
theorem s176_46 {x0 x1 x2 x3 x4 x5 : Value} : ZW zG d 176 46 [x0, x1, x2, x3, x4, x5] st z Q = (zir x0 = true ∧ ZW zG d 176 47 [x0, x1, x2, x3, x4, x5] (x0 :: st) z Q) := zw_cond (f := z_aload 0 47) rfl rfl
theorem s176_47 {ls : List Value} {r : Nat} : ZW zG d 176 47 ls (.ref r :: st) z Q = ((zcls z r = 12 ∧ zir (zfr z r 1) = true) ∧ ZW zG d 176 50 ls (zfr z r 1 :: st) (z) Q) := zw_getR rfl
theorem s176_50 {ls : List Value}  : ZW zG d 176 50 ls (st) z Q = ZW zG d 176 53 ls ((.int (nI 154)) :: st) z Q := zw_push rfl
theorem s176_53 {ls : List Value}  : ZW zG d 176 53 ls (st) z Q = ZW zG d 176 54 ls ((.int (nI 5)) :: st) z Q := zw_push rfl
theorem s176_54 {x0 x1 x2 x3 x5 : Value} {a : Int32} : ZW zG d 176 54 [x0, x1, x2, x3, .int a, x5] st z Q = ZW zG d 176 56 [x0, x1, x2, x3, .int a, x5] (.int a :: st) z Q := zw_next (f := z_iload 4 56) rfl rfl
theorem s176_56 {ls : List Value} {a b : Int32} : ZW zG d 176 56 ls (.int b :: .int a :: st) z Q = ZW zG d 176 57 ls (.int (a * b) :: st) z Q := zw_imul rfl
theorem s176_57 {ls : List Value} {a b : Int32} : ZW zG d 176 57 ls (.int b :: .int a :: st) z Q = ZW zG d 176 58 ls (.int (a + b) :: st) z Q := zw_iadd rfl
theorem s176_58 {ls : List Value}  : ZW zG d 176 58 ls (st) z Q = ZW zG d 176 59 ls ((.int (nI 1)) :: st) z Q := zw_push rfl
theorem s176_59 {ls : List Value} {a b : Int32} : ZW zG d 176 59 ls (.int b :: .int a :: st) z Q = ZW zG d 176 60 ls (.int (a + b) :: st) z Q := zw_iadd rfl
theorem s176_60 {ls : List Value} {a : Int32} {r : Nat} : ZW zG d 176 60 ls (.int a :: .ref r :: st) z Q = ((zcls z r = 50 ∧ zin a (zlen z r) = true) ∧ ZW zG d 176 61 ls (.int (zia z r (zx a)) :: st) (z) Q) := zw_iald rfl
theorem s176_61 {x0 x1 x2 x3 x4 x5 : Value} {a : Int32} : ZW zG d 176 61 [x0, x1, x2, x3, x4, x5] (.int a :: st) z Q = ZW zG d 176 63 [x0, x1, x2, x3, zclr x4, .int a] st z Q := zw_next (f := z_istore 5 63) rfl rfl
theorem s176_63 {x0 x1 x2 x3 x4 x5 : Value} : ZW zG d 176 63 [x0, x1, x2, x3, x4, x5] st z Q = (zir x0 = true ∧ ZW zG d 176 64 [x0, x1, x2, x3, x4, x5] (x0 :: st) z Q) := zw_cond (f := z_aload 0 64) rfl rfl
theorem s176_64 {x0 x1 x3 x4 x5 : Value} {a : Int32} : ZW zG d 176 64 [x0, x1, .int a, x3, x4, x5] st z Q = ZW zG d 176 65 [x0, x1, .int a, x3, x4, x5] (.int a :: st) z Q := zw_next (f := z_iload 2 65) rfl rfl
theorem s176_65 {x0 x2 x3 x4 x5 : Value} {a : Int32} : ZW zG d 176 65 [x0, .int a, x2, x3, x4, x5] st z Q = ZW zG d 176 66 [x0, .int a, x2, x3, x4, x5] (.int a :: st) z Q := zw_next (f := z_iload 1 66) rfl rfl
theorem s176_66 {x0 x1 x2 x3 x4 : Value} {a : Int32} : ZW zG d 176 66 [x0, x1, x2, x3, x4, .int a] st z Q = ZW zG d 176 68 [x0, x1, x2, x3, x4, .int a] (.int a :: st) z Q := zw_next (f := z_iload 5 68) rfl rfl
theorem s176_68 {ls : List Value} {w0 : Int32} {w1 : Int32} {w2 : Int32} {r : Nat} : ZW zG (d + 1) 176 68 ls (.int w2 :: .int w1 :: .int w0 :: .ref r :: st) z Q = (zcls z r = 12 ∧ zcs st = true ∧ ZC zG d 165 [.ref r, .int w0, .int w1, .int w2] z (zk zG (d + 1) 176 (none) 71 ls st Q)) := zc_V3 rfl (Nat.le_of_ble_eq_true rfl)
theorem s176_71 {ls : List Value} {a : Int32} : ZW zG d 176 71 ls (.int a :: st) z Q = if a = 0 then ZW zG d 176 78 ls st z Q else ZW zG d 176 74 ls st z Q := zw_ifeq rfl
theorem s176_74 {ls : List Value}  : ZW zG d 176 74 ls (st) z Q = ZW zG d 176 75 ls ((.int (-1)) :: st) z Q := zw_push rfl
theorem s176_75 {ls : List Value}  : ZW zG d 176 75 ls (st) z Q = ZW zG d 176 80 ls st z Q := zw_goto rfl
theorem s176_78 {x0 x1 x2 x3 x4 : Value} {a : Int32} : ZW zG d 176 78 [x0, x1, x2, x3, x4, .int a] st z Q = ZW zG d 176 80 [x0, x1, x2, x3, x4, .int a] (.int a :: st) z Q := zw_next (f := z_iload 5 80) rfl rfl
theorem s176_80 {ls : List Value} {a : Int32} : ZW zG d 176 80 ls ([.int a]) z Q = Q (.inl (some (.int a))) z := zw_reti rfl
/-- X12_worth (II)I -/
theorem e177 {r0 : Nat} {v0 : Int32} {v1 : Int32} : ZC zG d 177 [.ref r0, .int v0, .int v1] z Q = ZW zG d 177 0 [.ref r0, .int v0, .int v1] [] z Q := rfl
theorem s177_0 {x0 x1 x2 : Value} : ZW zG d 177 0 [x0, x1, x2] st z Q = (zir x0 = true ∧ ZW zG d 177 1 [x0, x1, x2] (x0 :: st) z Q) := zw_cond (f := z_aload 0 1) rfl rfl
theorem s177_1 {x0 x2 : Value} {a : Int32} : ZW zG d 177 1 [x0, .int a, x2] st z Q = ZW zG d 177 2 [x0, .int a, x2] (.int a :: st) z Q := zw_next (f := z_iload 1 2) rfl rfl
theorem s177_2 {x0 x1 : Value} {a : Int32} : ZW zG d 177 2 [x0, x1, .int a] st z Q = ZW zG d 177 3 [x0, x1, .int a] (.int a :: st) z Q := zw_next (f := z_iload 2 3) rfl rfl
theorem s177_3 {ls : List Value} {w0 : Int32} {w1 : Int32} {r : Nat} : ZW zG (d + 1) 177 3 ls (.int w1 :: .int w0 :: .ref r :: st) z Q = (zcls z r = 12 ∧ zcs st = true ∧ ZC zG d 178 [.ref r, .int w0, .int w1] z (zk zG (d + 1) 177 (none) 6 ls st Q)) := zc_V2 rfl (Nat.le_of_ble_eq_true rfl)
theorem s177_6 {ls : List Value} {a : Int32} : ZW zG d 177 6 ls (.int a :: st) z Q = if ¬ a = 0 then ZW zG d 177 12 ls st z Q else ZW zG d 177 9 ls st z Q := zw_ifne rfl
theorem s177_9 {ls : List Value}  : ZW zG d 177 9 ls (st) z Q = ZW zG d 177 11 ls ((.int (-2)) :: st) z Q := zw_push rfl
theorem s177_11 {ls : List Value} {a : Int32} : ZW zG d 177 11 ls ([.int a]) z Q = Q (.inl (some (.int a))) z := zw_reti rfl
theorem s177_12 {x0 x1 x2 : Value} : ZW zG d 177 12 [x0, x1, x2] st z Q = (zir x0 = true ∧ ZW zG d 177 13 [x0, x1, x2] (x0 :: st) z Q) := zw_cond (f := z_aload 0 13) rfl rfl
theorem s177_13 {x0 x2 : Value} {a : Int32} : ZW zG d 177 13 [x0, .int a, x2] st z Q = ZW zG d 177 14 [x0, .int a, x2] (.int a :: st) z Q := zw_next (f := z_iload 1 14) rfl rfl
theorem s177_14 {x0 x1 : Value} {a : Int32} : ZW zG d 177 14 [x0, x1, .int a] st z Q = ZW zG d 177 15 [x0, x1, .int a] (.int a :: st) z Q := zw_next (f := z_iload 2 15) rfl rfl
theorem s177_15 {ls : List Value} {w0 : Int32} {w1 : Int32} {r : Nat} : ZW zG (d + 1) 177 15 ls (.int w1 :: .int w0 :: .ref r :: st) z Q = (zcls z r = 12 ∧ zcs st = true ∧ ZC zG d 179 [.ref r, .int w0, .int w1] z (zk zG (d + 1) 177 (none) 18 ls st Q)) := zc_V2 rfl (Nat.le_of_ble_eq_true rfl)
theorem s177_18 {x0 x1 x2 : Value} : ZW zG d 177 18 [x0, x1, x2] st z Q = (zir x0 = true ∧ ZW zG d 177 19 [x0, x1, x2] (x0 :: st) z Q) := zw_cond (f := z_aload 0 19) rfl rfl
theorem s177_19 {ls : List Value} {r : Nat} : ZW zG d 177 19 ls (.ref r :: st) z Q = ((zcls z r = 12) ∧ ZW zG d 177 22 ls (.int (zfi z r 23) :: st) (z) Q) := zw_getI rfl
theorem s177_22 {ls : List Value} {a : Int32} : ZW zG d 177 22 ls ([.int a]) z Q = Q (.inl (some (.int a))) z := zw_reti rfl
/-- X12_isRound (II)Z -/
theorem e178 {r0 : Nat} {v0 : Int32} {v1 : Int32} : ZC zG d 178 [.ref r0, .int v0, .int v1] z Q = ZW zG d 178 0 [.ref r0, .int v0, .int v1] [] z Q := rfl
theorem s178_0 {x0 x1 x2 : Value} : ZW zG d 178 0 [x0, x1, x2] st z Q = (zir x0 = true ∧ ZW zG d 178 1 [x0, x1, x2] (x0 :: st) z Q) := zw_cond (f := z_aload 0 1) rfl rfl
theorem s178_1 {x0 x2 : Value} {a : Int32} : ZW zG d 178 1 [x0, .int a, x2] st z Q = ZW zG d 178 2 [x0, .int a, x2] (.int a :: st) z Q := zw_next (f := z_iload 1 2) rfl rfl
theorem s178_2 {ls : List Value} {w0 : Int32} {r : Nat} : ZW zG (d + 1) 178 2 ls (.int w0 :: .ref r :: st) z Q = (zcls z r = 12 ∧ zcs st = true ∧ ZC zG d 144 [.ref r, .int w0] z (zk zG (d + 1) 178 (none) 5 ls st Q)) := zc_V1 rfl (Nat.le_of_ble_eq_true rfl)
theorem s178_5 {ls : List Value} {a : Int32} : ZW zG d 178 5 ls (.int a :: st) z Q = if a = 0 then ZW zG d 178 28 ls st z Q else ZW zG d 178 8 ls st z Q := zw_ifeq rfl
theorem s178_8 {x0 x1 : Value} {a : Int32} : ZW zG d 178 8 [x0, x1, .int a] st z Q = ZW zG d 178 9 [x0, x1, .int a] (.int a :: st) z Q := zw_next (f := z_iload 2 9) rfl rfl
theorem s178_9 {ls : List Value} {a : Int32} : ZW zG d 178 9 ls (.int a :: st) z Q = ZW zG d 178 10 ls (.long a.toInt64 :: st) z Q := zw_i2l rfl
theorem s178_10 {x0 x1 x2 : Value} : ZW zG d 178 10 [x0, x1, x2] st z Q = (zir x0 = true ∧ ZW zG d 178 11 [x0, x1, x2] (x0 :: st) z Q) := zw_cond (f := z_aload 0 11) rfl rfl
theorem s178_11 {ls : List Value}  {r : Nat} : ZW zG (d + 1) 178 11 ls (.ref r :: st) z Q = (zcls z r = 12 ∧ zcs st = true ∧ ZC zG d 141 [.ref r] z (zk zG (d + 1) 178 (none) 14 ls st Q)) := zc_V0 rfl (Nat.le_of_ble_eq_true rfl)
theorem s178_14 {ls : List Value} {a : Int32} : ZW zG d 178 14 ls (.int a :: st) z Q = ZW zG d 178 15 ls (.long a.toInt64 :: st) z Q := zw_i2l rfl
theorem s178_15 {ls : List Value}  : ZW zG d 178 15 ls (st) z Q = ZW zG d 178 18 ls ((.long (lN 399)) :: st) z Q := zw_push rfl
theorem s178_18 {ls : List Value} {w0 : Int64} {w1 : Int64} {w2 : Int64} : ZW zG (d + 1) 178 18 ls (.long w2 :: .long w1 :: .long w0 :: st) z Q = (zcs st = true ∧ ZC zG d 114 [.long w0, .long w1, .long w2] z (zk zG (d + 1) 178 (none) 21 ls st Q)) := zc_S3 rfl (Nat.le_of_ble_eq_true rfl)
theorem s178_21 {ls : List Value} {a : Int32} : ZW zG d 178 21 ls (.int a :: st) z Q = if a = 0 then ZW zG d 178 28 ls st z Q else ZW zG d 178 24 ls st z Q := zw_ifeq rfl
theorem s178_24 {ls : List Value}  : ZW zG d 178 24 ls (st) z Q = ZW zG d 178 25 ls ((.int (nI 1)) :: st) z Q := zw_push rfl
theorem s178_25 {ls : List Value}  : ZW zG d 178 25 ls (st) z Q = ZW zG d 178 29 ls st z Q := zw_goto rfl
theorem s178_28 {ls : List Value}  : ZW zG d 178 28 ls (st) z Q = ZW zG d 178 29 ls ((.int (nI 0)) :: st) z Q := zw_push rfl
theorem s178_29 {ls : List Value} {a : Int32} : ZW zG d 178 29 ls ([.int a]) z Q = ((a = 0 ∨ a = 1) ∧ Q (.inl (some (.int a))) z) := zw_retz rfl
/-- X12_rounds (II)V -/
theorem e179 {r0 : Nat} {v0 : Int32} {v1 : Int32} : ZC zG d 179 [.ref r0, .int v0, .int v1] z Q = ZW zG d 179 0 [.ref r0, .int v0, .int v1, zdum, zdum, zdum, zdum] [] z Q := rfl
theorem s179_0 {x0 x1 x2 x3 x4 x5 x6 : Value} : ZW zG d 179 0 [x0, x1, x2, x3, x4, x5, x6] st z Q = (zir x0 = true ∧ ZW zG d 179 1 [x0, x1, x2, x3, x4, x5, x6] (x0 :: st) z Q) := zw_cond (f := z_aload 0 1) rfl rfl
theorem s179_1 {x0 x2 x3 x4 x5 x6 : Value} {a : Int32} : ZW zG d 179 1 [x0, .int a, x2, x3, x4, x5, x6] st z Q = ZW zG d 179 2 [x0, .int a, x2, x3, x4, x5, x6] (.int a :: st) z Q := zw_next (f := z_iload 1 2) rfl rfl
theorem s179_2 {ls : List Value} {w0 : Int32} {r : Nat} : ZW zG (d + 1) 179 2 ls (.int w0 :: .ref r :: st) z Q = (zcls z r = 12 ∧ zcs st = true ∧ ZC zG d 180 [.ref r, .int w0] z (zk zG (d + 1) 179 (none) 5 ls st Q)) := zc_V1 rfl (Nat.le_of_ble_eq_true rfl)
theorem s179_5 {x0 x1 x2 x3 x4 x5 x6 : Value} : ZW zG d 179 5 [x0, x1, x2, x3, x4, x5, x6] st z Q = (zir x0 = true ∧ ZW zG d 179 6 [x0, x1, x2, x3, x4, x5, x6] (x0 :: st) z Q) := zw_cond (f := z_aload 0 6) rfl rfl
theorem s179_6 {x0 x2 x3 x4 x5 x6 : Value} {a : Int32} : ZW zG d 179 6 [x0, .int a, x2, x3, x4, x5, x6] st z Q = ZW zG d 179 7 [x0, .int a, x2, x3, x4, x5, x6] (.int a :: st) z Q := zw_next (f := z_iload 1 7) rfl rfl
theorem s179_7 {ls : List Value}  : ZW zG d 179 7 ls (st) z Q = ZW zG d 179 8 ls ((.int (nI 0)) :: st) z Q := zw_push rfl
theorem s179_8 {ls : List Value}  : ZW zG d 179 8 ls (st) z Q = ZW zG d 179 9 ls ((.int (nI 1)) :: st) z Q := zw_push rfl
theorem s179_9 {x0 x1 x2 x3 x4 x5 x6 : Value} : ZW zG d 179 9 [x0, x1, x2, x3, x4, x5, x6] st z Q = (zir x0 = true ∧ ZW zG d 179 10 [x0, x1, x2, x3, x4, x5, x6] (x0 :: st) z Q) := zw_cond (f := z_aload 0 10) rfl rfl
theorem s179_10 {ls : List Value} {r : Nat} : ZW zG d 179 10 ls (.ref r :: st) z Q = ((zcls z r = 12) ∧ ZW zG d 179 13 ls (.int (zfi z r 17) :: st) (z) Q) := zw_getI rfl
theorem s179_13 {ls : List Value} {a b : Int32} : ZW zG d 179 13 ls (.int b :: .int a :: st) z Q = ZW zG d 179 14 ls (.int (a <<< (b &&& 31)) :: st) z Q := zw_ishl rfl
theorem s179_14 {ls : List Value}  : ZW zG d 179 14 ls (st) z Q = ZW zG d 179 15 ls ((.int (nI 1)) :: st) z Q := zw_push rfl
theorem s179_15 {ls : List Value} {a b : Int32} : ZW zG d 179 15 ls (.int b :: .int a :: st) z Q = ZW zG d 179 16 ls (.int (a - b) :: st) z Q := zw_isub rfl
theorem s179_16 {x0 x1 x3 x4 x5 x6 : Value} {a : Int32} : ZW zG d 179 16 [x0, x1, .int a, x3, x4, x5, x6] st z Q = ZW zG d 179 17 [x0, x1, .int a, x3, x4, x5, x6] (.int a :: st) z Q := zw_next (f := z_iload 2 17) rfl rfl
theorem s179_17 {ls : List Value} {w0 : Int32} {w1 : Int32} {w2 : Int32} {w3 : Int32} {r : Nat} : ZW zG (d + 1) 179 17 ls (.int w3 :: .int w2 :: .int w1 :: .int w0 :: .ref r :: st) z Q = (zcls z r = 12 ∧ zcs st = true ∧ ZC zG d 182 [.ref r, .int w0, .int w1, .int w2, .int w3] z (zk zG (d + 1) 179 (none) 20 ls st Q)) := zc_V4 rfl (Nat.le_of_ble_eq_true rfl)
theorem s179_20 {x0 x1 x2 x3 x4 x5 x6 : Value} : ZW zG d 179 20 [x0, x1, x2, x3, x4, x5, x6] st z Q = (zir x0 = true ∧ ZW zG d 179 21 [x0, x1, x2, x3, x4, x5, x6] (x0 :: st) z Q) := zw_cond (f := z_aload 0 21) rfl rfl
theorem s179_21 {ls : List Value}  : ZW zG d 179 21 ls (st) z Q = ZW zG d 179 22 ls ((.int (nI 0)) :: st) z Q := zw_push rfl
theorem s179_22 {ls : List Value} {a : Int32} {r : Nat} : ZW zG d 179 22 ls (.int a :: .ref r :: st) z Q = ((zcls z r = 12) ∧ ZW zG d 179 25 ls (st) (sfi z r 21 a) Q) := zw_putI rfl
theorem s179_25 {x0 x1 x2 x3 x4 x5 x6 : Value} : ZW zG d 179 25 [x0, x1, x2, x3, x4, x5, x6] st z Q = (zir x0 = true ∧ ZW zG d 179 26 [x0, x1, x2, x3, x4, x5, x6] (x0 :: st) z Q) := zw_cond (f := z_aload 0 26) rfl rfl
theorem s179_26 {ls : List Value}  : ZW zG d 179 26 ls (st) z Q = ZW zG d 179 27 ls ((.int (nI 0)) :: st) z Q := zw_push rfl
theorem s179_27 {ls : List Value} {a : Int32} {r : Nat} : ZW zG d 179 27 ls (.int a :: .ref r :: st) z Q = ((zcls z r = 12) ∧ ZW zG d 179 30 ls (st) (sfi z r 22 a) Q) := zw_putI rfl
theorem s179_30 {x0 x1 x2 x3 x4 x5 x6 : Value} : ZW zG d 179 30 [x0, x1, x2, x3, x4, x5, x6] st z Q = (zir x0 = true ∧ ZW zG d 179 31 [x0, x1, x2, x3, x4, x5, x6] (x0 :: st) z Q) := zw_cond (f := z_aload 0 31) rfl rfl
theorem s179_31 {ls : List Value}  : ZW zG d 179 31 ls (st) z Q = ZW zG d 179 32 ls ((.int (nI 0)) :: st) z Q := zw_push rfl
theorem s179_32 {ls : List Value} {a : Int32} {r : Nat} : ZW zG d 179 32 ls (.int a :: .ref r :: st) z Q = ((zcls z r = 12) ∧ ZW zG d 179 35 ls (st) (sfi z r 23 a) Q) := zw_putI rfl
theorem s179_35 {ls : List Value}  : ZW zG d 179 35 ls (st) z Q = ZW zG d 179 36 ls ((.int (nI 1)) :: st) z Q := zw_push rfl
theorem s179_36 {x0 x1 x2 x3 x4 x5 x6 : Value} {a : Int32} : ZW zG d 179 36 [x0, x1, x2, x3, x4, x5, x6] (.int a :: st) z Q = ZW zG d 179 37 [x0, x1, zclr x2, .int a, x4, x5, x6] st z Q := zw_next (f := z_istore 3 37) rfl rfl
theorem s179_37 {x0 x1 x2 x4 x5 x6 : Value} {a : Int32} : ZW zG d 179 37 [x0, x1, x2, .int a, x4, x5, x6] st z Q = ZW zG d 179 38 [x0, x1, x2, .int a, x4, x5, x6] (.int a :: st) z Q := zw_next (f := z_iload 3 38) rfl rfl
theorem s179_38 {ls : List Value}  : ZW zG d 179 38 ls (st) z Q = ZW zG d 179 39 ls ((.int (nI 1)) :: st) z Q := zw_push rfl
theorem s179_39 {x0 x1 x2 x3 x4 x5 x6 : Value} : ZW zG d 179 39 [x0, x1, x2, x3, x4, x5, x6] st z Q = (zir x0 = true ∧ ZW zG d 179 40 [x0, x1, x2, x3, x4, x5, x6] (x0 :: st) z Q) := zw_cond (f := z_aload 0 40) rfl rfl
theorem s179_40 {ls : List Value} {r : Nat} : ZW zG d 179 40 ls (.ref r :: st) z Q = ((zcls z r = 12) ∧ ZW zG d 179 43 ls (.int (zfi z r 17) :: st) (z) Q) := zw_getI rfl
theorem s179_43 {ls : List Value} {a b : Int32} : ZW zG d 179 43 ls (.int b :: .int a :: st) z Q = ZW zG d 179 44 ls (.int (a <<< (b &&& 31)) :: st) z Q := zw_ishl rfl
theorem s179_44 {ls : List Value} {a b : Int32} : ZW zG d 179 44 ls (.int b :: .int a :: st) z Q = if b ≤ a then ZW zG d 179 167 ls st z Q else ZW zG d 179 47 ls st z Q := zw_icge rfl
theorem s179_47 {x0 x1 x2 x3 x4 x5 x6 : Value} : ZW zG d 179 47 [x0, x1, x2, x3, x4, x5, x6] st z Q = (zir x0 = true ∧ ZW zG d 179 48 [x0, x1, x2, x3, x4, x5, x6] (x0 :: st) z Q) := zw_cond (f := z_aload 0 48) rfl rfl
theorem s179_48 {x0 x1 x2 x4 x5 x6 : Value} {a : Int32} : ZW zG d 179 48 [x0, x1, x2, .int a, x4, x5, x6] st z Q = ZW zG d 179 49 [x0, x1, x2, .int a, x4, x5, x6] (.int a :: st) z Q := zw_next (f := z_iload 3 49) rfl rfl
theorem s179_49 {ls : List Value} {w0 : Int32} {r : Nat} : ZW zG (d + 1) 179 49 ls (.int w0 :: .ref r :: st) z Q = (zcls z r = 12 ∧ zcs st = true ∧ ZC zG d 185 [.ref r, .int w0] z (zk zG (d + 1) 179 (none) 52 ls st Q)) := zc_V1 rfl (Nat.le_of_ble_eq_true rfl)
theorem s179_52 {x0 x1 x2 x3 x4 x5 x6 : Value} {a : Int32} : ZW zG d 179 52 [x0, x1, x2, x3, x4, x5, x6] (.int a :: st) z Q = ZW zG d 179 54 [x0, x1, x2, zclr x3, .int a, x5, x6] st z Q := zw_next (f := z_istore 4 54) rfl rfl
theorem s179_54 {x0 x1 x2 x3 x5 x6 : Value} {a : Int32} : ZW zG d 179 54 [x0, x1, x2, x3, .int a, x5, x6] st z Q = ZW zG d 179 56 [x0, x1, x2, x3, .int a, x5, x6] (.int a :: st) z Q := zw_next (f := z_iload 4 56) rfl rfl
theorem s179_56 {ls : List Value}  : ZW zG d 179 56 ls (st) z Q = ZW zG d 179 57 ls ((.int (-1)) :: st) z Q := zw_push rfl
theorem s179_57 {ls : List Value} {a b : Int32} : ZW zG d 179 57 ls (.int b :: .int a :: st) z Q = if ¬ a = b then ZW zG d 179 63 ls st z Q else ZW zG d 179 60 ls st z Q := zw_icne rfl
theorem s179_60 {ls : List Value}  : ZW zG d 179 60 ls (st) z Q = ZW zG d 179 161 ls st z Q := zw_goto rfl
theorem s179_63 {ls : List Value}  : ZW zG d 179 63 ls (st) z Q = ZW zG d 179 64 ls ((.int (nI 0)) :: st) z Q := zw_push rfl
theorem s179_64 {x0 x1 x2 x3 x4 x5 x6 : Value} {a : Int32} : ZW zG d 179 64 [x0, x1, x2, x3, x4, x5, x6] (.int a :: st) z Q = ZW zG d 179 66 [x0, x1, x2, x3, zclr x4, .int a, x6] st z Q := zw_next (f := z_istore 5 66) rfl rfl
theorem s179_66 {ls : List Value}  : ZW zG d 179 66 ls (st) z Q = ZW zG d 179 67 ls ((.int (nI 0)) :: st) z Q := zw_push rfl
theorem s179_67 {x0 x1 x2 x3 x4 x5 x6 : Value} {a : Int32} : ZW zG d 179 67 [x0, x1, x2, x3, x4, x5, x6] (.int a :: st) z Q = ZW zG d 179 69 [x0, x1, x2, x3, x4, zclr x5, .int a] st z Q := zw_next (f := z_istore 6 69) rfl rfl
theorem s179_69 {x0 x1 x2 x3 x4 x5 : Value} {a : Int32} : ZW zG d 179 69 [x0, x1, x2, x3, x4, x5, .int a] st z Q = ZW zG d 179 71 [x0, x1, x2, x3, x4, x5, .int a] (.int a :: st) z Q := zw_next (f := z_iload 6 71) rfl rfl
theorem s179_71 {x0 x1 x2 x3 x4 x5 x6 : Value} : ZW zG d 179 71 [x0, x1, x2, x3, x4, x5, x6] st z Q = (zir x0 = true ∧ ZW zG d 179 72 [x0, x1, x2, x3, x4, x5, x6] (x0 :: st) z Q) := zw_cond (f := z_aload 0 72) rfl rfl
theorem s179_72 {ls : List Value} {r : Nat} : ZW zG d 179 72 ls (.ref r :: st) z Q = ((zcls z r = 12) ∧ ZW zG d 179 75 ls (.int (zfi z r 17) :: st) (z) Q) := zw_getI rfl
theorem s179_75 {ls : List Value} {a b : Int32} : ZW zG d 179 75 ls (.int b :: .int a :: st) z Q = if b ≤ a then ZW zG d 179 114 ls st z Q else ZW zG d 179 78 ls st z Q := zw_icge rfl
theorem s179_78 {x0 x1 x2 x3 x4 x6 : Value} {a : Int32} : ZW zG d 179 78 [x0, x1, x2, x3, x4, .int a, x6] st z Q = ZW zG d 179 80 [x0, x1, x2, x3, x4, .int a, x6] (.int a :: st) z Q := zw_next (f := z_iload 5 80) rfl rfl
theorem s179_80 {x0 x1 x2 x4 x5 x6 : Value} {a : Int32} : ZW zG d 179 80 [x0, x1, x2, .int a, x4, x5, x6] st z Q = ZW zG d 179 81 [x0, x1, x2, .int a, x4, x5, x6] (.int a :: st) z Q := zw_next (f := z_iload 3 81) rfl rfl
theorem s179_81 {x0 x1 x2 x3 x4 x5 : Value} {a : Int32} : ZW zG d 179 81 [x0, x1, x2, x3, x4, x5, .int a] st z Q = ZW zG d 179 83 [x0, x1, x2, x3, x4, x5, .int a] (.int a :: st) z Q := zw_next (f := z_iload 6 83) rfl rfl
theorem s179_83 {ls : List Value} {w0 : Int32} {w1 : Int32} : ZW zG (d + 1) 179 83 ls (.int w1 :: .int w0 :: st) z Q = (zcs st = true ∧ ZC zG d 149 [.int w0, .int w1] z (zk zG (d + 1) 179 (none) 86 ls st Q)) := zc_S2 rfl (Nat.le_of_ble_eq_true rfl)
theorem s179_86 {ls : List Value} {a : Int32} : ZW zG d 179 86 ls (.int a :: st) z Q = if a = 0 then ZW zG d 179 104 ls st z Q else ZW zG d 179 89 ls st z Q := zw_ifeq rfl
theorem s179_89 {x0 x1 x2 x3 x4 x5 x6 : Value} : ZW zG d 179 89 [x0, x1, x2, x3, x4, x5, x6] st z Q = (zir x0 = true ∧ ZW zG d 179 90 [x0, x1, x2, x3, x4, x5, x6] (x0 :: st) z Q) := zw_cond (f := z_aload 0 90) rfl rfl
theorem s179_90 {ls : List Value} {r : Nat} : ZW zG d 179 90 ls (.ref r :: st) z Q = ((zcls z r = 12 ∧ zir (zfr z r 18) = true) ∧ ZW zG d 179 93 ls (zfr z r 18 :: st) (z) Q) := zw_getR rfl
theorem s179_93 {x0 x1 x2 x3 x4 x5 x6 : Value} : ZW zG d 179 93 [x0, x1, x2, x3, x4, x5, x6] st z Q = (zir x0 = true ∧ ZW zG d 179 94 [x0, x1, x2, x3, x4, x5, x6] (x0 :: st) z Q) := zw_cond (f := z_aload 0 94) rfl rfl
theorem s179_94 {ls : List Value} {r : Nat} : ZW zG d 179 94 ls (.ref r :: st) z Q = ((zcls z r = 12 ∧ zir (zfr z r 16) = true) ∧ ZW zG d 179 97 ls (zfr z r 16 :: st) (z) Q) := zw_getR rfl
theorem s179_97 {x0 x1 x2 x3 x4 x5 : Value} {a : Int32} : ZW zG d 179 97 [x0, x1, x2, x3, x4, x5, .int a] st z Q = ZW zG d 179 99 [x0, x1, x2, x3, x4, x5, .int a] (.int a :: st) z Q := zw_next (f := z_iload 6 99) rfl rfl
theorem s179_99 {ls : List Value} {a : Int32} {r : Nat} : ZW zG d 179 99 ls (.int a :: .ref r :: st) z Q = ((zcls z r = 50 ∧ zin a (zlen z r) = true) ∧ ZW zG d 179 100 ls (.int (zia z r (zx a)) :: st) (z) Q) := zw_iald rfl
theorem s179_100 {ls : List Value} {a : Int32} {r : Nat} : ZW zG d 179 100 ls (.int a :: .ref r :: st) z Q = ((zcls z r = 50 ∧ zin a (zlen z r) = true) ∧ ZW zG d 179 101 ls (.int (zia z r (zx a)) :: st) (z) Q) := zw_iald rfl
theorem s179_101 {ls : List Value}  : ZW zG d 179 101 ls (st) z Q = ZW zG d 179 105 ls st z Q := zw_goto rfl
theorem s179_104 {ls : List Value}  : ZW zG d 179 104 ls (st) z Q = ZW zG d 179 105 ls ((.int (nI 0)) :: st) z Q := zw_push rfl
theorem s179_105 {ls : List Value} {a b : Int32} : ZW zG d 179 105 ls (.int b :: .int a :: st) z Q = ZW zG d 179 106 ls (.int (a + b) :: st) z Q := zw_iadd rfl
theorem s179_106 {x0 x1 x2 x3 x4 x5 x6 : Value} {a : Int32} : ZW zG d 179 106 [x0, x1, x2, x3, x4, x5, x6] (.int a :: st) z Q = ZW zG d 179 108 [x0, x1, x2, x3, zclr x4, .int a, x6] st z Q := zw_next (f := z_istore 5 108) rfl rfl
theorem s179_108 {x0 x1 x2 x3 x4 x5 : Value} {a : Int32} : ZW zG d 179 108 [x0, x1, x2, x3, x4, x5, .int a] st z Q = ZW zG d 179 111 [x0, x1, x2, x3, x4, zclr x5, .int (a + (nI 1))] st z Q := zw_next (f := z_iinc 6 (nI 1) 111) rfl rfl
theorem s179_111 {ls : List Value}  : ZW zG d 179 111 ls (st) z Q = ZW zG d 179 69 ls st z Q := zw_goto rfl
theorem s179_114 {x0 x1 x2 x3 x4 x6 : Value} {a : Int32} : ZW zG d 179 114 [x0, x1, x2, x3, x4, .int a, x6] st z Q = ZW zG d 179 116 [x0, x1, x2, x3, x4, .int a, x6] (.int a :: st) z Q := zw_next (f := z_iload 5 116) rfl rfl
theorem s179_116 {x0 x1 x2 x3 x4 x5 x6 : Value} : ZW zG d 179 116 [x0, x1, x2, x3, x4, x5, x6] st z Q = (zir x0 = true ∧ ZW zG d 179 117 [x0, x1, x2, x3, x4, x5, x6] (x0 :: st) z Q) := zw_cond (f := z_aload 0 117) rfl rfl
theorem s179_117 {ls : List Value} {r : Nat} : ZW zG d 179 117 ls (.ref r :: st) z Q = ((zcls z r = 12) ∧ ZW zG d 179 120 ls (.int (zfi z r 23) :: st) (z) Q) := zw_getI rfl
theorem s179_120 {ls : List Value} {a b : Int32} : ZW zG d 179 120 ls (.int b :: .int a :: st) z Q = if a < b then ZW zG d 179 161 ls st z Q else ZW zG d 179 123 ls st z Q := zw_iclt rfl
theorem s179_123 {x0 x1 x2 x3 x4 x6 : Value} {a : Int32} : ZW zG d 179 123 [x0, x1, x2, x3, x4, .int a, x6] st z Q = ZW zG d 179 125 [x0, x1, x2, x3, x4, .int a, x6] (.int a :: st) z Q := zw_next (f := z_iload 5 125) rfl rfl
theorem s179_125 {x0 x1 x2 x3 x4 x5 x6 : Value} : ZW zG d 179 125 [x0, x1, x2, x3, x4, x5, x6] st z Q = (zir x0 = true ∧ ZW zG d 179 126 [x0, x1, x2, x3, x4, x5, x6] (x0 :: st) z Q) := zw_cond (f := z_aload 0 126) rfl rfl
theorem s179_126 {ls : List Value} {r : Nat} : ZW zG d 179 126 ls (.ref r :: st) z Q = ((zcls z r = 12) ∧ ZW zG d 179 129 ls (.int (zfi z r 23) :: st) (z) Q) := zw_getI rfl
theorem s179_129 {ls : List Value} {a b : Int32} : ZW zG d 179 129 ls (.int b :: .int a :: st) z Q = if ¬ a = b then ZW zG d 179 144 ls st z Q else ZW zG d 179 132 ls st z Q := zw_icne rfl
theorem s179_132 {x0 x1 x2 x3 x5 x6 : Value} {a : Int32} : ZW zG d 179 132 [x0, x1, x2, x3, .int a, x5, x6] st z Q = ZW zG d 179 134 [x0, x1, x2, x3, .int a, x5, x6] (.int a :: st) z Q := zw_next (f := z_iload 4 134) rfl rfl
theorem s179_134 {x0 x1 x2 x3 x4 x5 x6 : Value} : ZW zG d 179 134 [x0, x1, x2, x3, x4, x5, x6] st z Q = (zir x0 = true ∧ ZW zG d 179 135 [x0, x1, x2, x3, x4, x5, x6] (x0 :: st) z Q) := zw_cond (f := z_aload 0 135) rfl rfl
theorem s179_135 {ls : List Value} {r : Nat} : ZW zG d 179 135 ls (.ref r :: st) z Q = ((zcls z r = 12) ∧ ZW zG d 179 138 ls (.int (zfi z r 22) :: st) (z) Q) := zw_getI rfl
theorem s179_138 {ls : List Value} {a b : Int32} : ZW zG d 179 138 ls (.int b :: .int a :: st) z Q = if a < b then ZW zG d 179 144 ls st z Q else ZW zG d 179 141 ls st z Q := zw_iclt rfl
theorem s179_141 {ls : List Value}  : ZW zG d 179 141 ls (st) z Q = ZW zG d 179 161 ls st z Q := zw_goto rfl
theorem s179_144 {x0 x1 x2 x3 x4 x5 x6 : Value} : ZW zG d 179 144 [x0, x1, x2, x3, x4, x5, x6] st z Q = (zir x0 = true ∧ ZW zG d 179 145 [x0, x1, x2, x3, x4, x5, x6] (x0 :: st) z Q) := zw_cond (f := z_aload 0 145) rfl rfl
theorem s179_145 {x0 x1 x2 x4 x5 x6 : Value} {a : Int32} : ZW zG d 179 145 [x0, x1, x2, .int a, x4, x5, x6] st z Q = ZW zG d 179 146 [x0, x1, x2, .int a, x4, x5, x6] (.int a :: st) z Q := zw_next (f := z_iload 3 146) rfl rfl
theorem s179_146 {ls : List Value} {a : Int32} {r : Nat} : ZW zG d 179 146 ls (.int a :: .ref r :: st) z Q = ((zcls z r = 12) ∧ ZW zG d 179 149 ls (st) (sfi z r 21 a) Q) := zw_putI rfl
theorem s179_149 {x0 x1 x2 x3 x4 x5 x6 : Value} : ZW zG d 179 149 [x0, x1, x2, x3, x4, x5, x6] st z Q = (zir x0 = true ∧ ZW zG d 179 150 [x0, x1, x2, x3, x4, x5, x6] (x0 :: st) z Q) := zw_cond (f := z_aload 0 150) rfl rfl
theorem s179_150 {x0 x1 x2 x3 x5 x6 : Value} {a : Int32} : ZW zG d 179 150 [x0, x1, x2, x3, .int a, x5, x6] st z Q = ZW zG d 179 152 [x0, x1, x2, x3, .int a, x5, x6] (.int a :: st) z Q := zw_next (f := z_iload 4 152) rfl rfl
theorem s179_152 {ls : List Value} {a : Int32} {r : Nat} : ZW zG d 179 152 ls (.int a :: .ref r :: st) z Q = ((zcls z r = 12) ∧ ZW zG d 179 155 ls (st) (sfi z r 22 a) Q) := zw_putI rfl
theorem s179_155 {x0 x1 x2 x3 x4 x5 x6 : Value} : ZW zG d 179 155 [x0, x1, x2, x3, x4, x5, x6] st z Q = (zir x0 = true ∧ ZW zG d 179 156 [x0, x1, x2, x3, x4, x5, x6] (x0 :: st) z Q) := zw_cond (f := z_aload 0 156) rfl rfl
theorem s179_156 {x0 x1 x2 x3 x4 x6 : Value} {a : Int32} : ZW zG d 179 156 [x0, x1, x2, x3, x4, .int a, x6] st z Q = ZW zG d 179 158 [x0, x1, x2, x3, x4, .int a, x6] (.int a :: st) z Q := zw_next (f := z_iload 5 158) rfl rfl
theorem s179_158 {ls : List Value} {a : Int32} {r : Nat} : ZW zG d 179 158 ls (.int a :: .ref r :: st) z Q = ((zcls z r = 12) ∧ ZW zG d 179 161 ls (st) (sfi z r 23 a) Q) := zw_putI rfl
theorem s179_161 {x0 x1 x2 x4 x5 x6 : Value} {a : Int32} : ZW zG d 179 161 [x0, x1, x2, .int a, x4, x5, x6] st z Q = ZW zG d 179 164 [x0, x1, zclr x2, .int (a + (nI 1)), x4, x5, x6] st z Q := zw_next (f := z_iinc 3 (nI 1) 164) rfl rfl
theorem s179_164 {ls : List Value}  : ZW zG d 179 164 ls (st) z Q = ZW zG d 179 37 ls st z Q := zw_goto rfl
theorem s179_167 {ls : List Value}  : ZW zG d 179 167 ls ([]) z Q = Q (.inl none) z := zw_ret rfl
/-- X12_lists (I)V -/
theorem e180 {r0 : Nat} {v0 : Int32} : ZC zG d 180 [.ref r0, .int v0] z Q = ZW zG d 180 0 [.ref r0, .int v0, zdum] [] z Q := rfl
theorem s180_0 {x0 x1 x2 : Value} : ZW zG d 180 0 [x0, x1, x2] st z Q = (zir x0 = true ∧ ZW zG d 180 1 [x0, x1, x2] (x0 :: st) z Q) := zw_cond (f := z_aload 0 1) rfl rfl
theorem s180_1 {x0 x2 : Value} {a : Int32} : ZW zG d 180 1 [x0, .int a, x2] st z Q = ZW zG d 180 2 [x0, .int a, x2] (.int a :: st) z Q := zw_next (f := z_iload 1 2) rfl rfl
theorem s180_2 {ls : List Value} {w0 : Int32} {r : Nat} : ZW zG (d + 1) 180 2 ls (.int w0 :: .ref r :: st) z Q = (zcls z r = 12 ∧ zcs st = true ∧ ZC zG d 181 [.ref r, .int w0] z (zk zG (d + 1) 180 (none) 5 ls st Q)) := zc_V1 rfl (Nat.le_of_ble_eq_true rfl)
theorem s180_5 {x0 x1 x2 : Value} : ZW zG d 180 5 [x0, x1, x2] st z Q = (zir x0 = true ∧ ZW zG d 180 6 [x0, x1, x2] (x0 :: st) z Q) := zw_cond (f := z_aload 0 6) rfl rfl
theorem s180_6 {ls : List Value}  : ZW zG d 180 6 ls (st) z Q = ZW zG d 180 7 ls ((.int (nI 0)) :: st) z Q := zw_push rfl
theorem s180_7 {ls : List Value} {a : Int32} {r : Nat} : ZW zG d 180 7 ls (.int a :: .ref r :: st) z Q = ((zcls z r = 12) ∧ ZW zG d 180 10 ls (st) (sfi z r 17 a) Q) := zw_putI rfl
theorem s180_10 {ls : List Value}  : ZW zG d 180 10 ls (st) z Q = ZW zG d 180 11 ls ((.int (nI 0)) :: st) z Q := zw_push rfl
theorem s180_11 {x0 x1 x2 : Value} {a : Int32} : ZW zG d 180 11 [x0, x1, x2] (.int a :: st) z Q = ZW zG d 180 12 [x0, zclr x1, .int a] st z Q := zw_next (f := z_istore 2 12) rfl rfl
theorem s180_12 {x0 x1 : Value} {a : Int32} : ZW zG d 180 12 [x0, x1, .int a] st z Q = ZW zG d 180 13 [x0, x1, .int a] (.int a :: st) z Q := zw_next (f := z_iload 2 13) rfl rfl
theorem s180_13 {ls : List Value}  : ZW zG d 180 13 ls (st) z Q = ZW zG d 180 15 ls ((.int (nI 16)) :: st) z Q := zw_push rfl
theorem s180_15 {ls : List Value} {a b : Int32} : ZW zG d 180 15 ls (.int b :: .int a :: st) z Q = if b ≤ a then ZW zG d 180 65 ls st z Q else ZW zG d 180 18 ls st z Q := zw_icge rfl
theorem s180_18 {x0 x1 x2 : Value} : ZW zG d 180 18 [x0, x1, x2] st z Q = (zir x0 = true ∧ ZW zG d 180 19 [x0, x1, x2] (x0 :: st) z Q) := zw_cond (f := z_aload 0 19) rfl rfl
theorem s180_19 {ls : List Value} {r : Nat} : ZW zG d 180 19 ls (.ref r :: st) z Q = ((zcls z r = 12) ∧ ZW zG d 180 22 ls (.int (zfi z r 17) :: st) (z) Q) := zw_getI rfl
theorem s180_22 {ls : List Value}  : ZW zG d 180 22 ls (st) z Q = ZW zG d 180 24 ls ((.int (nI 10)) :: st) z Q := zw_push rfl
theorem s180_24 {ls : List Value} {a b : Int32} : ZW zG d 180 24 ls (.int b :: .int a :: st) z Q = if b ≤ a then ZW zG d 180 65 ls st z Q else ZW zG d 180 27 ls st z Q := zw_icge rfl
theorem s180_27 {x0 x1 x2 : Value} : ZW zG d 180 27 [x0, x1, x2] st z Q = (zir x0 = true ∧ ZW zG d 180 28 [x0, x1, x2] (x0 :: st) z Q) := zw_cond (f := z_aload 0 28) rfl rfl
theorem s180_28 {ls : List Value} {r : Nat} : ZW zG d 180 28 ls (.ref r :: st) z Q = ((zcls z r = 12 ∧ zir (zfr z r 18) = true) ∧ ZW zG d 180 31 ls (zfr z r 18 :: st) (z) Q) := zw_getR rfl
theorem s180_31 {x0 x1 : Value} {a : Int32} : ZW zG d 180 31 [x0, x1, .int a] st z Q = ZW zG d 180 32 [x0, x1, .int a] (.int a :: st) z Q := zw_next (f := z_iload 2 32) rfl rfl
theorem s180_32 {ls : List Value} {a : Int32} {r : Nat} : ZW zG d 180 32 ls (.int a :: .ref r :: st) z Q = ((zcls z r = 50 ∧ zin a (zlen z r) = true) ∧ ZW zG d 180 33 ls (.int (zia z r (zx a)) :: st) (z) Q) := zw_iald rfl
theorem s180_33 {ls : List Value} {a : Int32} : ZW zG d 180 33 ls (.int a :: st) z Q = if ¬ a = 0 then ZW zG d 180 39 ls st z Q else ZW zG d 180 36 ls st z Q := zw_ifne rfl
theorem s180_36 {ls : List Value}  : ZW zG d 180 36 ls (st) z Q = ZW zG d 180 59 ls st z Q := zw_goto rfl
theorem s180_39 {x0 x1 x2 : Value} : ZW zG d 180 39 [x0, x1, x2] st z Q = (zir x0 = true ∧ ZW zG d 180 40 [x0, x1, x2] (x0 :: st) z Q) := zw_cond (f := z_aload 0 40) rfl rfl
theorem s180_40 {ls : List Value} {r : Nat} : ZW zG d 180 40 ls (.ref r :: st) z Q = ((zcls z r = 12 ∧ zir (zfr z r 16) = true) ∧ ZW zG d 180 43 ls (zfr z r 16 :: st) (z) Q) := zw_getR rfl
theorem s180_43 {x0 x1 x2 : Value} : ZW zG d 180 43 [x0, x1, x2] st z Q = (zir x0 = true ∧ ZW zG d 180 44 [x0, x1, x2] (x0 :: st) z Q) := zw_cond (f := z_aload 0 44) rfl rfl
theorem s180_44 {ls : List Value} {r : Nat} : ZW zG d 180 44 ls (.ref r :: st) z Q = ((zcls z r = 12) ∧ ZW zG d 180 47 ls (.int (zfi z r 17) :: st) (z) Q) := zw_getI rfl
theorem s180_47 {x0 x1 : Value} {a : Int32} : ZW zG d 180 47 [x0, x1, .int a] st z Q = ZW zG d 180 48 [x0, x1, .int a] (.int a :: st) z Q := zw_next (f := z_iload 2 48) rfl rfl
theorem s180_48 {ls : List Value} {a b : Int32} {r : Nat} : ZW zG d 180 48 ls (.int b :: .int a :: .ref r :: st) z Q = ((zcls z r = 50 ∧ zin a (zlen z r) = true) ∧ ZW zG d 180 49 ls (st) (sia z r (zx a) (znar 50 b)) Q) := zw_iast rfl
theorem s180_49 {x0 x1 x2 : Value} : ZW zG d 180 49 [x0, x1, x2] st z Q = (zir x0 = true ∧ ZW zG d 180 50 [x0, x1, x2] (x0 :: st) z Q) := zw_cond (f := z_aload 0 50) rfl rfl
theorem s180_50 {ls : List Value} {r : Nat} : ZW zG d 180 50 ls (.ref r :: st) z Q = ZW zG d 180 51 ls (.ref r :: .ref r :: st) z Q := zw_dupr rfl
theorem s180_51 {ls : List Value} {r : Nat} : ZW zG d 180 51 ls (.ref r :: st) z Q = ((zcls z r = 12) ∧ ZW zG d 180 54 ls (.int (zfi z r 17) :: st) (z) Q) := zw_getI rfl
theorem s180_54 {ls : List Value}  : ZW zG d 180 54 ls (st) z Q = ZW zG d 180 55 ls ((.int (nI 1)) :: st) z Q := zw_push rfl
theorem s180_55 {ls : List Value} {a b : Int32} : ZW zG d 180 55 ls (.int b :: .int a :: st) z Q = ZW zG d 180 56 ls (.int (a + b) :: st) z Q := zw_iadd rfl
theorem s180_56 {ls : List Value} {a : Int32} {r : Nat} : ZW zG d 180 56 ls (.int a :: .ref r :: st) z Q = ((zcls z r = 12) ∧ ZW zG d 180 59 ls (st) (sfi z r 17 a) Q) := zw_putI rfl
theorem s180_59 {x0 x1 : Value} {a : Int32} : ZW zG d 180 59 [x0, x1, .int a] st z Q = ZW zG d 180 62 [x0, zclr x1, .int (a + (nI 1))] st z Q := zw_next (f := z_iinc 2 (nI 1) 62) rfl rfl
theorem s180_62 {ls : List Value}  : ZW zG d 180 62 ls (st) z Q = ZW zG d 180 12 ls st z Q := zw_goto rfl
theorem s180_65 {ls : List Value}  : ZW zG d 180 65 ls ([]) z Q = Q (.inl none) z := zw_ret rfl
/-- X12_weighs (I)V -/
theorem e181 {r0 : Nat} {v0 : Int32} : ZC zG d 181 [.ref r0, .int v0] z Q = ZW zG d 181 0 [.ref r0, .int v0, zdum, zdum] [] z Q := rfl
theorem s181_0 {ls : List Value}  : ZW zG d 181 0 ls (st) z Q = ZW zG d 181 1 ls ((.int (nI 0)) :: st) z Q := zw_push rfl
theorem s181_1 {x0 x1 x2 x3 : Value} {a : Int32} : ZW zG d 181 1 [x0, x1, x2, x3] (.int a :: st) z Q = ZW zG d 181 2 [x0, zclr x1, .int a, x3] st z Q := zw_next (f := z_istore 2 2) rfl rfl
theorem s181_2 {x0 x1 x3 : Value} {a : Int32} : ZW zG d 181 2 [x0, x1, .int a, x3] st z Q = ZW zG d 181 3 [x0, x1, .int a, x3] (.int a :: st) z Q := zw_next (f := z_iload 2 3) rfl rfl
theorem s181_3 {ls : List Value}  : ZW zG d 181 3 ls (st) z Q = ZW zG d 181 5 ls ((.int (nI 16)) :: st) z Q := zw_push rfl
theorem s181_5 {ls : List Value} {a b : Int32} : ZW zG d 181 5 ls (.int b :: .int a :: st) z Q = if b ≤ a then ZW zG d 181 28 ls st z Q else ZW zG d 181 8 ls st z Q := zw_icge rfl
theorem s181_8 {x0 x1 x2 x3 : Value} : ZW zG d 181 8 [x0, x1, x2, x3] st z Q = (zir x0 = true ∧ ZW zG d 181 9 [x0, x1, x2, x3] (x0 :: st) z Q) := zw_cond (f := z_aload 0 9) rfl rfl
theorem s181_9 {ls : List Value} {r : Nat} : ZW zG d 181 9 ls (.ref r :: st) z Q = ((zcls z r = 12 ∧ zir (zfr z r 18) = true) ∧ ZW zG d 181 12 ls (zfr z r 18 :: st) (z) Q) := zw_getR rfl
theorem s181_12 {x0 x1 x3 : Value} {a : Int32} : ZW zG d 181 12 [x0, x1, .int a, x3] st z Q = ZW zG d 181 13 [x0, x1, .int a, x3] (.int a :: st) z Q := zw_next (f := z_iload 2 13) rfl rfl
theorem s181_13 {ls : List Value}  : ZW zG d 181 13 ls (st) z Q = ZW zG d 181 14 ls ((.int (nI 0)) :: st) z Q := zw_push rfl
theorem s181_14 {ls : List Value} {a b : Int32} {r : Nat} : ZW zG d 181 14 ls (.int b :: .int a :: .ref r :: st) z Q = ((zcls z r = 50 ∧ zin a (zlen z r) = true) ∧ ZW zG d 181 15 ls (st) (sia z r (zx a) (znar 50 b)) Q) := zw_iast rfl
theorem s181_15 {x0 x1 x2 x3 : Value} : ZW zG d 181 15 [x0, x1, x2, x3] st z Q = (zir x0 = true ∧ ZW zG d 181 16 [x0, x1, x2, x3] (x0 :: st) z Q) := zw_cond (f := z_aload 0 16) rfl rfl
theorem s181_16 {ls : List Value} {r : Nat} : ZW zG d 181 16 ls (.ref r :: st) z Q = ((zcls z r = 12 ∧ zir (zfr z r 19) = true) ∧ ZW zG d 181 19 ls (zfr z r 19 :: st) (z) Q) := zw_getR rfl
theorem s181_19 {x0 x1 x3 : Value} {a : Int32} : ZW zG d 181 19 [x0, x1, .int a, x3] st z Q = ZW zG d 181 20 [x0, x1, .int a, x3] (.int a :: st) z Q := zw_next (f := z_iload 2 20) rfl rfl
theorem s181_20 {ls : List Value}  : ZW zG d 181 20 ls (st) z Q = ZW zG d 181 21 ls ((.int (nI 0)) :: st) z Q := zw_push rfl
theorem s181_21 {ls : List Value} {a b : Int32} {r : Nat} : ZW zG d 181 21 ls (.int b :: .int a :: .ref r :: st) z Q = ((zcls z r = 54 ∧ zin a (zlen z r) = true) ∧ ZW zG d 181 22 ls (st) (sia z r (zx a) (znar 54 b)) Q) := zw_iast rfl
theorem s181_22 {x0 x1 x3 : Value} {a : Int32} : ZW zG d 181 22 [x0, x1, .int a, x3] st z Q = ZW zG d 181 25 [x0, zclr x1, .int (a + (nI 1)), x3] st z Q := zw_next (f := z_iinc 2 (nI 1) 25) rfl rfl
theorem s181_25 {ls : List Value}  : ZW zG d 181 25 ls (st) z Q = ZW zG d 181 2 ls st z Q := zw_goto rfl
theorem s181_28 {ls : List Value}  : ZW zG d 181 28 ls (st) z Q = ZW zG d 181 29 ls ((.int (nI 0)) :: st) z Q := zw_push rfl
theorem s181_29 {x0 x1 x2 x3 : Value} {a : Int32} : ZW zG d 181 29 [x0, x1, x2, x3] (.int a :: st) z Q = ZW zG d 181 30 [x0, zclr x1, .int a, x3] st z Q := zw_next (f := z_istore 2 30) rfl rfl
theorem s181_30 {x0 x1 x3 : Value} {a : Int32} : ZW zG d 181 30 [x0, x1, .int a, x3] st z Q = ZW zG d 181 31 [x0, x1, .int a, x3] (.int a :: st) z Q := zw_next (f := z_iload 2 31) rfl rfl
theorem s181_31 {x0 x1 x2 x3 : Value} : ZW zG d 181 31 [x0, x1, x2, x3] st z Q = (zir x0 = true ∧ ZW zG d 181 32 [x0, x1, x2, x3] (x0 :: st) z Q) := zw_cond (f := z_aload 0 32) rfl rfl
theorem s181_32 {ls : List Value} {r : Nat} : ZW zG d 181 32 ls (.ref r :: st) z Q = ((zcls z r = 12 ∧ zir (zfr z r 1) = true) ∧ ZW zG d 181 35 ls (zfr z r 1 :: st) (z) Q) := zw_getR rfl
theorem s181_35 {ls : List Value}  : ZW zG d 181 35 ls (st) z Q = ZW zG d 181 37 ls ((.int (nI 7)) :: st) z Q := zw_push rfl
theorem s181_37 {ls : List Value} {a : Int32} {r : Nat} : ZW zG d 181 37 ls (.int a :: .ref r :: st) z Q = ((zcls z r = 50 ∧ zin a (zlen z r) = true) ∧ ZW zG d 181 38 ls (.int (zia z r (zx a)) :: st) (z) Q) := zw_iald rfl
theorem s181_38 {ls : List Value} {a b : Int32} : ZW zG d 181 38 ls (.int b :: .int a :: st) z Q = if b ≤ a then ZW zG d 181 114 ls st z Q else ZW zG d 181 41 ls st z Q := zw_icge rfl
theorem s181_41 {x0 x1 x2 x3 : Value} : ZW zG d 181 41 [x0, x1, x2, x3] st z Q = (zir x0 = true ∧ ZW zG d 181 42 [x0, x1, x2, x3] (x0 :: st) z Q) := zw_cond (f := z_aload 0 42) rfl rfl
theorem s181_42 {x0 x1 x3 : Value} {a : Int32} : ZW zG d 181 42 [x0, x1, .int a, x3] st z Q = ZW zG d 181 43 [x0, x1, .int a, x3] (.int a :: st) z Q := zw_next (f := z_iload 2 43) rfl rfl
theorem s181_43 {ls : List Value}  : ZW zG d 181 43 ls (st) z Q = ZW zG d 181 44 ls ((.int (nI 0)) :: st) z Q := zw_push rfl
theorem s181_44 {ls : List Value} {w0 : Int32} {w1 : Int32} {r : Nat} : ZW zG (d + 1) 181 44 ls (.int w1 :: .int w0 :: .ref r :: st) z Q = (zcls z r = 12 ∧ zcs st = true ∧ ZC zG d 159 [.ref r, .int w0, .int w1] z (zk zG (d + 1) 181 (none) 47 ls st Q)) := zc_V2 rfl (Nat.le_of_ble_eq_true rfl)
theorem s181_47 {x0 x2 x3 : Value} {a : Int32} : ZW zG d 181 47 [x0, .int a, x2, x3] st z Q = ZW zG d 181 48 [x0, .int a, x2, x3] (.int a :: st) z Q := zw_next (f := z_iload 1 48) rfl rfl
theorem s181_48 {ls : List Value} {a b : Int32} : ZW zG d 181 48 ls (.int b :: .int a :: st) z Q = if a = b then ZW zG d 181 54 ls st z Q else ZW zG d 181 51 ls st z Q := zw_iceq rfl
theorem s181_51 {ls : List Value}  : ZW zG d 181 51 ls (st) z Q = ZW zG d 181 108 ls st z Q := zw_goto rfl
theorem s181_54 {x0 x1 x2 x3 : Value} : ZW zG d 181 54 [x0, x1, x2, x3] st z Q = (zir x0 = true ∧ ZW zG d 181 55 [x0, x1, x2, x3] (x0 :: st) z Q) := zw_cond (f := z_aload 0 55) rfl rfl
theorem s181_55 {x0 x1 x3 : Value} {a : Int32} : ZW zG d 181 55 [x0, x1, .int a, x3] st z Q = ZW zG d 181 56 [x0, x1, .int a, x3] (.int a :: st) z Q := zw_next (f := z_iload 2 56) rfl rfl
theorem s181_56 {ls : List Value}  : ZW zG d 181 56 ls (st) z Q = ZW zG d 181 57 ls ((.int (nI 1)) :: st) z Q := zw_push rfl
theorem s181_57 {ls : List Value} {w0 : Int32} {w1 : Int32} {r : Nat} : ZW zG (d + 1) 181 57 ls (.int w1 :: .int w0 :: .ref r :: st) z Q = (zcls z r = 12 ∧ zcs st = true ∧ ZC zG d 159 [.ref r, .int w0, .int w1] z (zk zG (d + 1) 181 (none) 60 ls st Q)) := zc_V2 rfl (Nat.le_of_ble_eq_true rfl)
theorem s181_60 {x0 x1 x2 x3 : Value} {a : Int32} : ZW zG d 181 60 [x0, x1, x2, x3] (.int a :: st) z Q = ZW zG d 181 61 [x0, x1, zclr x2, .int a] st z Q := zw_next (f := z_istore 3 61) rfl rfl
theorem s181_61 {x0 x1 x2 x3 : Value} : ZW zG d 181 61 [x0, x1, x2, x3] st z Q = (zir x0 = true ∧ ZW zG d 181 62 [x0, x1, x2, x3] (x0 :: st) z Q) := zw_cond (f := z_aload 0 62) rfl rfl
theorem s181_62 {ls : List Value} {r : Nat} : ZW zG d 181 62 ls (.ref r :: st) z Q = ((zcls z r = 12 ∧ zir (zfr z r 18) = true) ∧ ZW zG d 181 65 ls (zfr z r 18 :: st) (z) Q) := zw_getR rfl
theorem s181_65 {x0 x1 x2 : Value} {a : Int32} : ZW zG d 181 65 [x0, x1, x2, .int a] st z Q = ZW zG d 181 66 [x0, x1, x2, .int a] (.int a :: st) z Q := zw_next (f := z_iload 3 66) rfl rfl
theorem s181_66 {ls : List Value} {a : Int32} {r : Nat} : ZW zG d 181 66 ls (.int a :: .ref r :: st) z Q = ZW zG d 181 67 ls (.int a :: .ref r :: .int a :: .ref r :: st) z Q := zw_dup2 rfl
theorem s181_67 {ls : List Value} {a : Int32} {r : Nat} : ZW zG d 181 67 ls (.int a :: .ref r :: st) z Q = ((zcls z r = 50 ∧ zin a (zlen z r) = true) ∧ ZW zG d 181 68 ls (.int (zia z r (zx a)) :: st) (z) Q) := zw_iald rfl
theorem s181_68 {x0 x1 x2 x3 : Value} : ZW zG d 181 68 [x0, x1, x2, x3] st z Q = (zir x0 = true ∧ ZW zG d 181 69 [x0, x1, x2, x3] (x0 :: st) z Q) := zw_cond (f := z_aload 0 69) rfl rfl
theorem s181_69 {x0 x1 x3 : Value} {a : Int32} : ZW zG d 181 69 [x0, x1, .int a, x3] st z Q = ZW zG d 181 70 [x0, x1, .int a, x3] (.int a :: st) z Q := zw_next (f := z_iload 2 70) rfl rfl
theorem s181_70 {ls : List Value}  : ZW zG d 181 70 ls (st) z Q = ZW zG d 181 71 ls ((.int (nI 2)) :: st) z Q := zw_push rfl
theorem s181_71 {ls : List Value} {w0 : Int32} {w1 : Int32} {r : Nat} : ZW zG (d + 1) 181 71 ls (.int w1 :: .int w0 :: .ref r :: st) z Q = (zcls z r = 12 ∧ zcs st = true ∧ ZC zG d 159 [.ref r, .int w0, .int w1] z (zk zG (d + 1) 181 (none) 74 ls st Q)) := zc_V2 rfl (Nat.le_of_ble_eq_true rfl)
theorem s181_74 {ls : List Value}  : ZW zG d 181 74 ls (st) z Q = ZW zG d 181 75 ls ((.int (nI 1)) :: st) z Q := zw_push rfl
theorem s181_75 {ls : List Value} {a b : Int32} : ZW zG d 181 75 ls (.int b :: .int a :: st) z Q = ZW zG d 181 76 ls (.int (a + b) :: st) z Q := zw_iadd rfl
theorem s181_76 {ls : List Value} {a b : Int32} : ZW zG d 181 76 ls (.int b :: .int a :: st) z Q = ZW zG d 181 77 ls (.int (a + b) :: st) z Q := zw_iadd rfl
theorem s181_77 {ls : List Value} {a b : Int32} {r : Nat} : ZW zG d 181 77 ls (.int b :: .int a :: .ref r :: st) z Q = ((zcls z r = 50 ∧ zin a (zlen z r) = true) ∧ ZW zG d 181 78 ls (st) (sia z r (zx a) (znar 50 b)) Q) := zw_iast rfl
theorem s181_78 {x0 x1 x2 x3 : Value} : ZW zG d 181 78 [x0, x1, x2, x3] st z Q = (zir x0 = true ∧ ZW zG d 181 79 [x0, x1, x2, x3] (x0 :: st) z Q) := zw_cond (f := z_aload 0 79) rfl rfl
theorem s181_79 {ls : List Value} {r : Nat} : ZW zG d 181 79 ls (.ref r :: st) z Q = ((zcls z r = 12 ∧ zir (zfr z r 19) = true) ∧ ZW zG d 181 82 ls (zfr z r 19 :: st) (z) Q) := zw_getR rfl
theorem s181_82 {x0 x1 x2 : Value} {a : Int32} : ZW zG d 181 82 [x0, x1, x2, .int a] st z Q = ZW zG d 181 83 [x0, x1, x2, .int a] (.int a :: st) z Q := zw_next (f := z_iload 3 83) rfl rfl
theorem s181_83 {x0 x1 x2 x3 : Value} : ZW zG d 181 83 [x0, x1, x2, x3] st z Q = (zir x0 = true ∧ ZW zG d 181 84 [x0, x1, x2, x3] (x0 :: st) z Q) := zw_cond (f := z_aload 0 84) rfl rfl
theorem s181_84 {ls : List Value} {r : Nat} : ZW zG d 181 84 ls (.ref r :: st) z Q = ((zcls z r = 12 ∧ zir (zfr z r 19) = true) ∧ ZW zG d 181 87 ls (zfr z r 19 :: st) (z) Q) := zw_getR rfl
theorem s181_87 {x0 x1 x2 : Value} {a : Int32} : ZW zG d 181 87 [x0, x1, x2, .int a] st z Q = ZW zG d 181 88 [x0, x1, x2, .int a] (.int a :: st) z Q := zw_next (f := z_iload 3 88) rfl rfl
theorem s181_88 {ls : List Value} {a : Int32} {r : Nat} : ZW zG d 181 88 ls (.int a :: .ref r :: st) z Q = ((zcls z r = 54 ∧ zin a (zlen z r) = true) ∧ ZW zG d 181 89 ls (.int (zia z r (zx a)) :: st) (z) Q) := zw_iald rfl
theorem s181_89 {ls : List Value} {a : Int32} : ZW zG d 181 89 ls (.int a :: st) z Q = if ¬ a = 0 then ZW zG d 181 102 ls st z Q else ZW zG d 181 92 ls st z Q := zw_ifne rfl
theorem s181_92 {x0 x1 x2 x3 : Value} : ZW zG d 181 92 [x0, x1, x2, x3] st z Q = (zir x0 = true ∧ ZW zG d 181 93 [x0, x1, x2, x3] (x0 :: st) z Q) := zw_cond (f := z_aload 0 93) rfl rfl
theorem s181_93 {x0 x1 x3 : Value} {a : Int32} : ZW zG d 181 93 [x0, x1, .int a, x3] st z Q = ZW zG d 181 94 [x0, x1, .int a, x3] (.int a :: st) z Q := zw_next (f := z_iload 2 94) rfl rfl
theorem s181_94 {ls : List Value}  : ZW zG d 181 94 ls (st) z Q = ZW zG d 181 95 ls ((.int (nI 2)) :: st) z Q := zw_push rfl
theorem s181_95 {ls : List Value} {w0 : Int32} {w1 : Int32} {r : Nat} : ZW zG (d + 1) 181 95 ls (.int w1 :: .int w0 :: .ref r :: st) z Q = (zcls z r = 12 ∧ zcs st = true ∧ ZC zG d 159 [.ref r, .int w0, .int w1] z (zk zG (d + 1) 181 (none) 98 ls st Q)) := zc_V2 rfl (Nat.le_of_ble_eq_true rfl)
theorem s181_98 {ls : List Value}  : ZW zG d 181 98 ls (st) z Q = ZW zG d 181 99 ls ((.int (nI 2)) :: st) z Q := zw_push rfl
theorem s181_99 {ls : List Value} {a b : Int32} : ZW zG d 181 99 ls (.int b :: .int a :: st) z Q = if a < b then ZW zG d 181 106 ls st z Q else ZW zG d 181 102 ls st z Q := zw_iclt rfl
theorem s181_102 {ls : List Value}  : ZW zG d 181 102 ls (st) z Q = ZW zG d 181 103 ls ((.int (nI 1)) :: st) z Q := zw_push rfl
theorem s181_103 {ls : List Value}  : ZW zG d 181 103 ls (st) z Q = ZW zG d 181 107 ls st z Q := zw_goto rfl
theorem s181_106 {ls : List Value}  : ZW zG d 181 106 ls (st) z Q = ZW zG d 181 107 ls ((.int (nI 0)) :: st) z Q := zw_push rfl
theorem s181_107 {ls : List Value} {a b : Int32} {r : Nat} : ZW zG d 181 107 ls (.int b :: .int a :: .ref r :: st) z Q = ((zcls z r = 54 ∧ zin a (zlen z r) = true) ∧ ZW zG d 181 108 ls (st) (sia z r (zx a) (znar 54 b)) Q) := zw_iast rfl
theorem s181_108 {x0 x1 x3 : Value} {a : Int32} : ZW zG d 181 108 [x0, x1, .int a, x3] st z Q = ZW zG d 181 111 [x0, zclr x1, .int (a + (nI 1)), x3] st z Q := zw_next (f := z_iinc 2 (nI 1) 111) rfl rfl
theorem s181_111 {ls : List Value}  : ZW zG d 181 111 ls (st) z Q = ZW zG d 181 30 ls st z Q := zw_goto rfl
theorem s181_114 {ls : List Value}  : ZW zG d 181 114 ls ([]) z Q = Q (.inl none) z := zw_ret rfl
/-- X12_goesThrough (IIII)V -/
theorem e182 {r0 : Nat} {v0 : Int32} {v1 : Int32} {v2 : Int32} {v3 : Int32} : ZC zG d 182 [.ref r0, .int v0, .int v1, .int v2, .int v3] z Q = ZW zG d 182 0 [.ref r0, .int v0, .int v1, .int v2, .int v3, zdum, zdum, zdum, zdum, zdum, zdum] [] z Q := rfl
theorem s182_0 {ls : List Value}  : ZW zG d 182 0 ls (st) z Q = ZW zG d 182 1 ls ((.int (nI 1)) :: st) z Q := zw_push rfl
theorem s182_1 {x0 x1 x2 x3 x4 x5 x6 x7 x8 x9 x10 : Value} {a : Int32} : ZW zG d 182 1 [x0, x1, x2, x3, x4, x5, x6, x7, x8, x9, x10] (.int a :: st) z Q = ZW zG d 182 3 [x0, x1, x2, x3, zclr x4, .int a, x6, x7, x8, x9, x10] st z Q := zw_next (f := z_istore 5 3) rfl rfl
theorem s182_3 {x0 x1 x2 x3 x4 x6 x7 x8 x9 x10 : Value} {a : Int32} : ZW zG d 182 3 [x0, x1, x2, x3, x4, .int a, x6, x7, x8, x9, x10] st z Q = ZW zG d 182 5 [x0, x1, x2, x3, x4, .int a, x6, x7, x8, x9, x10] (.int a :: st) z Q := zw_next (f := z_iload 5 5) rfl rfl
theorem s182_5 {ls : List Value}  : ZW zG d 182 5 ls (st) z Q = ZW zG d 182 6 ls ((.int (nI 1)) :: st) z Q := zw_push rfl
theorem s182_6 {x0 x1 x2 x3 x4 x5 x6 x7 x8 x9 x10 : Value} : ZW zG d 182 6 [x0, x1, x2, x3, x4, x5, x6, x7, x8, x9, x10] st z Q = (zir x0 = true ∧ ZW zG d 182 7 [x0, x1, x2, x3, x4, x5, x6, x7, x8, x9, x10] (x0 :: st) z Q) := zw_cond (f := z_aload 0 7) rfl rfl
theorem s182_7 {ls : List Value} {r : Nat} : ZW zG d 182 7 ls (.ref r :: st) z Q = ((zcls z r = 12) ∧ ZW zG d 182 10 ls (.int (zfi z r 17) :: st) (z) Q) := zw_getI rfl
theorem s182_10 {ls : List Value} {a b : Int32} : ZW zG d 182 10 ls (.int b :: .int a :: st) z Q = ZW zG d 182 11 ls (.int (a <<< (b &&& 31)) :: st) z Q := zw_ishl rfl
theorem s182_11 {ls : List Value} {a b : Int32} : ZW zG d 182 11 ls (.int b :: .int a :: st) z Q = if b ≤ a then ZW zG d 182 240 ls st z Q else ZW zG d 182 14 ls st z Q := zw_icge rfl
theorem s182_14 {ls : List Value}  : ZW zG d 182 14 ls (st) z Q = ZW zG d 182 15 ls ((.int (nI 0)) :: st) z Q := zw_push rfl
theorem s182_15 {x0 x1 x2 x3 x4 x5 x6 x7 x8 x9 x10 : Value} {a : Int32} : ZW zG d 182 15 [x0, x1, x2, x3, x4, x5, x6, x7, x8, x9, x10] (.int a :: st) z Q = ZW zG d 182 17 [x0, x1, x2, x3, x4, zclr x5, .int a, x7, x8, x9, x10] st z Q := zw_next (f := z_istore 6 17) rfl rfl
theorem s182_17 {x0 x1 x2 x3 x4 x5 x7 x8 x9 x10 : Value} {a : Int32} : ZW zG d 182 17 [x0, x1, x2, x3, x4, x5, .int a, x7, x8, x9, x10] st z Q = ZW zG d 182 19 [x0, x1, x2, x3, x4, x5, .int a, x7, x8, x9, x10] (.int a :: st) z Q := zw_next (f := z_iload 6 19) rfl rfl
theorem s182_19 {x0 x1 x2 x3 x4 x5 x6 x7 x8 x9 x10 : Value} : ZW zG d 182 19 [x0, x1, x2, x3, x4, x5, x6, x7, x8, x9, x10] st z Q = (zir x0 = true ∧ ZW zG d 182 20 [x0, x1, x2, x3, x4, x5, x6, x7, x8, x9, x10] (x0 :: st) z Q) := zw_cond (f := z_aload 0 20) rfl rfl
theorem s182_20 {ls : List Value} {r : Nat} : ZW zG d 182 20 ls (.ref r :: st) z Q = ((zcls z r = 12) ∧ ZW zG d 182 23 ls (.int (zfi z r 17) :: st) (z) Q) := zw_getI rfl
theorem s182_23 {ls : List Value} {a b : Int32} : ZW zG d 182 23 ls (.int b :: .int a :: st) z Q = if b ≤ a then ZW zG d 182 234 ls st z Q else ZW zG d 182 26 ls st z Q := zw_icge rfl
theorem s182_26 {ls : List Value}  : ZW zG d 182 26 ls (st) z Q = ZW zG d 182 28 ls ((.int (nI 10)) :: st) z Q := zw_push rfl
theorem s182_28 {x0 x1 x2 x3 x4 x6 x7 x8 x9 x10 : Value} {a : Int32} : ZW zG d 182 28 [x0, x1, x2, x3, x4, .int a, x6, x7, x8, x9, x10] st z Q = ZW zG d 182 30 [x0, x1, x2, x3, x4, .int a, x6, x7, x8, x9, x10] (.int a :: st) z Q := zw_next (f := z_iload 5 30) rfl rfl
theorem s182_30 {ls : List Value} {a b : Int32} : ZW zG d 182 30 ls (.int b :: .int a :: st) z Q = ZW zG d 182 31 ls (.int (a * b) :: st) z Q := zw_imul rfl
theorem s182_31 {x0 x1 x2 x3 x4 x5 x7 x8 x9 x10 : Value} {a : Int32} : ZW zG d 182 31 [x0, x1, x2, x3, x4, x5, .int a, x7, x8, x9, x10] st z Q = ZW zG d 182 33 [x0, x1, x2, x3, x4, x5, .int a, x7, x8, x9, x10] (.int a :: st) z Q := zw_next (f := z_iload 6 33) rfl rfl
theorem s182_33 {ls : List Value} {a b : Int32} : ZW zG d 182 33 ls (.int b :: .int a :: st) z Q = ZW zG d 182 34 ls (.int (a + b) :: st) z Q := zw_iadd rfl
theorem s182_34 {x0 x1 x2 x3 x4 x5 x6 x7 x8 x9 x10 : Value} {a : Int32} : ZW zG d 182 34 [x0, x1, x2, x3, x4, x5, x6, x7, x8, x9, x10] (.int a :: st) z Q = ZW zG d 182 36 [x0, x1, x2, x3, x4, x5, zclr x6, .int a, x8, x9, x10] st z Q := zw_next (f := z_istore 7 36) rfl rfl
theorem s182_36 {x0 x1 x2 x3 x4 x5 x6 x7 x8 x9 x10 : Value} : ZW zG d 182 36 [x0, x1, x2, x3, x4, x5, x6, x7, x8, x9, x10] st z Q = (zir x0 = true ∧ ZW zG d 182 37 [x0, x1, x2, x3, x4, x5, x6, x7, x8, x9, x10] (x0 :: st) z Q) := zw_cond (f := z_aload 0 37) rfl rfl
theorem s182_37 {ls : List Value} {r : Nat} : ZW zG d 182 37 ls (.ref r :: st) z Q = ((zcls z r = 12 ∧ zir (zfr z r 20) = true) ∧ ZW zG d 182 40 ls (zfr z r 20 :: st) (z) Q) := zw_getR rfl
theorem s182_40 {x0 x1 x2 x3 x4 x5 x6 x8 x9 x10 : Value} {a : Int32} : ZW zG d 182 40 [x0, x1, x2, x3, x4, x5, x6, .int a, x8, x9, x10] st z Q = ZW zG d 182 42 [x0, x1, x2, x3, x4, x5, x6, .int a, x8, x9, x10] (.int a :: st) z Q := zw_next (f := z_iload 7 42) rfl rfl
theorem s182_42 {ls : List Value}  : ZW zG d 182 42 ls (st) z Q = ZW zG d 182 43 ls ((.int (-1)) :: st) z Q := zw_push rfl
theorem s182_43 {ls : List Value} {a b : Int32} {r : Nat} : ZW zG d 182 43 ls (.int b :: .int a :: .ref r :: st) z Q = ((zcls z r = 50 ∧ zin a (zlen z r) = true) ∧ ZW zG d 182 44 ls (st) (sia z r (zx a) (znar 50 b)) Q) := zw_iast rfl
theorem s182_44 {x0 x1 x2 x3 x4 x6 x7 x8 x9 x10 : Value} {a : Int32} : ZW zG d 182 44 [x0, x1, x2, x3, x4, .int a, x6, x7, x8, x9, x10] st z Q = ZW zG d 182 46 [x0, x1, x2, x3, x4, .int a, x6, x7, x8, x9, x10] (.int a :: st) z Q := zw_next (f := z_iload 5 46) rfl rfl
theorem s182_46 {x0 x1 x2 x3 x4 x5 x7 x8 x9 x10 : Value} {a : Int32} : ZW zG d 182 46 [x0, x1, x2, x3, x4, x5, .int a, x7, x8, x9, x10] st z Q = ZW zG d 182 48 [x0, x1, x2, x3, x4, x5, .int a, x7, x8, x9, x10] (.int a :: st) z Q := zw_next (f := z_iload 6 48) rfl rfl
theorem s182_48 {ls : List Value} {w0 : Int32} {w1 : Int32} : ZW zG (d + 1) 182 48 ls (.int w1 :: .int w0 :: st) z Q = (zcs st = true ∧ ZC zG d 149 [.int w0, .int w1] z (zk zG (d + 1) 182 (none) 51 ls st Q)) := zc_S2 rfl (Nat.le_of_ble_eq_true rfl)
theorem s182_51 {ls : List Value} {a : Int32} : ZW zG d 182 51 ls (.int a :: st) z Q = if a = 0 then ZW zG d 182 228 ls st z Q else ZW zG d 182 54 ls st z Q := zw_ifeq rfl
theorem s182_54 {x0 x1 x2 x3 x4 x6 x7 x8 x9 x10 : Value} {a : Int32} : ZW zG d 182 54 [x0, x1, x2, x3, x4, .int a, x6, x7, x8, x9, x10] st z Q = ZW zG d 182 56 [x0, x1, x2, x3, x4, .int a, x6, x7, x8, x9, x10] (.int a :: st) z Q := zw_next (f := z_iload 5 56) rfl rfl
theorem s182_56 {x0 x1 x2 x4 x5 x6 x7 x8 x9 x10 : Value} {a : Int32} : ZW zG d 182 56 [x0, x1, x2, .int a, x4, x5, x6, x7, x8, x9, x10] st z Q = ZW zG d 182 57 [x0, x1, x2, .int a, x4, x5, x6, x7, x8, x9, x10] (.int a :: st) z Q := zw_next (f := z_iload 3 57) rfl rfl
theorem s182_57 {ls : List Value}  : ZW zG d 182 57 ls (st) z Q = ZW zG d 182 58 ls ((.int (-1)) :: st) z Q := zw_push rfl
theorem s182_58 {ls : List Value} {a b : Int32} : ZW zG d 182 58 ls (.int b :: .int a :: st) z Q = ZW zG d 182 59 ls (.int (a ^^^ b) :: st) z Q := zw_ixor rfl
theorem s182_59 {ls : List Value} {a b : Int32} : ZW zG d 182 59 ls (.int b :: .int a :: st) z Q = ZW zG d 182 60 ls (.int (a &&& b) :: st) z Q := zw_iand rfl
theorem s182_60 {ls : List Value} {a : Int32} : ZW zG d 182 60 ls (.int a :: st) z Q = if a = 0 then ZW zG d 182 66 ls st z Q else ZW zG d 182 63 ls st z Q := zw_ifeq rfl
theorem s182_63 {ls : List Value}  : ZW zG d 182 63 ls (st) z Q = ZW zG d 182 228 ls st z Q := zw_goto rfl
theorem s182_66 {x0 x1 x2 x3 x4 x6 x7 x8 x9 x10 : Value} {a : Int32} : ZW zG d 182 66 [x0, x1, x2, x3, x4, .int a, x6, x7, x8, x9, x10] st z Q = ZW zG d 182 68 [x0, x1, x2, x3, x4, .int a, x6, x7, x8, x9, x10] (.int a :: st) z Q := zw_next (f := z_iload 5 68) rfl rfl
theorem s182_68 {ls : List Value}  : ZW zG d 182 68 ls (st) z Q = ZW zG d 182 69 ls ((.int (nI 1)) :: st) z Q := zw_push rfl
theorem s182_69 {x0 x1 x2 x3 x4 x5 x7 x8 x9 x10 : Value} {a : Int32} : ZW zG d 182 69 [x0, x1, x2, x3, x4, x5, .int a, x7, x8, x9, x10] st z Q = ZW zG d 182 71 [x0, x1, x2, x3, x4, x5, .int a, x7, x8, x9, x10] (.int a :: st) z Q := zw_next (f := z_iload 6 71) rfl rfl
theorem s182_71 {ls : List Value} {a b : Int32} : ZW zG d 182 71 ls (.int b :: .int a :: st) z Q = ZW zG d 182 72 ls (.int (a <<< (b &&& 31)) :: st) z Q := zw_ishl rfl
theorem s182_72 {ls : List Value}  : ZW zG d 182 72 ls (st) z Q = ZW zG d 182 73 ls ((.int (-1)) :: st) z Q := zw_push rfl
theorem s182_73 {ls : List Value} {a b : Int32} : ZW zG d 182 73 ls (.int b :: .int a :: st) z Q = ZW zG d 182 74 ls (.int (a ^^^ b) :: st) z Q := zw_ixor rfl
theorem s182_74 {ls : List Value} {a b : Int32} : ZW zG d 182 74 ls (.int b :: .int a :: st) z Q = ZW zG d 182 75 ls (.int (a &&& b) :: st) z Q := zw_iand rfl
theorem s182_75 {x0 x1 x2 x3 x4 x5 x6 x7 x8 x9 x10 : Value} {a : Int32} : ZW zG d 182 75 [x0, x1, x2, x3, x4, x5, x6, x7, x8, x9, x10] (.int a :: st) z Q = ZW zG d 182 77 [x0, x1, x2, x3, x4, x5, x6, zclr x7, .int a, x9, x10] st z Q := zw_next (f := z_istore 8 77) rfl rfl
theorem s182_77 {x0 x1 x2 x3 x4 x5 x6 x7 x9 x10 : Value} {a : Int32} : ZW zG d 182 77 [x0, x1, x2, x3, x4, x5, x6, x7, .int a, x9, x10] st z Q = ZW zG d 182 79 [x0, x1, x2, x3, x4, x5, x6, x7, .int a, x9, x10] (.int a :: st) z Q := zw_next (f := z_iload 8 79) rfl rfl
theorem s182_79 {ls : List Value} {a : Int32} : ZW zG d 182 79 ls (.int a :: st) z Q = if ¬ a = 0 then ZW zG d 182 107 ls st z Q else ZW zG d 182 82 ls st z Q := zw_ifne rfl
theorem s182_82 {x0 x1 x2 x3 x4 x5 x6 x7 x8 x9 x10 : Value} : ZW zG d 182 82 [x0, x1, x2, x3, x4, x5, x6, x7, x8, x9, x10] st z Q = (zir x0 = true ∧ ZW zG d 182 83 [x0, x1, x2, x3, x4, x5, x6, x7, x8, x9, x10] (x0 :: st) z Q) := zw_cond (f := z_aload 0 83) rfl rfl
theorem s182_83 {ls : List Value} {r : Nat} : ZW zG d 182 83 ls (.ref r :: st) z Q = ((zcls z r = 12 ∧ zir (zfr z r 20) = true) ∧ ZW zG d 182 86 ls (zfr z r 20 :: st) (z) Q) := zw_getR rfl
theorem s182_86 {x0 x1 x2 x3 x4 x5 x6 x8 x9 x10 : Value} {a : Int32} : ZW zG d 182 86 [x0, x1, x2, x3, x4, x5, x6, .int a, x8, x9, x10] st z Q = ZW zG d 182 88 [x0, x1, x2, x3, x4, x5, x6, .int a, x8, x9, x10] (.int a :: st) z Q := zw_next (f := z_iload 7 88) rfl rfl
theorem s182_88 {x0 x1 x2 x3 x4 x5 x6 x7 x8 x9 x10 : Value} : ZW zG d 182 88 [x0, x1, x2, x3, x4, x5, x6, x7, x8, x9, x10] st z Q = (zir x0 = true ∧ ZW zG d 182 89 [x0, x1, x2, x3, x4, x5, x6, x7, x8, x9, x10] (x0 :: st) z Q) := zw_cond (f := z_aload 0 89) rfl rfl
theorem s182_89 {x0 x2 x3 x4 x5 x6 x7 x8 x9 x10 : Value} {a : Int32} : ZW zG d 182 89 [x0, .int a, x2, x3, x4, x5, x6, x7, x8, x9, x10] st z Q = ZW zG d 182 90 [x0, .int a, x2, x3, x4, x5, x6, x7, x8, x9, x10] (.int a :: st) z Q := zw_next (f := z_iload 1 90) rfl rfl
theorem s182_90 {x0 x1 x3 x4 x5 x6 x7 x8 x9 x10 : Value} {a : Int32} : ZW zG d 182 90 [x0, x1, .int a, x3, x4, x5, x6, x7, x8, x9, x10] st z Q = ZW zG d 182 91 [x0, x1, .int a, x3, x4, x5, x6, x7, x8, x9, x10] (.int a :: st) z Q := zw_next (f := z_iload 2 91) rfl rfl
theorem s182_91 {x0 x1 x2 x3 x4 x5 x6 x7 x8 x9 x10 : Value} : ZW zG d 182 91 [x0, x1, x2, x3, x4, x5, x6, x7, x8, x9, x10] st z Q = (zir x0 = true ∧ ZW zG d 182 92 [x0, x1, x2, x3, x4, x5, x6, x7, x8, x9, x10] (x0 :: st) z Q) := zw_cond (f := z_aload 0 92) rfl rfl
theorem s182_92 {ls : List Value} {r : Nat} : ZW zG d 182 92 ls (.ref r :: st) z Q = ((zcls z r = 12 ∧ zir (zfr z r 16) = true) ∧ ZW zG d 182 95 ls (zfr z r 16 :: st) (z) Q) := zw_getR rfl
theorem s182_95 {x0 x1 x2 x3 x4 x5 x7 x8 x9 x10 : Value} {a : Int32} : ZW zG d 182 95 [x0, x1, x2, x3, x4, x5, .int a, x7, x8, x9, x10] st z Q = ZW zG d 182 97 [x0, x1, x2, x3, x4, x5, .int a, x7, x8, x9, x10] (.int a :: st) z Q := zw_next (f := z_iload 6 97) rfl rfl
theorem s182_97 {ls : List Value} {a : Int32} {r : Nat} : ZW zG d 182 97 ls (.int a :: .ref r :: st) z Q = ((zcls z r = 50 ∧ zin a (zlen z r) = true) ∧ ZW zG d 182 98 ls (.int (zia z r (zx a)) :: st) (z) Q) := zw_iald rfl
theorem s182_98 {x0 x1 x2 x3 x5 x6 x7 x8 x9 x10 : Value} {a : Int32} : ZW zG d 182 98 [x0, x1, x2, x3, .int a, x5, x6, x7, x8, x9, x10] st z Q = ZW zG d 182 100 [x0, x1, x2, x3, .int a, x5, x6, x7, x8, x9, x10] (.int a :: st) z Q := zw_next (f := z_iload 4 100) rfl rfl
theorem s182_100 {ls : List Value} {w0 : Int32} {w1 : Int32} {w2 : Int32} {w3 : Int32} {r : Nat} : ZW zG (d + 1) 182 100 ls (.int w3 :: .int w2 :: .int w1 :: .int w0 :: .ref r :: st) z Q = (zcls z r = 12 ∧ zcs st = true ∧ ZC zG d 183 [.ref r, .int w0, .int w1, .int w2, .int w3] z (zk zG (d + 1) 182 (none) 103 ls st Q)) := zc_V4 rfl (Nat.le_of_ble_eq_true rfl)
theorem s182_103 {ls : List Value} {a b : Int32} {r : Nat} : ZW zG d 182 103 ls (.int b :: .int a :: .ref r :: st) z Q = ((zcls z r = 50 ∧ zin a (zlen z r) = true) ∧ ZW zG d 182 104 ls (st) (sia z r (zx a) (znar 50 b)) Q) := zw_iast rfl
theorem s182_104 {ls : List Value}  : ZW zG d 182 104 ls (st) z Q = ZW zG d 182 228 ls st z Q := zw_goto rfl
theorem s182_107 {ls : List Value}  : ZW zG d 182 107 ls (st) z Q = ZW zG d 182 108 ls ((.int (nI 0)) :: st) z Q := zw_push rfl
theorem s182_108 {x0 x1 x2 x3 x4 x5 x6 x7 x8 x9 x10 : Value} {a : Int32} : ZW zG d 182 108 [x0, x1, x2, x3, x4, x5, x6, x7, x8, x9, x10] (.int a :: st) z Q = ZW zG d 182 110 [x0, x1, x2, x3, x4, x5, x6, x7, zclr x8, .int a, x10] st z Q := zw_next (f := z_istore 9 110) rfl rfl
theorem s182_110 {x0 x1 x2 x3 x4 x5 x6 x7 x8 x10 : Value} {a : Int32} : ZW zG d 182 110 [x0, x1, x2, x3, x4, x5, x6, x7, x8, .int a, x10] st z Q = ZW zG d 182 112 [x0, x1, x2, x3, x4, x5, x6, x7, x8, .int a, x10] (.int a :: st) z Q := zw_next (f := z_iload 9 112) rfl rfl
theorem s182_112 {x0 x1 x2 x3 x4 x5 x6 x7 x8 x9 x10 : Value} : ZW zG d 182 112 [x0, x1, x2, x3, x4, x5, x6, x7, x8, x9, x10] st z Q = (zir x0 = true ∧ ZW zG d 182 113 [x0, x1, x2, x3, x4, x5, x6, x7, x8, x9, x10] (x0 :: st) z Q) := zw_cond (f := z_aload 0 113) rfl rfl
theorem s182_113 {ls : List Value} {r : Nat} : ZW zG d 182 113 ls (.ref r :: st) z Q = ((zcls z r = 12) ∧ ZW zG d 182 116 ls (.int (zfi z r 17) :: st) (z) Q) := zw_getI rfl
theorem s182_116 {ls : List Value} {a b : Int32} : ZW zG d 182 116 ls (.int b :: .int a :: st) z Q = if b ≤ a then ZW zG d 182 228 ls st z Q else ZW zG d 182 119 ls st z Q := zw_icge rfl
theorem s182_119 {x0 x1 x2 x3 x4 x5 x6 x7 x9 x10 : Value} {a : Int32} : ZW zG d 182 119 [x0, x1, x2, x3, x4, x5, x6, x7, .int a, x9, x10] st z Q = ZW zG d 182 121 [x0, x1, x2, x3, x4, x5, x6, x7, .int a, x9, x10] (.int a :: st) z Q := zw_next (f := z_iload 8 121) rfl rfl
theorem s182_121 {x0 x1 x2 x3 x4 x5 x6 x7 x8 x10 : Value} {a : Int32} : ZW zG d 182 121 [x0, x1, x2, x3, x4, x5, x6, x7, x8, .int a, x10] st z Q = ZW zG d 182 123 [x0, x1, x2, x3, x4, x5, x6, x7, x8, .int a, x10] (.int a :: st) z Q := zw_next (f := z_iload 9 123) rfl rfl
theorem s182_123 {ls : List Value} {w0 : Int32} {w1 : Int32} : ZW zG (d + 1) 182 123 ls (.int w1 :: .int w0 :: st) z Q = (zcs st = true ∧ ZC zG d 149 [.int w0, .int w1] z (zk zG (d + 1) 182 (none) 126 ls st Q)) := zc_S2 rfl (Nat.le_of_ble_eq_true rfl)
theorem s182_126 {ls : List Value} {a : Int32} : ZW zG d 182 126 ls (.int a :: st) z Q = if a = 0 then ZW zG d 182 222 ls st z Q else ZW zG d 182 129 ls st z Q := zw_ifeq rfl
theorem s182_129 {x0 x1 x2 x3 x4 x5 x6 x7 x8 x9 x10 : Value} : ZW zG d 182 129 [x0, x1, x2, x3, x4, x5, x6, x7, x8, x9, x10] st z Q = (zir x0 = true ∧ ZW zG d 182 130 [x0, x1, x2, x3, x4, x5, x6, x7, x8, x9, x10] (x0 :: st) z Q) := zw_cond (f := z_aload 0 130) rfl rfl
theorem s182_130 {ls : List Value} {r : Nat} : ZW zG d 182 130 ls (.ref r :: st) z Q = ((zcls z r = 12 ∧ zir (zfr z r 20) = true) ∧ ZW zG d 182 133 ls (zfr z r 20 :: st) (z) Q) := zw_getR rfl
theorem s182_133 {ls : List Value}  : ZW zG d 182 133 ls (st) z Q = ZW zG d 182 135 ls ((.int (nI 10)) :: st) z Q := zw_push rfl
theorem s182_135 {x0 x1 x2 x3 x4 x5 x6 x7 x9 x10 : Value} {a : Int32} : ZW zG d 182 135 [x0, x1, x2, x3, x4, x5, x6, x7, .int a, x9, x10] st z Q = ZW zG d 182 137 [x0, x1, x2, x3, x4, x5, x6, x7, .int a, x9, x10] (.int a :: st) z Q := zw_next (f := z_iload 8 137) rfl rfl
theorem s182_137 {ls : List Value} {a b : Int32} : ZW zG d 182 137 ls (.int b :: .int a :: st) z Q = ZW zG d 182 138 ls (.int (a * b) :: st) z Q := zw_imul rfl
theorem s182_138 {x0 x1 x2 x3 x4 x5 x6 x7 x8 x10 : Value} {a : Int32} : ZW zG d 182 138 [x0, x1, x2, x3, x4, x5, x6, x7, x8, .int a, x10] st z Q = ZW zG d 182 140 [x0, x1, x2, x3, x4, x5, x6, x7, x8, .int a, x10] (.int a :: st) z Q := zw_next (f := z_iload 9 140) rfl rfl
theorem s182_140 {ls : List Value} {a b : Int32} : ZW zG d 182 140 ls (.int b :: .int a :: st) z Q = ZW zG d 182 141 ls (.int (a + b) :: st) z Q := zw_iadd rfl
theorem s182_141 {ls : List Value} {a : Int32} {r : Nat} : ZW zG d 182 141 ls (.int a :: .ref r :: st) z Q = ((zcls z r = 50 ∧ zin a (zlen z r) = true) ∧ ZW zG d 182 142 ls (.int (zia z r (zx a)) :: st) (z) Q) := zw_iald rfl
theorem s182_142 {ls : List Value}  : ZW zG d 182 142 ls (st) z Q = ZW zG d 182 143 ls ((.int (-1)) :: st) z Q := zw_push rfl
theorem s182_143 {ls : List Value} {a b : Int32} : ZW zG d 182 143 ls (.int b :: .int a :: st) z Q = if ¬ a = b then ZW zG d 182 149 ls st z Q else ZW zG d 182 146 ls st z Q := zw_icne rfl
theorem s182_146 {ls : List Value}  : ZW zG d 182 146 ls (st) z Q = ZW zG d 182 222 ls st z Q := zw_goto rfl
theorem s182_149 {x0 x1 x2 x3 x4 x5 x6 x7 x8 x9 x10 : Value} : ZW zG d 182 149 [x0, x1, x2, x3, x4, x5, x6, x7, x8, x9, x10] st z Q = (zir x0 = true ∧ ZW zG d 182 150 [x0, x1, x2, x3, x4, x5, x6, x7, x8, x9, x10] (x0 :: st) z Q) := zw_cond (f := z_aload 0 150) rfl rfl
theorem s182_150 {x0 x1 x2 x3 x4 x5 x6 x7 x8 x9 x10 : Value} : ZW zG d 182 150 [x0, x1, x2, x3, x4, x5, x6, x7, x8, x9, x10] st z Q = (zir x0 = true ∧ ZW zG d 182 151 [x0, x1, x2, x3, x4, x5, x6, x7, x8, x9, x10] (x0 :: st) z Q) := zw_cond (f := z_aload 0 151) rfl rfl
theorem s182_151 {ls : List Value} {r : Nat} : ZW zG d 182 151 ls (.ref r :: st) z Q = ((zcls z r = 12 ∧ zir (zfr z r 16) = true) ∧ ZW zG d 182 154 ls (zfr z r 16 :: st) (z) Q) := zw_getR rfl
theorem s182_154 {x0 x1 x2 x3 x4 x5 x6 x7 x8 x10 : Value} {a : Int32} : ZW zG d 182 154 [x0, x1, x2, x3, x4, x5, x6, x7, x8, .int a, x10] st z Q = ZW zG d 182 156 [x0, x1, x2, x3, x4, x5, x6, x7, x8, .int a, x10] (.int a :: st) z Q := zw_next (f := z_iload 9 156) rfl rfl
theorem s182_156 {ls : List Value} {a : Int32} {r : Nat} : ZW zG d 182 156 ls (.int a :: .ref r :: st) z Q = ((zcls z r = 50 ∧ zin a (zlen z r) = true) ∧ ZW zG d 182 157 ls (.int (zia z r (zx a)) :: st) (z) Q) := zw_iald rfl
theorem s182_157 {x0 x1 x2 x3 x4 x5 x6 x7 x8 x9 x10 : Value} : ZW zG d 182 157 [x0, x1, x2, x3, x4, x5, x6, x7, x8, x9, x10] st z Q = (zir x0 = true ∧ ZW zG d 182 158 [x0, x1, x2, x3, x4, x5, x6, x7, x8, x9, x10] (x0 :: st) z Q) := zw_cond (f := z_aload 0 158) rfl rfl
theorem s182_158 {ls : List Value} {r : Nat} : ZW zG d 182 158 ls (.ref r :: st) z Q = ((zcls z r = 12 ∧ zir (zfr z r 20) = true) ∧ ZW zG d 182 161 ls (zfr z r 20 :: st) (z) Q) := zw_getR rfl
theorem s182_161 {ls : List Value}  : ZW zG d 182 161 ls (st) z Q = ZW zG d 182 163 ls ((.int (nI 10)) :: st) z Q := zw_push rfl
theorem s182_163 {x0 x1 x2 x3 x4 x5 x6 x7 x9 x10 : Value} {a : Int32} : ZW zG d 182 163 [x0, x1, x2, x3, x4, x5, x6, x7, .int a, x9, x10] st z Q = ZW zG d 182 165 [x0, x1, x2, x3, x4, x5, x6, x7, .int a, x9, x10] (.int a :: st) z Q := zw_next (f := z_iload 8 165) rfl rfl
theorem s182_165 {ls : List Value} {a b : Int32} : ZW zG d 182 165 ls (.int b :: .int a :: st) z Q = ZW zG d 182 166 ls (.int (a * b) :: st) z Q := zw_imul rfl
theorem s182_166 {x0 x1 x2 x3 x4 x5 x6 x7 x8 x10 : Value} {a : Int32} : ZW zG d 182 166 [x0, x1, x2, x3, x4, x5, x6, x7, x8, .int a, x10] st z Q = ZW zG d 182 168 [x0, x1, x2, x3, x4, x5, x6, x7, x8, .int a, x10] (.int a :: st) z Q := zw_next (f := z_iload 9 168) rfl rfl
theorem s182_168 {ls : List Value} {a b : Int32} : ZW zG d 182 168 ls (.int b :: .int a :: st) z Q = ZW zG d 182 169 ls (.int (a + b) :: st) z Q := zw_iadd rfl
theorem s182_169 {ls : List Value} {a : Int32} {r : Nat} : ZW zG d 182 169 ls (.int a :: .ref r :: st) z Q = ((zcls z r = 50 ∧ zin a (zlen z r) = true) ∧ ZW zG d 182 170 ls (.int (zia z r (zx a)) :: st) (z) Q) := zw_iald rfl
theorem s182_170 {x0 x1 x2 x3 x4 x5 x6 x7 x8 x9 x10 : Value} : ZW zG d 182 170 [x0, x1, x2, x3, x4, x5, x6, x7, x8, x9, x10] st z Q = (zir x0 = true ∧ ZW zG d 182 171 [x0, x1, x2, x3, x4, x5, x6, x7, x8, x9, x10] (x0 :: st) z Q) := zw_cond (f := z_aload 0 171) rfl rfl
theorem s182_171 {ls : List Value} {r : Nat} : ZW zG d 182 171 ls (.ref r :: st) z Q = ((zcls z r = 12 ∧ zir (zfr z r 16) = true) ∧ ZW zG d 182 174 ls (zfr z r 16 :: st) (z) Q) := zw_getR rfl
theorem s182_174 {x0 x1 x2 x3 x4 x5 x7 x8 x9 x10 : Value} {a : Int32} : ZW zG d 182 174 [x0, x1, x2, x3, x4, x5, .int a, x7, x8, x9, x10] st z Q = ZW zG d 182 176 [x0, x1, x2, x3, x4, x5, .int a, x7, x8, x9, x10] (.int a :: st) z Q := zw_next (f := z_iload 6 176) rfl rfl
theorem s182_176 {ls : List Value} {a : Int32} {r : Nat} : ZW zG d 182 176 ls (.int a :: .ref r :: st) z Q = ((zcls z r = 50 ∧ zin a (zlen z r) = true) ∧ ZW zG d 182 177 ls (.int (zia z r (zx a)) :: st) (z) Q) := zw_iald rfl
theorem s182_177 {x0 x1 x2 x3 x5 x6 x7 x8 x9 x10 : Value} {a : Int32} : ZW zG d 182 177 [x0, x1, x2, x3, .int a, x5, x6, x7, x8, x9, x10] st z Q = ZW zG d 182 179 [x0, x1, x2, x3, .int a, x5, x6, x7, x8, x9, x10] (.int a :: st) z Q := zw_next (f := z_iload 4 179) rfl rfl
theorem s182_179 {ls : List Value} {w0 : Int32} {w1 : Int32} {w2 : Int32} {w3 : Int32} {r : Nat} : ZW zG (d + 1) 182 179 ls (.int w3 :: .int w2 :: .int w1 :: .int w0 :: .ref r :: st) z Q = (zcls z r = 12 ∧ zcs st = true ∧ ZC zG d 183 [.ref r, .int w0, .int w1, .int w2, .int w3] z (zk zG (d + 1) 182 (none) 182 ls st Q)) := zc_V4 rfl (Nat.le_of_ble_eq_true rfl)
theorem s182_182 {x0 x1 x2 x3 x4 x5 x6 x7 x8 x9 x10 : Value} {a : Int32} : ZW zG d 182 182 [x0, x1, x2, x3, x4, x5, x6, x7, x8, x9, x10] (.int a :: st) z Q = ZW zG d 182 184 [x0, x1, x2, x3, x4, x5, x6, x7, x8, zclr x9, .int a] st z Q := zw_next (f := z_istore 10 184) rfl rfl
theorem s182_184 {x0 x1 x2 x3 x4 x5 x6 x7 x8 x9 : Value} {a : Int32} : ZW zG d 182 184 [x0, x1, x2, x3, x4, x5, x6, x7, x8, x9, .int a] st z Q = ZW zG d 182 186 [x0, x1, x2, x3, x4, x5, x6, x7, x8, x9, .int a] (.int a :: st) z Q := zw_next (f := z_iload 10 186) rfl rfl
theorem s182_186 {ls : List Value}  : ZW zG d 182 186 ls (st) z Q = ZW zG d 182 187 ls ((.int (-1)) :: st) z Q := zw_push rfl
theorem s182_187 {ls : List Value} {a b : Int32} : ZW zG d 182 187 ls (.int b :: .int a :: st) z Q = if a = b then ZW zG d 182 222 ls st z Q else ZW zG d 182 190 ls st z Q := zw_iceq rfl
theorem s182_190 {x0 x1 x2 x3 x4 x5 x6 x7 x8 x9 x10 : Value} : ZW zG d 182 190 [x0, x1, x2, x3, x4, x5, x6, x7, x8, x9, x10] st z Q = (zir x0 = true ∧ ZW zG d 182 191 [x0, x1, x2, x3, x4, x5, x6, x7, x8, x9, x10] (x0 :: st) z Q) := zw_cond (f := z_aload 0 191) rfl rfl
theorem s182_191 {ls : List Value} {r : Nat} : ZW zG d 182 191 ls (.ref r :: st) z Q = ((zcls z r = 12 ∧ zir (zfr z r 20) = true) ∧ ZW zG d 182 194 ls (zfr z r 20 :: st) (z) Q) := zw_getR rfl
theorem s182_194 {x0 x1 x2 x3 x4 x5 x6 x8 x9 x10 : Value} {a : Int32} : ZW zG d 182 194 [x0, x1, x2, x3, x4, x5, x6, .int a, x8, x9, x10] st z Q = ZW zG d 182 196 [x0, x1, x2, x3, x4, x5, x6, .int a, x8, x9, x10] (.int a :: st) z Q := zw_next (f := z_iload 7 196) rfl rfl
theorem s182_196 {ls : List Value} {a : Int32} {r : Nat} : ZW zG d 182 196 ls (.int a :: .ref r :: st) z Q = ((zcls z r = 50 ∧ zin a (zlen z r) = true) ∧ ZW zG d 182 197 ls (.int (zia z r (zx a)) :: st) (z) Q) := zw_iald rfl
theorem s182_197 {ls : List Value}  : ZW zG d 182 197 ls (st) z Q = ZW zG d 182 198 ls ((.int (-1)) :: st) z Q := zw_push rfl
theorem s182_198 {ls : List Value} {a b : Int32} : ZW zG d 182 198 ls (.int b :: .int a :: st) z Q = if a = b then ZW zG d 182 213 ls st z Q else ZW zG d 182 201 ls st z Q := zw_iceq rfl
theorem s182_201 {x0 x1 x2 x3 x4 x5 x6 x7 x8 x9 : Value} {a : Int32} : ZW zG d 182 201 [x0, x1, x2, x3, x4, x5, x6, x7, x8, x9, .int a] st z Q = ZW zG d 182 203 [x0, x1, x2, x3, x4, x5, x6, x7, x8, x9, .int a] (.int a :: st) z Q := zw_next (f := z_iload 10 203) rfl rfl
theorem s182_203 {x0 x1 x2 x3 x4 x5 x6 x7 x8 x9 x10 : Value} : ZW zG d 182 203 [x0, x1, x2, x3, x4, x5, x6, x7, x8, x9, x10] st z Q = (zir x0 = true ∧ ZW zG d 182 204 [x0, x1, x2, x3, x4, x5, x6, x7, x8, x9, x10] (x0 :: st) z Q) := zw_cond (f := z_aload 0 204) rfl rfl
theorem s182_204 {ls : List Value} {r : Nat} : ZW zG d 182 204 ls (.ref r :: st) z Q = ((zcls z r = 12 ∧ zir (zfr z r 20) = true) ∧ ZW zG d 182 207 ls (zfr z r 20 :: st) (z) Q) := zw_getR rfl
theorem s182_207 {x0 x1 x2 x3 x4 x5 x6 x8 x9 x10 : Value} {a : Int32} : ZW zG d 182 207 [x0, x1, x2, x3, x4, x5, x6, .int a, x8, x9, x10] st z Q = ZW zG d 182 209 [x0, x1, x2, x3, x4, x5, x6, .int a, x8, x9, x10] (.int a :: st) z Q := zw_next (f := z_iload 7 209) rfl rfl
theorem s182_209 {ls : List Value} {a : Int32} {r : Nat} : ZW zG d 182 209 ls (.int a :: .ref r :: st) z Q = ((zcls z r = 50 ∧ zin a (zlen z r) = true) ∧ ZW zG d 182 210 ls (.int (zia z r (zx a)) :: st) (z) Q) := zw_iald rfl
theorem s182_210 {ls : List Value} {a b : Int32} : ZW zG d 182 210 ls (.int b :: .int a :: st) z Q = if b ≤ a then ZW zG d 182 222 ls st z Q else ZW zG d 182 213 ls st z Q := zw_icge rfl
theorem s182_213 {x0 x1 x2 x3 x4 x5 x6 x7 x8 x9 x10 : Value} : ZW zG d 182 213 [x0, x1, x2, x3, x4, x5, x6, x7, x8, x9, x10] st z Q = (zir x0 = true ∧ ZW zG d 182 214 [x0, x1, x2, x3, x4, x5, x6, x7, x8, x9, x10] (x0 :: st) z Q) := zw_cond (f := z_aload 0 214) rfl rfl
theorem s182_214 {ls : List Value} {r : Nat} : ZW zG d 182 214 ls (.ref r :: st) z Q = ((zcls z r = 12 ∧ zir (zfr z r 20) = true) ∧ ZW zG d 182 217 ls (zfr z r 20 :: st) (z) Q) := zw_getR rfl
theorem s182_217 {x0 x1 x2 x3 x4 x5 x6 x8 x9 x10 : Value} {a : Int32} : ZW zG d 182 217 [x0, x1, x2, x3, x4, x5, x6, .int a, x8, x9, x10] st z Q = ZW zG d 182 219 [x0, x1, x2, x3, x4, x5, x6, .int a, x8, x9, x10] (.int a :: st) z Q := zw_next (f := z_iload 7 219) rfl rfl
theorem s182_219 {x0 x1 x2 x3 x4 x5 x6 x7 x8 x9 : Value} {a : Int32} : ZW zG d 182 219 [x0, x1, x2, x3, x4, x5, x6, x7, x8, x9, .int a] st z Q = ZW zG d 182 221 [x0, x1, x2, x3, x4, x5, x6, x7, x8, x9, .int a] (.int a :: st) z Q := zw_next (f := z_iload 10 221) rfl rfl
theorem s182_221 {ls : List Value} {a b : Int32} {r : Nat} : ZW zG d 182 221 ls (.int b :: .int a :: .ref r :: st) z Q = ((zcls z r = 50 ∧ zin a (zlen z r) = true) ∧ ZW zG d 182 222 ls (st) (sia z r (zx a) (znar 50 b)) Q) := zw_iast rfl
theorem s182_222 {x0 x1 x2 x3 x4 x5 x6 x7 x8 x10 : Value} {a : Int32} : ZW zG d 182 222 [x0, x1, x2, x3, x4, x5, x6, x7, x8, .int a, x10] st z Q = ZW zG d 182 225 [x0, x1, x2, x3, x4, x5, x6, x7, zclr x8, .int (a + (nI 1)), x10] st z Q := zw_next (f := z_iinc 9 (nI 1) 225) rfl rfl
theorem s182_225 {ls : List Value}  : ZW zG d 182 225 ls (st) z Q = ZW zG d 182 110 ls st z Q := zw_goto rfl
theorem s182_228 {x0 x1 x2 x3 x4 x5 x7 x8 x9 x10 : Value} {a : Int32} : ZW zG d 182 228 [x0, x1, x2, x3, x4, x5, .int a, x7, x8, x9, x10] st z Q = ZW zG d 182 231 [x0, x1, x2, x3, x4, zclr x5, .int (a + (nI 1)), x7, x8, x9, x10] st z Q := zw_next (f := z_iinc 6 (nI 1) 231) rfl rfl
theorem s182_231 {ls : List Value}  : ZW zG d 182 231 ls (st) z Q = ZW zG d 182 17 ls st z Q := zw_goto rfl
theorem s182_234 {x0 x1 x2 x3 x4 x6 x7 x8 x9 x10 : Value} {a : Int32} : ZW zG d 182 234 [x0, x1, x2, x3, x4, .int a, x6, x7, x8, x9, x10] st z Q = ZW zG d 182 237 [x0, x1, x2, x3, zclr x4, .int (a + (nI 1)), x6, x7, x8, x9, x10] st z Q := zw_next (f := z_iinc 5 (nI 1) 237) rfl rfl
theorem s182_237 {ls : List Value}  : ZW zG d 182 237 ls (st) z Q = ZW zG d 182 3 ls st z Q := zw_goto rfl
theorem s182_240 {ls : List Value}  : ZW zG d 182 240 ls ([]) z Q = Q (.inl none) z := zw_ret rfl
/-- X12_seen (IIII)I -/
theorem e183 {r0 : Nat} {v0 : Int32} {v1 : Int32} {v2 : Int32} {v3 : Int32} : ZC zG d 183 [.ref r0, .int v0, .int v1, .int v2, .int v3] z Q = ZW zG d 183 0 [.ref r0, .int v0, .int v1, .int v2, .int v3, zdum] [] z Q := rfl
theorem s183_0 {x0 x1 x3 x4 x5 : Value} {a : Int32} : ZW zG d 183 0 [x0, x1, .int a, x3, x4, x5] st z Q = ZW zG d 183 1 [x0, x1, .int a, x3, x4, x5] (.int a :: st) z Q := zw_next (f := z_iload 2 1) rfl rfl
theorem s183_1 {x0 x1 x2 x3 x4 x5 : Value} : ZW zG d 183 1 [x0, x1, x2, x3, x4, x5] st z Q = (zir x0 = true ∧ ZW zG d 183 2 [x0, x1, x2, x3, x4, x5] (x0 :: st) z Q) := zw_cond (f := z_aload 0 2) rfl rfl
theorem s183_2 {x0 x2 x3 x4 x5 : Value} {a : Int32} : ZW zG d 183 2 [x0, .int a, x2, x3, x4, x5] st z Q = ZW zG d 183 3 [x0, .int a, x2, x3, x4, x5] (.int a :: st) z Q := zw_next (f := z_iload 1 3) rfl rfl
theorem s183_3 {x0 x1 x2 x4 x5 : Value} {a : Int32} : ZW zG d 183 3 [x0, x1, x2, .int a, x4, x5] st z Q = ZW zG d 183 4 [x0, x1, x2, .int a, x4, x5] (.int a :: st) z Q := zw_next (f := z_iload 3 4) rfl rfl
theorem s183_4 {ls : List Value} {w0 : Int32} {w1 : Int32} {r : Nat} : ZW zG (d + 1) 183 4 ls (.int w1 :: .int w0 :: .ref r :: st) z Q = (zcls z r = 12 ∧ zcs st = true ∧ ZC zG d 184 [.ref r, .int w0, .int w1] z (zk zG (d + 1) 183 (none) 7 ls st Q)) := zc_V2 rfl (Nat.le_of_ble_eq_true rfl)
theorem s183_7 {ls : List Value} {a b : Int32} : ZW zG d 183 7 ls (.int b :: .int a :: st) z Q = ZW zG d 183 8 ls (.int (a + b) :: st) z Q := zw_iadd rfl
theorem s183_8 {x0 x1 x2 x3 x4 x5 : Value} {a : Int32} : ZW zG d 183 8 [x0, x1, x2, x3, x4, x5] (.int a :: st) z Q = ZW zG d 183 10 [x0, x1, x2, x3, zclr x4, .int a] st z Q := zw_next (f := z_istore 5 10) rfl rfl
theorem s183_10 {x0 x1 x2 x3 x4 x5 : Value} : ZW zG d 183 10 [x0, x1, x2, x3, x4, x5] st z Q = (zir x0 = true ∧ ZW zG d 183 11 [x0, x1, x2, x3, x4, x5] (x0 :: st) z Q) := zw_cond (f := z_aload 0 11) rfl rfl
theorem s183_11 {ls : List Value} {r : Nat} : ZW zG d 183 11 ls (.ref r :: st) z Q = ((zcls z r = 12 ∧ zir (zfr z r 19) = true) ∧ ZW zG d 183 14 ls (zfr z r 19 :: st) (z) Q) := zw_getR rfl
theorem s183_14 {x0 x1 x2 x4 x5 : Value} {a : Int32} : ZW zG d 183 14 [x0, x1, x2, .int a, x4, x5] st z Q = ZW zG d 183 15 [x0, x1, x2, .int a, x4, x5] (.int a :: st) z Q := zw_next (f := z_iload 3 15) rfl rfl
theorem s183_15 {ls : List Value} {a : Int32} {r : Nat} : ZW zG d 183 15 ls (.int a :: .ref r :: st) z Q = ((zcls z r = 54 ∧ zin a (zlen z r) = true) ∧ ZW zG d 183 16 ls (.int (zia z r (zx a)) :: st) (z) Q) := zw_iald rfl
theorem s183_16 {ls : List Value} {a : Int32} : ZW zG d 183 16 ls (.int a :: st) z Q = if a = 0 then ZW zG d 183 64 ls st z Q else ZW zG d 183 19 ls st z Q := zw_ifeq rfl
theorem s183_19 {x0 x1 x2 x3 x5 : Value} {a : Int32} : ZW zG d 183 19 [x0, x1, x2, x3, .int a, x5] st z Q = ZW zG d 183 21 [x0, x1, x2, x3, .int a, x5] (.int a :: st) z Q := zw_next (f := z_iload 4 21) rfl rfl
theorem s183_21 {ls : List Value}  : ZW zG d 183 21 ls (st) z Q = ZW zG d 183 23 ls ((.int (nI 7)) :: st) z Q := zw_push rfl
theorem s183_23 {ls : List Value} {a b : Int32} : ZW zG d 183 23 ls (.int b :: .int a :: st) z Q = ((¬ b = 0) ∧ ZW zG d 183 24 ls (.int (a - a / b * b) :: st) (z) Q) := zw_irem rfl
theorem s183_24 {x0 x1 x2 x3 x4 x5 : Value} : ZW zG d 183 24 [x0, x1, x2, x3, x4, x5] st z Q = (zir x0 = true ∧ ZW zG d 183 25 [x0, x1, x2, x3, x4, x5] (x0 :: st) z Q) := zw_cond (f := z_aload 0 25) rfl rfl
theorem s183_25 {x0 x1 x2 x4 x5 : Value} {a : Int32} : ZW zG d 183 25 [x0, x1, x2, .int a, x4, x5] st z Q = ZW zG d 183 26 [x0, x1, x2, .int a, x4, x5] (.int a :: st) z Q := zw_next (f := z_iload 3 26) rfl rfl
theorem s183_26 {ls : List Value}  : ZW zG d 183 26 ls (st) z Q = ZW zG d 183 27 ls ((.int (nI 3)) :: st) z Q := zw_push rfl
theorem s183_27 {ls : List Value} {w0 : Int32} {w1 : Int32} {r : Nat} : ZW zG (d + 1) 183 27 ls (.int w1 :: .int w0 :: .ref r :: st) z Q = (zcls z r = 12 ∧ zcs st = true ∧ ZC zG d 139 [.ref r, .int w0, .int w1] z (zk zG (d + 1) 183 (none) 30 ls st Q)) := zc_V2 rfl (Nat.le_of_ble_eq_true rfl)
theorem s183_30 {ls : List Value} {a b : Int32} : ZW zG d 183 30 ls (.int b :: .int a :: st) z Q = if a = b then ZW zG d 183 35 ls st z Q else ZW zG d 183 33 ls st z Q := zw_iceq rfl
theorem s183_33 {ls : List Value}  : ZW zG d 183 33 ls (st) z Q = ZW zG d 183 34 ls ((.int (-1)) :: st) z Q := zw_push rfl
theorem s183_34 {ls : List Value} {a : Int32} : ZW zG d 183 34 ls ([.int a]) z Q = Q (.inl (some (.int a))) z := zw_reti rfl
theorem s183_35 {x0 x1 x2 x3 x4 : Value} {a : Int32} : ZW zG d 183 35 [x0, x1, x2, x3, x4, .int a] st z Q = ZW zG d 183 37 [x0, x1, x2, x3, x4, .int a] (.int a :: st) z Q := zw_next (f := z_iload 5 37) rfl rfl
theorem s183_37 {x0 x1 x2 x3 x4 x5 : Value} : ZW zG d 183 37 [x0, x1, x2, x3, x4, x5] st z Q = (zir x0 = true ∧ ZW zG d 183 38 [x0, x1, x2, x3, x4, x5] (x0 :: st) z Q) := zw_cond (f := z_aload 0 38) rfl rfl
theorem s183_38 {x0 x1 x2 x4 x5 : Value} {a : Int32} : ZW zG d 183 38 [x0, x1, x2, .int a, x4, x5] st z Q = ZW zG d 183 39 [x0, x1, x2, .int a, x4, x5] (.int a :: st) z Q := zw_next (f := z_iload 3 39) rfl rfl
theorem s183_39 {ls : List Value}  : ZW zG d 183 39 ls (st) z Q = ZW zG d 183 40 ls ((.int (nI 4)) :: st) z Q := zw_push rfl
theorem s183_40 {ls : List Value} {w0 : Int32} {w1 : Int32} {r : Nat} : ZW zG (d + 1) 183 40 ls (.int w1 :: .int w0 :: .ref r :: st) z Q = (zcls z r = 12 ∧ zcs st = true ∧ ZC zG d 139 [.ref r, .int w0, .int w1] z (zk zG (d + 1) 183 (none) 43 ls st Q)) := zc_V2 rfl (Nat.le_of_ble_eq_true rfl)
theorem s183_43 {ls : List Value} {a b : Int32} : ZW zG d 183 43 ls (.int b :: .int a :: st) z Q = ((zcs st = true) ∧ ZW zG d 183 46 ls (.int (zmax a b) :: st) (z) Q) := zw_mmax rfl
theorem s183_46 {ls : List Value}  : ZW zG d 183 46 ls (st) z Q = ZW zG d 183 48 ls ((.int (nI 15)) :: st) z Q := zw_push rfl
theorem s183_48 {ls : List Value} {a b : Int32} : ZW zG d 183 48 ls (.int b :: .int a :: st) z Q = ZW zG d 183 49 ls (.int (a + b) :: st) z Q := zw_iadd rfl
theorem s183_49 {x0 x1 x2 x3 x4 x5 : Value} {a : Int32} : ZW zG d 183 49 [x0, x1, x2, x3, x4, x5] (.int a :: st) z Q = ZW zG d 183 51 [x0, x1, x2, x3, zclr x4, .int a] st z Q := zw_next (f := z_istore 5 51) rfl rfl
theorem s183_51 {x0 x1 x2 x3 x4 : Value} {a : Int32} : ZW zG d 183 51 [x0, x1, x2, x3, x4, .int a] st z Q = ZW zG d 183 53 [x0, x1, x2, x3, x4, .int a] (.int a :: st) z Q := zw_next (f := z_iload 5 53) rfl rfl
theorem s183_53 {x0 x1 x2 x3 x4 x5 : Value} : ZW zG d 183 53 [x0, x1, x2, x3, x4, x5] st z Q = (zir x0 = true ∧ ZW zG d 183 54 [x0, x1, x2, x3, x4, x5] (x0 :: st) z Q) := zw_cond (f := z_aload 0 54) rfl rfl
theorem s183_54 {x0 x1 x2 x4 x5 : Value} {a : Int32} : ZW zG d 183 54 [x0, x1, x2, .int a, x4, x5] st z Q = ZW zG d 183 55 [x0, x1, x2, .int a, x4, x5] (.int a :: st) z Q := zw_next (f := z_iload 3 55) rfl rfl
theorem s183_55 {ls : List Value}  : ZW zG d 183 55 ls (st) z Q = ZW zG d 183 56 ls ((.int (nI 5)) :: st) z Q := zw_push rfl
theorem s183_56 {ls : List Value} {w0 : Int32} {w1 : Int32} {r : Nat} : ZW zG (d + 1) 183 56 ls (.int w1 :: .int w0 :: .ref r :: st) z Q = (zcls z r = 12 ∧ zcs st = true ∧ ZC zG d 139 [.ref r, .int w0, .int w1] z (zk zG (d + 1) 183 (none) 59 ls st Q)) := zc_V2 rfl (Nat.le_of_ble_eq_true rfl)
theorem s183_59 {ls : List Value} {a b : Int32} : ZW zG d 183 59 ls (.int b :: .int a :: st) z Q = if a ≤ b then ZW zG d 183 64 ls st z Q else ZW zG d 183 62 ls st z Q := zw_icle rfl
theorem s183_62 {ls : List Value}  : ZW zG d 183 62 ls (st) z Q = ZW zG d 183 63 ls ((.int (-1)) :: st) z Q := zw_push rfl
theorem s183_63 {ls : List Value} {a : Int32} : ZW zG d 183 63 ls ([.int a]) z Q = Q (.inl (some (.int a))) z := zw_reti rfl
theorem s183_64 {x0 x1 x2 x3 x4 : Value} {a : Int32} : ZW zG d 183 64 [x0, x1, x2, x3, x4, .int a] st z Q = ZW zG d 183 66 [x0, x1, x2, x3, x4, .int a] (.int a :: st) z Q := zw_next (f := z_iload 5 66) rfl rfl
theorem s183_66 {ls : List Value}  : ZW zG d 183 66 ls (st) z Q = ZW zG d 183 69 ls ((.int (nI 180)) :: st) z Q := zw_push rfl
theorem s183_69 {ls : List Value} {a b : Int32} : ZW zG d 183 69 ls (.int b :: .int a :: st) z Q = if a ≤ b then ZW zG d 183 76 ls st z Q else ZW zG d 183 72 ls st z Q := zw_icle rfl
theorem s183_72 {ls : List Value}  : ZW zG d 183 72 ls (st) z Q = ZW zG d 183 73 ls ((.int (-1)) :: st) z Q := zw_push rfl
theorem s183_73 {ls : List Value}  : ZW zG d 183 73 ls (st) z Q = ZW zG d 183 78 ls st z Q := zw_goto rfl
theorem s183_76 {x0 x1 x2 x3 x4 : Value} {a : Int32} : ZW zG d 183 76 [x0, x1, x2, x3, x4, .int a] st z Q = ZW zG d 183 78 [x0, x1, x2, x3, x4, .int a] (.int a :: st) z Q := zw_next (f := z_iload 5 78) rfl rfl
theorem s183_78 {ls : List Value} {a : Int32} : ZW zG d 183 78 ls ([.int a]) z Q = Q (.inl (some (.int a))) z := zw_reti rfl
/-- X12_minutes (II)I -/
theorem e184 {r0 : Nat} {v0 : Int32} {v1 : Int32} : ZC zG d 184 [.ref r0, .int v0, .int v1] z Q = ZW zG d 184 0 [.ref r0, .int v0, .int v1] [] z Q := rfl
theorem s184_0 {x0 x1 x2 : Value} : ZW zG d 184 0 [x0, x1, x2] st z Q = (zir x0 = true ∧ ZW zG d 184 1 [x0, x1, x2] (x0 :: st) z Q) := zw_cond (f := z_aload 0 1) rfl rfl
theorem s184_1 {x0 x2 : Value} {a : Int32} : ZW zG d 184 1 [x0, .int a, x2] st z Q = ZW zG d 184 2 [x0, .int a, x2] (.int a :: st) z Q := zw_next (f := z_iload 1 2) rfl rfl
theorem s184_2 {ls : List Value}  : ZW zG d 184 2 ls (st) z Q = ZW zG d 184 3 ls ((.int (nI 0)) :: st) z Q := zw_push rfl
theorem s184_3 {ls : List Value} {w0 : Int32} {w1 : Int32} {r : Nat} : ZW zG (d + 1) 184 3 ls (.int w1 :: .int w0 :: .ref r :: st) z Q = (zcls z r = 12 ∧ zcs st = true ∧ ZC zG d 139 [.ref r, .int w0, .int w1] z (zk zG (d + 1) 184 (none) 6 ls st Q)) := zc_V2 rfl (Nat.le_of_ble_eq_true rfl)
theorem s184_6 {x0 x1 x2 : Value} : ZW zG d 184 6 [x0, x1, x2] st z Q = (zir x0 = true ∧ ZW zG d 184 7 [x0, x1, x2] (x0 :: st) z Q) := zw_cond (f := z_aload 0 7) rfl rfl
theorem s184_7 {x0 x1 : Value} {a : Int32} : ZW zG d 184 7 [x0, x1, .int a] st z Q = ZW zG d 184 8 [x0, x1, .int a] (.int a :: st) z Q := zw_next (f := z_iload 2 8) rfl rfl
theorem s184_8 {ls : List Value}  : ZW zG d 184 8 ls (st) z Q = ZW zG d 184 9 ls ((.int (nI 0)) :: st) z Q := zw_push rfl
theorem s184_9 {ls : List Value} {w0 : Int32} {w1 : Int32} {r : Nat} : ZW zG (d + 1) 184 9 ls (.int w1 :: .int w0 :: .ref r :: st) z Q = (zcls z r = 12 ∧ zcs st = true ∧ ZC zG d 139 [.ref r, .int w0, .int w1] z (zk zG (d + 1) 184 (none) 12 ls st Q)) := zc_V2 rfl (Nat.le_of_ble_eq_true rfl)
theorem s184_12 {ls : List Value} {a b : Int32} : ZW zG d 184 12 ls (.int b :: .int a :: st) z Q = ZW zG d 184 13 ls (.int (a - b) :: st) z Q := zw_isub rfl
theorem s184_13 {ls : List Value} {a : Int32} : ZW zG d 184 13 ls (.int a :: st) z Q = ((zcs st = true) ∧ ZW zG d 184 16 ls (.int (zabs a) :: st) (z) Q) := zw_mabs rfl
theorem s184_16 {x0 x1 x2 : Value} : ZW zG d 184 16 [x0, x1, x2] st z Q = (zir x0 = true ∧ ZW zG d 184 17 [x0, x1, x2] (x0 :: st) z Q) := zw_cond (f := z_aload 0 17) rfl rfl
theorem s184_17 {x0 x2 : Value} {a : Int32} : ZW zG d 184 17 [x0, .int a, x2] st z Q = ZW zG d 184 18 [x0, .int a, x2] (.int a :: st) z Q := zw_next (f := z_iload 1 18) rfl rfl
theorem s184_18 {ls : List Value}  : ZW zG d 184 18 ls (st) z Q = ZW zG d 184 19 ls ((.int (nI 1)) :: st) z Q := zw_push rfl
theorem s184_19 {ls : List Value} {w0 : Int32} {w1 : Int32} {r : Nat} : ZW zG (d + 1) 184 19 ls (.int w1 :: .int w0 :: .ref r :: st) z Q = (zcls z r = 12 ∧ zcs st = true ∧ ZC zG d 139 [.ref r, .int w0, .int w1] z (zk zG (d + 1) 184 (none) 22 ls st Q)) := zc_V2 rfl (Nat.le_of_ble_eq_true rfl)
theorem s184_22 {x0 x1 x2 : Value} : ZW zG d 184 22 [x0, x1, x2] st z Q = (zir x0 = true ∧ ZW zG d 184 23 [x0, x1, x2] (x0 :: st) z Q) := zw_cond (f := z_aload 0 23) rfl rfl
theorem s184_23 {x0 x1 : Value} {a : Int32} : ZW zG d 184 23 [x0, x1, .int a] st z Q = ZW zG d 184 24 [x0, x1, .int a] (.int a :: st) z Q := zw_next (f := z_iload 2 24) rfl rfl
theorem s184_24 {ls : List Value}  : ZW zG d 184 24 ls (st) z Q = ZW zG d 184 25 ls ((.int (nI 1)) :: st) z Q := zw_push rfl
theorem s184_25 {ls : List Value} {w0 : Int32} {w1 : Int32} {r : Nat} : ZW zG (d + 1) 184 25 ls (.int w1 :: .int w0 :: .ref r :: st) z Q = (zcls z r = 12 ∧ zcs st = true ∧ ZC zG d 139 [.ref r, .int w0, .int w1] z (zk zG (d + 1) 184 (none) 28 ls st Q)) := zc_V2 rfl (Nat.le_of_ble_eq_true rfl)
theorem s184_28 {ls : List Value} {a b : Int32} : ZW zG d 184 28 ls (.int b :: .int a :: st) z Q = ZW zG d 184 29 ls (.int (a - b) :: st) z Q := zw_isub rfl
theorem s184_29 {ls : List Value} {a : Int32} : ZW zG d 184 29 ls (.int a :: st) z Q = ((zcs st = true) ∧ ZW zG d 184 32 ls (.int (zabs a) :: st) (z) Q) := zw_mabs rfl
theorem s184_32 {ls : List Value} {a b : Int32} : ZW zG d 184 32 ls (.int b :: .int a :: st) z Q = ZW zG d 184 33 ls (.int (a + b) :: st) z Q := zw_iadd rfl
theorem s184_33 {ls : List Value} {a : Int32} : ZW zG d 184 33 ls ([.int a]) z Q = Q (.inl (some (.int a))) z := zw_reti rfl
/-- X12_overOf (I)I -/
theorem e185 {r0 : Nat} {v0 : Int32} : ZC zG d 185 [.ref r0, .int v0] z Q = ZW zG d 185 0 [.ref r0, .int v0, zdum, zdum, zdum] [] z Q := rfl
theorem s185_0 {ls : List Value}  : ZW zG d 185 0 ls (st) z Q = ZW zG d 185 1 ls ((.int (-1)) :: st) z Q := zw_push rfl
theorem s185_1 {x0 x1 x2 x3 x4 : Value} {a : Int32} : ZW zG d 185 1 [x0, x1, x2, x3, x4] (.int a :: st) z Q = ZW zG d 185 2 [x0, zclr x1, .int a, x3, x4] st z Q := zw_next (f := z_istore 2 2) rfl rfl
theorem s185_2 {ls : List Value}  : ZW zG d 185 2 ls (st) z Q = ZW zG d 185 3 ls ((.int (nI 0)) :: st) z Q := zw_push rfl
theorem s185_3 {x0 x1 x2 x3 x4 : Value} {a : Int32} : ZW zG d 185 3 [x0, x1, x2, x3, x4] (.int a :: st) z Q = ZW zG d 185 4 [x0, x1, zclr x2, .int a, x4] st z Q := zw_next (f := z_istore 3 4) rfl rfl
theorem s185_4 {x0 x1 x2 x4 : Value} {a : Int32} : ZW zG d 185 4 [x0, x1, x2, .int a, x4] st z Q = ZW zG d 185 5 [x0, x1, x2, .int a, x4] (.int a :: st) z Q := zw_next (f := z_iload 3 5) rfl rfl
theorem s185_5 {x0 x1 x2 x3 x4 : Value} : ZW zG d 185 5 [x0, x1, x2, x3, x4] st z Q = (zir x0 = true ∧ ZW zG d 185 6 [x0, x1, x2, x3, x4] (x0 :: st) z Q) := zw_cond (f := z_aload 0 6) rfl rfl
theorem s185_6 {ls : List Value} {r : Nat} : ZW zG d 185 6 ls (.ref r :: st) z Q = ((zcls z r = 12) ∧ ZW zG d 185 9 ls (.int (zfi z r 17) :: st) (z) Q) := zw_getI rfl
theorem s185_9 {ls : List Value} {a b : Int32} : ZW zG d 185 9 ls (.int b :: .int a :: st) z Q = if b ≤ a then ZW zG d 185 51 ls st z Q else ZW zG d 185 12 ls st z Q := zw_icge rfl
theorem s185_12 {x0 x1 x2 x3 x4 : Value} : ZW zG d 185 12 [x0, x1, x2, x3, x4] st z Q = (zir x0 = true ∧ ZW zG d 185 13 [x0, x1, x2, x3, x4] (x0 :: st) z Q) := zw_cond (f := z_aload 0 13) rfl rfl
theorem s185_13 {ls : List Value} {r : Nat} : ZW zG d 185 13 ls (.ref r :: st) z Q = ((zcls z r = 12 ∧ zir (zfr z r 20) = true) ∧ ZW zG d 185 16 ls (zfr z r 20 :: st) (z) Q) := zw_getR rfl
theorem s185_16 {ls : List Value}  : ZW zG d 185 16 ls (st) z Q = ZW zG d 185 18 ls ((.int (nI 10)) :: st) z Q := zw_push rfl
theorem s185_18 {x0 x2 x3 x4 : Value} {a : Int32} : ZW zG d 185 18 [x0, .int a, x2, x3, x4] st z Q = ZW zG d 185 19 [x0, .int a, x2, x3, x4] (.int a :: st) z Q := zw_next (f := z_iload 1 19) rfl rfl
theorem s185_19 {ls : List Value} {a b : Int32} : ZW zG d 185 19 ls (.int b :: .int a :: st) z Q = ZW zG d 185 20 ls (.int (a * b) :: st) z Q := zw_imul rfl
theorem s185_20 {x0 x1 x2 x4 : Value} {a : Int32} : ZW zG d 185 20 [x0, x1, x2, .int a, x4] st z Q = ZW zG d 185 21 [x0, x1, x2, .int a, x4] (.int a :: st) z Q := zw_next (f := z_iload 3 21) rfl rfl
theorem s185_21 {ls : List Value} {a b : Int32} : ZW zG d 185 21 ls (.int b :: .int a :: st) z Q = ZW zG d 185 22 ls (.int (a + b) :: st) z Q := zw_iadd rfl
theorem s185_22 {ls : List Value} {a : Int32} {r : Nat} : ZW zG d 185 22 ls (.int a :: .ref r :: st) z Q = ((zcls z r = 50 ∧ zin a (zlen z r) = true) ∧ ZW zG d 185 23 ls (.int (zia z r (zx a)) :: st) (z) Q) := zw_iald rfl
theorem s185_23 {x0 x1 x2 x3 x4 : Value} {a : Int32} : ZW zG d 185 23 [x0, x1, x2, x3, x4] (.int a :: st) z Q = ZW zG d 185 25 [x0, x1, x2, zclr x3, .int a] st z Q := zw_next (f := z_istore 4 25) rfl rfl
theorem s185_25 {x0 x1 x2 x3 : Value} {a : Int32} : ZW zG d 185 25 [x0, x1, x2, x3, .int a] st z Q = ZW zG d 185 27 [x0, x1, x2, x3, .int a] (.int a :: st) z Q := zw_next (f := z_iload 4 27) rfl rfl
theorem s185_27 {ls : List Value}  : ZW zG d 185 27 ls (st) z Q = ZW zG d 185 28 ls ((.int (-1)) :: st) z Q := zw_push rfl
theorem s185_28 {ls : List Value} {a b : Int32} : ZW zG d 185 28 ls (.int b :: .int a :: st) z Q = if a = b then ZW zG d 185 45 ls st z Q else ZW zG d 185 31 ls st z Q := zw_iceq rfl
theorem s185_31 {x0 x1 x3 x4 : Value} {a : Int32} : ZW zG d 185 31 [x0, x1, .int a, x3, x4] st z Q = ZW zG d 185 32 [x0, x1, .int a, x3, x4] (.int a :: st) z Q := zw_next (f := z_iload 2 32) rfl rfl
theorem s185_32 {ls : List Value}  : ZW zG d 185 32 ls (st) z Q = ZW zG d 185 33 ls ((.int (-1)) :: st) z Q := zw_push rfl
theorem s185_33 {ls : List Value} {a b : Int32} : ZW zG d 185 33 ls (.int b :: .int a :: st) z Q = if a = b then ZW zG d 185 42 ls st z Q else ZW zG d 185 36 ls st z Q := zw_iceq rfl
theorem s185_36 {x0 x1 x2 x3 : Value} {a : Int32} : ZW zG d 185 36 [x0, x1, x2, x3, .int a] st z Q = ZW zG d 185 38 [x0, x1, x2, x3, .int a] (.int a :: st) z Q := zw_next (f := z_iload 4 38) rfl rfl
theorem s185_38 {x0 x1 x3 x4 : Value} {a : Int32} : ZW zG d 185 38 [x0, x1, .int a, x3, x4] st z Q = ZW zG d 185 39 [x0, x1, .int a, x3, x4] (.int a :: st) z Q := zw_next (f := z_iload 2 39) rfl rfl
theorem s185_39 {ls : List Value} {a b : Int32} : ZW zG d 185 39 ls (.int b :: .int a :: st) z Q = if b ≤ a then ZW zG d 185 45 ls st z Q else ZW zG d 185 42 ls st z Q := zw_icge rfl
theorem s185_42 {x0 x1 x2 x3 : Value} {a : Int32} : ZW zG d 185 42 [x0, x1, x2, x3, .int a] st z Q = ZW zG d 185 44 [x0, x1, x2, x3, .int a] (.int a :: st) z Q := zw_next (f := z_iload 4 44) rfl rfl
theorem s185_44 {x0 x1 x2 x3 x4 : Value} {a : Int32} : ZW zG d 185 44 [x0, x1, x2, x3, x4] (.int a :: st) z Q = ZW zG d 185 45 [x0, zclr x1, .int a, x3, x4] st z Q := zw_next (f := z_istore 2 45) rfl rfl
theorem s185_45 {x0 x1 x2 x4 : Value} {a : Int32} : ZW zG d 185 45 [x0, x1, x2, .int a, x4] st z Q = ZW zG d 185 48 [x0, x1, zclr x2, .int (a + (nI 1)), x4] st z Q := zw_next (f := z_iinc 3 (nI 1) 48) rfl rfl
theorem s185_48 {ls : List Value}  : ZW zG d 185 48 ls (st) z Q = ZW zG d 185 4 ls st z Q := zw_goto rfl
theorem s185_51 {x0 x1 x3 x4 : Value} {a : Int32} : ZW zG d 185 51 [x0, x1, .int a, x3, x4] st z Q = ZW zG d 185 52 [x0, x1, .int a, x3, x4] (.int a :: st) z Q := zw_next (f := z_iload 2 52) rfl rfl
theorem s185_52 {ls : List Value} {a : Int32} : ZW zG d 185 52 ls ([.int a]) z Q = Q (.inl (some (.int a))) z := zw_reti rfl
/-- X12_over (II)I -/
theorem e186 {r0 : Nat} {v0 : Int32} {v1 : Int32} : ZC zG d 186 [.ref r0, .int v0, .int v1] z Q = ZW zG d 186 0 [.ref r0, .int v0, .int v1] [] z Q := rfl
theorem s186_0 {x0 x1 x2 : Value} : ZW zG d 186 0 [x0, x1, x2] st z Q = (zir x0 = true ∧ ZW zG d 186 1 [x0, x1, x2] (x0 :: st) z Q) := zw_cond (f := z_aload 0 1) rfl rfl
theorem s186_1 {x0 x2 : Value} {a : Int32} : ZW zG d 186 1 [x0, .int a, x2] st z Q = ZW zG d 186 2 [x0, .int a, x2] (.int a :: st) z Q := zw_next (f := z_iload 1 2) rfl rfl
theorem s186_2 {x0 x1 : Value} {a : Int32} : ZW zG d 186 2 [x0, x1, .int a] st z Q = ZW zG d 186 3 [x0, x1, .int a] (.int a :: st) z Q := zw_next (f := z_iload 2 3) rfl rfl
theorem s186_3 {ls : List Value} {w0 : Int32} {w1 : Int32} {r : Nat} : ZW zG (d + 1) 186 3 ls (.int w1 :: .int w0 :: .ref r :: st) z Q = (zcls z r = 12 ∧ zcs st = true ∧ ZC zG d 178 [.ref r, .int w0, .int w1] z (zk zG (d + 1) 186 (none) 6 ls st Q)) := zc_V2 rfl (Nat.le_of_ble_eq_true rfl)
theorem s186_6 {ls : List Value} {a : Int32} : ZW zG d 186 6 ls (.int a :: st) z Q = if ¬ a = 0 then ZW zG d 186 12 ls st z Q else ZW zG d 186 9 ls st z Q := zw_ifne rfl
theorem s186_9 {ls : List Value}  : ZW zG d 186 9 ls (st) z Q = ZW zG d 186 11 ls ((.int (-2)) :: st) z Q := zw_push rfl
theorem s186_11 {ls : List Value} {a : Int32} : ZW zG d 186 11 ls ([.int a]) z Q = Q (.inl (some (.int a))) z := zw_reti rfl
theorem s186_12 {x0 x1 x2 : Value} : ZW zG d 186 12 [x0, x1, x2] st z Q = (zir x0 = true ∧ ZW zG d 186 13 [x0, x1, x2] (x0 :: st) z Q) := zw_cond (f := z_aload 0 13) rfl rfl
theorem s186_13 {x0 x2 : Value} {a : Int32} : ZW zG d 186 13 [x0, .int a, x2] st z Q = ZW zG d 186 14 [x0, .int a, x2] (.int a :: st) z Q := zw_next (f := z_iload 1 14) rfl rfl
theorem s186_14 {x0 x1 : Value} {a : Int32} : ZW zG d 186 14 [x0, x1, .int a] st z Q = ZW zG d 186 15 [x0, x1, .int a] (.int a :: st) z Q := zw_next (f := z_iload 2 15) rfl rfl
theorem s186_15 {ls : List Value} {w0 : Int32} {w1 : Int32} {r : Nat} : ZW zG (d + 1) 186 15 ls (.int w1 :: .int w0 :: .ref r :: st) z Q = (zcls z r = 12 ∧ zcs st = true ∧ ZC zG d 179 [.ref r, .int w0, .int w1] z (zk zG (d + 1) 186 (none) 18 ls st Q)) := zc_V2 rfl (Nat.le_of_ble_eq_true rfl)
theorem s186_18 {x0 x1 x2 : Value} : ZW zG d 186 18 [x0, x1, x2] st z Q = (zir x0 = true ∧ ZW zG d 186 19 [x0, x1, x2] (x0 :: st) z Q) := zw_cond (f := z_aload 0 19) rfl rfl
theorem s186_19 {ls : List Value} {r : Nat} : ZW zG d 186 19 ls (.ref r :: st) z Q = ((zcls z r = 12) ∧ ZW zG d 186 22 ls (.int (zfi z r 22) :: st) (z) Q) := zw_getI rfl
theorem s186_22 {ls : List Value} {a : Int32} : ZW zG d 186 22 ls ([.int a]) z Q = Q (.inl (some (.int a))) z := zw_reti rfl
/-- X12_round (III)I -/
theorem e187 {r0 : Nat} {v0 : Int32} {v1 : Int32} {v2 : Int32} : ZC zG d 187 [.ref r0, .int v0, .int v1, .int v2] z Q = ZW zG d 187 0 [.ref r0, .int v0, .int v1, .int v2, zdum] [] z Q := rfl
theorem s187_0 {x0 x1 x2 x3 x4 : Value} : ZW zG d 187 0 [x0, x1, x2, x3, x4] st z Q = (zir x0 = true ∧ ZW zG d 187 1 [x0, x1, x2, x3, x4] (x0 :: st) z Q) := zw_cond (f := z_aload 0 1) rfl rfl
theorem s187_1 {x0 x2 x3 x4 : Value} {a : Int32} : ZW zG d 187 1 [x0, .int a, x2, x3, x4] st z Q = ZW zG d 187 2 [x0, .int a, x2, x3, x4] (.int a :: st) z Q := zw_next (f := z_iload 1 2) rfl rfl
theorem s187_2 {x0 x1 x3 x4 : Value} {a : Int32} : ZW zG d 187 2 [x0, x1, .int a, x3, x4] st z Q = ZW zG d 187 3 [x0, x1, .int a, x3, x4] (.int a :: st) z Q := zw_next (f := z_iload 2 3) rfl rfl
theorem s187_3 {ls : List Value} {w0 : Int32} {w1 : Int32} {r : Nat} : ZW zG (d + 1) 187 3 ls (.int w1 :: .int w0 :: .ref r :: st) z Q = (zcls z r = 12 ∧ zcs st = true ∧ ZC zG d 178 [.ref r, .int w0, .int w1] z (zk zG (d + 1) 187 (none) 6 ls st Q)) := zc_V2 rfl (Nat.le_of_ble_eq_true rfl)
theorem s187_6 {ls : List Value} {a : Int32} : ZW zG d 187 6 ls (.int a :: st) z Q = if ¬ a = 0 then ZW zG d 187 12 ls st z Q else ZW zG d 187 9 ls st z Q := zw_ifne rfl
theorem s187_9 {ls : List Value}  : ZW zG d 187 9 ls (st) z Q = ZW zG d 187 11 ls ((.int (-2)) :: st) z Q := zw_push rfl
theorem s187_11 {ls : List Value} {a : Int32} : ZW zG d 187 11 ls ([.int a]) z Q = Q (.inl (some (.int a))) z := zw_reti rfl
theorem s187_12 {x0 x1 x2 x3 x4 : Value} : ZW zG d 187 12 [x0, x1, x2, x3, x4] st z Q = (zir x0 = true ∧ ZW zG d 187 13 [x0, x1, x2, x3, x4] (x0 :: st) z Q) := zw_cond (f := z_aload 0 13) rfl rfl
theorem s187_13 {x0 x2 x3 x4 : Value} {a : Int32} : ZW zG d 187 13 [x0, .int a, x2, x3, x4] st z Q = ZW zG d 187 14 [x0, .int a, x2, x3, x4] (.int a :: st) z Q := zw_next (f := z_iload 1 14) rfl rfl
theorem s187_14 {x0 x1 x3 x4 : Value} {a : Int32} : ZW zG d 187 14 [x0, x1, .int a, x3, x4] st z Q = ZW zG d 187 15 [x0, x1, .int a, x3, x4] (.int a :: st) z Q := zw_next (f := z_iload 2 15) rfl rfl
theorem s187_15 {ls : List Value} {w0 : Int32} {w1 : Int32} {r : Nat} : ZW zG (d + 1) 187 15 ls (.int w1 :: .int w0 :: .ref r :: st) z Q = (zcls z r = 12 ∧ zcs st = true ∧ ZC zG d 179 [.ref r, .int w0, .int w1] z (zk zG (d + 1) 187 (none) 18 ls st Q)) := zc_V2 rfl (Nat.le_of_ble_eq_true rfl)
theorem s187_18 {x0 x1 x2 x3 x4 : Value} : ZW zG d 187 18 [x0, x1, x2, x3, x4] st z Q = (zir x0 = true ∧ ZW zG d 187 19 [x0, x1, x2, x3, x4] (x0 :: st) z Q) := zw_cond (f := z_aload 0 19) rfl rfl
theorem s187_19 {ls : List Value} {r : Nat} : ZW zG d 187 19 ls (.ref r :: st) z Q = ((zcls z r = 12) ∧ ZW zG d 187 22 ls (.int (zfi z r 21) :: st) (z) Q) := zw_getI rfl
theorem s187_22 {ls : List Value} {w0 : Int32} : ZW zG (d + 1) 187 22 ls (.int w0 :: st) z Q = (zcs st = true ∧ ZC zG d 152 [.int w0] z (zk zG (d + 1) 187 (none) 25 ls st Q)) := zc_S1 rfl (Nat.le_of_ble_eq_true rfl)
theorem s187_25 {x0 x1 x2 x3 x4 : Value} {a : Int32} : ZW zG d 187 25 [x0, x1, x2, x3, x4] (.int a :: st) z Q = ZW zG d 187 27 [x0, x1, x2, zclr x3, .int a] st z Q := zw_next (f := z_istore 4 27) rfl rfl
theorem s187_27 {x0 x1 x2 x4 : Value} {a : Int32} : ZW zG d 187 27 [x0, x1, x2, .int a, x4] st z Q = ZW zG d 187 28 [x0, x1, x2, .int a, x4] (.int a :: st) z Q := zw_next (f := z_iload 3 28) rfl rfl
theorem s187_28 {ls : List Value} {a : Int32} : ZW zG d 187 28 ls (.int a :: st) z Q = ZW zG d 187 29 ls (.long a.toInt64 :: st) z Q := zw_i2l rfl
theorem s187_29 {ls : List Value}  : ZW zG d 187 29 ls (st) z Q = ZW zG d 187 30 ls ((.long (lN 0)) :: st) z Q := zw_push rfl
theorem s187_30 {x0 x1 x2 x3 : Value} {a : Int32} : ZW zG d 187 30 [x0, x1, x2, x3, .int a] st z Q = ZW zG d 187 32 [x0, x1, x2, x3, .int a] (.int a :: st) z Q := zw_next (f := z_iload 4 32) rfl rfl
theorem s187_32 {ls : List Value}  : ZW zG d 187 32 ls (st) z Q = ZW zG d 187 33 ls ((.int (nI 1)) :: st) z Q := zw_push rfl
theorem s187_33 {ls : List Value} {a b : Int32} : ZW zG d 187 33 ls (.int b :: .int a :: st) z Q = ZW zG d 187 34 ls (.int (a - b) :: st) z Q := zw_isub rfl
theorem s187_34 {ls : List Value} {a : Int32} : ZW zG d 187 34 ls (.int a :: st) z Q = ZW zG d 187 35 ls (.long a.toInt64 :: st) z Q := zw_i2l rfl
theorem s187_35 {ls : List Value} {w0 : Int64} {w1 : Int64} {w2 : Int64} : ZW zG (d + 1) 187 35 ls (.long w2 :: .long w1 :: .long w0 :: st) z Q = (zcs st = true ∧ ZC zG d 114 [.long w0, .long w1, .long w2] z (zk zG (d + 1) 187 (none) 38 ls st Q)) := zc_S3 rfl (Nat.le_of_ble_eq_true rfl)
theorem s187_38 {ls : List Value} {a : Int32} : ZW zG d 187 38 ls (.int a :: st) z Q = if ¬ a = 0 then ZW zG d 187 43 ls st z Q else ZW zG d 187 41 ls st z Q := zw_ifne rfl
theorem s187_41 {ls : List Value}  : ZW zG d 187 41 ls (st) z Q = ZW zG d 187 42 ls ((.int (-1)) :: st) z Q := zw_push rfl
theorem s187_42 {ls : List Value} {a : Int32} : ZW zG d 187 42 ls ([.int a]) z Q = Q (.inl (some (.int a))) z := zw_reti rfl
theorem s187_43 {x0 x1 x2 x3 x4 : Value} : ZW zG d 187 43 [x0, x1, x2, x3, x4] st z Q = (zir x0 = true ∧ ZW zG d 187 44 [x0, x1, x2, x3, x4] (x0 :: st) z Q) := zw_cond (f := z_aload 0 44) rfl rfl
theorem s187_44 {x0 x2 x3 x4 : Value} {a : Int32} : ZW zG d 187 44 [x0, .int a, x2, x3, x4] st z Q = ZW zG d 187 45 [x0, .int a, x2, x3, x4] (.int a :: st) z Q := zw_next (f := z_iload 1 45) rfl rfl
theorem s187_45 {x0 x1 x3 x4 : Value} {a : Int32} : ZW zG d 187 45 [x0, x1, .int a, x3, x4] st z Q = ZW zG d 187 46 [x0, x1, .int a, x3, x4] (.int a :: st) z Q := zw_next (f := z_iload 2 46) rfl rfl
theorem s187_46 {ls : List Value} {w0 : Int32} {w1 : Int32} {r : Nat} : ZW zG (d + 1) 187 46 ls (.int w1 :: .int w0 :: .ref r :: st) z Q = (zcls z r = 12 ∧ zcs st = true ∧ ZC zG d 188 [.ref r, .int w0, .int w1] z (zk zG (d + 1) 187 (none) 49 ls st Q)) := zc_V2 rfl (Nat.le_of_ble_eq_true rfl)
theorem s187_49 {x0 x1 x2 x3 x4 : Value} : ZW zG d 187 49 [x0, x1, x2, x3, x4] st z Q = (zir x0 = true ∧ ZW zG d 187 50 [x0, x1, x2, x3, x4] (x0 :: st) z Q) := zw_cond (f := z_aload 0 50) rfl rfl
theorem s187_50 {ls : List Value} {r : Nat} : ZW zG d 187 50 ls (.ref r :: st) z Q = ((zcls z r = 12 ∧ zir (zfr z r 24) = true) ∧ ZW zG d 187 53 ls (zfr z r 24 :: st) (z) Q) := zw_getR rfl
theorem s187_53 {x0 x1 x2 x4 : Value} {a : Int32} : ZW zG d 187 53 [x0, x1, x2, .int a, x4] st z Q = ZW zG d 187 54 [x0, x1, x2, .int a, x4] (.int a :: st) z Q := zw_next (f := z_iload 3 54) rfl rfl
theorem s187_54 {ls : List Value} {a : Int32} {r : Nat} : ZW zG d 187 54 ls (.int a :: .ref r :: st) z Q = ((zcls z r = 50 ∧ zin a (zlen z r) = true) ∧ ZW zG d 187 55 ls (.int (zia z r (zx a)) :: st) (z) Q) := zw_iald rfl
theorem s187_55 {ls : List Value} {a : Int32} : ZW zG d 187 55 ls ([.int a]) z Q = Q (.inl (some (.int a))) z := zw_reti rfl
/-- X12_rowOf (II)V -/
theorem e188 {r0 : Nat} {v0 : Int32} {v1 : Int32} : ZC zG d 188 [.ref r0, .int v0, .int v1] z Q = ZW zG d 188 0 [.ref r0, .int v0, .int v1, zdum, zdum, zdum, zdum, zdum, zdum, zdum, zdum, zdum] [] z Q := rfl
theorem s188_0 {x0 x2 x3 x4 x5 x6 x7 x8 x9 x10 x11 : Value} {a : Int32} : ZW zG d 188 0 [x0, .int a, x2, x3, x4, x5, x6, x7, x8, x9, x10, x11] st z Q = ZW zG d 188 1 [x0, .int a, x2, x3, x4, x5, x6, x7, x8, x9, x10, x11] (.int a :: st) z Q := zw_next (f := z_iload 1 1) rfl rfl
theorem s188_1 {x0 x1 x2 x3 x4 x5 x6 x7 x8 x9 x10 x11 : Value} {a : Int32} : ZW zG d 188 1 [x0, x1, x2, x3, x4, x5, x6, x7, x8, x9, x10, x11] (.int a :: st) z Q = ZW zG d 188 2 [x0, x1, zclr x2, .int a, x4, x5, x6, x7, x8, x9, x10, x11] st z Q := zw_next (f := z_istore 3 2) rfl rfl
theorem s188_2 {ls : List Value}  : ZW zG d 188 2 ls (st) z Q = ZW zG d 188 3 ls ((.int (nI 0)) :: st) z Q := zw_push rfl
theorem s188_3 {x0 x1 x2 x3 x4 x5 x6 x7 x8 x9 x10 x11 : Value} {a : Int32} : ZW zG d 188 3 [x0, x1, x2, x3, x4, x5, x6, x7, x8, x9, x10, x11] (.int a :: st) z Q = ZW zG d 188 5 [x0, x1, x2, zclr x3, .int a, x5, x6, x7, x8, x9, x10, x11] st z Q := zw_next (f := z_istore 4 5) rfl rfl
theorem s188_5 {x0 x1 x2 x3 x4 x5 x6 x7 x8 x9 x10 x11 : Value} : ZW zG d 188 5 [x0, x1, x2, x3, x4, x5, x6, x7, x8, x9, x10, x11] st z Q = (zir x0 = true ∧ ZW zG d 188 6 [x0, x1, x2, x3, x4, x5, x6, x7, x8, x9, x10, x11] (x0 :: st) z Q) := zw_cond (f := z_aload 0 6) rfl rfl
theorem s188_6 {ls : List Value} {r : Nat} : ZW zG d 188 6 ls (.ref r :: st) z Q = ((zcls z r = 12) ∧ ZW zG d 188 9 ls (.int (zfi z r 21) :: st) (z) Q) := zw_getI rfl
theorem s188_9 {x0 x1 x2 x3 x4 x5 x6 x7 x8 x9 x10 x11 : Value} {a : Int32} : ZW zG d 188 9 [x0, x1, x2, x3, x4, x5, x6, x7, x8, x9, x10, x11] (.int a :: st) z Q = ZW zG d 188 11 [x0, x1, x2, x3, zclr x4, .int a, x6, x7, x8, x9, x10, x11] st z Q := zw_next (f := z_istore 5 11) rfl rfl
theorem s188_11 {ls : List Value}  : ZW zG d 188 11 ls (st) z Q = ZW zG d 188 12 ls ((.int (nI 0)) :: st) z Q := zw_push rfl
theorem s188_12 {x0 x1 x2 x3 x4 x5 x6 x7 x8 x9 x10 x11 : Value} {a : Int32} : ZW zG d 188 12 [x0, x1, x2, x3, x4, x5, x6, x7, x8, x9, x10, x11] (.int a :: st) z Q = ZW zG d 188 14 [x0, x1, x2, x3, x4, zclr x5, .int a, x7, x8, x9, x10, x11] st z Q := zw_next (f := z_istore 6 14) rfl rfl
theorem s188_14 {x0 x1 x2 x3 x4 x6 x7 x8 x9 x10 x11 : Value} {a : Int32} : ZW zG d 188 14 [x0, x1, x2, x3, x4, .int a, x6, x7, x8, x9, x10, x11] st z Q = ZW zG d 188 16 [x0, x1, x2, x3, x4, .int a, x6, x7, x8, x9, x10, x11] (.int a :: st) z Q := zw_next (f := z_iload 5 16) rfl rfl
theorem s188_16 {ls : List Value} {a : Int32} : ZW zG d 188 16 ls (.int a :: st) z Q = if a = 0 then ZW zG d 188 197 ls st z Q else ZW zG d 188 19 ls st z Q := zw_ifeq rfl
theorem s188_19 {ls : List Value}  : ZW zG d 188 19 ls (st) z Q = ZW zG d 188 20 ls ((.int (-1)) :: st) z Q := zw_push rfl
theorem s188_20 {x0 x1 x2 x3 x4 x5 x6 x7 x8 x9 x10 x11 : Value} {a : Int32} : ZW zG d 188 20 [x0, x1, x2, x3, x4, x5, x6, x7, x8, x9, x10, x11] (.int a :: st) z Q = ZW zG d 188 22 [x0, x1, x2, x3, x4, x5, zclr x6, .int a, x8, x9, x10, x11] st z Q := zw_next (f := z_istore 7 22) rfl rfl
theorem s188_22 {ls : List Value}  : ZW zG d 188 22 ls (st) z Q = ZW zG d 188 23 ls ((.int (nI 0)) :: st) z Q := zw_push rfl
theorem s188_23 {x0 x1 x2 x3 x4 x5 x6 x7 x8 x9 x10 x11 : Value} {a : Int32} : ZW zG d 188 23 [x0, x1, x2, x3, x4, x5, x6, x7, x8, x9, x10, x11] (.int a :: st) z Q = ZW zG d 188 25 [x0, x1, x2, x3, x4, x5, x6, zclr x7, .int a, x9, x10, x11] st z Q := zw_next (f := z_istore 8 25) rfl rfl
theorem s188_25 {ls : List Value}  : ZW zG d 188 25 ls (st) z Q = ZW zG d 188 26 ls ((.int (nI 0)) :: st) z Q := zw_push rfl
theorem s188_26 {x0 x1 x2 x3 x4 x5 x6 x7 x8 x9 x10 x11 : Value} {a : Int32} : ZW zG d 188 26 [x0, x1, x2, x3, x4, x5, x6, x7, x8, x9, x10, x11] (.int a :: st) z Q = ZW zG d 188 28 [x0, x1, x2, x3, x4, x5, x6, x7, zclr x8, .int a, x10, x11] st z Q := zw_next (f := z_istore 9 28) rfl rfl
theorem s188_28 {x0 x1 x2 x3 x4 x5 x6 x7 x8 x10 x11 : Value} {a : Int32} : ZW zG d 188 28 [x0, x1, x2, x3, x4, x5, x6, x7, x8, .int a, x10, x11] st z Q = ZW zG d 188 30 [x0, x1, x2, x3, x4, x5, x6, x7, x8, .int a, x10, x11] (.int a :: st) z Q := zw_next (f := z_iload 9 30) rfl rfl
theorem s188_30 {x0 x1 x2 x3 x4 x5 x6 x7 x8 x9 x10 x11 : Value} : ZW zG d 188 30 [x0, x1, x2, x3, x4, x5, x6, x7, x8, x9, x10, x11] st z Q = (zir x0 = true ∧ ZW zG d 188 31 [x0, x1, x2, x3, x4, x5, x6, x7, x8, x9, x10, x11] (x0 :: st) z Q) := zw_cond (f := z_aload 0 31) rfl rfl
theorem s188_31 {ls : List Value} {r : Nat} : ZW zG d 188 31 ls (.ref r :: st) z Q = ((zcls z r = 12) ∧ ZW zG d 188 34 ls (.int (zfi z r 17) :: st) (z) Q) := zw_getI rfl
theorem s188_34 {ls : List Value} {a b : Int32} : ZW zG d 188 34 ls (.int b :: .int a :: st) z Q = if b ≤ a then ZW zG d 188 154 ls st z Q else ZW zG d 188 37 ls st z Q := zw_icge rfl
theorem s188_37 {x0 x1 x2 x3 x4 x5 x6 x8 x9 x10 x11 : Value} {a : Int32} : ZW zG d 188 37 [x0, x1, x2, x3, x4, x5, x6, .int a, x8, x9, x10, x11] st z Q = ZW zG d 188 39 [x0, x1, x2, x3, x4, x5, x6, .int a, x8, x9, x10, x11] (.int a :: st) z Q := zw_next (f := z_iload 7 39) rfl rfl
theorem s188_39 {ls : List Value}  : ZW zG d 188 39 ls (st) z Q = ZW zG d 188 40 ls ((.int (-1)) :: st) z Q := zw_push rfl
theorem s188_40 {ls : List Value} {a b : Int32} : ZW zG d 188 40 ls (.int b :: .int a :: st) z Q = if ¬ a = b then ZW zG d 188 154 ls st z Q else ZW zG d 188 43 ls st z Q := zw_icne rfl
theorem s188_43 {x0 x1 x2 x3 x4 x6 x7 x8 x9 x10 x11 : Value} {a : Int32} : ZW zG d 188 43 [x0, x1, x2, x3, x4, .int a, x6, x7, x8, x9, x10, x11] st z Q = ZW zG d 188 45 [x0, x1, x2, x3, x4, .int a, x6, x7, x8, x9, x10, x11] (.int a :: st) z Q := zw_next (f := z_iload 5 45) rfl rfl
theorem s188_45 {x0 x1 x2 x3 x4 x5 x6 x7 x8 x10 x11 : Value} {a : Int32} : ZW zG d 188 45 [x0, x1, x2, x3, x4, x5, x6, x7, x8, .int a, x10, x11] st z Q = ZW zG d 188 47 [x0, x1, x2, x3, x4, x5, x6, x7, x8, .int a, x10, x11] (.int a :: st) z Q := zw_next (f := z_iload 9 47) rfl rfl
theorem s188_47 {ls : List Value} {w0 : Int32} {w1 : Int32} : ZW zG (d + 1) 188 47 ls (.int w1 :: .int w0 :: st) z Q = (zcs st = true ∧ ZC zG d 149 [.int w0, .int w1] z (zk zG (d + 1) 188 (none) 50 ls st Q)) := zc_S2 rfl (Nat.le_of_ble_eq_true rfl)
theorem s188_50 {ls : List Value} {a : Int32} : ZW zG d 188 50 ls (.int a :: st) z Q = if ¬ a = 0 then ZW zG d 188 56 ls st z Q else ZW zG d 188 53 ls st z Q := zw_ifne rfl
theorem s188_53 {ls : List Value}  : ZW zG d 188 53 ls (st) z Q = ZW zG d 188 148 ls st z Q := zw_goto rfl
theorem s188_56 {x0 x1 x2 x3 x4 x5 x6 x7 x8 x9 x10 x11 : Value} : ZW zG d 188 56 [x0, x1, x2, x3, x4, x5, x6, x7, x8, x9, x10, x11] st z Q = (zir x0 = true ∧ ZW zG d 188 57 [x0, x1, x2, x3, x4, x5, x6, x7, x8, x9, x10, x11] (x0 :: st) z Q) := zw_cond (f := z_aload 0 57) rfl rfl
theorem s188_57 {x0 x1 x2 x4 x5 x6 x7 x8 x9 x10 x11 : Value} {a : Int32} : ZW zG d 188 57 [x0, x1, x2, .int a, x4, x5, x6, x7, x8, x9, x10, x11] st z Q = ZW zG d 188 58 [x0, x1, x2, .int a, x4, x5, x6, x7, x8, x9, x10, x11] (.int a :: st) z Q := zw_next (f := z_iload 3 58) rfl rfl
theorem s188_58 {x0 x1 x2 x3 x5 x6 x7 x8 x9 x10 x11 : Value} {a : Int32} : ZW zG d 188 58 [x0, x1, x2, x3, .int a, x5, x6, x7, x8, x9, x10, x11] st z Q = ZW zG d 188 60 [x0, x1, x2, x3, .int a, x5, x6, x7, x8, x9, x10, x11] (.int a :: st) z Q := zw_next (f := z_iload 4 60) rfl rfl
theorem s188_60 {x0 x1 x2 x3 x4 x5 x6 x7 x8 x9 x10 x11 : Value} : ZW zG d 188 60 [x0, x1, x2, x3, x4, x5, x6, x7, x8, x9, x10, x11] st z Q = (zir x0 = true ∧ ZW zG d 188 61 [x0, x1, x2, x3, x4, x5, x6, x7, x8, x9, x10, x11] (x0 :: st) z Q) := zw_cond (f := z_aload 0 61) rfl rfl
theorem s188_61 {ls : List Value} {r : Nat} : ZW zG d 188 61 ls (.ref r :: st) z Q = ((zcls z r = 12 ∧ zir (zfr z r 16) = true) ∧ ZW zG d 188 64 ls (zfr z r 16 :: st) (z) Q) := zw_getR rfl
theorem s188_64 {x0 x1 x2 x3 x4 x5 x6 x7 x8 x10 x11 : Value} {a : Int32} : ZW zG d 188 64 [x0, x1, x2, x3, x4, x5, x6, x7, x8, .int a, x10, x11] st z Q = ZW zG d 188 66 [x0, x1, x2, x3, x4, x5, x6, x7, x8, .int a, x10, x11] (.int a :: st) z Q := zw_next (f := z_iload 9 66) rfl rfl
theorem s188_66 {ls : List Value} {a : Int32} {r : Nat} : ZW zG d 188 66 ls (.int a :: .ref r :: st) z Q = ((zcls z r = 50 ∧ zin a (zlen z r) = true) ∧ ZW zG d 188 67 ls (.int (zia z r (zx a)) :: st) (z) Q) := zw_iald rfl
theorem s188_67 {x0 x1 x3 x4 x5 x6 x7 x8 x9 x10 x11 : Value} {a : Int32} : ZW zG d 188 67 [x0, x1, .int a, x3, x4, x5, x6, x7, x8, x9, x10, x11] st z Q = ZW zG d 188 68 [x0, x1, .int a, x3, x4, x5, x6, x7, x8, x9, x10, x11] (.int a :: st) z Q := zw_next (f := z_iload 2 68) rfl rfl
theorem s188_68 {ls : List Value} {w0 : Int32} {w1 : Int32} {w2 : Int32} {w3 : Int32} {r : Nat} : ZW zG (d + 1) 188 68 ls (.int w3 :: .int w2 :: .int w1 :: .int w0 :: .ref r :: st) z Q = (zcls z r = 12 ∧ zcs st = true ∧ ZC zG d 183 [.ref r, .int w0, .int w1, .int w2, .int w3] z (zk zG (d + 1) 188 (none) 71 ls st Q)) := zc_V4 rfl (Nat.le_of_ble_eq_true rfl)
theorem s188_71 {x0 x1 x2 x3 x4 x5 x6 x7 x8 x9 x10 x11 : Value} {a : Int32} : ZW zG d 188 71 [x0, x1, x2, x3, x4, x5, x6, x7, x8, x9, x10, x11] (.int a :: st) z Q = ZW zG d 188 73 [x0, x1, x2, x3, x4, x5, x6, x7, x8, zclr x9, .int a, x11] st z Q := zw_next (f := z_istore 10 73) rfl rfl
theorem s188_73 {x0 x1 x2 x3 x4 x6 x7 x8 x9 x10 x11 : Value} {a : Int32} : ZW zG d 188 73 [x0, x1, x2, x3, x4, .int a, x6, x7, x8, x9, x10, x11] st z Q = ZW zG d 188 75 [x0, x1, x2, x3, x4, .int a, x6, x7, x8, x9, x10, x11] (.int a :: st) z Q := zw_next (f := z_iload 5 75) rfl rfl
theorem s188_75 {ls : List Value}  : ZW zG d 188 75 ls (st) z Q = ZW zG d 188 76 ls ((.int (nI 1)) :: st) z Q := zw_push rfl
theorem s188_76 {x0 x1 x2 x3 x4 x5 x6 x7 x8 x10 x11 : Value} {a : Int32} : ZW zG d 188 76 [x0, x1, x2, x3, x4, x5, x6, x7, x8, .int a, x10, x11] st z Q = ZW zG d 188 78 [x0, x1, x2, x3, x4, x5, x6, x7, x8, .int a, x10, x11] (.int a :: st) z Q := zw_next (f := z_iload 9 78) rfl rfl
theorem s188_78 {ls : List Value} {a b : Int32} : ZW zG d 188 78 ls (.int b :: .int a :: st) z Q = ZW zG d 188 79 ls (.int (a <<< (b &&& 31)) :: st) z Q := zw_ishl rfl
theorem s188_79 {ls : List Value}  : ZW zG d 188 79 ls (st) z Q = ZW zG d 188 80 ls ((.int (-1)) :: st) z Q := zw_push rfl
theorem s188_80 {ls : List Value} {a b : Int32} : ZW zG d 188 80 ls (.int b :: .int a :: st) z Q = ZW zG d 188 81 ls (.int (a ^^^ b) :: st) z Q := zw_ixor rfl
theorem s188_81 {ls : List Value} {a b : Int32} : ZW zG d 188 81 ls (.int b :: .int a :: st) z Q = ZW zG d 188 82 ls (.int (a &&& b) :: st) z Q := zw_iand rfl
theorem s188_82 {x0 x1 x2 x3 x4 x5 x6 x7 x8 x9 x10 x11 : Value} {a : Int32} : ZW zG d 188 82 [x0, x1, x2, x3, x4, x5, x6, x7, x8, x9, x10, x11] (.int a :: st) z Q = ZW zG d 188 84 [x0, x1, x2, x3, x4, x5, x6, x7, x8, x9, zclr x10, .int a] st z Q := zw_next (f := z_istore 11 84) rfl rfl
theorem s188_84 {x0 x1 x2 x3 x4 x5 x6 x7 x8 x9 x11 : Value} {a : Int32} : ZW zG d 188 84 [x0, x1, x2, x3, x4, x5, x6, x7, x8, x9, .int a, x11] st z Q = ZW zG d 188 86 [x0, x1, x2, x3, x4, x5, x6, x7, x8, x9, .int a, x11] (.int a :: st) z Q := zw_next (f := z_iload 10 86) rfl rfl
theorem s188_86 {ls : List Value}  : ZW zG d 188 86 ls (st) z Q = ZW zG d 188 87 ls ((.int (-1)) :: st) z Q := zw_push rfl
theorem s188_87 {ls : List Value} {a b : Int32} : ZW zG d 188 87 ls (.int b :: .int a :: st) z Q = if ¬ a = b then ZW zG d 188 93 ls st z Q else ZW zG d 188 90 ls st z Q := zw_icne rfl
theorem s188_90 {ls : List Value}  : ZW zG d 188 90 ls (st) z Q = ZW zG d 188 148 ls st z Q := zw_goto rfl
theorem s188_93 {x0 x1 x2 x3 x4 x5 x6 x7 x8 x9 x10 : Value} {a : Int32} : ZW zG d 188 93 [x0, x1, x2, x3, x4, x5, x6, x7, x8, x9, x10, .int a] st z Q = ZW zG d 188 95 [x0, x1, x2, x3, x4, x5, x6, x7, x8, x9, x10, .int a] (.int a :: st) z Q := zw_next (f := z_iload 11 95) rfl rfl
theorem s188_95 {ls : List Value} {a : Int32} : ZW zG d 188 95 ls (.int a :: st) z Q = if a = 0 then ZW zG d 188 114 ls st z Q else ZW zG d 188 98 ls st z Q := zw_ifeq rfl
theorem s188_98 {x0 x1 x2 x3 x4 x5 x6 x7 x8 x9 x10 x11 : Value} : ZW zG d 188 98 [x0, x1, x2, x3, x4, x5, x6, x7, x8, x9, x10, x11] st z Q = (zir x0 = true ∧ ZW zG d 188 99 [x0, x1, x2, x3, x4, x5, x6, x7, x8, x9, x10, x11] (x0 :: st) z Q) := zw_cond (f := z_aload 0 99) rfl rfl
theorem s188_99 {x0 x1 x2 x3 x4 x5 x6 x7 x8 x9 x10 x11 : Value} : ZW zG d 188 99 [x0, x1, x2, x3, x4, x5, x6, x7, x8, x9, x10, x11] st z Q = (zir x0 = true ∧ ZW zG d 188 100 [x0, x1, x2, x3, x4, x5, x6, x7, x8, x9, x10, x11] (x0 :: st) z Q) := zw_cond (f := z_aload 0 100) rfl rfl
theorem s188_100 {ls : List Value} {r : Nat} : ZW zG d 188 100 ls (.ref r :: st) z Q = ((zcls z r = 12 ∧ zir (zfr z r 16) = true) ∧ ZW zG d 188 103 ls (zfr z r 16 :: st) (z) Q) := zw_getR rfl
theorem s188_103 {x0 x1 x2 x3 x4 x5 x6 x7 x8 x10 x11 : Value} {a : Int32} : ZW zG d 188 103 [x0, x1, x2, x3, x4, x5, x6, x7, x8, .int a, x10, x11] st z Q = ZW zG d 188 105 [x0, x1, x2, x3, x4, x5, x6, x7, x8, .int a, x10, x11] (.int a :: st) z Q := zw_next (f := z_iload 9 105) rfl rfl
theorem s188_105 {ls : List Value} {a : Int32} {r : Nat} : ZW zG d 188 105 ls (.int a :: .ref r :: st) z Q = ((zcls z r = 50 ∧ zin a (zlen z r) = true) ∧ ZW zG d 188 106 ls (.int (zia z r (zx a)) :: st) (z) Q) := zw_iald rfl
theorem s188_106 {x0 x1 x2 x3 x4 x5 x6 x7 x8 x9 x11 : Value} {a : Int32} : ZW zG d 188 106 [x0, x1, x2, x3, x4, x5, x6, x7, x8, x9, .int a, x11] st z Q = ZW zG d 188 108 [x0, x1, x2, x3, x4, x5, x6, x7, x8, x9, .int a, x11] (.int a :: st) z Q := zw_next (f := z_iload 10 108) rfl rfl
theorem s188_108 {x0 x1 x2 x3 x4 x5 x6 x7 x8 x9 x10 : Value} {a : Int32} : ZW zG d 188 108 [x0, x1, x2, x3, x4, x5, x6, x7, x8, x9, x10, .int a] st z Q = ZW zG d 188 110 [x0, x1, x2, x3, x4, x5, x6, x7, x8, x9, x10, .int a] (.int a :: st) z Q := zw_next (f := z_iload 11 110) rfl rfl
theorem s188_110 {x0 x1 x3 x4 x5 x6 x7 x8 x9 x10 x11 : Value} {a : Int32} : ZW zG d 188 110 [x0, x1, .int a, x3, x4, x5, x6, x7, x8, x9, x10, x11] st z Q = ZW zG d 188 111 [x0, x1, .int a, x3, x4, x5, x6, x7, x8, x9, x10, x11] (.int a :: st) z Q := zw_next (f := z_iload 2 111) rfl rfl
theorem s188_111 {ls : List Value} {w0 : Int32} {w1 : Int32} {w2 : Int32} {w3 : Int32} {r : Nat} : ZW zG (d + 1) 188 111 ls (.int w3 :: .int w2 :: .int w1 :: .int w0 :: .ref r :: st) z Q = (zcls z r = 12 ∧ zcs st = true ∧ ZC zG d 182 [.ref r, .int w0, .int w1, .int w2, .int w3] z (zk zG (d + 1) 188 (none) 114 ls st Q)) := zc_V4 rfl (Nat.le_of_ble_eq_true rfl)
theorem s188_114 {x0 x1 x2 x3 x4 x5 x6 x7 x8 x9 x10 : Value} {a : Int32} : ZW zG d 188 114 [x0, x1, x2, x3, x4, x5, x6, x7, x8, x9, x10, .int a] st z Q = ZW zG d 188 116 [x0, x1, x2, x3, x4, x5, x6, x7, x8, x9, x10, .int a] (.int a :: st) z Q := zw_next (f := z_iload 11 116) rfl rfl
theorem s188_116 {ls : List Value} {a : Int32} : ZW zG d 188 116 ls (.int a :: st) z Q = if ¬ a = 0 then ZW zG d 188 124 ls st z Q else ZW zG d 188 119 ls st z Q := zw_ifne rfl
theorem s188_119 {x0 x1 x2 x3 x4 x5 x6 x7 x8 x9 x11 : Value} {a : Int32} : ZW zG d 188 119 [x0, x1, x2, x3, x4, x5, x6, x7, x8, x9, .int a, x11] st z Q = ZW zG d 188 121 [x0, x1, x2, x3, x4, x5, x6, x7, x8, x9, .int a, x11] (.int a :: st) z Q := zw_next (f := z_iload 10 121) rfl rfl
theorem s188_121 {ls : List Value}  : ZW zG d 188 121 ls (st) z Q = ZW zG d 188 130 ls st z Q := zw_goto rfl
theorem s188_124 {x0 x1 x2 x3 x4 x5 x6 x7 x8 x9 x10 x11 : Value} : ZW zG d 188 124 [x0, x1, x2, x3, x4, x5, x6, x7, x8, x9, x10, x11] st z Q = (zir x0 = true ∧ ZW zG d 188 125 [x0, x1, x2, x3, x4, x5, x6, x7, x8, x9, x10, x11] (x0 :: st) z Q) := zw_cond (f := z_aload 0 125) rfl rfl
theorem s188_125 {x0 x1 x2 x3 x4 x5 x6 x7 x8 x9 x10 : Value} {a : Int32} : ZW zG d 188 125 [x0, x1, x2, x3, x4, x5, x6, x7, x8, x9, x10, .int a] st z Q = ZW zG d 188 127 [x0, x1, x2, x3, x4, x5, x6, x7, x8, x9, x10, .int a] (.int a :: st) z Q := zw_next (f := z_iload 11 127) rfl rfl
theorem s188_127 {ls : List Value} {w0 : Int32} {r : Nat} : ZW zG (d + 1) 188 127 ls (.int w0 :: .ref r :: st) z Q = (zcls z r = 12 ∧ zcs st = true ∧ ZC zG d 185 [.ref r, .int w0] z (zk zG (d + 1) 188 (none) 130 ls st Q)) := zc_V1 rfl (Nat.le_of_ble_eq_true rfl)
theorem s188_130 {x0 x1 x2 x3 x4 x5 x6 x7 x8 x9 x10 x11 : Value} : ZW zG d 188 130 [x0, x1, x2, x3, x4, x5, x6, x7, x8, x9, x10, x11] st z Q = (zir x0 = true ∧ ZW zG d 188 131 [x0, x1, x2, x3, x4, x5, x6, x7, x8, x9, x10, x11] (x0 :: st) z Q) := zw_cond (f := z_aload 0 131) rfl rfl
theorem s188_131 {ls : List Value} {r : Nat} : ZW zG d 188 131 ls (.ref r :: st) z Q = ((zcls z r = 12) ∧ ZW zG d 188 134 ls (.int (zfi z r 22) :: st) (z) Q) := zw_getI rfl
theorem s188_134 {ls : List Value} {a b : Int32} : ZW zG d 188 134 ls (.int b :: .int a :: st) z Q = if a = b then ZW zG d 188 140 ls st z Q else ZW zG d 188 137 ls st z Q := zw_iceq rfl
theorem s188_137 {ls : List Value}  : ZW zG d 188 137 ls (st) z Q = ZW zG d 188 148 ls st z Q := zw_goto rfl
theorem s188_140 {x0 x1 x2 x3 x4 x5 x6 x7 x8 x10 x11 : Value} {a : Int32} : ZW zG d 188 140 [x0, x1, x2, x3, x4, x5, x6, x7, x8, .int a, x10, x11] st z Q = ZW zG d 188 142 [x0, x1, x2, x3, x4, x5, x6, x7, x8, .int a, x10, x11] (.int a :: st) z Q := zw_next (f := z_iload 9 142) rfl rfl
theorem s188_142 {x0 x1 x2 x3 x4 x5 x6 x7 x8 x9 x10 x11 : Value} {a : Int32} : ZW zG d 188 142 [x0, x1, x2, x3, x4, x5, x6, x7, x8, x9, x10, x11] (.int a :: st) z Q = ZW zG d 188 144 [x0, x1, x2, x3, x4, x5, zclr x6, .int a, x8, x9, x10, x11] st z Q := zw_next (f := z_istore 7 144) rfl rfl
theorem s188_144 {x0 x1 x2 x3 x4 x5 x6 x7 x8 x9 x11 : Value} {a : Int32} : ZW zG d 188 144 [x0, x1, x2, x3, x4, x5, x6, x7, x8, x9, .int a, x11] st z Q = ZW zG d 188 146 [x0, x1, x2, x3, x4, x5, x6, x7, x8, x9, .int a, x11] (.int a :: st) z Q := zw_next (f := z_iload 10 146) rfl rfl
theorem s188_146 {x0 x1 x2 x3 x4 x5 x6 x7 x8 x9 x10 x11 : Value} {a : Int32} : ZW zG d 188 146 [x0, x1, x2, x3, x4, x5, x6, x7, x8, x9, x10, x11] (.int a :: st) z Q = ZW zG d 188 148 [x0, x1, x2, x3, x4, x5, x6, zclr x7, .int a, x9, x10, x11] st z Q := zw_next (f := z_istore 8 148) rfl rfl
theorem s188_148 {x0 x1 x2 x3 x4 x5 x6 x7 x8 x10 x11 : Value} {a : Int32} : ZW zG d 188 148 [x0, x1, x2, x3, x4, x5, x6, x7, x8, .int a, x10, x11] st z Q = ZW zG d 188 151 [x0, x1, x2, x3, x4, x5, x6, x7, zclr x8, .int (a + (nI 1)), x10, x11] st z Q := zw_next (f := z_iinc 9 (nI 1) 151) rfl rfl
theorem s188_151 {ls : List Value}  : ZW zG d 188 151 ls (st) z Q = ZW zG d 188 28 ls st z Q := zw_goto rfl
theorem s188_154 {x0 x1 x2 x3 x4 x5 x6 x7 x8 x9 x10 x11 : Value} : ZW zG d 188 154 [x0, x1, x2, x3, x4, x5, x6, x7, x8, x9, x10, x11] st z Q = (zir x0 = true ∧ ZW zG d 188 155 [x0, x1, x2, x3, x4, x5, x6, x7, x8, x9, x10, x11] (x0 :: st) z Q) := zw_cond (f := z_aload 0 155) rfl rfl
theorem s188_155 {ls : List Value} {r : Nat} : ZW zG d 188 155 ls (.ref r :: st) z Q = ((zcls z r = 12 ∧ zir (zfr z r 24) = true) ∧ ZW zG d 188 158 ls (zfr z r 24 :: st) (z) Q) := zw_getR rfl
theorem s188_158 {x0 x1 x2 x3 x4 x5 x7 x8 x9 x10 x11 : Value} {a : Int32} : ZW zG d 188 158 [x0, x1, x2, x3, x4, x5, .int a, x7, x8, x9, x10, x11] st z Q = ZW zG d 188 160 [x0, x1, x2, x3, x4, x5, .int a, x7, x8, x9, x10, x11] (.int a :: st) z Q := zw_next (f := z_iload 6 160) rfl rfl
theorem s188_160 {x0 x1 x2 x3 x4 x5 x6 x7 x8 x9 x10 x11 : Value} : ZW zG d 188 160 [x0, x1, x2, x3, x4, x5, x6, x7, x8, x9, x10, x11] st z Q = (zir x0 = true ∧ ZW zG d 188 161 [x0, x1, x2, x3, x4, x5, x6, x7, x8, x9, x10, x11] (x0 :: st) z Q) := zw_cond (f := z_aload 0 161) rfl rfl
theorem s188_161 {ls : List Value} {r : Nat} : ZW zG d 188 161 ls (.ref r :: st) z Q = ((zcls z r = 12 ∧ zir (zfr z r 16) = true) ∧ ZW zG d 188 164 ls (zfr z r 16 :: st) (z) Q) := zw_getR rfl
theorem s188_164 {x0 x1 x2 x3 x4 x5 x6 x8 x9 x10 x11 : Value} {a : Int32} : ZW zG d 188 164 [x0, x1, x2, x3, x4, x5, x6, .int a, x8, x9, x10, x11] st z Q = ZW zG d 188 166 [x0, x1, x2, x3, x4, x5, x6, .int a, x8, x9, x10, x11] (.int a :: st) z Q := zw_next (f := z_iload 7 166) rfl rfl
theorem s188_166 {ls : List Value} {a : Int32} {r : Nat} : ZW zG d 188 166 ls (.int a :: .ref r :: st) z Q = ((zcls z r = 50 ∧ zin a (zlen z r) = true) ∧ ZW zG d 188 167 ls (.int (zia z r (zx a)) :: st) (z) Q) := zw_iald rfl
theorem s188_167 {ls : List Value} {a b : Int32} {r : Nat} : ZW zG d 188 167 ls (.int b :: .int a :: .ref r :: st) z Q = ((zcls z r = 50 ∧ zin a (zlen z r) = true) ∧ ZW zG d 188 168 ls (st) (sia z r (zx a) (znar 50 b)) Q) := zw_iast rfl
theorem s188_168 {x0 x1 x2 x3 x4 x5 x7 x8 x9 x10 x11 : Value} {a : Int32} : ZW zG d 188 168 [x0, x1, x2, x3, x4, x5, .int a, x7, x8, x9, x10, x11] st z Q = ZW zG d 188 171 [x0, x1, x2, x3, x4, zclr x5, .int (a + (nI 1)), x7, x8, x9, x10, x11] st z Q := zw_next (f := z_iinc 6 (nI 1) 171) rfl rfl
theorem s188_171 {x0 x1 x2 x3 x4 x5 x6 x7 x8 x9 x10 x11 : Value} : ZW zG d 188 171 [x0, x1, x2, x3, x4, x5, x6, x7, x8, x9, x10, x11] st z Q = (zir x0 = true ∧ ZW zG d 188 172 [x0, x1, x2, x3, x4, x5, x6, x7, x8, x9, x10, x11] (x0 :: st) z Q) := zw_cond (f := z_aload 0 172) rfl rfl
theorem s188_172 {ls : List Value} {r : Nat} : ZW zG d 188 172 ls (.ref r :: st) z Q = ((zcls z r = 12 ∧ zir (zfr z r 16) = true) ∧ ZW zG d 188 175 ls (zfr z r 16 :: st) (z) Q) := zw_getR rfl
theorem s188_175 {x0 x1 x2 x3 x4 x5 x6 x8 x9 x10 x11 : Value} {a : Int32} : ZW zG d 188 175 [x0, x1, x2, x3, x4, x5, x6, .int a, x8, x9, x10, x11] st z Q = ZW zG d 188 177 [x0, x1, x2, x3, x4, x5, x6, .int a, x8, x9, x10, x11] (.int a :: st) z Q := zw_next (f := z_iload 7 177) rfl rfl
theorem s188_177 {ls : List Value} {a : Int32} {r : Nat} : ZW zG d 188 177 ls (.int a :: .ref r :: st) z Q = ((zcls z r = 50 ∧ zin a (zlen z r) = true) ∧ ZW zG d 188 178 ls (.int (zia z r (zx a)) :: st) (z) Q) := zw_iald rfl
theorem s188_178 {x0 x1 x2 x3 x4 x5 x6 x7 x8 x9 x10 x11 : Value} {a : Int32} : ZW zG d 188 178 [x0, x1, x2, x3, x4, x5, x6, x7, x8, x9, x10, x11] (.int a :: st) z Q = ZW zG d 188 179 [x0, x1, zclr x2, .int a, x4, x5, x6, x7, x8, x9, x10, x11] st z Q := zw_next (f := z_istore 3 179) rfl rfl
theorem s188_179 {x0 x1 x2 x3 x4 x5 x6 x7 x9 x10 x11 : Value} {a : Int32} : ZW zG d 188 179 [x0, x1, x2, x3, x4, x5, x6, x7, .int a, x9, x10, x11] st z Q = ZW zG d 188 181 [x0, x1, x2, x3, x4, x5, x6, x7, .int a, x9, x10, x11] (.int a :: st) z Q := zw_next (f := z_iload 8 181) rfl rfl
theorem s188_181 {x0 x1 x2 x3 x4 x5 x6 x7 x8 x9 x10 x11 : Value} {a : Int32} : ZW zG d 188 181 [x0, x1, x2, x3, x4, x5, x6, x7, x8, x9, x10, x11] (.int a :: st) z Q = ZW zG d 188 183 [x0, x1, x2, zclr x3, .int a, x5, x6, x7, x8, x9, x10, x11] st z Q := zw_next (f := z_istore 4 183) rfl rfl
theorem s188_183 {x0 x1 x2 x3 x4 x6 x7 x8 x9 x10 x11 : Value} {a : Int32} : ZW zG d 188 183 [x0, x1, x2, x3, x4, .int a, x6, x7, x8, x9, x10, x11] st z Q = ZW zG d 188 185 [x0, x1, x2, x3, x4, .int a, x6, x7, x8, x9, x10, x11] (.int a :: st) z Q := zw_next (f := z_iload 5 185) rfl rfl
theorem s188_185 {ls : List Value}  : ZW zG d 188 185 ls (st) z Q = ZW zG d 188 186 ls ((.int (nI 1)) :: st) z Q := zw_push rfl
theorem s188_186 {x0 x1 x2 x3 x4 x5 x6 x8 x9 x10 x11 : Value} {a : Int32} : ZW zG d 188 186 [x0, x1, x2, x3, x4, x5, x6, .int a, x8, x9, x10, x11] st z Q = ZW zG d 188 188 [x0, x1, x2, x3, x4, x5, x6, .int a, x8, x9, x10, x11] (.int a :: st) z Q := zw_next (f := z_iload 7 188) rfl rfl
theorem s188_188 {ls : List Value} {a b : Int32} : ZW zG d 188 188 ls (.int b :: .int a :: st) z Q = ZW zG d 188 189 ls (.int (a <<< (b &&& 31)) :: st) z Q := zw_ishl rfl
theorem s188_189 {ls : List Value}  : ZW zG d 188 189 ls (st) z Q = ZW zG d 188 190 ls ((.int (-1)) :: st) z Q := zw_push rfl
theorem s188_190 {ls : List Value} {a b : Int32} : ZW zG d 188 190 ls (.int b :: .int a :: st) z Q = ZW zG d 188 191 ls (.int (a ^^^ b) :: st) z Q := zw_ixor rfl
theorem s188_191 {ls : List Value} {a b : Int32} : ZW zG d 188 191 ls (.int b :: .int a :: st) z Q = ZW zG d 188 192 ls (.int (a &&& b) :: st) z Q := zw_iand rfl
theorem s188_192 {x0 x1 x2 x3 x4 x5 x6 x7 x8 x9 x10 x11 : Value} {a : Int32} : ZW zG d 188 192 [x0, x1, x2, x3, x4, x5, x6, x7, x8, x9, x10, x11] (.int a :: st) z Q = ZW zG d 188 194 [x0, x1, x2, x3, zclr x4, .int a, x6, x7, x8, x9, x10, x11] st z Q := zw_next (f := z_istore 5 194) rfl rfl
theorem s188_194 {ls : List Value}  : ZW zG d 188 194 ls (st) z Q = ZW zG d 188 14 ls st z Q := zw_goto rfl
theorem s188_197 {ls : List Value}  : ZW zG d 188 197 ls ([]) z Q = Q (.inl none) z := zw_ret rfl
/-- X12_may (III)I -/
theorem e189 {r0 : Nat} {v0 : Int32} {v1 : Int32} {v2 : Int32} : ZC zG d 189 [.ref r0, .int v0, .int v1, .int v2] z Q = ZW zG d 189 0 [.ref r0, .int v0, .int v1, .int v2, zdum, zdum, zdum, zdum, zdum, zdum, zdum] [] z Q := rfl
theorem s189_0 {x0 x2 x3 x4 x5 x6 x7 x8 x9 x10 : Value} {a : Int32} : ZW zG d 189 0 [x0, .int a, x2, x3, x4, x5, x6, x7, x8, x9, x10] st z Q = ZW zG d 189 1 [x0, .int a, x2, x3, x4, x5, x6, x7, x8, x9, x10] (.int a :: st) z Q := zw_next (f := z_iload 1 1) rfl rfl
theorem s189_1 {ls : List Value} {w0 : Int32} : ZW zG (d + 1) 189 1 ls (.int w0 :: st) z Q = (zcs st = true ∧ ZC zG d 169 [.int w0] z (zk zG (d + 1) 189 (none) 4 ls st Q)) := zc_S1 rfl (Nat.le_of_ble_eq_true rfl)
theorem s189_4 {ls : List Value} {a : Int32} : ZW zG d 189 4 ls (.int a :: st) z Q = if a = 0 then ZW zG d 189 16 ls st z Q else ZW zG d 189 7 ls st z Q := zw_ifeq rfl
theorem s189_7 {x0 x1 x2 x3 x4 x5 x6 x7 x8 x9 x10 : Value} : ZW zG d 189 7 [x0, x1, x2, x3, x4, x5, x6, x7, x8, x9, x10] st z Q = (zir x0 = true ∧ ZW zG d 189 8 [x0, x1, x2, x3, x4, x5, x6, x7, x8, x9, x10] (x0 :: st) z Q) := zw_cond (f := z_aload 0 8) rfl rfl
theorem s189_8 {x0 x1 x3 x4 x5 x6 x7 x8 x9 x10 : Value} {a : Int32} : ZW zG d 189 8 [x0, x1, .int a, x3, x4, x5, x6, x7, x8, x9, x10] st z Q = ZW zG d 189 9 [x0, x1, .int a, x3, x4, x5, x6, x7, x8, x9, x10] (.int a :: st) z Q := zw_next (f := z_iload 2 9) rfl rfl
theorem s189_9 {x0 x1 x2 x4 x5 x6 x7 x8 x9 x10 : Value} {a : Int32} : ZW zG d 189 9 [x0, x1, x2, .int a, x4, x5, x6, x7, x8, x9, x10] st z Q = ZW zG d 189 10 [x0, x1, x2, .int a, x4, x5, x6, x7, x8, x9, x10] (.int a :: st) z Q := zw_next (f := z_iload 3 10) rfl rfl
theorem s189_10 {ls : List Value} {w0 : Int32} {w1 : Int32} {r : Nat} : ZW zG (d + 1) 189 10 ls (.int w1 :: .int w0 :: .ref r :: st) z Q = (zcls z r = 12 ∧ zcs st = true ∧ ZC zG d 178 [.ref r, .int w0, .int w1] z (zk zG (d + 1) 189 (none) 13 ls st Q)) := zc_V2 rfl (Nat.le_of_ble_eq_true rfl)
theorem s189_13 {ls : List Value} {a : Int32} : ZW zG d 189 13 ls (.int a :: st) z Q = if ¬ a = 0 then ZW zG d 189 19 ls st z Q else ZW zG d 189 16 ls st z Q := zw_ifne rfl
theorem s189_16 {ls : List Value}  : ZW zG d 189 16 ls (st) z Q = ZW zG d 189 18 ls ((.int (-2)) :: st) z Q := zw_push rfl
theorem s189_18 {ls : List Value} {a : Int32} : ZW zG d 189 18 ls ([.int a]) z Q = Q (.inl (some (.int a))) z := zw_reti rfl
theorem s189_19 {x0 x1 x2 x3 x4 x5 x6 x7 x8 x9 x10 : Value} : ZW zG d 189 19 [x0, x1, x2, x3, x4, x5, x6, x7, x8, x9, x10] st z Q = (zir x0 = true ∧ ZW zG d 189 20 [x0, x1, x2, x3, x4, x5, x6, x7, x8, x9, x10] (x0 :: st) z Q) := zw_cond (f := z_aload 0 20) rfl rfl
theorem s189_20 {ls : List Value} {r : Nat} : ZW zG d 189 20 ls (.ref r :: st) z Q = ((zcls z r = 12 ∧ zir (zfr z r 37) = true) ∧ ZW zG d 189 23 ls (zfr z r 37 :: st) (z) Q) := zw_getR rfl
theorem s189_23 {x0 x2 x3 x4 x5 x6 x7 x8 x9 x10 : Value} {a : Int32} : ZW zG d 189 23 [x0, .int a, x2, x3, x4, x5, x6, x7, x8, x9, x10] st z Q = ZW zG d 189 24 [x0, .int a, x2, x3, x4, x5, x6, x7, x8, x9, x10] (.int a :: st) z Q := zw_next (f := z_iload 1 24) rfl rfl
theorem s189_24 {ls : List Value} {a : Int32} {r : Nat} : ZW zG d 189 24 ls (.int a :: .ref r :: st) z Q = ((zcls z r = 50 ∧ zin a (zlen z r) = true) ∧ ZW zG d 189 25 ls (.int (zia z r (zx a)) :: st) (z) Q) := zw_iald rfl
theorem s189_25 {ls : List Value}  : ZW zG d 189 25 ls (st) z Q = ZW zG d 189 26 ls ((.int (-1)) :: st) z Q := zw_push rfl
theorem s189_26 {ls : List Value} {a b : Int32} : ZW zG d 189 26 ls (.int b :: .int a :: st) z Q = if ¬ a = b then ZW zG d 189 32 ls st z Q else ZW zG d 189 29 ls st z Q := zw_icne rfl
theorem s189_29 {ls : List Value}  : ZW zG d 189 29 ls (st) z Q = ZW zG d 189 31 ls ((.int (-6)) :: st) z Q := zw_push rfl
theorem s189_31 {ls : List Value} {a : Int32} : ZW zG d 189 31 ls ([.int a]) z Q = Q (.inl (some (.int a))) z := zw_reti rfl
theorem s189_32 {x0 x1 x2 x3 x4 x5 x6 x7 x8 x9 x10 : Value} : ZW zG d 189 32 [x0, x1, x2, x3, x4, x5, x6, x7, x8, x9, x10] st z Q = (zir x0 = true ∧ ZW zG d 189 33 [x0, x1, x2, x3, x4, x5, x6, x7, x8, x9, x10] (x0 :: st) z Q) := zw_cond (f := z_aload 0 33) rfl rfl
theorem s189_33 {x0 x1 x3 x4 x5 x6 x7 x8 x9 x10 : Value} {a : Int32} : ZW zG d 189 33 [x0, x1, .int a, x3, x4, x5, x6, x7, x8, x9, x10] st z Q = ZW zG d 189 34 [x0, x1, .int a, x3, x4, x5, x6, x7, x8, x9, x10] (.int a :: st) z Q := zw_next (f := z_iload 2 34) rfl rfl
theorem s189_34 {ls : List Value} {w0 : Int32} {r : Nat} : ZW zG (d + 1) 189 34 ls (.int w0 :: .ref r :: st) z Q = (zcls z r = 12 ∧ zcs st = true ∧ ZC zG d 181 [.ref r, .int w0] z (zk zG (d + 1) 189 (none) 37 ls st Q)) := zc_V1 rfl (Nat.le_of_ble_eq_true rfl)
theorem s189_37 {ls : List Value}  : ZW zG d 189 37 ls (st) z Q = ZW zG d 189 38 ls ((.int (nI 0)) :: st) z Q := zw_push rfl
theorem s189_38 {x0 x1 x2 x3 x4 x5 x6 x7 x8 x9 x10 : Value} {a : Int32} : ZW zG d 189 38 [x0, x1, x2, x3, x4, x5, x6, x7, x8, x9, x10] (.int a :: st) z Q = ZW zG d 189 40 [x0, x1, x2, zclr x3, .int a, x5, x6, x7, x8, x9, x10] st z Q := zw_next (f := z_istore 4 40) rfl rfl
theorem s189_40 {x0 x1 x3 x4 x5 x6 x7 x8 x9 x10 : Value} {a : Int32} : ZW zG d 189 40 [x0, x1, .int a, x3, x4, x5, x6, x7, x8, x9, x10] st z Q = ZW zG d 189 41 [x0, x1, .int a, x3, x4, x5, x6, x7, x8, x9, x10] (.int a :: st) z Q := zw_next (f := z_iload 2 41) rfl rfl
theorem s189_41 {x0 x1 x2 x3 x4 x5 x6 x7 x8 x9 x10 : Value} {a : Int32} : ZW zG d 189 41 [x0, x1, x2, x3, x4, x5, x6, x7, x8, x9, x10] (.int a :: st) z Q = ZW zG d 189 43 [x0, x1, x2, x3, zclr x4, .int a, x6, x7, x8, x9, x10] st z Q := zw_next (f := z_istore 5 43) rfl rfl
theorem s189_43 {ls : List Value}  : ZW zG d 189 43 ls (st) z Q = ZW zG d 189 44 ls ((.int (nI 0)) :: st) z Q := zw_push rfl
theorem s189_44 {x0 x1 x2 x3 x4 x5 x6 x7 x8 x9 x10 : Value} {a : Int32} : ZW zG d 189 44 [x0, x1, x2, x3, x4, x5, x6, x7, x8, x9, x10] (.int a :: st) z Q = ZW zG d 189 46 [x0, x1, x2, x3, x4, zclr x5, .int a, x7, x8, x9, x10] st z Q := zw_next (f := z_istore 6 46) rfl rfl
theorem s189_46 {ls : List Value}  : ZW zG d 189 46 ls (st) z Q = ZW zG d 189 47 ls ((.int (nI 0)) :: st) z Q := zw_push rfl
theorem s189_47 {x0 x1 x2 x3 x4 x5 x6 x7 x8 x9 x10 : Value} {a : Int32} : ZW zG d 189 47 [x0, x1, x2, x3, x4, x5, x6, x7, x8, x9, x10] (.int a :: st) z Q = ZW zG d 189 49 [x0, x1, x2, x3, x4, x5, zclr x6, .int a, x8, x9, x10] st z Q := zw_next (f := z_istore 7 49) rfl rfl
theorem s189_49 {x0 x1 x2 x3 x4 x5 x6 x8 x9 x10 : Value} {a : Int32} : ZW zG d 189 49 [x0, x1, x2, x3, x4, x5, x6, .int a, x8, x9, x10] st z Q = ZW zG d 189 51 [x0, x1, x2, x3, x4, x5, x6, .int a, x8, x9, x10] (.int a :: st) z Q := zw_next (f := z_iload 7 51) rfl rfl
theorem s189_51 {x0 x1 x2 x3 x4 x5 x6 x7 x8 x9 x10 : Value} : ZW zG d 189 51 [x0, x1, x2, x3, x4, x5, x6, x7, x8, x9, x10] st z Q = (zir x0 = true ∧ ZW zG d 189 52 [x0, x1, x2, x3, x4, x5, x6, x7, x8, x9, x10] (x0 :: st) z Q) := zw_cond (f := z_aload 0 52) rfl rfl
theorem s189_52 {ls : List Value} {r : Nat} : ZW zG d 189 52 ls (.ref r :: st) z Q = ((zcls z r = 12 ∧ zir (zfr z r 37) = true) ∧ ZW zG d 189 55 ls (zfr z r 37 :: st) (z) Q) := zw_getR rfl
theorem s189_55 {x0 x2 x3 x4 x5 x6 x7 x8 x9 x10 : Value} {a : Int32} : ZW zG d 189 55 [x0, .int a, x2, x3, x4, x5, x6, x7, x8, x9, x10] st z Q = ZW zG d 189 56 [x0, .int a, x2, x3, x4, x5, x6, x7, x8, x9, x10] (.int a :: st) z Q := zw_next (f := z_iload 1 56) rfl rfl
theorem s189_56 {ls : List Value} {a : Int32} {r : Nat} : ZW zG d 189 56 ls (.int a :: .ref r :: st) z Q = ((zcls z r = 50 ∧ zin a (zlen z r) = true) ∧ ZW zG d 189 57 ls (.int (zia z r (zx a)) :: st) (z) Q) := zw_iald rfl
theorem s189_57 {ls : List Value} {a b : Int32} : ZW zG d 189 57 ls (.int b :: .int a :: st) z Q = if b ≤ a then ZW zG d 189 161 ls st z Q else ZW zG d 189 60 ls st z Q := zw_icge rfl
theorem s189_60 {x0 x1 x2 x3 x4 x5 x6 x7 x8 x9 x10 : Value} : ZW zG d 189 60 [x0, x1, x2, x3, x4, x5, x6, x7, x8, x9, x10] st z Q = (zir x0 = true ∧ ZW zG d 189 61 [x0, x1, x2, x3, x4, x5, x6, x7, x8, x9, x10] (x0 :: st) z Q) := zw_cond (f := z_aload 0 61) rfl rfl
theorem s189_61 {ls : List Value} {r : Nat} : ZW zG d 189 61 ls (.ref r :: st) z Q = ((zcls z r = 12 ∧ zir (zfr z r 39) = true) ∧ ZW zG d 189 64 ls (zfr z r 39 :: st) (z) Q) := zw_getR rfl
theorem s189_64 {ls : List Value}  : ZW zG d 189 64 ls (st) z Q = ZW zG d 189 66 ls ((.int (nI 60)) :: st) z Q := zw_push rfl
theorem s189_66 {x0 x2 x3 x4 x5 x6 x7 x8 x9 x10 : Value} {a : Int32} : ZW zG d 189 66 [x0, .int a, x2, x3, x4, x5, x6, x7, x8, x9, x10] st z Q = ZW zG d 189 67 [x0, .int a, x2, x3, x4, x5, x6, x7, x8, x9, x10] (.int a :: st) z Q := zw_next (f := z_iload 1 67) rfl rfl
theorem s189_67 {ls : List Value} {a b : Int32} : ZW zG d 189 67 ls (.int b :: .int a :: st) z Q = ZW zG d 189 68 ls (.int (a * b) :: st) z Q := zw_imul rfl
theorem s189_68 {x0 x1 x2 x3 x4 x5 x6 x8 x9 x10 : Value} {a : Int32} : ZW zG d 189 68 [x0, x1, x2, x3, x4, x5, x6, .int a, x8, x9, x10] st z Q = ZW zG d 189 70 [x0, x1, x2, x3, x4, x5, x6, .int a, x8, x9, x10] (.int a :: st) z Q := zw_next (f := z_iload 7 70) rfl rfl
theorem s189_70 {ls : List Value} {a b : Int32} : ZW zG d 189 70 ls (.int b :: .int a :: st) z Q = ZW zG d 189 71 ls (.int (a + b) :: st) z Q := zw_iadd rfl
theorem s189_71 {ls : List Value} {a : Int32} {r : Nat} : ZW zG d 189 71 ls (.int a :: .ref r :: st) z Q = ((zcls z r = 51 ∧ zin a (zlen z r) = true) ∧ ZW zG d 189 72 ls (.long (zla z r (zx a)) :: st) (z) Q) := zw_lald rfl
theorem s189_72 {x0 x1 x2 x3 x4 x5 x6 x7 x8 x9 x10 : Value} {a : Int64} : ZW zG d 189 72 [x0, x1, x2, x3, x4, x5, x6, x7, x8, x9, x10] (.long a :: st) z Q = ZW zG d 189 74 [x0, x1, x2, x3, x4, x5, x6, zclr x7, .long a, zdum, x10] st z Q := zw_next (f := z_lstore 8 74) rfl rfl
theorem s189_74 {x0 x1 x2 x3 x4 x5 x6 x7 x9 x10 : Value} {a : Int64} : ZW zG d 189 74 [x0, x1, x2, x3, x4, x5, x6, x7, .long a, x9, x10] st z Q = ZW zG d 189 76 [x0, x1, x2, x3, x4, x5, x6, x7, .long a, x9, x10] (.long a :: st) z Q := zw_next (f := z_lload 8 76) rfl rfl
theorem s189_76 {ls : List Value}  : ZW zG d 189 76 ls (st) z Q = ZW zG d 189 77 ls ((.long (lN 0)) :: st) z Q := zw_push rfl
theorem s189_77 {x0 x1 x2 x3 x4 x5 x6 x7 x8 x9 x10 : Value} : ZW zG d 189 77 [x0, x1, x2, x3, x4, x5, x6, x7, x8, x9, x10] st z Q = (zir x0 = true ∧ ZW zG d 189 78 [x0, x1, x2, x3, x4, x5, x6, x7, x8, x9, x10] (x0 :: st) z Q) := zw_cond (f := z_aload 0 78) rfl rfl
theorem s189_78 {ls : List Value} {r : Nat} : ZW zG d 189 78 ls (.ref r :: st) z Q = ((zcls z r = 12 ∧ zir (zfr z r 1) = true) ∧ ZW zG d 189 81 ls (zfr z r 1 :: st) (z) Q) := zw_getR rfl
theorem s189_81 {ls : List Value}  : ZW zG d 189 81 ls (st) z Q = ZW zG d 189 82 ls ((.int (nI 0)) :: st) z Q := zw_push rfl
theorem s189_82 {ls : List Value} {a : Int32} {r : Nat} : ZW zG d 189 82 ls (.int a :: .ref r :: st) z Q = ((zcls z r = 50 ∧ zin a (zlen z r) = true) ∧ ZW zG d 189 83 ls (.int (zia z r (zx a)) :: st) (z) Q) := zw_iald rfl
theorem s189_83 {ls : List Value}  : ZW zG d 189 83 ls (st) z Q = ZW zG d 189 84 ls ((.int (nI 1)) :: st) z Q := zw_push rfl
theorem s189_84 {ls : List Value} {a b : Int32} : ZW zG d 189 84 ls (.int b :: .int a :: st) z Q = ZW zG d 189 85 ls (.int (a - b) :: st) z Q := zw_isub rfl
theorem s189_85 {ls : List Value} {a : Int32} : ZW zG d 189 85 ls (.int a :: st) z Q = ZW zG d 189 86 ls (.long a.toInt64 :: st) z Q := zw_i2l rfl
theorem s189_86 {ls : List Value} {w0 : Int64} {w1 : Int64} {w2 : Int64} : ZW zG (d + 1) 189 86 ls (.long w2 :: .long w1 :: .long w0 :: st) z Q = (zcs st = true ∧ ZC zG d 114 [.long w0, .long w1, .long w2] z (zk zG (d + 1) 189 (none) 89 ls st Q)) := zc_S3 rfl (Nat.le_of_ble_eq_true rfl)
theorem s189_89 {ls : List Value} {a : Int32} : ZW zG d 189 89 ls (.int a :: st) z Q = if ¬ a = 0 then ZW zG d 189 94 ls st z Q else ZW zG d 189 92 ls st z Q := zw_ifne rfl
theorem s189_92 {ls : List Value}  : ZW zG d 189 92 ls (st) z Q = ZW zG d 189 93 ls ((.int (nI 0)) :: st) z Q := zw_push rfl
theorem s189_93 {ls : List Value} {a : Int32} : ZW zG d 189 93 ls ([.int a]) z Q = Q (.inl (some (.int a))) z := zw_reti rfl
theorem s189_94 {x0 x1 x2 x3 x4 x5 x6 x7 x9 x10 : Value} {a : Int64} : ZW zG d 189 94 [x0, x1, x2, x3, x4, x5, x6, x7, .long a, x9, x10] st z Q = ZW zG d 189 96 [x0, x1, x2, x3, x4, x5, x6, x7, .long a, x9, x10] (.long a :: st) z Q := zw_next (f := z_lload 8 96) rfl rfl
theorem s189_96 {ls : List Value} {x : Int64} : ZW zG d 189 96 ls (.long x :: st) z Q = ZW zG d 189 97 ls (.int x.toInt32 :: st) z Q := zw_l2i rfl
theorem s189_97 {x0 x1 x2 x3 x4 x5 x6 x7 x8 x9 x10 : Value} {a : Int32} : ZW zG d 189 97 [x0, x1, x2, x3, x4, x5, x6, x7, x8, x9, x10] (.int a :: st) z Q = ZW zG d 189 99 [x0, x1, x2, x3, x4, x5, x6, x7, x8, zclr x9, .int a] st z Q := zw_next (f := z_istore 10 99) rfl rfl
theorem s189_99 {x0 x1 x2 x3 x5 x6 x7 x8 x9 x10 : Value} {a : Int32} : ZW zG d 189 99 [x0, x1, x2, x3, .int a, x5, x6, x7, x8, x9, x10] st z Q = ZW zG d 189 101 [x0, x1, x2, x3, .int a, x5, x6, x7, x8, x9, x10] (.int a :: st) z Q := zw_next (f := z_iload 4 101) rfl rfl
theorem s189_101 {x0 x1 x2 x3 x4 x5 x6 x7 x8 x9 : Value} {a : Int32} : ZW zG d 189 101 [x0, x1, x2, x3, x4, x5, x6, x7, x8, x9, .int a] st z Q = ZW zG d 189 103 [x0, x1, x2, x3, x4, x5, x6, x7, x8, x9, .int a] (.int a :: st) z Q := zw_next (f := z_iload 10 103) rfl rfl
theorem s189_103 {ls : List Value} {w0 : Int32} {w1 : Int32} : ZW zG (d + 1) 189 103 ls (.int w1 :: .int w0 :: st) z Q = (zcs st = true ∧ ZC zG d 149 [.int w0, .int w1] z (zk zG (d + 1) 189 (none) 106 ls st Q)) := zc_S2 rfl (Nat.le_of_ble_eq_true rfl)
theorem s189_106 {ls : List Value} {a : Int32} : ZW zG d 189 106 ls (.int a :: st) z Q = if ¬ a = 0 then ZW zG d 189 119 ls st z Q else ZW zG d 189 109 ls st z Q := zw_ifne rfl
theorem s189_109 {x0 x1 x2 x3 x4 x5 x6 x7 x8 x9 x10 : Value} : ZW zG d 189 109 [x0, x1, x2, x3, x4, x5, x6, x7, x8, x9, x10] st z Q = (zir x0 = true ∧ ZW zG d 189 110 [x0, x1, x2, x3, x4, x5, x6, x7, x8, x9, x10] (x0 :: st) z Q) := zw_cond (f := z_aload 0 110) rfl rfl
theorem s189_110 {ls : List Value} {r : Nat} : ZW zG d 189 110 ls (.ref r :: st) z Q = ((zcls z r = 12 ∧ zir (zfr z r 18) = true) ∧ ZW zG d 189 113 ls (zfr z r 18 :: st) (z) Q) := zw_getR rfl
theorem s189_113 {x0 x1 x2 x3 x4 x5 x6 x7 x8 x9 : Value} {a : Int32} : ZW zG d 189 113 [x0, x1, x2, x3, x4, x5, x6, x7, x8, x9, .int a] st z Q = ZW zG d 189 115 [x0, x1, x2, x3, x4, x5, x6, x7, x8, x9, .int a] (.int a :: st) z Q := zw_next (f := z_iload 10 115) rfl rfl
theorem s189_115 {ls : List Value} {a : Int32} {r : Nat} : ZW zG d 189 115 ls (.int a :: .ref r :: st) z Q = ((zcls z r = 50 ∧ zin a (zlen z r) = true) ∧ ZW zG d 189 116 ls (.int (zia z r (zx a)) :: st) (z) Q) := zw_iald rfl
theorem s189_116 {ls : List Value} {a : Int32} : ZW zG d 189 116 ls (.int a :: st) z Q = if ¬ a = 0 then ZW zG d 189 121 ls st z Q else ZW zG d 189 119 ls st z Q := zw_ifne rfl
theorem s189_119 {ls : List Value}  : ZW zG d 189 119 ls (st) z Q = ZW zG d 189 120 ls ((.int (nI 0)) :: st) z Q := zw_push rfl
theorem s189_120 {ls : List Value} {a : Int32} : ZW zG d 189 120 ls ([.int a]) z Q = Q (.inl (some (.int a))) z := zw_reti rfl
theorem s189_121 {x0 x1 x2 x3 x5 x6 x7 x8 x9 x10 : Value} {a : Int32} : ZW zG d 189 121 [x0, x1, x2, x3, .int a, x5, x6, x7, x8, x9, x10] st z Q = ZW zG d 189 123 [x0, x1, x2, x3, .int a, x5, x6, x7, x8, x9, x10] (.int a :: st) z Q := zw_next (f := z_iload 4 123) rfl rfl
theorem s189_123 {ls : List Value}  : ZW zG d 189 123 ls (st) z Q = ZW zG d 189 124 ls ((.int (nI 1)) :: st) z Q := zw_push rfl
theorem s189_124 {x0 x1 x2 x3 x4 x5 x6 x7 x8 x9 : Value} {a : Int32} : ZW zG d 189 124 [x0, x1, x2, x3, x4, x5, x6, x7, x8, x9, .int a] st z Q = ZW zG d 189 126 [x0, x1, x2, x3, x4, x5, x6, x7, x8, x9, .int a] (.int a :: st) z Q := zw_next (f := z_iload 10 126) rfl rfl
theorem s189_126 {ls : List Value} {a b : Int32} : ZW zG d 189 126 ls (.int b :: .int a :: st) z Q = ZW zG d 189 127 ls (.int (a <<< (b &&& 31)) :: st) z Q := zw_ishl rfl
theorem s189_127 {ls : List Value} {a b : Int32} : ZW zG d 189 127 ls (.int b :: .int a :: st) z Q = ZW zG d 189 128 ls (.int (a ||| b) :: st) z Q := zw_ior rfl
theorem s189_128 {x0 x1 x2 x3 x4 x5 x6 x7 x8 x9 x10 : Value} {a : Int32} : ZW zG d 189 128 [x0, x1, x2, x3, x4, x5, x6, x7, x8, x9, x10] (.int a :: st) z Q = ZW zG d 189 130 [x0, x1, x2, zclr x3, .int a, x5, x6, x7, x8, x9, x10] st z Q := zw_next (f := z_istore 4 130) rfl rfl
theorem s189_130 {x0 x1 x2 x3 x4 x5 x6 x7 x8 x9 x10 : Value} : ZW zG d 189 130 [x0, x1, x2, x3, x4, x5, x6, x7, x8, x9, x10] st z Q = (zir x0 = true ∧ ZW zG d 189 131 [x0, x1, x2, x3, x4, x5, x6, x7, x8, x9, x10] (x0 :: st) z Q) := zw_cond (f := z_aload 0 131) rfl rfl
theorem s189_131 {x0 x1 x2 x3 x4 x6 x7 x8 x9 x10 : Value} {a : Int32} : ZW zG d 189 131 [x0, x1, x2, x3, x4, .int a, x6, x7, x8, x9, x10] st z Q = ZW zG d 189 133 [x0, x1, x2, x3, x4, .int a, x6, x7, x8, x9, x10] (.int a :: st) z Q := zw_next (f := z_iload 5 133) rfl rfl
theorem s189_133 {x0 x1 x2 x3 x4 x5 x7 x8 x9 x10 : Value} {a : Int32} : ZW zG d 189 133 [x0, x1, x2, x3, x4, x5, .int a, x7, x8, x9, x10] st z Q = ZW zG d 189 135 [x0, x1, x2, x3, x4, x5, .int a, x7, x8, x9, x10] (.int a :: st) z Q := zw_next (f := z_iload 6 135) rfl rfl
theorem s189_135 {x0 x1 x2 x3 x4 x5 x6 x7 x8 x9 : Value} {a : Int32} : ZW zG d 189 135 [x0, x1, x2, x3, x4, x5, x6, x7, x8, x9, .int a] st z Q = ZW zG d 189 137 [x0, x1, x2, x3, x4, x5, x6, x7, x8, x9, .int a] (.int a :: st) z Q := zw_next (f := z_iload 10 137) rfl rfl
theorem s189_137 {x0 x1 x2 x4 x5 x6 x7 x8 x9 x10 : Value} {a : Int32} : ZW zG d 189 137 [x0, x1, x2, .int a, x4, x5, x6, x7, x8, x9, x10] st z Q = ZW zG d 189 138 [x0, x1, x2, .int a, x4, x5, x6, x7, x8, x9, x10] (.int a :: st) z Q := zw_next (f := z_iload 3 138) rfl rfl
theorem s189_138 {ls : List Value} {w0 : Int32} {w1 : Int32} {w2 : Int32} {w3 : Int32} {r : Nat} : ZW zG (d + 1) 189 138 ls (.int w3 :: .int w2 :: .int w1 :: .int w0 :: .ref r :: st) z Q = (zcls z r = 12 ∧ zcs st = true ∧ ZC zG d 183 [.ref r, .int w0, .int w1, .int w2, .int w3] z (zk zG (d + 1) 189 (none) 141 ls st Q)) := zc_V4 rfl (Nat.le_of_ble_eq_true rfl)
theorem s189_141 {x0 x1 x2 x3 x4 x5 x6 x7 x8 x9 x10 : Value} {a : Int32} : ZW zG d 189 141 [x0, x1, x2, x3, x4, x5, x6, x7, x8, x9, x10] (.int a :: st) z Q = ZW zG d 189 143 [x0, x1, x2, x3, x4, zclr x5, .int a, x7, x8, x9, x10] st z Q := zw_next (f := z_istore 6 143) rfl rfl
theorem s189_143 {x0 x1 x2 x3 x4 x5 x7 x8 x9 x10 : Value} {a : Int32} : ZW zG d 189 143 [x0, x1, x2, x3, x4, x5, .int a, x7, x8, x9, x10] st z Q = ZW zG d 189 145 [x0, x1, x2, x3, x4, x5, .int a, x7, x8, x9, x10] (.int a :: st) z Q := zw_next (f := z_iload 6 145) rfl rfl
theorem s189_145 {ls : List Value}  : ZW zG d 189 145 ls (st) z Q = ZW zG d 189 146 ls ((.int (-1)) :: st) z Q := zw_push rfl
theorem s189_146 {ls : List Value} {a b : Int32} : ZW zG d 189 146 ls (.int b :: .int a :: st) z Q = if ¬ a = b then ZW zG d 189 151 ls st z Q else ZW zG d 189 149 ls st z Q := zw_icne rfl
theorem s189_149 {ls : List Value}  : ZW zG d 189 149 ls (st) z Q = ZW zG d 189 150 ls ((.int (nI 0)) :: st) z Q := zw_push rfl
theorem s189_150 {ls : List Value} {a : Int32} : ZW zG d 189 150 ls ([.int a]) z Q = Q (.inl (some (.int a))) z := zw_reti rfl
theorem s189_151 {x0 x1 x2 x3 x4 x5 x6 x7 x8 x9 : Value} {a : Int32} : ZW zG d 189 151 [x0, x1, x2, x3, x4, x5, x6, x7, x8, x9, .int a] st z Q = ZW zG d 189 153 [x0, x1, x2, x3, x4, x5, x6, x7, x8, x9, .int a] (.int a :: st) z Q := zw_next (f := z_iload 10 153) rfl rfl
theorem s189_153 {x0 x1 x2 x3 x4 x5 x6 x7 x8 x9 x10 : Value} {a : Int32} : ZW zG d 189 153 [x0, x1, x2, x3, x4, x5, x6, x7, x8, x9, x10] (.int a :: st) z Q = ZW zG d 189 155 [x0, x1, x2, x3, zclr x4, .int a, x6, x7, x8, x9, x10] st z Q := zw_next (f := z_istore 5 155) rfl rfl
theorem s189_155 {x0 x1 x2 x3 x4 x5 x6 x8 x9 x10 : Value} {a : Int32} : ZW zG d 189 155 [x0, x1, x2, x3, x4, x5, x6, .int a, x8, x9, x10] st z Q = ZW zG d 189 158 [x0, x1, x2, x3, x4, x5, zclr x6, .int (a + (nI 1)), x8, x9, x10] st z Q := zw_next (f := z_iinc 7 (nI 1) 158) rfl rfl
theorem s189_158 {ls : List Value}  : ZW zG d 189 158 ls (st) z Q = ZW zG d 189 49 ls st z Q := zw_goto rfl
theorem s189_161 {ls : List Value}  : ZW zG d 189 161 ls (st) z Q = ZW zG d 189 162 ls ((.int (nI 1)) :: st) z Q := zw_push rfl
theorem s189_162 {ls : List Value} {a : Int32} : ZW zG d 189 162 ls ([.int a]) z Q = Q (.inl (some (.int a))) z := zw_reti rfl
/-- X12_fewest (I)I -/
theorem e190 {r0 : Nat} {v0 : Int32} : ZC zG d 190 [.ref r0, .int v0] z Q = ZW zG d 190 0 [.ref r0, .int v0, zdum, zdum, zdum, zdum, zdum] [] z Q := rfl
theorem s190_0 {x0 x1 x2 x3 x4 x5 x6 : Value} : ZW zG d 190 0 [x0, x1, x2, x3, x4, x5, x6] st z Q = (zir x0 = true ∧ ZW zG d 190 1 [x0, x1, x2, x3, x4, x5, x6] (x0 :: st) z Q) := zw_cond (f := z_aload 0 1) rfl rfl
theorem s190_1 {x0 x2 x3 x4 x5 x6 : Value} {a : Int32} : ZW zG d 190 1 [x0, .int a, x2, x3, x4, x5, x6] st z Q = ZW zG d 190 2 [x0, .int a, x2, x3, x4, x5, x6] (.int a :: st) z Q := zw_next (f := z_iload 1 2) rfl rfl
theorem s190_2 {ls : List Value} {w0 : Int32} {r : Nat} : ZW zG (d + 1) 190 2 ls (.int w0 :: .ref r :: st) z Q = (zcls z r = 12 ∧ zcs st = true ∧ ZC zG d 144 [.ref r, .int w0] z (zk zG (d + 1) 190 (none) 5 ls st Q)) := zc_V1 rfl (Nat.le_of_ble_eq_true rfl)
theorem s190_5 {ls : List Value} {a : Int32} : ZW zG d 190 5 ls (.int a :: st) z Q = if ¬ a = 0 then ZW zG d 190 11 ls st z Q else ZW zG d 190 8 ls st z Q := zw_ifne rfl
theorem s190_8 {ls : List Value}  : ZW zG d 190 8 ls (st) z Q = ZW zG d 190 10 ls ((.int (-2)) :: st) z Q := zw_push rfl
theorem s190_10 {ls : List Value} {a : Int32} : ZW zG d 190 10 ls ([.int a]) z Q = Q (.inl (some (.int a))) z := zw_reti rfl
theorem s190_11 {x0 x1 x2 x3 x4 x5 x6 : Value} : ZW zG d 190 11 [x0, x1, x2, x3, x4, x5, x6] st z Q = (zir x0 = true ∧ ZW zG d 190 12 [x0, x1, x2, x3, x4, x5, x6] (x0 :: st) z Q) := zw_cond (f := z_aload 0 12) rfl rfl
theorem s190_12 {x0 x2 x3 x4 x5 x6 : Value} {a : Int32} : ZW zG d 190 12 [x0, .int a, x2, x3, x4, x5, x6] st z Q = ZW zG d 190 13 [x0, .int a, x2, x3, x4, x5, x6] (.int a :: st) z Q := zw_next (f := z_iload 1 13) rfl rfl
theorem s190_13 {ls : List Value} {w0 : Int32} {r : Nat} : ZW zG (d + 1) 190 13 ls (.int w0 :: .ref r :: st) z Q = (zcls z r = 12 ∧ zcs st = true ∧ ZC zG d 191 [.ref r, .int w0] z (zk zG (d + 1) 190 (none) 16 ls st Q)) := zc_V1 rfl (Nat.le_of_ble_eq_true rfl)
theorem s190_16 {ls : List Value}  : ZW zG d 190 16 ls (st) z Q = ZW zG d 190 17 ls ((.int (nI 1)) :: st) z Q := zw_push rfl
theorem s190_17 {x0 x1 x2 x3 x4 x5 x6 : Value} : ZW zG d 190 17 [x0, x1, x2, x3, x4, x5, x6] st z Q = (zir x0 = true ∧ ZW zG d 190 18 [x0, x1, x2, x3, x4, x5, x6] (x0 :: st) z Q) := zw_cond (f := z_aload 0 18) rfl rfl
theorem s190_18 {ls : List Value} {r : Nat} : ZW zG d 190 18 ls (.ref r :: st) z Q = ((zcls z r = 12) ∧ ZW zG d 190 21 ls (.int (zfi z r 26) :: st) (z) Q) := zw_getI rfl
theorem s190_21 {ls : List Value} {a b : Int32} : ZW zG d 190 21 ls (.int b :: .int a :: st) z Q = ZW zG d 190 22 ls (.int (a <<< (b &&& 31)) :: st) z Q := zw_ishl rfl
theorem s190_22 {ls : List Value}  : ZW zG d 190 22 ls (st) z Q = ZW zG d 190 23 ls ((.int (nI 1)) :: st) z Q := zw_push rfl
theorem s190_23 {ls : List Value} {a b : Int32} : ZW zG d 190 23 ls (.int b :: .int a :: st) z Q = ZW zG d 190 24 ls (.int (a - b) :: st) z Q := zw_isub rfl
theorem s190_24 {x0 x1 x2 x3 x4 x5 x6 : Value} {a : Int32} : ZW zG d 190 24 [x0, x1, x2, x3, x4, x5, x6] (.int a :: st) z Q = ZW zG d 190 25 [x0, zclr x1, .int a, x3, x4, x5, x6] st z Q := zw_next (f := z_istore 2 25) rfl rfl
theorem s190_25 {ls : List Value}  : ZW zG d 190 25 ls (st) z Q = ZW zG d 190 26 ls ((.int (nI 0)) :: st) z Q := zw_push rfl
theorem s190_26 {x0 x1 x2 x3 x4 x5 x6 : Value} {a : Int32} : ZW zG d 190 26 [x0, x1, x2, x3, x4, x5, x6] (.int a :: st) z Q = ZW zG d 190 27 [x0, x1, zclr x2, .int a, x4, x5, x6] st z Q := zw_next (f := z_istore 3 27) rfl rfl
theorem s190_27 {x0 x1 x2 x4 x5 x6 : Value} {a : Int32} : ZW zG d 190 27 [x0, x1, x2, .int a, x4, x5, x6] st z Q = ZW zG d 190 28 [x0, x1, x2, .int a, x4, x5, x6] (.int a :: st) z Q := zw_next (f := z_iload 3 28) rfl rfl
theorem s190_28 {x0 x1 x3 x4 x5 x6 : Value} {a : Int32} : ZW zG d 190 28 [x0, x1, .int a, x3, x4, x5, x6] st z Q = ZW zG d 190 29 [x0, x1, .int a, x3, x4, x5, x6] (.int a :: st) z Q := zw_next (f := z_iload 2 29) rfl rfl
theorem s190_29 {ls : List Value} {a b : Int32} : ZW zG d 190 29 ls (.int b :: .int a :: st) z Q = if b < a then ZW zG d 190 53 ls st z Q else ZW zG d 190 32 ls st z Q := zw_icgt rfl
theorem s190_32 {x0 x1 x2 x3 x4 x5 x6 : Value} : ZW zG d 190 32 [x0, x1, x2, x3, x4, x5, x6] st z Q = (zir x0 = true ∧ ZW zG d 190 33 [x0, x1, x2, x3, x4, x5, x6] (x0 :: st) z Q) := zw_cond (f := z_aload 0 33) rfl rfl
theorem s190_33 {ls : List Value} {r : Nat} : ZW zG d 190 33 ls (.ref r :: st) z Q = ((zcls z r = 12 ∧ zir (zfr z r 27) = true) ∧ ZW zG d 190 36 ls (zfr z r 27 :: st) (z) Q) := zw_getR rfl
theorem s190_36 {x0 x1 x2 x4 x5 x6 : Value} {a : Int32} : ZW zG d 190 36 [x0, x1, x2, .int a, x4, x5, x6] st z Q = ZW zG d 190 37 [x0, x1, x2, .int a, x4, x5, x6] (.int a :: st) z Q := zw_next (f := z_iload 3 37) rfl rfl
theorem s190_37 {x0 x1 x2 x4 x5 x6 : Value} {a : Int32} : ZW zG d 190 37 [x0, x1, x2, .int a, x4, x5, x6] st z Q = ZW zG d 190 38 [x0, x1, x2, .int a, x4, x5, x6] (.int a :: st) z Q := zw_next (f := z_iload 3 38) rfl rfl
theorem s190_38 {ls : List Value} {a : Int32} : ZW zG d 190 38 ls (.int a :: st) z Q = if ¬ a = 0 then ZW zG d 190 45 ls st z Q else ZW zG d 190 41 ls st z Q := zw_ifne rfl
theorem s190_41 {ls : List Value}  : ZW zG d 190 41 ls (st) z Q = ZW zG d 190 42 ls ((.int (nI 0)) :: st) z Q := zw_push rfl
theorem s190_42 {ls : List Value}  : ZW zG d 190 42 ls (st) z Q = ZW zG d 190 46 ls st z Q := zw_goto rfl
theorem s190_45 {ls : List Value}  : ZW zG d 190 45 ls (st) z Q = ZW zG d 190 46 ls ((.int (-1)) :: st) z Q := zw_push rfl
theorem s190_46 {ls : List Value} {a b : Int32} {r : Nat} : ZW zG d 190 46 ls (.int b :: .int a :: .ref r :: st) z Q = ((zcls z r = 50 ∧ zin a (zlen z r) = true) ∧ ZW zG d 190 47 ls (st) (sia z r (zx a) (znar 50 b)) Q) := zw_iast rfl
theorem s190_47 {x0 x1 x2 x4 x5 x6 : Value} {a : Int32} : ZW zG d 190 47 [x0, x1, x2, .int a, x4, x5, x6] st z Q = ZW zG d 190 50 [x0, x1, zclr x2, .int (a + (nI 1)), x4, x5, x6] st z Q := zw_next (f := z_iinc 3 (nI 1) 50) rfl rfl
theorem s190_50 {ls : List Value}  : ZW zG d 190 50 ls (st) z Q = ZW zG d 190 27 ls st z Q := zw_goto rfl
theorem s190_53 {x0 x1 x2 x3 x4 x5 x6 : Value} : ZW zG d 190 53 [x0, x1, x2, x3, x4, x5, x6] st z Q = (zir x0 = true ∧ ZW zG d 190 54 [x0, x1, x2, x3, x4, x5, x6] (x0 :: st) z Q) := zw_cond (f := z_aload 0 54) rfl rfl
theorem s190_54 {ls : List Value}  {r : Nat} : ZW zG (d + 1) 190 54 ls (.ref r :: st) z Q = (zcls z r = 12 ∧ zcs st = true ∧ ZC zG d 141 [.ref r] z (zk zG (d + 1) 190 (none) 57 ls st Q)) := zc_V0 rfl (Nat.le_of_ble_eq_true rfl)
theorem s190_57 {x0 x1 x2 x3 x4 x5 x6 : Value} {a : Int32} : ZW zG d 190 57 [x0, x1, x2, x3, x4, x5, x6] (.int a :: st) z Q = ZW zG d 190 58 [x0, x1, zclr x2, .int a, x4, x5, x6] st z Q := zw_next (f := z_istore 3 58) rfl rfl
theorem s190_58 {x0 x1 x2 x4 x5 x6 : Value} {a : Int32} : ZW zG d 190 58 [x0, x1, x2, .int a, x4, x5, x6] st z Q = ZW zG d 190 59 [x0, x1, x2, .int a, x4, x5, x6] (.int a :: st) z Q := zw_next (f := z_iload 3 59) rfl rfl
theorem s190_59 {ls : List Value}  : ZW zG d 190 59 ls (st) z Q = ZW zG d 190 62 ls ((.int (nI 399)) :: st) z Q := zw_push rfl
theorem s190_62 {x0 x1 x2 x3 x4 x5 x6 : Value} : ZW zG d 190 62 [x0, x1, x2, x3, x4, x5, x6] st z Q = (zir x0 = true ∧ ZW zG d 190 63 [x0, x1, x2, x3, x4, x5, x6] (x0 :: st) z Q) := zw_cond (f := z_aload 0 63) rfl rfl
theorem s190_63 {ls : List Value}  {r : Nat} : ZW zG (d + 1) 190 63 ls (.ref r :: st) z Q = (zcls z r = 12 ∧ zcs st = true ∧ ZC zG d 141 [.ref r] z (zk zG (d + 1) 190 (none) 66 ls st Q)) := zc_V0 rfl (Nat.le_of_ble_eq_true rfl)
theorem s190_66 {ls : List Value}  : ZW zG d 190 66 ls (st) z Q = ZW zG d 190 68 ls ((.int (nI 6)) :: st) z Q := zw_push rfl
theorem s190_68 {ls : List Value} {a b : Int32} : ZW zG d 190 68 ls (.int b :: .int a :: st) z Q = ZW zG d 190 69 ls (.int (a + b) :: st) z Q := zw_iadd rfl
theorem s190_69 {ls : List Value} {a b : Int32} : ZW zG d 190 69 ls (.int b :: .int a :: st) z Q = ((zcs st = true) ∧ ZW zG d 190 72 ls (.int (zmin a b) :: st) (z) Q) := zw_mmin rfl
theorem s190_72 {ls : List Value} {a b : Int32} : ZW zG d 190 72 ls (.int b :: .int a :: st) z Q = if b < a then ZW zG d 190 257 ls st z Q else ZW zG d 190 75 ls st z Q := zw_icgt rfl
theorem s190_75 {x0 x1 x2 x3 x4 x5 x6 : Value} : ZW zG d 190 75 [x0, x1, x2, x3, x4, x5, x6] st z Q = (zir x0 = true ∧ ZW zG d 190 76 [x0, x1, x2, x3, x4, x5, x6] (x0 :: st) z Q) := zw_cond (f := z_aload 0 76) rfl rfl
theorem s190_76 {x0 x2 x3 x4 x5 x6 : Value} {a : Int32} : ZW zG d 190 76 [x0, .int a, x2, x3, x4, x5, x6] st z Q = ZW zG d 190 77 [x0, .int a, x2, x3, x4, x5, x6] (.int a :: st) z Q := zw_next (f := z_iload 1 77) rfl rfl
theorem s190_77 {ls : List Value}  : ZW zG d 190 77 ls (st) z Q = ZW zG d 190 78 ls ((.int (nI 0)) :: st) z Q := zw_push rfl
theorem s190_78 {ls : List Value}  : ZW zG d 190 78 ls (st) z Q = ZW zG d 190 79 ls ((.int (nI 1)) :: st) z Q := zw_push rfl
theorem s190_79 {x0 x1 x2 x3 x4 x5 x6 : Value} : ZW zG d 190 79 [x0, x1, x2, x3, x4, x5, x6] st z Q = (zir x0 = true ∧ ZW zG d 190 80 [x0, x1, x2, x3, x4, x5, x6] (x0 :: st) z Q) := zw_cond (f := z_aload 0 80) rfl rfl
theorem s190_80 {ls : List Value} {r : Nat} : ZW zG d 190 80 ls (.ref r :: st) z Q = ((zcls z r = 12) ∧ ZW zG d 190 83 ls (.int (zfi z r 17) :: st) (z) Q) := zw_getI rfl
theorem s190_83 {ls : List Value} {a b : Int32} : ZW zG d 190 83 ls (.int b :: .int a :: st) z Q = ZW zG d 190 84 ls (.int (a <<< (b &&& 31)) :: st) z Q := zw_ishl rfl
theorem s190_84 {ls : List Value}  : ZW zG d 190 84 ls (st) z Q = ZW zG d 190 85 ls ((.int (nI 1)) :: st) z Q := zw_push rfl
theorem s190_85 {ls : List Value} {a b : Int32} : ZW zG d 190 85 ls (.int b :: .int a :: st) z Q = ZW zG d 190 86 ls (.int (a - b) :: st) z Q := zw_isub rfl
theorem s190_86 {x0 x1 x2 x4 x5 x6 : Value} {a : Int32} : ZW zG d 190 86 [x0, x1, x2, .int a, x4, x5, x6] st z Q = ZW zG d 190 87 [x0, x1, x2, .int a, x4, x5, x6] (.int a :: st) z Q := zw_next (f := z_iload 3 87) rfl rfl
theorem s190_87 {ls : List Value} {w0 : Int32} {w1 : Int32} {w2 : Int32} {w3 : Int32} {r : Nat} : ZW zG (d + 1) 190 87 ls (.int w3 :: .int w2 :: .int w1 :: .int w0 :: .ref r :: st) z Q = (zcls z r = 12 ∧ zcs st = true ∧ ZC zG d 182 [.ref r, .int w0, .int w1, .int w2, .int w3] z (zk zG (d + 1) 190 (none) 90 ls st Q)) := zc_V4 rfl (Nat.le_of_ble_eq_true rfl)
theorem s190_90 {ls : List Value}  : ZW zG d 190 90 ls (st) z Q = ZW zG d 190 91 ls ((.int (nI 1)) :: st) z Q := zw_push rfl
theorem s190_91 {x0 x1 x2 x3 x4 x5 x6 : Value} {a : Int32} : ZW zG d 190 91 [x0, x1, x2, x3, x4, x5, x6] (.int a :: st) z Q = ZW zG d 190 93 [x0, x1, x2, zclr x3, .int a, x5, x6] st z Q := zw_next (f := z_istore 4 93) rfl rfl
theorem s190_93 {x0 x1 x2 x3 x5 x6 : Value} {a : Int32} : ZW zG d 190 93 [x0, x1, x2, x3, .int a, x5, x6] st z Q = ZW zG d 190 95 [x0, x1, x2, x3, .int a, x5, x6] (.int a :: st) z Q := zw_next (f := z_iload 4 95) rfl rfl
theorem s190_95 {ls : List Value}  : ZW zG d 190 95 ls (st) z Q = ZW zG d 190 96 ls ((.int (nI 1)) :: st) z Q := zw_push rfl
theorem s190_96 {x0 x1 x2 x3 x4 x5 x6 : Value} : ZW zG d 190 96 [x0, x1, x2, x3, x4, x5, x6] st z Q = (zir x0 = true ∧ ZW zG d 190 97 [x0, x1, x2, x3, x4, x5, x6] (x0 :: st) z Q) := zw_cond (f := z_aload 0 97) rfl rfl
theorem s190_97 {ls : List Value} {r : Nat} : ZW zG d 190 97 ls (.ref r :: st) z Q = ((zcls z r = 12) ∧ ZW zG d 190 100 ls (.int (zfi z r 17) :: st) (z) Q) := zw_getI rfl
theorem s190_100 {ls : List Value} {a b : Int32} : ZW zG d 190 100 ls (.int b :: .int a :: st) z Q = ZW zG d 190 101 ls (.int (a <<< (b &&& 31)) :: st) z Q := zw_ishl rfl
theorem s190_101 {ls : List Value} {a b : Int32} : ZW zG d 190 101 ls (.int b :: .int a :: st) z Q = if b ≤ a then ZW zG d 190 138 ls st z Q else ZW zG d 190 104 ls st z Q := zw_icge rfl
theorem s190_104 {x0 x1 x2 x3 x4 x5 x6 : Value} : ZW zG d 190 104 [x0, x1, x2, x3, x4, x5, x6] st z Q = (zir x0 = true ∧ ZW zG d 190 105 [x0, x1, x2, x3, x4, x5, x6] (x0 :: st) z Q) := zw_cond (f := z_aload 0 105) rfl rfl
theorem s190_105 {ls : List Value} {r : Nat} : ZW zG d 190 105 ls (.ref r :: st) z Q = ((zcls z r = 12 ∧ zir (zfr z r 28) = true) ∧ ZW zG d 190 108 ls (zfr z r 28 :: st) (z) Q) := zw_getR rfl
theorem s190_108 {x0 x1 x2 x3 x5 x6 : Value} {a : Int32} : ZW zG d 190 108 [x0, x1, x2, x3, .int a, x5, x6] st z Q = ZW zG d 190 110 [x0, x1, x2, x3, .int a, x5, x6] (.int a :: st) z Q := zw_next (f := z_iload 4 110) rfl rfl
theorem s190_110 {x0 x1 x2 x3 x4 x5 x6 : Value} : ZW zG d 190 110 [x0, x1, x2, x3, x4, x5, x6] st z Q = (zir x0 = true ∧ ZW zG d 190 111 [x0, x1, x2, x3, x4, x5, x6] (x0 :: st) z Q) := zw_cond (f := z_aload 0 111) rfl rfl
theorem s190_111 {x0 x1 x2 x3 x5 x6 : Value} {a : Int32} : ZW zG d 190 111 [x0, x1, x2, x3, .int a, x5, x6] st z Q = ZW zG d 190 113 [x0, x1, x2, x3, .int a, x5, x6] (.int a :: st) z Q := zw_next (f := z_iload 4 113) rfl rfl
theorem s190_113 {ls : List Value} {w0 : Int32} {r : Nat} : ZW zG (d + 1) 190 113 ls (.int w0 :: .ref r :: st) z Q = (zcls z r = 12 ∧ zcs st = true ∧ ZC zG d 185 [.ref r, .int w0] z (zk zG (d + 1) 190 (none) 116 ls st Q)) := zc_V1 rfl (Nat.le_of_ble_eq_true rfl)
theorem s190_116 {ls : List Value}  : ZW zG d 190 116 ls (st) z Q = ZW zG d 190 117 ls ((.int (-1)) :: st) z Q := zw_push rfl
theorem s190_117 {ls : List Value} {a b : Int32} : ZW zG d 190 117 ls (.int b :: .int a :: st) z Q = if ¬ a = b then ZW zG d 190 124 ls st z Q else ZW zG d 190 120 ls st z Q := zw_icne rfl
theorem s190_120 {ls : List Value}  : ZW zG d 190 120 ls (st) z Q = ZW zG d 190 121 ls ((.int (nI 0)) :: st) z Q := zw_push rfl
theorem s190_121 {ls : List Value}  : ZW zG d 190 121 ls (st) z Q = ZW zG d 190 131 ls st z Q := zw_goto rfl
theorem s190_124 {x0 x1 x2 x3 x4 x5 x6 : Value} : ZW zG d 190 124 [x0, x1, x2, x3, x4, x5, x6] st z Q = (zir x0 = true ∧ ZW zG d 190 125 [x0, x1, x2, x3, x4, x5, x6] (x0 :: st) z Q) := zw_cond (f := z_aload 0 125) rfl rfl
theorem s190_125 {x0 x1 x2 x3 x5 x6 : Value} {a : Int32} : ZW zG d 190 125 [x0, x1, x2, x3, .int a, x5, x6] st z Q = ZW zG d 190 127 [x0, x1, x2, x3, .int a, x5, x6] (.int a :: st) z Q := zw_next (f := z_iload 4 127) rfl rfl
theorem s190_127 {x0 x1 x2 x4 x5 x6 : Value} {a : Int32} : ZW zG d 190 127 [x0, x1, x2, .int a, x4, x5, x6] st z Q = ZW zG d 190 128 [x0, x1, x2, .int a, x4, x5, x6] (.int a :: st) z Q := zw_next (f := z_iload 3 128) rfl rfl
theorem s190_128 {ls : List Value} {w0 : Int32} {w1 : Int32} {r : Nat} : ZW zG (d + 1) 190 128 ls (.int w1 :: .int w0 :: .ref r :: st) z Q = (zcls z r = 12 ∧ zcs st = true ∧ ZC zG d 192 [.ref r, .int w0, .int w1] z (zk zG (d + 1) 190 (none) 131 ls st Q)) := zc_V2 rfl (Nat.le_of_ble_eq_true rfl)
theorem s190_131 {ls : List Value} {a b : Int32} {r : Nat} : ZW zG d 190 131 ls (.int b :: .int a :: .ref r :: st) z Q = ((zcls z r = 50 ∧ zin a (zlen z r) = true) ∧ ZW zG d 190 132 ls (st) (sia z r (zx a) (znar 50 b)) Q) := zw_iast rfl
theorem s190_132 {x0 x1 x2 x3 x5 x6 : Value} {a : Int32} : ZW zG d 190 132 [x0, x1, x2, x3, .int a, x5, x6] st z Q = ZW zG d 190 135 [x0, x1, x2, zclr x3, .int (a + (nI 1)), x5, x6] st z Q := zw_next (f := z_iinc 4 (nI 1) 135) rfl rfl
theorem s190_135 {ls : List Value}  : ZW zG d 190 135 ls (st) z Q = ZW zG d 190 93 ls st z Q := zw_goto rfl
theorem s190_138 {x0 x1 x3 x4 x5 x6 : Value} {a : Int32} : ZW zG d 190 138 [x0, x1, .int a, x3, x4, x5, x6] st z Q = ZW zG d 190 139 [x0, x1, .int a, x3, x4, x5, x6] (.int a :: st) z Q := zw_next (f := z_iload 2 139) rfl rfl
theorem s190_139 {x0 x1 x2 x3 x4 x5 x6 : Value} {a : Int32} : ZW zG d 190 139 [x0, x1, x2, x3, x4, x5, x6] (.int a :: st) z Q = ZW zG d 190 141 [x0, x1, x2, zclr x3, .int a, x5, x6] st z Q := zw_next (f := z_istore 4 141) rfl rfl
theorem s190_141 {x0 x1 x2 x3 x5 x6 : Value} {a : Int32} : ZW zG d 190 141 [x0, x1, x2, x3, .int a, x5, x6] st z Q = ZW zG d 190 143 [x0, x1, x2, x3, .int a, x5, x6] (.int a :: st) z Q := zw_next (f := z_iload 4 143) rfl rfl
theorem s190_143 {ls : List Value} {a : Int32} : ZW zG d 190 143 ls (.int a :: st) z Q = if a < 0 then ZW zG d 190 251 ls st z Q else ZW zG d 190 146 ls st z Q := zw_iflt rfl
theorem s190_146 {x0 x1 x2 x3 x4 x5 x6 : Value} : ZW zG d 190 146 [x0, x1, x2, x3, x4, x5, x6] st z Q = (zir x0 = true ∧ ZW zG d 190 147 [x0, x1, x2, x3, x4, x5, x6] (x0 :: st) z Q) := zw_cond (f := z_aload 0 147) rfl rfl
theorem s190_147 {ls : List Value} {r : Nat} : ZW zG d 190 147 ls (.ref r :: st) z Q = ((zcls z r = 12 ∧ zir (zfr z r 27) = true) ∧ ZW zG d 190 150 ls (zfr z r 27 :: st) (z) Q) := zw_getR rfl
theorem s190_150 {x0 x1 x2 x3 x5 x6 : Value} {a : Int32} : ZW zG d 190 150 [x0, x1, x2, x3, .int a, x5, x6] st z Q = ZW zG d 190 152 [x0, x1, x2, x3, .int a, x5, x6] (.int a :: st) z Q := zw_next (f := z_iload 4 152) rfl rfl
theorem s190_152 {ls : List Value} {a : Int32} {r : Nat} : ZW zG d 190 152 ls (.int a :: .ref r :: st) z Q = ((zcls z r = 50 ∧ zin a (zlen z r) = true) ∧ ZW zG d 190 153 ls (.int (zia z r (zx a)) :: st) (z) Q) := zw_iald rfl
theorem s190_153 {ls : List Value}  : ZW zG d 190 153 ls (st) z Q = ZW zG d 190 154 ls ((.int (-1)) :: st) z Q := zw_push rfl
theorem s190_154 {ls : List Value} {a b : Int32} : ZW zG d 190 154 ls (.int b :: .int a :: st) z Q = if ¬ a = b then ZW zG d 190 160 ls st z Q else ZW zG d 190 157 ls st z Q := zw_icne rfl
theorem s190_157 {ls : List Value}  : ZW zG d 190 157 ls (st) z Q = ZW zG d 190 245 ls st z Q := zw_goto rfl
theorem s190_160 {ls : List Value}  : ZW zG d 190 160 ls (st) z Q = ZW zG d 190 161 ls ((.int (nI 1)) :: st) z Q := zw_push rfl
theorem s190_161 {x0 x1 x2 x3 x4 x5 x6 : Value} {a : Int32} : ZW zG d 190 161 [x0, x1, x2, x3, x4, x5, x6] (.int a :: st) z Q = ZW zG d 190 163 [x0, x1, x2, x3, zclr x4, .int a, x6] st z Q := zw_next (f := z_istore 5 163) rfl rfl
theorem s190_163 {x0 x1 x2 x3 x4 x6 : Value} {a : Int32} : ZW zG d 190 163 [x0, x1, x2, x3, x4, .int a, x6] st z Q = ZW zG d 190 165 [x0, x1, x2, x3, x4, .int a, x6] (.int a :: st) z Q := zw_next (f := z_iload 5 165) rfl rfl
theorem s190_165 {ls : List Value}  : ZW zG d 190 165 ls (st) z Q = ZW zG d 190 166 ls ((.int (nI 1)) :: st) z Q := zw_push rfl
theorem s190_166 {x0 x1 x2 x3 x4 x5 x6 : Value} : ZW zG d 190 166 [x0, x1, x2, x3, x4, x5, x6] st z Q = (zir x0 = true ∧ ZW zG d 190 167 [x0, x1, x2, x3, x4, x5, x6] (x0 :: st) z Q) := zw_cond (f := z_aload 0 167) rfl rfl
theorem s190_167 {ls : List Value} {r : Nat} : ZW zG d 190 167 ls (.ref r :: st) z Q = ((zcls z r = 12) ∧ ZW zG d 190 170 ls (.int (zfi z r 17) :: st) (z) Q) := zw_getI rfl
theorem s190_170 {ls : List Value} {a b : Int32} : ZW zG d 190 170 ls (.int b :: .int a :: st) z Q = ZW zG d 190 171 ls (.int (a <<< (b &&& 31)) :: st) z Q := zw_ishl rfl
theorem s190_171 {ls : List Value} {a b : Int32} : ZW zG d 190 171 ls (.int b :: .int a :: st) z Q = if b ≤ a then ZW zG d 190 245 ls st z Q else ZW zG d 190 174 ls st z Q := zw_icge rfl
theorem s190_174 {x0 x1 x2 x3 x5 x6 : Value} {a : Int32} : ZW zG d 190 174 [x0, x1, x2, x3, .int a, x5, x6] st z Q = ZW zG d 190 176 [x0, x1, x2, x3, .int a, x5, x6] (.int a :: st) z Q := zw_next (f := z_iload 4 176) rfl rfl
theorem s190_176 {x0 x1 x2 x3 x4 x5 x6 : Value} : ZW zG d 190 176 [x0, x1, x2, x3, x4, x5, x6] st z Q = (zir x0 = true ∧ ZW zG d 190 177 [x0, x1, x2, x3, x4, x5, x6] (x0 :: st) z Q) := zw_cond (f := z_aload 0 177) rfl rfl
theorem s190_177 {ls : List Value} {r : Nat} : ZW zG d 190 177 ls (.ref r :: st) z Q = ((zcls z r = 12 ∧ zir (zfr z r 28) = true) ∧ ZW zG d 190 180 ls (zfr z r 28 :: st) (z) Q) := zw_getR rfl
theorem s190_180 {x0 x1 x2 x3 x4 x6 : Value} {a : Int32} : ZW zG d 190 180 [x0, x1, x2, x3, x4, .int a, x6] st z Q = ZW zG d 190 182 [x0, x1, x2, x3, x4, .int a, x6] (.int a :: st) z Q := zw_next (f := z_iload 5 182) rfl rfl
theorem s190_182 {ls : List Value} {a : Int32} {r : Nat} : ZW zG d 190 182 ls (.int a :: .ref r :: st) z Q = ((zcls z r = 50 ∧ zin a (zlen z r) = true) ∧ ZW zG d 190 183 ls (.int (zia z r (zx a)) :: st) (z) Q) := zw_iald rfl
theorem s190_183 {ls : List Value} {a b : Int32} : ZW zG d 190 183 ls (.int b :: .int a :: st) z Q = ZW zG d 190 184 ls (.int (a ||| b) :: st) z Q := zw_ior rfl
theorem s190_184 {x0 x1 x2 x3 x4 x5 x6 : Value} {a : Int32} : ZW zG d 190 184 [x0, x1, x2, x3, x4, x5, x6] (.int a :: st) z Q = ZW zG d 190 186 [x0, x1, x2, x3, x4, zclr x5, .int a] st z Q := zw_next (f := z_istore 6 186) rfl rfl
theorem s190_186 {x0 x1 x2 x3 x4 x5 : Value} {a : Int32} : ZW zG d 190 186 [x0, x1, x2, x3, x4, x5, .int a] st z Q = ZW zG d 190 188 [x0, x1, x2, x3, x4, x5, .int a] (.int a :: st) z Q := zw_next (f := z_iload 6 188) rfl rfl
theorem s190_188 {x0 x1 x2 x3 x5 x6 : Value} {a : Int32} : ZW zG d 190 188 [x0, x1, x2, x3, .int a, x5, x6] st z Q = ZW zG d 190 190 [x0, x1, x2, x3, .int a, x5, x6] (.int a :: st) z Q := zw_next (f := z_iload 4 190) rfl rfl
theorem s190_190 {ls : List Value} {a b : Int32} : ZW zG d 190 190 ls (.int b :: .int a :: st) z Q = if a = b then ZW zG d 190 239 ls st z Q else ZW zG d 190 193 ls st z Q := zw_iceq rfl
theorem s190_193 {x0 x1 x2 x3 x4 x5 x6 : Value} : ZW zG d 190 193 [x0, x1, x2, x3, x4, x5, x6] st z Q = (zir x0 = true ∧ ZW zG d 190 194 [x0, x1, x2, x3, x4, x5, x6] (x0 :: st) z Q) := zw_cond (f := z_aload 0 194) rfl rfl
theorem s190_194 {ls : List Value} {r : Nat} : ZW zG d 190 194 ls (.ref r :: st) z Q = ((zcls z r = 12 ∧ zir (zfr z r 27) = true) ∧ ZW zG d 190 197 ls (zfr z r 27 :: st) (z) Q) := zw_getR rfl
theorem s190_197 {x0 x1 x2 x3 x4 x5 : Value} {a : Int32} : ZW zG d 190 197 [x0, x1, x2, x3, x4, x5, .int a] st z Q = ZW zG d 190 199 [x0, x1, x2, x3, x4, x5, .int a] (.int a :: st) z Q := zw_next (f := z_iload 6 199) rfl rfl
theorem s190_199 {ls : List Value} {a : Int32} {r : Nat} : ZW zG d 190 199 ls (.int a :: .ref r :: st) z Q = ((zcls z r = 50 ∧ zin a (zlen z r) = true) ∧ ZW zG d 190 200 ls (.int (zia z r (zx a)) :: st) (z) Q) := zw_iald rfl
theorem s190_200 {ls : List Value}  : ZW zG d 190 200 ls (st) z Q = ZW zG d 190 201 ls ((.int (-1)) :: st) z Q := zw_push rfl
theorem s190_201 {ls : List Value} {a b : Int32} : ZW zG d 190 201 ls (.int b :: .int a :: st) z Q = if a = b then ZW zG d 190 223 ls st z Q else ZW zG d 190 204 ls st z Q := zw_iceq rfl
theorem s190_204 {x0 x1 x2 x3 x4 x5 x6 : Value} : ZW zG d 190 204 [x0, x1, x2, x3, x4, x5, x6] st z Q = (zir x0 = true ∧ ZW zG d 190 205 [x0, x1, x2, x3, x4, x5, x6] (x0 :: st) z Q) := zw_cond (f := z_aload 0 205) rfl rfl
theorem s190_205 {ls : List Value} {r : Nat} : ZW zG d 190 205 ls (.ref r :: st) z Q = ((zcls z r = 12 ∧ zir (zfr z r 27) = true) ∧ ZW zG d 190 208 ls (zfr z r 27 :: st) (z) Q) := zw_getR rfl
theorem s190_208 {x0 x1 x2 x3 x4 x5 : Value} {a : Int32} : ZW zG d 190 208 [x0, x1, x2, x3, x4, x5, .int a] st z Q = ZW zG d 190 210 [x0, x1, x2, x3, x4, x5, .int a] (.int a :: st) z Q := zw_next (f := z_iload 6 210) rfl rfl
theorem s190_210 {ls : List Value} {a : Int32} {r : Nat} : ZW zG d 190 210 ls (.int a :: .ref r :: st) z Q = ((zcls z r = 50 ∧ zin a (zlen z r) = true) ∧ ZW zG d 190 211 ls (.int (zia z r (zx a)) :: st) (z) Q) := zw_iald rfl
theorem s190_211 {x0 x1 x2 x3 x4 x5 x6 : Value} : ZW zG d 190 211 [x0, x1, x2, x3, x4, x5, x6] st z Q = (zir x0 = true ∧ ZW zG d 190 212 [x0, x1, x2, x3, x4, x5, x6] (x0 :: st) z Q) := zw_cond (f := z_aload 0 212) rfl rfl
theorem s190_212 {ls : List Value} {r : Nat} : ZW zG d 190 212 ls (.ref r :: st) z Q = ((zcls z r = 12 ∧ zir (zfr z r 27) = true) ∧ ZW zG d 190 215 ls (zfr z r 27 :: st) (z) Q) := zw_getR rfl
theorem s190_215 {x0 x1 x2 x3 x5 x6 : Value} {a : Int32} : ZW zG d 190 215 [x0, x1, x2, x3, .int a, x5, x6] st z Q = ZW zG d 190 217 [x0, x1, x2, x3, .int a, x5, x6] (.int a :: st) z Q := zw_next (f := z_iload 4 217) rfl rfl
theorem s190_217 {ls : List Value} {a : Int32} {r : Nat} : ZW zG d 190 217 ls (.int a :: .ref r :: st) z Q = ((zcls z r = 50 ∧ zin a (zlen z r) = true) ∧ ZW zG d 190 218 ls (.int (zia z r (zx a)) :: st) (z) Q) := zw_iald rfl
theorem s190_218 {ls : List Value}  : ZW zG d 190 218 ls (st) z Q = ZW zG d 190 219 ls ((.int (nI 1)) :: st) z Q := zw_push rfl
theorem s190_219 {ls : List Value} {a b : Int32} : ZW zG d 190 219 ls (.int b :: .int a :: st) z Q = ZW zG d 190 220 ls (.int (a + b) :: st) z Q := zw_iadd rfl
theorem s190_220 {ls : List Value} {a b : Int32} : ZW zG d 190 220 ls (.int b :: .int a :: st) z Q = if a ≤ b then ZW zG d 190 239 ls st z Q else ZW zG d 190 223 ls st z Q := zw_icle rfl
theorem s190_223 {x0 x1 x2 x3 x4 x5 x6 : Value} : ZW zG d 190 223 [x0, x1, x2, x3, x4, x5, x6] st z Q = (zir x0 = true ∧ ZW zG d 190 224 [x0, x1, x2, x3, x4, x5, x6] (x0 :: st) z Q) := zw_cond (f := z_aload 0 224) rfl rfl
theorem s190_224 {ls : List Value} {r : Nat} : ZW zG d 190 224 ls (.ref r :: st) z Q = ((zcls z r = 12 ∧ zir (zfr z r 27) = true) ∧ ZW zG d 190 227 ls (zfr z r 27 :: st) (z) Q) := zw_getR rfl
theorem s190_227 {x0 x1 x2 x3 x4 x5 : Value} {a : Int32} : ZW zG d 190 227 [x0, x1, x2, x3, x4, x5, .int a] st z Q = ZW zG d 190 229 [x0, x1, x2, x3, x4, x5, .int a] (.int a :: st) z Q := zw_next (f := z_iload 6 229) rfl rfl
theorem s190_229 {x0 x1 x2 x3 x4 x5 x6 : Value} : ZW zG d 190 229 [x0, x1, x2, x3, x4, x5, x6] st z Q = (zir x0 = true ∧ ZW zG d 190 230 [x0, x1, x2, x3, x4, x5, x6] (x0 :: st) z Q) := zw_cond (f := z_aload 0 230) rfl rfl
theorem s190_230 {ls : List Value} {r : Nat} : ZW zG d 190 230 ls (.ref r :: st) z Q = ((zcls z r = 12 ∧ zir (zfr z r 27) = true) ∧ ZW zG d 190 233 ls (zfr z r 27 :: st) (z) Q) := zw_getR rfl
theorem s190_233 {x0 x1 x2 x3 x5 x6 : Value} {a : Int32} : ZW zG d 190 233 [x0, x1, x2, x3, .int a, x5, x6] st z Q = ZW zG d 190 235 [x0, x1, x2, x3, .int a, x5, x6] (.int a :: st) z Q := zw_next (f := z_iload 4 235) rfl rfl
theorem s190_235 {ls : List Value} {a : Int32} {r : Nat} : ZW zG d 190 235 ls (.int a :: .ref r :: st) z Q = ((zcls z r = 50 ∧ zin a (zlen z r) = true) ∧ ZW zG d 190 236 ls (.int (zia z r (zx a)) :: st) (z) Q) := zw_iald rfl
theorem s190_236 {ls : List Value}  : ZW zG d 190 236 ls (st) z Q = ZW zG d 190 237 ls ((.int (nI 1)) :: st) z Q := zw_push rfl
theorem s190_237 {ls : List Value} {a b : Int32} : ZW zG d 190 237 ls (.int b :: .int a :: st) z Q = ZW zG d 190 238 ls (.int (a + b) :: st) z Q := zw_iadd rfl
theorem s190_238 {ls : List Value} {a b : Int32} {r : Nat} : ZW zG d 190 238 ls (.int b :: .int a :: .ref r :: st) z Q = ((zcls z r = 50 ∧ zin a (zlen z r) = true) ∧ ZW zG d 190 239 ls (st) (sia z r (zx a) (znar 50 b)) Q) := zw_iast rfl
theorem s190_239 {x0 x1 x2 x3 x4 x6 : Value} {a : Int32} : ZW zG d 190 239 [x0, x1, x2, x3, x4, .int a, x6] st z Q = ZW zG d 190 242 [x0, x1, x2, x3, zclr x4, .int (a + (nI 1)), x6] st z Q := zw_next (f := z_iinc 5 (nI 1) 242) rfl rfl
theorem s190_242 {ls : List Value}  : ZW zG d 190 242 ls (st) z Q = ZW zG d 190 163 ls st z Q := zw_goto rfl
theorem s190_245 {x0 x1 x2 x3 x5 x6 : Value} {a : Int32} : ZW zG d 190 245 [x0, x1, x2, x3, .int a, x5, x6] st z Q = ZW zG d 190 248 [x0, x1, x2, zclr x3, .int (a + (-1)), x5, x6] st z Q := zw_next (f := z_iinc 4 (-1) 248) rfl rfl
theorem s190_248 {ls : List Value}  : ZW zG d 190 248 ls (st) z Q = ZW zG d 190 141 ls st z Q := zw_goto rfl
theorem s190_251 {x0 x1 x2 x4 x5 x6 : Value} {a : Int32} : ZW zG d 190 251 [x0, x1, x2, .int a, x4, x5, x6] st z Q = ZW zG d 190 254 [x0, x1, zclr x2, .int (a + (nI 1)), x4, x5, x6] st z Q := zw_next (f := z_iinc 3 (nI 1) 254) rfl rfl
theorem s190_254 {ls : List Value}  : ZW zG d 190 254 ls (st) z Q = ZW zG d 190 58 ls st z Q := zw_goto rfl
theorem s190_257 {x0 x1 x2 x3 x4 x5 x6 : Value} : ZW zG d 190 257 [x0, x1, x2, x3, x4, x5, x6] st z Q = (zir x0 = true ∧ ZW zG d 190 258 [x0, x1, x2, x3, x4, x5, x6] (x0 :: st) z Q) := zw_cond (f := z_aload 0 258) rfl rfl
theorem s190_258 {ls : List Value} {r : Nat} : ZW zG d 190 258 ls (.ref r :: st) z Q = ((zcls z r = 12 ∧ zir (zfr z r 27) = true) ∧ ZW zG d 190 261 ls (zfr z r 27 :: st) (z) Q) := zw_getR rfl
theorem s190_261 {x0 x1 x3 x4 x5 x6 : Value} {a : Int32} : ZW zG d 190 261 [x0, x1, .int a, x3, x4, x5, x6] st z Q = ZW zG d 190 262 [x0, x1, .int a, x3, x4, x5, x6] (.int a :: st) z Q := zw_next (f := z_iload 2 262) rfl rfl
theorem s190_262 {ls : List Value} {a : Int32} {r : Nat} : ZW zG d 190 262 ls (.int a :: .ref r :: st) z Q = ((zcls z r = 50 ∧ zin a (zlen z r) = true) ∧ ZW zG d 190 263 ls (.int (zia z r (zx a)) :: st) (z) Q) := zw_iald rfl
theorem s190_263 {ls : List Value} {a : Int32} : ZW zG d 190 263 ls ([.int a]) z Q = Q (.inl (some (.int a))) z := zw_reti rfl
/-- X12_listsTen (I)V -/
theorem e191 {r0 : Nat} {v0 : Int32} : ZC zG d 191 [.ref r0, .int v0] z Q = ZW zG d 191 0 [.ref r0, .int v0, zdum, zdum] [] z Q := rfl
theorem s191_0 {x0 x1 x2 x3 : Value} : ZW zG d 191 0 [x0, x1, x2, x3] st z Q = (zir x0 = true ∧ ZW zG d 191 1 [x0, x1, x2, x3] (x0 :: st) z Q) := zw_cond (f := z_aload 0 1) rfl rfl
theorem s191_1 {x0 x2 x3 : Value} {a : Int32} : ZW zG d 191 1 [x0, .int a, x2, x3] st z Q = ZW zG d 191 2 [x0, .int a, x2, x3] (.int a :: st) z Q := zw_next (f := z_iload 1 2) rfl rfl
theorem s191_2 {ls : List Value} {w0 : Int32} {r : Nat} : ZW zG (d + 1) 191 2 ls (.int w0 :: .ref r :: st) z Q = (zcls z r = 12 ∧ zcs st = true ∧ ZC zG d 181 [.ref r, .int w0] z (zk zG (d + 1) 191 (none) 5 ls st Q)) := zc_V1 rfl (Nat.le_of_ble_eq_true rfl)
theorem s191_5 {x0 x1 x2 x3 : Value} : ZW zG d 191 5 [x0, x1, x2, x3] st z Q = (zir x0 = true ∧ ZW zG d 191 6 [x0, x1, x2, x3] (x0 :: st) z Q) := zw_cond (f := z_aload 0 6) rfl rfl
theorem s191_6 {ls : List Value}  : ZW zG d 191 6 ls (st) z Q = ZW zG d 191 7 ls ((.int (nI 0)) :: st) z Q := zw_push rfl
theorem s191_7 {ls : List Value} {a : Int32} {r : Nat} : ZW zG d 191 7 ls (.int a :: .ref r :: st) z Q = ((zcls z r = 12) ∧ ZW zG d 191 10 ls (st) (sfi z r 26 a) Q) := zw_putI rfl
theorem s191_10 {ls : List Value}  : ZW zG d 191 10 ls (st) z Q = ZW zG d 191 11 ls ((.int (nI 0)) :: st) z Q := zw_push rfl
theorem s191_11 {x0 x1 x2 x3 : Value} {a : Int32} : ZW zG d 191 11 [x0, x1, x2, x3] (.int a :: st) z Q = ZW zG d 191 12 [x0, zclr x1, .int a, x3] st z Q := zw_next (f := z_istore 2 12) rfl rfl
theorem s191_12 {ls : List Value}  : ZW zG d 191 12 ls (st) z Q = ZW zG d 191 13 ls ((.int (nI 0)) :: st) z Q := zw_push rfl
theorem s191_13 {x0 x1 x2 x3 : Value} {a : Int32} : ZW zG d 191 13 [x0, x1, x2, x3] (.int a :: st) z Q = ZW zG d 191 14 [x0, x1, zclr x2, .int a] st z Q := zw_next (f := z_istore 3 14) rfl rfl
theorem s191_14 {x0 x1 x2 : Value} {a : Int32} : ZW zG d 191 14 [x0, x1, x2, .int a] st z Q = ZW zG d 191 15 [x0, x1, x2, .int a] (.int a :: st) z Q := zw_next (f := z_iload 3 15) rfl rfl
theorem s191_15 {x0 x1 x2 x3 : Value} : ZW zG d 191 15 [x0, x1, x2, x3] st z Q = (zir x0 = true ∧ ZW zG d 191 16 [x0, x1, x2, x3] (x0 :: st) z Q) := zw_cond (f := z_aload 0 16) rfl rfl
theorem s191_16 {ls : List Value} {r : Nat} : ZW zG d 191 16 ls (.ref r :: st) z Q = ((zcls z r = 12 ∧ zir (zfr z r 1) = true) ∧ ZW zG d 191 19 ls (zfr z r 1 :: st) (z) Q) := zw_getR rfl
theorem s191_19 {ls : List Value}  : ZW zG d 191 19 ls (st) z Q = ZW zG d 191 21 ls ((.int (nI 7)) :: st) z Q := zw_push rfl
theorem s191_21 {ls : List Value} {a : Int32} {r : Nat} : ZW zG d 191 21 ls (.int a :: .ref r :: st) z Q = ((zcls z r = 50 ∧ zin a (zlen z r) = true) ∧ ZW zG d 191 22 ls (.int (zia z r (zx a)) :: st) (z) Q) := zw_iald rfl
theorem s191_22 {ls : List Value} {a b : Int32} : ZW zG d 191 22 ls (.int b :: .int a :: st) z Q = if b ≤ a then ZW zG d 191 84 ls st z Q else ZW zG d 191 25 ls st z Q := zw_icge rfl
theorem s191_25 {x0 x1 x2 x3 : Value} : ZW zG d 191 25 [x0, x1, x2, x3] st z Q = (zir x0 = true ∧ ZW zG d 191 26 [x0, x1, x2, x3] (x0 :: st) z Q) := zw_cond (f := z_aload 0 26) rfl rfl
theorem s191_26 {ls : List Value} {r : Nat} : ZW zG d 191 26 ls (.ref r :: st) z Q = ((zcls z r = 12) ∧ ZW zG d 191 29 ls (.int (zfi z r 26) :: st) (z) Q) := zw_getI rfl
theorem s191_29 {ls : List Value}  : ZW zG d 191 29 ls (st) z Q = ZW zG d 191 31 ls ((.int (nI 10)) :: st) z Q := zw_push rfl
theorem s191_31 {ls : List Value} {a b : Int32} : ZW zG d 191 31 ls (.int b :: .int a :: st) z Q = if b ≤ a then ZW zG d 191 84 ls st z Q else ZW zG d 191 34 ls st z Q := zw_icge rfl
theorem s191_34 {x0 x1 x2 x3 : Value} : ZW zG d 191 34 [x0, x1, x2, x3] st z Q = (zir x0 = true ∧ ZW zG d 191 35 [x0, x1, x2, x3] (x0 :: st) z Q) := zw_cond (f := z_aload 0 35) rfl rfl
theorem s191_35 {x0 x1 x2 : Value} {a : Int32} : ZW zG d 191 35 [x0, x1, x2, .int a] st z Q = ZW zG d 191 36 [x0, x1, x2, .int a] (.int a :: st) z Q := zw_next (f := z_iload 3 36) rfl rfl
theorem s191_36 {ls : List Value}  : ZW zG d 191 36 ls (st) z Q = ZW zG d 191 37 ls ((.int (nI 0)) :: st) z Q := zw_push rfl
theorem s191_37 {ls : List Value} {w0 : Int32} {w1 : Int32} {r : Nat} : ZW zG (d + 1) 191 37 ls (.int w1 :: .int w0 :: .ref r :: st) z Q = (zcls z r = 12 ∧ zcs st = true ∧ ZC zG d 159 [.ref r, .int w0, .int w1] z (zk zG (d + 1) 191 (none) 40 ls st Q)) := zc_V2 rfl (Nat.le_of_ble_eq_true rfl)
theorem s191_40 {x0 x2 x3 : Value} {a : Int32} : ZW zG d 191 40 [x0, .int a, x2, x3] st z Q = ZW zG d 191 41 [x0, .int a, x2, x3] (.int a :: st) z Q := zw_next (f := z_iload 1 41) rfl rfl
theorem s191_41 {ls : List Value} {a b : Int32} : ZW zG d 191 41 ls (.int b :: .int a :: st) z Q = if a = b then ZW zG d 191 47 ls st z Q else ZW zG d 191 44 ls st z Q := zw_iceq rfl
theorem s191_44 {ls : List Value}  : ZW zG d 191 44 ls (st) z Q = ZW zG d 191 78 ls st z Q := zw_goto rfl
theorem s191_47 {x0 x1 x2 x3 : Value} : ZW zG d 191 47 [x0, x1, x2, x3] st z Q = (zir x0 = true ∧ ZW zG d 191 48 [x0, x1, x2, x3] (x0 :: st) z Q) := zw_cond (f := z_aload 0 48) rfl rfl
theorem s191_48 {ls : List Value} {r : Nat} : ZW zG d 191 48 ls (.ref r :: st) z Q = ((zcls z r = 12 ∧ zir (zfr z r 25) = true) ∧ ZW zG d 191 51 ls (zfr z r 25 :: st) (z) Q) := zw_getR rfl
theorem s191_51 {x0 x1 x2 x3 : Value} : ZW zG d 191 51 [x0, x1, x2, x3] st z Q = (zir x0 = true ∧ ZW zG d 191 52 [x0, x1, x2, x3] (x0 :: st) z Q) := zw_cond (f := z_aload 0 52) rfl rfl
theorem s191_52 {ls : List Value} {r : Nat} : ZW zG d 191 52 ls (.ref r :: st) z Q = ((zcls z r = 12) ∧ ZW zG d 191 55 ls (.int (zfi z r 26) :: st) (z) Q) := zw_getI rfl
theorem s191_55 {x0 x1 x2 : Value} {a : Int32} : ZW zG d 191 55 [x0, x1, x2, .int a] st z Q = ZW zG d 191 56 [x0, x1, x2, .int a] (.int a :: st) z Q := zw_next (f := z_iload 3 56) rfl rfl
theorem s191_56 {ls : List Value} {a b : Int32} {r : Nat} : ZW zG d 191 56 ls (.int b :: .int a :: .ref r :: st) z Q = ((zcls z r = 50 ∧ zin a (zlen z r) = true) ∧ ZW zG d 191 57 ls (st) (sia z r (zx a) (znar 50 b)) Q) := zw_iast rfl
theorem s191_57 {x0 x1 x2 x3 : Value} : ZW zG d 191 57 [x0, x1, x2, x3] st z Q = (zir x0 = true ∧ ZW zG d 191 58 [x0, x1, x2, x3] (x0 :: st) z Q) := zw_cond (f := z_aload 0 58) rfl rfl
theorem s191_58 {ls : List Value} {r : Nat} : ZW zG d 191 58 ls (.ref r :: st) z Q = ZW zG d 191 59 ls (.ref r :: .ref r :: st) z Q := zw_dupr rfl
theorem s191_59 {ls : List Value} {r : Nat} : ZW zG d 191 59 ls (.ref r :: st) z Q = ((zcls z r = 12) ∧ ZW zG d 191 62 ls (.int (zfi z r 26) :: st) (z) Q) := zw_getI rfl
theorem s191_62 {ls : List Value}  : ZW zG d 191 62 ls (st) z Q = ZW zG d 191 63 ls ((.int (nI 1)) :: st) z Q := zw_push rfl
theorem s191_63 {ls : List Value} {a b : Int32} : ZW zG d 191 63 ls (.int b :: .int a :: st) z Q = ZW zG d 191 64 ls (.int (a + b) :: st) z Q := zw_iadd rfl
theorem s191_64 {ls : List Value} {a : Int32} {r : Nat} : ZW zG d 191 64 ls (.int a :: .ref r :: st) z Q = ((zcls z r = 12) ∧ ZW zG d 191 67 ls (st) (sfi z r 26 a) Q) := zw_putI rfl
theorem s191_67 {x0 x1 x3 : Value} {a : Int32} : ZW zG d 191 67 [x0, x1, .int a, x3] st z Q = ZW zG d 191 68 [x0, x1, .int a, x3] (.int a :: st) z Q := zw_next (f := z_iload 2 68) rfl rfl
theorem s191_68 {ls : List Value}  : ZW zG d 191 68 ls (st) z Q = ZW zG d 191 69 ls ((.int (nI 1)) :: st) z Q := zw_push rfl
theorem s191_69 {x0 x1 x2 x3 : Value} : ZW zG d 191 69 [x0, x1, x2, x3] st z Q = (zir x0 = true ∧ ZW zG d 191 70 [x0, x1, x2, x3] (x0 :: st) z Q) := zw_cond (f := z_aload 0 70) rfl rfl
theorem s191_70 {x0 x1 x2 : Value} {a : Int32} : ZW zG d 191 70 [x0, x1, x2, .int a] st z Q = ZW zG d 191 71 [x0, x1, x2, .int a] (.int a :: st) z Q := zw_next (f := z_iload 3 71) rfl rfl
theorem s191_71 {ls : List Value}  : ZW zG d 191 71 ls (st) z Q = ZW zG d 191 72 ls ((.int (nI 1)) :: st) z Q := zw_push rfl
theorem s191_72 {ls : List Value} {w0 : Int32} {w1 : Int32} {r : Nat} : ZW zG (d + 1) 191 72 ls (.int w1 :: .int w0 :: .ref r :: st) z Q = (zcls z r = 12 ∧ zcs st = true ∧ ZC zG d 159 [.ref r, .int w0, .int w1] z (zk zG (d + 1) 191 (none) 75 ls st Q)) := zc_V2 rfl (Nat.le_of_ble_eq_true rfl)
theorem s191_75 {ls : List Value} {a b : Int32} : ZW zG d 191 75 ls (.int b :: .int a :: st) z Q = ZW zG d 191 76 ls (.int (a <<< (b &&& 31)) :: st) z Q := zw_ishl rfl
theorem s191_76 {ls : List Value} {a b : Int32} : ZW zG d 191 76 ls (.int b :: .int a :: st) z Q = ZW zG d 191 77 ls (.int (a ||| b) :: st) z Q := zw_ior rfl
theorem s191_77 {x0 x1 x2 x3 : Value} {a : Int32} : ZW zG d 191 77 [x0, x1, x2, x3] (.int a :: st) z Q = ZW zG d 191 78 [x0, zclr x1, .int a, x3] st z Q := zw_next (f := z_istore 2 78) rfl rfl
theorem s191_78 {x0 x1 x2 : Value} {a : Int32} : ZW zG d 191 78 [x0, x1, x2, .int a] st z Q = ZW zG d 191 81 [x0, x1, zclr x2, .int (a + (nI 1))] st z Q := zw_next (f := z_iinc 3 (nI 1) 81) rfl rfl
theorem s191_81 {ls : List Value}  : ZW zG d 191 81 ls (st) z Q = ZW zG d 191 14 ls st z Q := zw_goto rfl
theorem s191_84 {x0 x1 x2 x3 : Value} : ZW zG d 191 84 [x0, x1, x2, x3] st z Q = (zir x0 = true ∧ ZW zG d 191 85 [x0, x1, x2, x3] (x0 :: st) z Q) := zw_cond (f := z_aload 0 85) rfl rfl
theorem s191_85 {ls : List Value}  : ZW zG d 191 85 ls (st) z Q = ZW zG d 191 86 ls ((.int (nI 0)) :: st) z Q := zw_push rfl
theorem s191_86 {ls : List Value} {a : Int32} {r : Nat} : ZW zG d 191 86 ls (.int a :: .ref r :: st) z Q = ((zcls z r = 12) ∧ ZW zG d 191 89 ls (st) (sfi z r 17 a) Q) := zw_putI rfl
theorem s191_89 {ls : List Value}  : ZW zG d 191 89 ls (st) z Q = ZW zG d 191 90 ls ((.int (nI 0)) :: st) z Q := zw_push rfl
theorem s191_90 {x0 x1 x2 x3 : Value} {a : Int32} : ZW zG d 191 90 [x0, x1, x2, x3] (.int a :: st) z Q = ZW zG d 191 91 [x0, x1, zclr x2, .int a] st z Q := zw_next (f := z_istore 3 91) rfl rfl
theorem s191_91 {x0 x1 x2 : Value} {a : Int32} : ZW zG d 191 91 [x0, x1, x2, .int a] st z Q = ZW zG d 191 92 [x0, x1, x2, .int a] (.int a :: st) z Q := zw_next (f := z_iload 3 92) rfl rfl
theorem s191_92 {ls : List Value}  : ZW zG d 191 92 ls (st) z Q = ZW zG d 191 94 ls ((.int (nI 16)) :: st) z Q := zw_push rfl
theorem s191_94 {ls : List Value} {a b : Int32} : ZW zG d 191 94 ls (.int b :: .int a :: st) z Q = if b ≤ a then ZW zG d 191 134 ls st z Q else ZW zG d 191 97 ls st z Q := zw_icge rfl
theorem s191_97 {x0 x1 x3 : Value} {a : Int32} : ZW zG d 191 97 [x0, x1, .int a, x3] st z Q = ZW zG d 191 98 [x0, x1, .int a, x3] (.int a :: st) z Q := zw_next (f := z_iload 2 98) rfl rfl
theorem s191_98 {x0 x1 x2 : Value} {a : Int32} : ZW zG d 191 98 [x0, x1, x2, .int a] st z Q = ZW zG d 191 99 [x0, x1, x2, .int a] (.int a :: st) z Q := zw_next (f := z_iload 3 99) rfl rfl
theorem s191_99 {ls : List Value} {w0 : Int32} {w1 : Int32} : ZW zG (d + 1) 191 99 ls (.int w1 :: .int w0 :: st) z Q = (zcs st = true ∧ ZC zG d 149 [.int w0, .int w1] z (zk zG (d + 1) 191 (none) 102 ls st Q)) := zc_S2 rfl (Nat.le_of_ble_eq_true rfl)
theorem s191_102 {ls : List Value} {a : Int32} : ZW zG d 191 102 ls (.int a :: st) z Q = if ¬ a = 0 then ZW zG d 191 108 ls st z Q else ZW zG d 191 105 ls st z Q := zw_ifne rfl
theorem s191_105 {ls : List Value}  : ZW zG d 191 105 ls (st) z Q = ZW zG d 191 128 ls st z Q := zw_goto rfl
theorem s191_108 {x0 x1 x2 x3 : Value} : ZW zG d 191 108 [x0, x1, x2, x3] st z Q = (zir x0 = true ∧ ZW zG d 191 109 [x0, x1, x2, x3] (x0 :: st) z Q) := zw_cond (f := z_aload 0 109) rfl rfl
theorem s191_109 {ls : List Value} {r : Nat} : ZW zG d 191 109 ls (.ref r :: st) z Q = ((zcls z r = 12 ∧ zir (zfr z r 16) = true) ∧ ZW zG d 191 112 ls (zfr z r 16 :: st) (z) Q) := zw_getR rfl
theorem s191_112 {x0 x1 x2 x3 : Value} : ZW zG d 191 112 [x0, x1, x2, x3] st z Q = (zir x0 = true ∧ ZW zG d 191 113 [x0, x1, x2, x3] (x0 :: st) z Q) := zw_cond (f := z_aload 0 113) rfl rfl
theorem s191_113 {ls : List Value} {r : Nat} : ZW zG d 191 113 ls (.ref r :: st) z Q = ((zcls z r = 12) ∧ ZW zG d 191 116 ls (.int (zfi z r 17) :: st) (z) Q) := zw_getI rfl
theorem s191_116 {x0 x1 x2 : Value} {a : Int32} : ZW zG d 191 116 [x0, x1, x2, .int a] st z Q = ZW zG d 191 117 [x0, x1, x2, .int a] (.int a :: st) z Q := zw_next (f := z_iload 3 117) rfl rfl
theorem s191_117 {ls : List Value} {a b : Int32} {r : Nat} : ZW zG d 191 117 ls (.int b :: .int a :: .ref r :: st) z Q = ((zcls z r = 50 ∧ zin a (zlen z r) = true) ∧ ZW zG d 191 118 ls (st) (sia z r (zx a) (znar 50 b)) Q) := zw_iast rfl
theorem s191_118 {x0 x1 x2 x3 : Value} : ZW zG d 191 118 [x0, x1, x2, x3] st z Q = (zir x0 = true ∧ ZW zG d 191 119 [x0, x1, x2, x3] (x0 :: st) z Q) := zw_cond (f := z_aload 0 119) rfl rfl
theorem s191_119 {ls : List Value} {r : Nat} : ZW zG d 191 119 ls (.ref r :: st) z Q = ZW zG d 191 120 ls (.ref r :: .ref r :: st) z Q := zw_dupr rfl
theorem s191_120 {ls : List Value} {r : Nat} : ZW zG d 191 120 ls (.ref r :: st) z Q = ((zcls z r = 12) ∧ ZW zG d 191 123 ls (.int (zfi z r 17) :: st) (z) Q) := zw_getI rfl
theorem s191_123 {ls : List Value}  : ZW zG d 191 123 ls (st) z Q = ZW zG d 191 124 ls ((.int (nI 1)) :: st) z Q := zw_push rfl
theorem s191_124 {ls : List Value} {a b : Int32} : ZW zG d 191 124 ls (.int b :: .int a :: st) z Q = ZW zG d 191 125 ls (.int (a + b) :: st) z Q := zw_iadd rfl
theorem s191_125 {ls : List Value} {a : Int32} {r : Nat} : ZW zG d 191 125 ls (.int a :: .ref r :: st) z Q = ((zcls z r = 12) ∧ ZW zG d 191 128 ls (st) (sfi z r 17 a) Q) := zw_putI rfl
theorem s191_128 {x0 x1 x2 : Value} {a : Int32} : ZW zG d 191 128 [x0, x1, x2, .int a] st z Q = ZW zG d 191 131 [x0, x1, zclr x2, .int (a + (nI 1))] st z Q := zw_next (f := z_iinc 3 (nI 1) 131) rfl rfl
theorem s191_131 {ls : List Value}  : ZW zG d 191 131 ls (st) z Q = ZW zG d 191 91 ls st z Q := zw_goto rfl
theorem s191_134 {ls : List Value}  : ZW zG d 191 134 ls ([]) z Q = Q (.inl none) z := zw_ret rfl
/-- X12_covers (II)I -/
theorem e192 {r0 : Nat} {v0 : Int32} {v1 : Int32} : ZC zG d 192 [.ref r0, .int v0, .int v1] z Q = ZW zG d 192 0 [.ref r0, .int v0, .int v1, zdum, zdum, zdum] [] z Q := rfl
theorem s192_0 {ls : List Value}  : ZW zG d 192 0 ls (st) z Q = ZW zG d 192 1 ls ((.int (nI 0)) :: st) z Q := zw_push rfl
theorem s192_1 {x0 x1 x2 x3 x4 x5 : Value} {a : Int32} : ZW zG d 192 1 [x0, x1, x2, x3, x4, x5] (.int a :: st) z Q = ZW zG d 192 2 [x0, x1, zclr x2, .int a, x4, x5] st z Q := zw_next (f := z_istore 3 2) rfl rfl
theorem s192_2 {ls : List Value}  : ZW zG d 192 2 ls (st) z Q = ZW zG d 192 3 ls ((.int (nI 0)) :: st) z Q := zw_push rfl
theorem s192_3 {x0 x1 x2 x3 x4 x5 : Value} {a : Int32} : ZW zG d 192 3 [x0, x1, x2, x3, x4, x5] (.int a :: st) z Q = ZW zG d 192 5 [x0, x1, x2, zclr x3, .int a, x5] st z Q := zw_next (f := z_istore 4 5) rfl rfl
theorem s192_5 {x0 x1 x2 x3 x5 : Value} {a : Int32} : ZW zG d 192 5 [x0, x1, x2, x3, .int a, x5] st z Q = ZW zG d 192 7 [x0, x1, x2, x3, .int a, x5] (.int a :: st) z Q := zw_next (f := z_iload 4 7) rfl rfl
theorem s192_7 {x0 x1 x2 x3 x4 x5 : Value} : ZW zG d 192 7 [x0, x1, x2, x3, x4, x5] st z Q = (zir x0 = true ∧ ZW zG d 192 8 [x0, x1, x2, x3, x4, x5] (x0 :: st) z Q) := zw_cond (f := z_aload 0 8) rfl rfl
theorem s192_8 {ls : List Value} {r : Nat} : ZW zG d 192 8 ls (.ref r :: st) z Q = ((zcls z r = 12) ∧ ZW zG d 192 11 ls (.int (zfi z r 26) :: st) (z) Q) := zw_getI rfl
theorem s192_11 {ls : List Value} {a b : Int32} : ZW zG d 192 11 ls (.int b :: .int a :: st) z Q = if b ≤ a then ZW zG d 192 92 ls st z Q else ZW zG d 192 14 ls st z Q := zw_icge rfl
theorem s192_14 {ls : List Value}  : ZW zG d 192 14 ls (st) z Q = ZW zG d 192 15 ls ((.int (nI 0)) :: st) z Q := zw_push rfl
theorem s192_15 {x0 x1 x2 x3 x4 x5 : Value} {a : Int32} : ZW zG d 192 15 [x0, x1, x2, x3, x4, x5] (.int a :: st) z Q = ZW zG d 192 17 [x0, x1, x2, x3, zclr x4, .int a] st z Q := zw_next (f := z_istore 5 17) rfl rfl
theorem s192_17 {x0 x1 x2 x3 x4 : Value} {a : Int32} : ZW zG d 192 17 [x0, x1, x2, x3, x4, .int a] st z Q = ZW zG d 192 19 [x0, x1, x2, x3, x4, .int a] (.int a :: st) z Q := zw_next (f := z_iload 5 19) rfl rfl
theorem s192_19 {x0 x1 x2 x3 x4 x5 : Value} : ZW zG d 192 19 [x0, x1, x2, x3, x4, x5] st z Q = (zir x0 = true ∧ ZW zG d 192 20 [x0, x1, x2, x3, x4, x5] (x0 :: st) z Q) := zw_cond (f := z_aload 0 20) rfl rfl
theorem s192_20 {ls : List Value} {r : Nat} : ZW zG d 192 20 ls (.ref r :: st) z Q = ((zcls z r = 12) ∧ ZW zG d 192 23 ls (.int (zfi z r 17) :: st) (z) Q) := zw_getI rfl
theorem s192_23 {ls : List Value} {a b : Int32} : ZW zG d 192 23 ls (.int b :: .int a :: st) z Q = if b ≤ a then ZW zG d 192 86 ls st z Q else ZW zG d 192 26 ls st z Q := zw_icge rfl
theorem s192_26 {x0 x2 x3 x4 x5 : Value} {a : Int32} : ZW zG d 192 26 [x0, .int a, x2, x3, x4, x5] st z Q = ZW zG d 192 27 [x0, .int a, x2, x3, x4, x5] (.int a :: st) z Q := zw_next (f := z_iload 1 27) rfl rfl
theorem s192_27 {x0 x1 x2 x3 x4 : Value} {a : Int32} : ZW zG d 192 27 [x0, x1, x2, x3, x4, .int a] st z Q = ZW zG d 192 29 [x0, x1, x2, x3, x4, .int a] (.int a :: st) z Q := zw_next (f := z_iload 5 29) rfl rfl
theorem s192_29 {ls : List Value} {w0 : Int32} {w1 : Int32} : ZW zG (d + 1) 192 29 ls (.int w1 :: .int w0 :: st) z Q = (zcs st = true ∧ ZC zG d 149 [.int w0, .int w1] z (zk zG (d + 1) 192 (none) 32 ls st Q)) := zc_S2 rfl (Nat.le_of_ble_eq_true rfl)
theorem s192_32 {ls : List Value} {a : Int32} : ZW zG d 192 32 ls (.int a :: st) z Q = if a = 0 then ZW zG d 192 80 ls st z Q else ZW zG d 192 35 ls st z Q := zw_ifeq rfl
theorem s192_35 {x0 x1 x2 x3 x4 x5 : Value} : ZW zG d 192 35 [x0, x1, x2, x3, x4, x5] st z Q = (zir x0 = true ∧ ZW zG d 192 36 [x0, x1, x2, x3, x4, x5] (x0 :: st) z Q) := zw_cond (f := z_aload 0 36) rfl rfl
theorem s192_36 {ls : List Value} {r : Nat} : ZW zG d 192 36 ls (.ref r :: st) z Q = ((zcls z r = 12 ∧ zir (zfr z r 16) = true) ∧ ZW zG d 192 39 ls (zfr z r 16 :: st) (z) Q) := zw_getR rfl
theorem s192_39 {x0 x1 x2 x3 x4 : Value} {a : Int32} : ZW zG d 192 39 [x0, x1, x2, x3, x4, .int a] st z Q = ZW zG d 192 41 [x0, x1, x2, x3, x4, .int a] (.int a :: st) z Q := zw_next (f := z_iload 5 41) rfl rfl
theorem s192_41 {ls : List Value} {a : Int32} {r : Nat} : ZW zG d 192 41 ls (.int a :: .ref r :: st) z Q = ((zcls z r = 50 ∧ zin a (zlen z r) = true) ∧ ZW zG d 192 42 ls (.int (zia z r (zx a)) :: st) (z) Q) := zw_iald rfl
theorem s192_42 {x0 x1 x2 x3 x4 x5 : Value} : ZW zG d 192 42 [x0, x1, x2, x3, x4, x5] st z Q = (zir x0 = true ∧ ZW zG d 192 43 [x0, x1, x2, x3, x4, x5] (x0 :: st) z Q) := zw_cond (f := z_aload 0 43) rfl rfl
theorem s192_43 {x0 x1 x2 x3 x4 x5 : Value} : ZW zG d 192 43 [x0, x1, x2, x3, x4, x5] st z Q = (zir x0 = true ∧ ZW zG d 192 44 [x0, x1, x2, x3, x4, x5] (x0 :: st) z Q) := zw_cond (f := z_aload 0 44) rfl rfl
theorem s192_44 {ls : List Value} {r : Nat} : ZW zG d 192 44 ls (.ref r :: st) z Q = ((zcls z r = 12 ∧ zir (zfr z r 25) = true) ∧ ZW zG d 192 47 ls (zfr z r 25 :: st) (z) Q) := zw_getR rfl
theorem s192_47 {x0 x1 x2 x3 x5 : Value} {a : Int32} : ZW zG d 192 47 [x0, x1, x2, x3, .int a, x5] st z Q = ZW zG d 192 49 [x0, x1, x2, x3, .int a, x5] (.int a :: st) z Q := zw_next (f := z_iload 4 49) rfl rfl
theorem s192_49 {ls : List Value} {a : Int32} {r : Nat} : ZW zG d 192 49 ls (.int a :: .ref r :: st) z Q = ((zcls z r = 50 ∧ zin a (zlen z r) = true) ∧ ZW zG d 192 50 ls (.int (zia z r (zx a)) :: st) (z) Q) := zw_iald rfl
theorem s192_50 {ls : List Value}  : ZW zG d 192 50 ls (st) z Q = ZW zG d 192 51 ls ((.int (nI 1)) :: st) z Q := zw_push rfl
theorem s192_51 {ls : List Value} {w0 : Int32} {w1 : Int32} {r : Nat} : ZW zG (d + 1) 192 51 ls (.int w1 :: .int w0 :: .ref r :: st) z Q = (zcls z r = 12 ∧ zcs st = true ∧ ZC zG d 159 [.ref r, .int w0, .int w1] z (zk zG (d + 1) 192 (none) 54 ls st Q)) := zc_V2 rfl (Nat.le_of_ble_eq_true rfl)
theorem s192_54 {ls : List Value} {a b : Int32} : ZW zG d 192 54 ls (.int b :: .int a :: st) z Q = if ¬ a = b then ZW zG d 192 80 ls st z Q else ZW zG d 192 57 ls st z Q := zw_icne rfl
theorem s192_57 {x0 x1 x2 x3 x4 x5 : Value} : ZW zG d 192 57 [x0, x1, x2, x3, x4, x5] st z Q = (zir x0 = true ∧ ZW zG d 192 58 [x0, x1, x2, x3, x4, x5] (x0 :: st) z Q) := zw_cond (f := z_aload 0 58) rfl rfl
theorem s192_58 {x0 x1 x2 x3 x4 x5 : Value} : ZW zG d 192 58 [x0, x1, x2, x3, x4, x5] st z Q = (zir x0 = true ∧ ZW zG d 192 59 [x0, x1, x2, x3, x4, x5] (x0 :: st) z Q) := zw_cond (f := z_aload 0 59) rfl rfl
theorem s192_59 {ls : List Value} {r : Nat} : ZW zG d 192 59 ls (.ref r :: st) z Q = ((zcls z r = 12 ∧ zir (zfr z r 25) = true) ∧ ZW zG d 192 62 ls (zfr z r 25 :: st) (z) Q) := zw_getR rfl
theorem s192_62 {x0 x1 x2 x3 x5 : Value} {a : Int32} : ZW zG d 192 62 [x0, x1, x2, x3, .int a, x5] st z Q = ZW zG d 192 64 [x0, x1, x2, x3, .int a, x5] (.int a :: st) z Q := zw_next (f := z_iload 4 64) rfl rfl
theorem s192_64 {ls : List Value} {a : Int32} {r : Nat} : ZW zG d 192 64 ls (.int a :: .ref r :: st) z Q = ((zcls z r = 50 ∧ zin a (zlen z r) = true) ∧ ZW zG d 192 65 ls (.int (zia z r (zx a)) :: st) (z) Q) := zw_iald rfl
theorem s192_65 {ls : List Value}  : ZW zG d 192 65 ls (st) z Q = ZW zG d 192 66 ls ((.int (nI 3)) :: st) z Q := zw_push rfl
theorem s192_66 {ls : List Value} {w0 : Int32} {w1 : Int32} {r : Nat} : ZW zG (d + 1) 192 66 ls (.int w1 :: .int w0 :: .ref r :: st) z Q = (zcls z r = 12 ∧ zcs st = true ∧ ZC zG d 159 [.ref r, .int w0, .int w1] z (zk zG (d + 1) 192 (none) 69 ls st Q)) := zc_V2 rfl (Nat.le_of_ble_eq_true rfl)
theorem s192_69 {x0 x1 x3 x4 x5 : Value} {a : Int32} : ZW zG d 192 69 [x0, x1, .int a, x3, x4, x5] st z Q = ZW zG d 192 70 [x0, x1, .int a, x3, x4, x5] (.int a :: st) z Q := zw_next (f := z_iload 2 70) rfl rfl
theorem s192_70 {ls : List Value} {a b : Int32} : ZW zG d 192 70 ls (.int b :: .int a :: st) z Q = if a < b then ZW zG d 192 80 ls st z Q else ZW zG d 192 73 ls st z Q := zw_iclt rfl
theorem s192_73 {x0 x1 x2 x4 x5 : Value} {a : Int32} : ZW zG d 192 73 [x0, x1, x2, .int a, x4, x5] st z Q = ZW zG d 192 74 [x0, x1, x2, .int a, x4, x5] (.int a :: st) z Q := zw_next (f := z_iload 3 74) rfl rfl
theorem s192_74 {ls : List Value}  : ZW zG d 192 74 ls (st) z Q = ZW zG d 192 75 ls ((.int (nI 1)) :: st) z Q := zw_push rfl
theorem s192_75 {x0 x1 x2 x3 x5 : Value} {a : Int32} : ZW zG d 192 75 [x0, x1, x2, x3, .int a, x5] st z Q = ZW zG d 192 77 [x0, x1, x2, x3, .int a, x5] (.int a :: st) z Q := zw_next (f := z_iload 4 77) rfl rfl
theorem s192_77 {ls : List Value} {a b : Int32} : ZW zG d 192 77 ls (.int b :: .int a :: st) z Q = ZW zG d 192 78 ls (.int (a <<< (b &&& 31)) :: st) z Q := zw_ishl rfl
theorem s192_78 {ls : List Value} {a b : Int32} : ZW zG d 192 78 ls (.int b :: .int a :: st) z Q = ZW zG d 192 79 ls (.int (a ||| b) :: st) z Q := zw_ior rfl
theorem s192_79 {x0 x1 x2 x3 x4 x5 : Value} {a : Int32} : ZW zG d 192 79 [x0, x1, x2, x3, x4, x5] (.int a :: st) z Q = ZW zG d 192 80 [x0, x1, zclr x2, .int a, x4, x5] st z Q := zw_next (f := z_istore 3 80) rfl rfl
theorem s192_80 {x0 x1 x2 x3 x4 : Value} {a : Int32} : ZW zG d 192 80 [x0, x1, x2, x3, x4, .int a] st z Q = ZW zG d 192 83 [x0, x1, x2, x3, zclr x4, .int (a + (nI 1))] st z Q := zw_next (f := z_iinc 5 (nI 1) 83) rfl rfl
theorem s192_83 {ls : List Value}  : ZW zG d 192 83 ls (st) z Q = ZW zG d 192 17 ls st z Q := zw_goto rfl
theorem s192_86 {x0 x1 x2 x3 x5 : Value} {a : Int32} : ZW zG d 192 86 [x0, x1, x2, x3, .int a, x5] st z Q = ZW zG d 192 89 [x0, x1, x2, zclr x3, .int (a + (nI 1)), x5] st z Q := zw_next (f := z_iinc 4 (nI 1) 89) rfl rfl
theorem s192_89 {ls : List Value}  : ZW zG d 192 89 ls (st) z Q = ZW zG d 192 5 ls st z Q := zw_goto rfl
theorem s192_92 {x0 x1 x2 x4 x5 : Value} {a : Int32} : ZW zG d 192 92 [x0, x1, x2, .int a, x4, x5] st z Q = ZW zG d 192 93 [x0, x1, x2, .int a, x4, x5] (.int a :: st) z Q := zw_next (f := z_iload 3 93) rfl rfl
theorem s192_93 {ls : List Value} {a : Int32} : ZW zG d 192 93 ls ([.int a]) z Q = Q (.inl (some (.int a))) z := zw_reti rfl
/-- X12_lost (I)I -/
theorem e193 {r0 : Nat} {v0 : Int32} : ZC zG d 193 [.ref r0, .int v0] z Q = ZW zG d 193 0 [.ref r0, .int v0, zdum, zdum, zdum, zdum] [] z Q := rfl
theorem s193_0 {x0 x1 x2 x3 x4 x5 : Value} : ZW zG d 193 0 [x0, x1, x2, x3, x4, x5] st z Q = (zir x0 = true ∧ ZW zG d 193 1 [x0, x1, x2, x3, x4, x5] (x0 :: st) z Q) := zw_cond (f := z_aload 0 1) rfl rfl
theorem s193_1 {x0 x2 x3 x4 x5 : Value} {a : Int32} : ZW zG d 193 1 [x0, .int a, x2, x3, x4, x5] st z Q = ZW zG d 193 2 [x0, .int a, x2, x3, x4, x5] (.int a :: st) z Q := zw_next (f := z_iload 1 2) rfl rfl
theorem s193_2 {ls : List Value} {w0 : Int32} {r : Nat} : ZW zG (d + 1) 193 2 ls (.int w0 :: .ref r :: st) z Q = (zcls z r = 12 ∧ zcs st = true ∧ ZC zG d 144 [.ref r, .int w0] z (zk zG (d + 1) 193 (none) 5 ls st Q)) := zc_V1 rfl (Nat.le_of_ble_eq_true rfl)
theorem s193_5 {ls : List Value} {a : Int32} : ZW zG d 193 5 ls (.int a :: st) z Q = if ¬ a = 0 then ZW zG d 193 11 ls st z Q else ZW zG d 193 8 ls st z Q := zw_ifne rfl
theorem s193_8 {ls : List Value}  : ZW zG d 193 8 ls (st) z Q = ZW zG d 193 10 ls ((.int (-2)) :: st) z Q := zw_push rfl
theorem s193_10 {ls : List Value} {a : Int32} : ZW zG d 193 10 ls ([.int a]) z Q = Q (.inl (some (.int a))) z := zw_reti rfl
theorem s193_11 {x0 x1 x2 x3 x4 x5 : Value} : ZW zG d 193 11 [x0, x1, x2, x3, x4, x5] st z Q = (zir x0 = true ∧ ZW zG d 193 12 [x0, x1, x2, x3, x4, x5] (x0 :: st) z Q) := zw_cond (f := z_aload 0 12) rfl rfl
theorem s193_12 {x0 x2 x3 x4 x5 : Value} {a : Int32} : ZW zG d 193 12 [x0, .int a, x2, x3, x4, x5] st z Q = ZW zG d 193 13 [x0, .int a, x2, x3, x4, x5] (.int a :: st) z Q := zw_next (f := z_iload 1 13) rfl rfl
theorem s193_13 {ls : List Value} {w0 : Int32} {r : Nat} : ZW zG (d + 1) 193 13 ls (.int w0 :: .ref r :: st) z Q = (zcls z r = 12 ∧ zcs st = true ∧ ZC zG d 191 [.ref r, .int w0] z (zk zG (d + 1) 193 (none) 16 ls st Q)) := zc_V1 rfl (Nat.le_of_ble_eq_true rfl)
theorem s193_16 {ls : List Value}  : ZW zG d 193 16 ls (st) z Q = ZW zG d 193 17 ls ((.int (nI 0)) :: st) z Q := zw_push rfl
theorem s193_17 {x0 x1 x2 x3 x4 x5 : Value} {a : Int32} : ZW zG d 193 17 [x0, x1, x2, x3, x4, x5] (.int a :: st) z Q = ZW zG d 193 18 [x0, zclr x1, .int a, x3, x4, x5] st z Q := zw_next (f := z_istore 2 18) rfl rfl
theorem s193_18 {ls : List Value}  : ZW zG d 193 18 ls (st) z Q = ZW zG d 193 19 ls ((.int (nI 0)) :: st) z Q := zw_push rfl
theorem s193_19 {x0 x1 x2 x3 x4 x5 : Value} {a : Int32} : ZW zG d 193 19 [x0, x1, x2, x3, x4, x5] (.int a :: st) z Q = ZW zG d 193 20 [x0, x1, zclr x2, .int a, x4, x5] st z Q := zw_next (f := z_istore 3 20) rfl rfl
theorem s193_20 {x0 x1 x2 x4 x5 : Value} {a : Int32} : ZW zG d 193 20 [x0, x1, x2, .int a, x4, x5] st z Q = ZW zG d 193 21 [x0, x1, x2, .int a, x4, x5] (.int a :: st) z Q := zw_next (f := z_iload 3 21) rfl rfl
theorem s193_21 {x0 x1 x2 x3 x4 x5 : Value} : ZW zG d 193 21 [x0, x1, x2, x3, x4, x5] st z Q = (zir x0 = true ∧ ZW zG d 193 22 [x0, x1, x2, x3, x4, x5] (x0 :: st) z Q) := zw_cond (f := z_aload 0 22) rfl rfl
theorem s193_22 {ls : List Value} {r : Nat} : ZW zG d 193 22 ls (.ref r :: st) z Q = ((zcls z r = 12) ∧ ZW zG d 193 25 ls (.int (zfi z r 26) :: st) (z) Q) := zw_getI rfl
theorem s193_25 {ls : List Value} {a b : Int32} : ZW zG d 193 25 ls (.int b :: .int a :: st) z Q = if b ≤ a then ZW zG d 193 131 ls st z Q else ZW zG d 193 28 ls st z Q := zw_icge rfl
theorem s193_28 {ls : List Value}  : ZW zG d 193 28 ls (st) z Q = ZW zG d 193 29 ls ((.int (nI 0)) :: st) z Q := zw_push rfl
theorem s193_29 {x0 x1 x2 x3 x4 x5 : Value} {a : Int32} : ZW zG d 193 29 [x0, x1, x2, x3, x4, x5] (.int a :: st) z Q = ZW zG d 193 31 [x0, x1, x2, zclr x3, .int a, x5] st z Q := zw_next (f := z_istore 4 31) rfl rfl
theorem s193_31 {x0 x1 x2 x3 x4 x5 : Value} : ZW zG d 193 31 [x0, x1, x2, x3, x4, x5] st z Q = (zir x0 = true ∧ ZW zG d 193 32 [x0, x1, x2, x3, x4, x5] (x0 :: st) z Q) := zw_cond (f := z_aload 0 32) rfl rfl
theorem s193_32 {ls : List Value}  {r : Nat} : ZW zG (d + 1) 193 32 ls (.ref r :: st) z Q = (zcls z r = 12 ∧ zcs st = true ∧ ZC zG d 141 [.ref r] z (zk zG (d + 1) 193 (none) 35 ls st Q)) := zc_V0 rfl (Nat.le_of_ble_eq_true rfl)
theorem s193_35 {x0 x1 x2 x3 x4 x5 : Value} {a : Int32} : ZW zG d 193 35 [x0, x1, x2, x3, x4, x5] (.int a :: st) z Q = ZW zG d 193 37 [x0, x1, x2, x3, zclr x4, .int a] st z Q := zw_next (f := z_istore 5 37) rfl rfl
theorem s193_37 {x0 x1 x2 x3 x4 : Value} {a : Int32} : ZW zG d 193 37 [x0, x1, x2, x3, x4, .int a] st z Q = ZW zG d 193 39 [x0, x1, x2, x3, x4, .int a] (.int a :: st) z Q := zw_next (f := z_iload 5 39) rfl rfl
theorem s193_39 {ls : List Value}  : ZW zG d 193 39 ls (st) z Q = ZW zG d 193 42 ls ((.int (nI 399)) :: st) z Q := zw_push rfl
theorem s193_42 {x0 x1 x2 x3 x4 x5 : Value} : ZW zG d 193 42 [x0, x1, x2, x3, x4, x5] st z Q = (zir x0 = true ∧ ZW zG d 193 43 [x0, x1, x2, x3, x4, x5] (x0 :: st) z Q) := zw_cond (f := z_aload 0 43) rfl rfl
theorem s193_43 {ls : List Value}  {r : Nat} : ZW zG (d + 1) 193 43 ls (.ref r :: st) z Q = (zcls z r = 12 ∧ zcs st = true ∧ ZC zG d 141 [.ref r] z (zk zG (d + 1) 193 (none) 46 ls st Q)) := zc_V0 rfl (Nat.le_of_ble_eq_true rfl)
theorem s193_46 {ls : List Value}  : ZW zG d 193 46 ls (st) z Q = ZW zG d 193 48 ls ((.int (nI 6)) :: st) z Q := zw_push rfl
theorem s193_48 {ls : List Value} {a b : Int32} : ZW zG d 193 48 ls (.int b :: .int a :: st) z Q = ZW zG d 193 49 ls (.int (a + b) :: st) z Q := zw_iadd rfl
theorem s193_49 {ls : List Value} {a b : Int32} : ZW zG d 193 49 ls (.int b :: .int a :: st) z Q = ((zcs st = true) ∧ ZW zG d 193 52 ls (.int (zmin a b) :: st) (z) Q) := zw_mmin rfl
theorem s193_52 {x0 x1 x2 x3 x4 x5 : Value} : ZW zG d 193 52 [x0, x1, x2, x3, x4, x5] st z Q = (zir x0 = true ∧ ZW zG d 193 53 [x0, x1, x2, x3, x4, x5] (x0 :: st) z Q) := zw_cond (f := z_aload 0 53) rfl rfl
theorem s193_53 {x0 x1 x2 x3 x4 x5 : Value} : ZW zG d 193 53 [x0, x1, x2, x3, x4, x5] st z Q = (zir x0 = true ∧ ZW zG d 193 54 [x0, x1, x2, x3, x4, x5] (x0 :: st) z Q) := zw_cond (f := z_aload 0 54) rfl rfl
theorem s193_54 {ls : List Value} {r : Nat} : ZW zG d 193 54 ls (.ref r :: st) z Q = ((zcls z r = 12 ∧ zir (zfr z r 25) = true) ∧ ZW zG d 193 57 ls (zfr z r 25 :: st) (z) Q) := zw_getR rfl
theorem s193_57 {x0 x1 x2 x4 x5 : Value} {a : Int32} : ZW zG d 193 57 [x0, x1, x2, .int a, x4, x5] st z Q = ZW zG d 193 58 [x0, x1, x2, .int a, x4, x5] (.int a :: st) z Q := zw_next (f := z_iload 3 58) rfl rfl
theorem s193_58 {ls : List Value} {a : Int32} {r : Nat} : ZW zG d 193 58 ls (.int a :: .ref r :: st) z Q = ((zcls z r = 50 ∧ zin a (zlen z r) = true) ∧ ZW zG d 193 59 ls (.int (zia z r (zx a)) :: st) (z) Q) := zw_iald rfl
theorem s193_59 {ls : List Value}  : ZW zG d 193 59 ls (st) z Q = ZW zG d 193 60 ls ((.int (nI 3)) :: st) z Q := zw_push rfl
theorem s193_60 {ls : List Value} {w0 : Int32} {w1 : Int32} {r : Nat} : ZW zG (d + 1) 193 60 ls (.int w1 :: .int w0 :: .ref r :: st) z Q = (zcls z r = 12 ∧ zcs st = true ∧ ZC zG d 159 [.ref r, .int w0, .int w1] z (zk zG (d + 1) 193 (none) 63 ls st Q)) := zc_V2 rfl (Nat.le_of_ble_eq_true rfl)
theorem s193_63 {ls : List Value} {a b : Int32} : ZW zG d 193 63 ls (.int b :: .int a :: st) z Q = ((zcs st = true) ∧ ZW zG d 193 66 ls (.int (zmin a b) :: st) (z) Q) := zw_mmin rfl
theorem s193_66 {ls : List Value} {a b : Int32} : ZW zG d 193 66 ls (.int b :: .int a :: st) z Q = if b < a then ZW zG d 193 110 ls st z Q else ZW zG d 193 69 ls st z Q := zw_icgt rfl
theorem s193_69 {x0 x1 x2 x3 x5 : Value} {a : Int32} : ZW zG d 193 69 [x0, x1, x2, x3, .int a, x5] st z Q = ZW zG d 193 71 [x0, x1, x2, x3, .int a, x5] (.int a :: st) z Q := zw_next (f := z_iload 4 71) rfl rfl
theorem s193_71 {ls : List Value} {a : Int32} : ZW zG d 193 71 ls (.int a :: st) z Q = if ¬ a = 0 then ZW zG d 193 97 ls st z Q else ZW zG d 193 74 ls st z Q := zw_ifne rfl
theorem s193_74 {x0 x1 x2 x3 x4 x5 : Value} : ZW zG d 193 74 [x0, x1, x2, x3, x4, x5] st z Q = (zir x0 = true ∧ ZW zG d 193 75 [x0, x1, x2, x3, x4, x5] (x0 :: st) z Q) := zw_cond (f := z_aload 0 75) rfl rfl
theorem s193_75 {x0 x2 x3 x4 x5 : Value} {a : Int32} : ZW zG d 193 75 [x0, .int a, x2, x3, x4, x5] st z Q = ZW zG d 193 76 [x0, .int a, x2, x3, x4, x5] (.int a :: st) z Q := zw_next (f := z_iload 1 76) rfl rfl
theorem s193_76 {ls : List Value}  : ZW zG d 193 76 ls (st) z Q = ZW zG d 193 77 ls ((.int (nI 0)) :: st) z Q := zw_push rfl
theorem s193_77 {x0 x1 x2 x3 x4 x5 : Value} : ZW zG d 193 77 [x0, x1, x2, x3, x4, x5] st z Q = (zir x0 = true ∧ ZW zG d 193 78 [x0, x1, x2, x3, x4, x5] (x0 :: st) z Q) := zw_cond (f := z_aload 0 78) rfl rfl
theorem s193_78 {x0 x1 x2 x3 x4 x5 : Value} : ZW zG d 193 78 [x0, x1, x2, x3, x4, x5] st z Q = (zir x0 = true ∧ ZW zG d 193 79 [x0, x1, x2, x3, x4, x5] (x0 :: st) z Q) := zw_cond (f := z_aload 0 79) rfl rfl
theorem s193_79 {ls : List Value} {r : Nat} : ZW zG d 193 79 ls (.ref r :: st) z Q = ((zcls z r = 12 ∧ zir (zfr z r 25) = true) ∧ ZW zG d 193 82 ls (zfr z r 25 :: st) (z) Q) := zw_getR rfl
theorem s193_82 {x0 x1 x2 x4 x5 : Value} {a : Int32} : ZW zG d 193 82 [x0, x1, x2, .int a, x4, x5] st z Q = ZW zG d 193 83 [x0, x1, x2, .int a, x4, x5] (.int a :: st) z Q := zw_next (f := z_iload 3 83) rfl rfl
theorem s193_83 {ls : List Value} {a : Int32} {r : Nat} : ZW zG d 193 83 ls (.int a :: .ref r :: st) z Q = ((zcls z r = 50 ∧ zin a (zlen z r) = true) ∧ ZW zG d 193 84 ls (.int (zia z r (zx a)) :: st) (z) Q) := zw_iald rfl
theorem s193_84 {ls : List Value}  : ZW zG d 193 84 ls (st) z Q = ZW zG d 193 85 ls ((.int (nI 1)) :: st) z Q := zw_push rfl
theorem s193_85 {ls : List Value} {w0 : Int32} {w1 : Int32} {r : Nat} : ZW zG (d + 1) 193 85 ls (.int w1 :: .int w0 :: .ref r :: st) z Q = (zcls z r = 12 ∧ zcs st = true ∧ ZC zG d 159 [.ref r, .int w0, .int w1] z (zk zG (d + 1) 193 (none) 88 ls st Q)) := zc_V2 rfl (Nat.le_of_ble_eq_true rfl)
theorem s193_88 {x0 x1 x2 x3 x4 : Value} {a : Int32} : ZW zG d 193 88 [x0, x1, x2, x3, x4, .int a] st z Q = ZW zG d 193 90 [x0, x1, x2, x3, x4, .int a] (.int a :: st) z Q := zw_next (f := z_iload 5 90) rfl rfl
theorem s193_90 {ls : List Value} {w0 : Int32} {w1 : Int32} {w2 : Int32} {w3 : Int32} {r : Nat} : ZW zG (d + 1) 193 90 ls (.int w3 :: .int w2 :: .int w1 :: .int w0 :: .ref r :: st) z Q = (zcls z r = 12 ∧ zcs st = true ∧ ZC zG d 183 [.ref r, .int w0, .int w1, .int w2, .int w3] z (zk zG (d + 1) 193 (none) 93 ls st Q)) := zc_V4 rfl (Nat.le_of_ble_eq_true rfl)
theorem s193_93 {ls : List Value}  : ZW zG d 193 93 ls (st) z Q = ZW zG d 193 94 ls ((.int (-1)) :: st) z Q := zw_push rfl
theorem s193_94 {ls : List Value} {a b : Int32} : ZW zG d 193 94 ls (.int b :: .int a :: st) z Q = if a = b then ZW zG d 193 101 ls st z Q else ZW zG d 193 97 ls st z Q := zw_iceq rfl
theorem s193_97 {ls : List Value}  : ZW zG d 193 97 ls (st) z Q = ZW zG d 193 98 ls ((.int (nI 1)) :: st) z Q := zw_push rfl
theorem s193_98 {ls : List Value}  : ZW zG d 193 98 ls (st) z Q = ZW zG d 193 102 ls st z Q := zw_goto rfl
theorem s193_101 {ls : List Value}  : ZW zG d 193 101 ls (st) z Q = ZW zG d 193 102 ls ((.int (nI 0)) :: st) z Q := zw_push rfl
theorem s193_102 {x0 x1 x2 x3 x4 x5 : Value} {a : Int32} : ZW zG d 193 102 [x0, x1, x2, x3, x4, x5] (.int a :: st) z Q = ZW zG d 193 104 [x0, x1, x2, zclr x3, .int a, x5] st z Q := zw_next (f := z_istore 4 104) rfl rfl
theorem s193_104 {x0 x1 x2 x3 x4 : Value} {a : Int32} : ZW zG d 193 104 [x0, x1, x2, x3, x4, .int a] st z Q = ZW zG d 193 107 [x0, x1, x2, x3, zclr x4, .int (a + (nI 1))] st z Q := zw_next (f := z_iinc 5 (nI 1) 107) rfl rfl
theorem s193_107 {ls : List Value}  : ZW zG d 193 107 ls (st) z Q = ZW zG d 193 37 ls st z Q := zw_goto rfl
theorem s193_110 {x0 x1 x3 x4 x5 : Value} {a : Int32} : ZW zG d 193 110 [x0, x1, .int a, x3, x4, x5] st z Q = ZW zG d 193 111 [x0, x1, .int a, x3, x4, x5] (.int a :: st) z Q := zw_next (f := z_iload 2 111) rfl rfl
theorem s193_111 {x0 x1 x2 x3 x5 : Value} {a : Int32} : ZW zG d 193 111 [x0, x1, x2, x3, .int a, x5] st z Q = ZW zG d 193 113 [x0, x1, x2, x3, .int a, x5] (.int a :: st) z Q := zw_next (f := z_iload 4 113) rfl rfl
theorem s193_113 {ls : List Value} {a : Int32} : ZW zG d 193 113 ls (.int a :: st) z Q = if a = 0 then ZW zG d 193 120 ls st z Q else ZW zG d 193 116 ls st z Q := zw_ifeq rfl
theorem s193_116 {ls : List Value}  : ZW zG d 193 116 ls (st) z Q = ZW zG d 193 117 ls ((.int (nI 0)) :: st) z Q := zw_push rfl
theorem s193_117 {ls : List Value}  : ZW zG d 193 117 ls (st) z Q = ZW zG d 193 123 ls st z Q := zw_goto rfl
theorem s193_120 {ls : List Value}  : ZW zG d 193 120 ls (st) z Q = ZW zG d 193 121 ls ((.int (nI 1)) :: st) z Q := zw_push rfl
theorem s193_121 {x0 x1 x2 x4 x5 : Value} {a : Int32} : ZW zG d 193 121 [x0, x1, x2, .int a, x4, x5] st z Q = ZW zG d 193 122 [x0, x1, x2, .int a, x4, x5] (.int a :: st) z Q := zw_next (f := z_iload 3 122) rfl rfl
theorem s193_122 {ls : List Value} {a b : Int32} : ZW zG d 193 122 ls (.int b :: .int a :: st) z Q = ZW zG d 193 123 ls (.int (a <<< (b &&& 31)) :: st) z Q := zw_ishl rfl
theorem s193_123 {ls : List Value} {a b : Int32} : ZW zG d 193 123 ls (.int b :: .int a :: st) z Q = ZW zG d 193 124 ls (.int (a ||| b) :: st) z Q := zw_ior rfl
theorem s193_124 {x0 x1 x2 x3 x4 x5 : Value} {a : Int32} : ZW zG d 193 124 [x0, x1, x2, x3, x4, x5] (.int a :: st) z Q = ZW zG d 193 125 [x0, zclr x1, .int a, x3, x4, x5] st z Q := zw_next (f := z_istore 2 125) rfl rfl
theorem s193_125 {x0 x1 x2 x4 x5 : Value} {a : Int32} : ZW zG d 193 125 [x0, x1, x2, .int a, x4, x5] st z Q = ZW zG d 193 128 [x0, x1, zclr x2, .int (a + (nI 1)), x4, x5] st z Q := zw_next (f := z_iinc 3 (nI 1) 128) rfl rfl
theorem s193_128 {ls : List Value}  : ZW zG d 193 128 ls (st) z Q = ZW zG d 193 20 ls st z Q := zw_goto rfl
theorem s193_131 {x0 x1 x3 x4 x5 : Value} {a : Int32} : ZW zG d 193 131 [x0, x1, .int a, x3, x4, x5] st z Q = ZW zG d 193 132 [x0, x1, .int a, x3, x4, x5] (.int a :: st) z Q := zw_next (f := z_iload 2 132) rfl rfl
theorem s193_132 {ls : List Value} {a : Int32} : ZW zG d 193 132 ls ([.int a]) z Q = Q (.inl (some (.int a))) z := zw_reti rfl
/-- X12_soon (II)I -/
theorem e194 {r0 : Nat} {v0 : Int32} {v1 : Int32} : ZC zG d 194 [.ref r0, .int v0, .int v1] z Q = ZW zG d 194 0 [.ref r0, .int v0, .int v1] [] z Q := rfl
theorem s194_0 {x0 x1 x2 : Value} : ZW zG d 194 0 [x0, x1, x2] st z Q = (zir x0 = true ∧ ZW zG d 194 1 [x0, x1, x2] (x0 :: st) z Q) := zw_cond (f := z_aload 0 1) rfl rfl
theorem s194_1 {x0 x2 : Value} {a : Int32} : ZW zG d 194 1 [x0, .int a, x2] st z Q = ZW zG d 194 2 [x0, .int a, x2] (.int a :: st) z Q := zw_next (f := z_iload 1 2) rfl rfl
theorem s194_2 {x0 x1 : Value} {a : Int32} : ZW zG d 194 2 [x0, x1, .int a] st z Q = ZW zG d 194 3 [x0, x1, .int a] (.int a :: st) z Q := zw_next (f := z_iload 2 3) rfl rfl
theorem s194_3 {ls : List Value} {w0 : Int32} {w1 : Int32} {r : Nat} : ZW zG (d + 1) 194 3 ls (.int w1 :: .int w0 :: .ref r :: st) z Q = (zcls z r = 12 ∧ zcs st = true ∧ ZC zG d 143 [.ref r, .int w0, .int w1] z (zk zG (d + 1) 194 (none) 6 ls st Q)) := zc_V2 rfl (Nat.le_of_ble_eq_true rfl)
theorem s194_6 {ls : List Value} {a : Int32} : ZW zG d 194 6 ls (.int a :: st) z Q = if ¬ a = 0 then ZW zG d 194 12 ls st z Q else ZW zG d 194 9 ls st z Q := zw_ifne rfl
theorem s194_9 {ls : List Value}  : ZW zG d 194 9 ls (st) z Q = ZW zG d 194 11 ls ((.int (-2)) :: st) z Q := zw_push rfl
theorem s194_11 {ls : List Value} {a : Int32} : ZW zG d 194 11 ls ([.int a]) z Q = Q (.inl (some (.int a))) z := zw_reti rfl
theorem s194_12 {x0 x1 x2 : Value} : ZW zG d 194 12 [x0, x1, x2] st z Q = (zir x0 = true ∧ ZW zG d 194 13 [x0, x1, x2] (x0 :: st) z Q) := zw_cond (f := z_aload 0 13) rfl rfl
theorem s194_13 {x0 x2 : Value} {a : Int32} : ZW zG d 194 13 [x0, .int a, x2] st z Q = ZW zG d 194 14 [x0, .int a, x2] (.int a :: st) z Q := zw_next (f := z_iload 1 14) rfl rfl
theorem s194_14 {x0 x1 : Value} {a : Int32} : ZW zG d 194 14 [x0, x1, .int a] st z Q = ZW zG d 194 15 [x0, x1, .int a] (.int a :: st) z Q := zw_next (f := z_iload 2 15) rfl rfl
theorem s194_15 {ls : List Value} {w0 : Int32} {w1 : Int32} {r : Nat} : ZW zG (d + 1) 194 15 ls (.int w1 :: .int w0 :: .ref r :: st) z Q = (zcls z r = 12 ∧ zcs st = true ∧ ZC zG d 148 [.ref r, .int w0, .int w1] z (zk zG (d + 1) 194 (none) 18 ls st Q)) := zc_V2 rfl (Nat.le_of_ble_eq_true rfl)
theorem s194_18 {ls : List Value} {a : Int32} : ZW zG d 194 18 ls (.int a :: st) z Q = if a = 0 then ZW zG d 194 23 ls st z Q else ZW zG d 194 21 ls st z Q := zw_ifeq rfl
theorem s194_21 {ls : List Value}  : ZW zG d 194 21 ls (st) z Q = ZW zG d 194 22 ls ((.int (nI 0)) :: st) z Q := zw_push rfl
theorem s194_22 {ls : List Value} {a : Int32} : ZW zG d 194 22 ls ([.int a]) z Q = Q (.inl (some (.int a))) z := zw_reti rfl
theorem s194_23 {x0 x1 x2 : Value} : ZW zG d 194 23 [x0, x1, x2] st z Q = (zir x0 = true ∧ ZW zG d 194 24 [x0, x1, x2] (x0 :: st) z Q) := zw_cond (f := z_aload 0 24) rfl rfl
theorem s194_24 {x0 x2 : Value} {a : Int32} : ZW zG d 194 24 [x0, .int a, x2] st z Q = ZW zG d 194 25 [x0, .int a, x2] (.int a :: st) z Q := zw_next (f := z_iload 1 25) rfl rfl
theorem s194_25 {x0 x1 : Value} {a : Int32} : ZW zG d 194 25 [x0, x1, .int a] st z Q = ZW zG d 194 26 [x0, x1, .int a] (.int a :: st) z Q := zw_next (f := z_iload 2 26) rfl rfl
theorem s194_26 {ls : List Value} {w0 : Int32} {w1 : Int32} {r : Nat} : ZW zG (d + 1) 194 26 ls (.int w1 :: .int w0 :: .ref r :: st) z Q = (zcls z r = 12 ∧ zcs st = true ∧ ZC zG d 195 [.ref r, .int w0, .int w1] z (zk zG (d + 1) 194 (none) 29 ls st Q)) := zc_V2 rfl (Nat.le_of_ble_eq_true rfl)
theorem s194_29 {ls : List Value} {a : Int32} : ZW zG d 194 29 ls (.int a :: st) z Q = if a = 0 then ZW zG d 194 39 ls st z Q else ZW zG d 194 32 ls st z Q := zw_ifeq rfl
theorem s194_32 {x0 x1 x2 : Value} : ZW zG d 194 32 [x0, x1, x2] st z Q = (zir x0 = true ∧ ZW zG d 194 33 [x0, x1, x2] (x0 :: st) z Q) := zw_cond (f := z_aload 0 33) rfl rfl
theorem s194_33 {ls : List Value} {r : Nat} : ZW zG d 194 33 ls (.ref r :: st) z Q = ((zcls z r = 12) ∧ ZW zG d 194 36 ls (.int (zfi z r 34) :: st) (z) Q) := zw_getI rfl
theorem s194_36 {ls : List Value}  : ZW zG d 194 36 ls (st) z Q = ZW zG d 194 40 ls st z Q := zw_goto rfl
theorem s194_39 {ls : List Value}  : ZW zG d 194 39 ls (st) z Q = ZW zG d 194 40 ls ((.int (-1)) :: st) z Q := zw_push rfl
theorem s194_40 {ls : List Value} {a : Int32} : ZW zG d 194 40 ls ([.int a]) z Q = Q (.inl (some (.int a))) z := zw_reti rfl
/-- X12_finds (II)Z -/
theorem e195 {r0 : Nat} {v0 : Int32} {v1 : Int32} : ZC zG d 195 [.ref r0, .int v0, .int v1] z Q = ZW zG d 195 0 [.ref r0, .int v0, .int v1, zdum, zdum, zdum, zdum] [] z Q := rfl
theorem s195_0 {ls : List Value}  : ZW zG d 195 0 ls (st) z Q = ZW zG d 195 1 ls ((.int (nI 0)) :: st) z Q := zw_push rfl
theorem s195_1 {x0 x1 x2 x3 x4 x5 x6 : Value} {a : Int32} : ZW zG d 195 1 [x0, x1, x2, x3, x4, x5, x6] (.int a :: st) z Q = ZW zG d 195 2 [x0, x1, zclr x2, .int a, x4, x5, x6] st z Q := zw_next (f := z_istore 3 2) rfl rfl
theorem s195_2 {x0 x1 x2 x4 x5 x6 : Value} {a : Int32} : ZW zG d 195 2 [x0, x1, x2, .int a, x4, x5, x6] st z Q = ZW zG d 195 3 [x0, x1, x2, .int a, x4, x5, x6] (.int a :: st) z Q := zw_next (f := z_iload 3 3) rfl rfl
theorem s195_3 {x0 x1 x2 x3 x4 x5 x6 : Value} : ZW zG d 195 3 [x0, x1, x2, x3, x4, x5, x6] st z Q = (zir x0 = true ∧ ZW zG d 195 4 [x0, x1, x2, x3, x4, x5, x6] (x0 :: st) z Q) := zw_cond (f := z_aload 0 4) rfl rfl
theorem s195_4 {ls : List Value} {r : Nat} : ZW zG d 195 4 ls (.ref r :: st) z Q = ((zcls z r = 12 ∧ zir (zfr z r 32) = true) ∧ ZW zG d 195 7 ls (zfr z r 32 :: st) (z) Q) := zw_getR rfl
theorem s195_7 {ls : List Value} {r : Nat} : ZW zG d 195 7 ls (.ref r :: st) z Q = ((zcls z r = 54) ∧ ZW zG d 195 8 ls (.int (nI (zlen z r)) :: st) (z) Q) := zw_alen rfl
theorem s195_8 {ls : List Value} {a b : Int32} : ZW zG d 195 8 ls (.int b :: .int a :: st) z Q = if b ≤ a then ZW zG d 195 24 ls st z Q else ZW zG d 195 11 ls st z Q := zw_icge rfl
theorem s195_11 {x0 x1 x2 x3 x4 x5 x6 : Value} : ZW zG d 195 11 [x0, x1, x2, x3, x4, x5, x6] st z Q = (zir x0 = true ∧ ZW zG d 195 12 [x0, x1, x2, x3, x4, x5, x6] (x0 :: st) z Q) := zw_cond (f := z_aload 0 12) rfl rfl
theorem s195_12 {ls : List Value} {r : Nat} : ZW zG d 195 12 ls (.ref r :: st) z Q = ((zcls z r = 12 ∧ zir (zfr z r 32) = true) ∧ ZW zG d 195 15 ls (zfr z r 32 :: st) (z) Q) := zw_getR rfl
theorem s195_15 {x0 x1 x2 x4 x5 x6 : Value} {a : Int32} : ZW zG d 195 15 [x0, x1, x2, .int a, x4, x5, x6] st z Q = ZW zG d 195 16 [x0, x1, x2, .int a, x4, x5, x6] (.int a :: st) z Q := zw_next (f := z_iload 3 16) rfl rfl
theorem s195_16 {ls : List Value}  : ZW zG d 195 16 ls (st) z Q = ZW zG d 195 17 ls ((.int (nI 0)) :: st) z Q := zw_push rfl
theorem s195_17 {ls : List Value} {a b : Int32} {r : Nat} : ZW zG d 195 17 ls (.int b :: .int a :: .ref r :: st) z Q = ((zcls z r = 54 ∧ zin a (zlen z r) = true) ∧ ZW zG d 195 18 ls (st) (sia z r (zx a) (znar 54 b)) Q) := zw_iast rfl
theorem s195_18 {x0 x1 x2 x4 x5 x6 : Value} {a : Int32} : ZW zG d 195 18 [x0, x1, x2, .int a, x4, x5, x6] st z Q = ZW zG d 195 21 [x0, x1, zclr x2, .int (a + (nI 1)), x4, x5, x6] st z Q := zw_next (f := z_iinc 3 (nI 1) 21) rfl rfl
theorem s195_21 {ls : List Value}  : ZW zG d 195 21 ls (st) z Q = ZW zG d 195 2 ls st z Q := zw_goto rfl
theorem s195_24 {ls : List Value}  : ZW zG d 195 24 ls (st) z Q = ZW zG d 195 25 ls ((.int (nI 0)) :: st) z Q := zw_push rfl
theorem s195_25 {x0 x1 x2 x3 x4 x5 x6 : Value} {a : Int32} : ZW zG d 195 25 [x0, x1, x2, x3, x4, x5, x6] (.int a :: st) z Q = ZW zG d 195 26 [x0, x1, zclr x2, .int a, x4, x5, x6] st z Q := zw_next (f := z_istore 3 26) rfl rfl
theorem s195_26 {ls : List Value}  : ZW zG d 195 26 ls (st) z Q = ZW zG d 195 27 ls ((.int (nI 1)) :: st) z Q := zw_push rfl
theorem s195_27 {x0 x1 x2 x3 x4 x5 x6 : Value} {a : Int32} : ZW zG d 195 27 [x0, x1, x2, x3, x4, x5, x6] (.int a :: st) z Q = ZW zG d 195 29 [x0, x1, x2, zclr x3, .int a, x5, x6] st z Q := zw_next (f := z_istore 4 29) rfl rfl
theorem s195_29 {x0 x1 x2 x3 x4 x5 x6 : Value} : ZW zG d 195 29 [x0, x1, x2, x3, x4, x5, x6] st z Q = (zir x0 = true ∧ ZW zG d 195 30 [x0, x1, x2, x3, x4, x5, x6] (x0 :: st) z Q) := zw_cond (f := z_aload 0 30) rfl rfl
theorem s195_30 {ls : List Value} {r : Nat} : ZW zG d 195 30 ls (.ref r :: st) z Q = ((zcls z r = 12 ∧ zir (zfr z r 29) = true) ∧ ZW zG d 195 33 ls (zfr z r 29 :: st) (z) Q) := zw_getR rfl
theorem s195_33 {ls : List Value}  : ZW zG d 195 33 ls (st) z Q = ZW zG d 195 34 ls ((.int (nI 0)) :: st) z Q := zw_push rfl
theorem s195_34 {x0 x1 x2 x3 x4 x5 x6 : Value} : ZW zG d 195 34 [x0, x1, x2, x3, x4, x5, x6] st z Q = (zir x0 = true ∧ ZW zG d 195 35 [x0, x1, x2, x3, x4, x5, x6] (x0 :: st) z Q) := zw_cond (f := z_aload 0 35) rfl rfl
theorem s195_35 {ls : List Value} {r : Nat} : ZW zG d 195 35 ls (.ref r :: st) z Q = ((zcls z r = 12 ∧ zir (zfr z r 1) = true) ∧ ZW zG d 195 38 ls (zfr z r 1 :: st) (z) Q) := zw_getR rfl
theorem s195_38 {ls : List Value}  : ZW zG d 195 38 ls (st) z Q = ZW zG d 195 41 ls ((.int (nI 1864)) :: st) z Q := zw_push rfl
theorem s195_41 {x0 x2 x3 x4 x5 x6 : Value} {a : Int32} : ZW zG d 195 41 [x0, .int a, x2, x3, x4, x5, x6] st z Q = ZW zG d 195 42 [x0, .int a, x2, x3, x4, x5, x6] (.int a :: st) z Q := zw_next (f := z_iload 1 42) rfl rfl
theorem s195_42 {ls : List Value} {a b : Int32} : ZW zG d 195 42 ls (.int b :: .int a :: st) z Q = ZW zG d 195 43 ls (.int (a + b) :: st) z Q := zw_iadd rfl
theorem s195_43 {ls : List Value} {a : Int32} {r : Nat} : ZW zG d 195 43 ls (.int a :: .ref r :: st) z Q = ((zcls z r = 50 ∧ zin a (zlen z r) = true) ∧ ZW zG d 195 44 ls (.int (zia z r (zx a)) :: st) (z) Q) := zw_iald rfl
theorem s195_44 {ls : List Value} {a b : Int32} {r : Nat} : ZW zG d 195 44 ls (.int b :: .int a :: .ref r :: st) z Q = ((zcls z r = 50 ∧ zin a (zlen z r) = true) ∧ ZW zG d 195 45 ls (st) (sia z r (zx a) (znar 50 b)) Q) := zw_iast rfl
theorem s195_45 {x0 x1 x2 x3 x4 x5 x6 : Value} : ZW zG d 195 45 [x0, x1, x2, x3, x4, x5, x6] st z Q = (zir x0 = true ∧ ZW zG d 195 46 [x0, x1, x2, x3, x4, x5, x6] (x0 :: st) z Q) := zw_cond (f := z_aload 0 46) rfl rfl
theorem s195_46 {ls : List Value} {r : Nat} : ZW zG d 195 46 ls (.ref r :: st) z Q = ((zcls z r = 12 ∧ zir (zfr z r 31) = true) ∧ ZW zG d 195 49 ls (zfr z r 31 :: st) (z) Q) := zw_getR rfl
theorem s195_49 {ls : List Value}  : ZW zG d 195 49 ls (st) z Q = ZW zG d 195 50 ls ((.int (nI 0)) :: st) z Q := zw_push rfl
theorem s195_50 {ls : List Value}  : ZW zG d 195 50 ls (st) z Q = ZW zG d 195 51 ls ((.int (-1)) :: st) z Q := zw_push rfl
theorem s195_51 {ls : List Value} {a b : Int32} {r : Nat} : ZW zG d 195 51 ls (.int b :: .int a :: .ref r :: st) z Q = ((zcls z r = 50 ∧ zin a (zlen z r) = true) ∧ ZW zG d 195 52 ls (st) (sia z r (zx a) (znar 50 b)) Q) := zw_iast rfl
theorem s195_52 {x0 x1 x2 x3 x4 x5 x6 : Value} : ZW zG d 195 52 [x0, x1, x2, x3, x4, x5, x6] st z Q = (zir x0 = true ∧ ZW zG d 195 53 [x0, x1, x2, x3, x4, x5, x6] (x0 :: st) z Q) := zw_cond (f := z_aload 0 53) rfl rfl
theorem s195_53 {ls : List Value} {r : Nat} : ZW zG d 195 53 ls (.ref r :: st) z Q = ((zcls z r = 12 ∧ zir (zfr z r 32) = true) ∧ ZW zG d 195 56 ls (zfr z r 32 :: st) (z) Q) := zw_getR rfl
theorem s195_56 {x0 x1 x2 x3 x4 x5 x6 : Value} : ZW zG d 195 56 [x0, x1, x2, x3, x4, x5, x6] st z Q = (zir x0 = true ∧ ZW zG d 195 57 [x0, x1, x2, x3, x4, x5, x6] (x0 :: st) z Q) := zw_cond (f := z_aload 0 57) rfl rfl
theorem s195_57 {ls : List Value} {r : Nat} : ZW zG d 195 57 ls (.ref r :: st) z Q = ((zcls z r = 12 ∧ zir (zfr z r 29) = true) ∧ ZW zG d 195 60 ls (zfr z r 29 :: st) (z) Q) := zw_getR rfl
theorem s195_60 {ls : List Value}  : ZW zG d 195 60 ls (st) z Q = ZW zG d 195 61 ls ((.int (nI 0)) :: st) z Q := zw_push rfl
theorem s195_61 {ls : List Value} {a : Int32} {r : Nat} : ZW zG d 195 61 ls (.int a :: .ref r :: st) z Q = ((zcls z r = 50 ∧ zin a (zlen z r) = true) ∧ ZW zG d 195 62 ls (.int (zia z r (zx a)) :: st) (z) Q) := zw_iald rfl
theorem s195_62 {ls : List Value}  : ZW zG d 195 62 ls (st) z Q = ZW zG d 195 63 ls ((.int (nI 1)) :: st) z Q := zw_push rfl
theorem s195_63 {ls : List Value} {a b : Int32} {r : Nat} : ZW zG d 195 63 ls (.int b :: .int a :: .ref r :: st) z Q = ((zcls z r = 54 ∧ zin a (zlen z r) = true) ∧ ZW zG d 195 64 ls (st) (sia z r (zx a) (znar 54 b)) Q) := zw_iast rfl
theorem s195_64 {x0 x1 x2 x4 x5 x6 : Value} {a : Int32} : ZW zG d 195 64 [x0, x1, x2, .int a, x4, x5, x6] st z Q = ZW zG d 195 65 [x0, x1, x2, .int a, x4, x5, x6] (.int a :: st) z Q := zw_next (f := z_iload 3 65) rfl rfl
theorem s195_65 {x0 x1 x2 x3 x5 x6 : Value} {a : Int32} : ZW zG d 195 65 [x0, x1, x2, x3, .int a, x5, x6] st z Q = ZW zG d 195 67 [x0, x1, x2, x3, .int a, x5, x6] (.int a :: st) z Q := zw_next (f := z_iload 4 67) rfl rfl
theorem s195_67 {ls : List Value} {a b : Int32} : ZW zG d 195 67 ls (.int b :: .int a :: st) z Q = if b ≤ a then ZW zG d 195 223 ls st z Q else ZW zG d 195 70 ls st z Q := zw_icge rfl
theorem s195_70 {x0 x1 x2 x3 x4 x5 x6 : Value} : ZW zG d 195 70 [x0, x1, x2, x3, x4, x5, x6] st z Q = (zir x0 = true ∧ ZW zG d 195 71 [x0, x1, x2, x3, x4, x5, x6] (x0 :: st) z Q) := zw_cond (f := z_aload 0 71) rfl rfl
theorem s195_71 {ls : List Value} {r : Nat} : ZW zG d 195 71 ls (.ref r :: st) z Q = ((zcls z r = 12 ∧ zir (zfr z r 29) = true) ∧ ZW zG d 195 74 ls (zfr z r 29 :: st) (z) Q) := zw_getR rfl
theorem s195_74 {x0 x1 x2 x4 x5 x6 : Value} {a : Int32} : ZW zG d 195 74 [x0, x1, x2, .int a, x4, x5, x6] st z Q = ZW zG d 195 75 [x0, x1, x2, .int a, x4, x5, x6] (.int a :: st) z Q := zw_next (f := z_iload 3 75) rfl rfl
theorem s195_75 {ls : List Value} {a : Int32} {r : Nat} : ZW zG d 195 75 ls (.int a :: .ref r :: st) z Q = ((zcls z r = 50 ∧ zin a (zlen z r) = true) ∧ ZW zG d 195 76 ls (.int (zia z r (zx a)) :: st) (z) Q) := zw_iald rfl
theorem s195_76 {x0 x1 x2 x3 x4 x5 x6 : Value} {a : Int32} : ZW zG d 195 76 [x0, x1, x2, x3, x4, x5, x6] (.int a :: st) z Q = ZW zG d 195 78 [x0, x1, x2, x3, zclr x4, .int a, x6] st z Q := zw_next (f := z_istore 5 78) rfl rfl
theorem s195_78 {ls : List Value}  : ZW zG d 195 78 ls (st) z Q = ZW zG d 195 79 ls ((.int (nI 0)) :: st) z Q := zw_push rfl
theorem s195_79 {x0 x1 x2 x3 x4 x5 x6 : Value} {a : Int32} : ZW zG d 195 79 [x0, x1, x2, x3, x4, x5, x6] (.int a :: st) z Q = ZW zG d 195 81 [x0, x1, x2, x3, x4, zclr x5, .int a] st z Q := zw_next (f := z_istore 6 81) rfl rfl
theorem s195_81 {x0 x1 x2 x3 x4 x5 : Value} {a : Int32} : ZW zG d 195 81 [x0, x1, x2, x3, x4, x5, .int a] st z Q = ZW zG d 195 83 [x0, x1, x2, x3, x4, x5, .int a] (.int a :: st) z Q := zw_next (f := z_iload 6 83) rfl rfl
theorem s195_83 {x0 x1 x2 x3 x4 x5 x6 : Value} : ZW zG d 195 83 [x0, x1, x2, x3, x4, x5, x6] st z Q = (zir x0 = true ∧ ZW zG d 195 84 [x0, x1, x2, x3, x4, x5, x6] (x0 :: st) z Q) := zw_cond (f := z_aload 0 84) rfl rfl
theorem s195_84 {ls : List Value} {r : Nat} : ZW zG d 195 84 ls (.ref r :: st) z Q = ((zcls z r = 12 ∧ zir (zfr z r 1) = true) ∧ ZW zG d 195 87 ls (zfr z r 1 :: st) (z) Q) := zw_getR rfl
theorem s195_87 {ls : List Value}  : ZW zG d 195 87 ls (st) z Q = ZW zG d 195 88 ls ((.int (nI 0)) :: st) z Q := zw_push rfl
theorem s195_88 {ls : List Value} {a : Int32} {r : Nat} : ZW zG d 195 88 ls (.int a :: .ref r :: st) z Q = ((zcls z r = 50 ∧ zin a (zlen z r) = true) ∧ ZW zG d 195 89 ls (.int (zia z r (zx a)) :: st) (z) Q) := zw_iald rfl
theorem s195_89 {ls : List Value} {a b : Int32} : ZW zG d 195 89 ls (.int b :: .int a :: st) z Q = if b ≤ a then ZW zG d 195 217 ls st z Q else ZW zG d 195 92 ls st z Q := zw_icge rfl
theorem s195_92 {x0 x1 x2 x3 x4 x5 : Value} {a : Int32} : ZW zG d 195 92 [x0, x1, x2, x3, x4, x5, .int a] st z Q = ZW zG d 195 94 [x0, x1, x2, x3, x4, x5, .int a] (.int a :: st) z Q := zw_next (f := z_iload 6 94) rfl rfl
theorem s195_94 {x0 x2 x3 x4 x5 x6 : Value} {a : Int32} : ZW zG d 195 94 [x0, .int a, x2, x3, x4, x5, x6] st z Q = ZW zG d 195 95 [x0, .int a, x2, x3, x4, x5, x6] (.int a :: st) z Q := zw_next (f := z_iload 1 95) rfl rfl
theorem s195_95 {ls : List Value} {a b : Int32} : ZW zG d 195 95 ls (.int b :: .int a :: st) z Q = if a = b then ZW zG d 195 211 ls st z Q else ZW zG d 195 98 ls st z Q := zw_iceq rfl
theorem s195_98 {x0 x1 x2 x3 x4 x6 : Value} {a : Int32} : ZW zG d 195 98 [x0, x1, x2, x3, x4, .int a, x6] st z Q = ZW zG d 195 100 [x0, x1, x2, x3, x4, .int a, x6] (.int a :: st) z Q := zw_next (f := z_iload 5 100) rfl rfl
theorem s195_100 {x0 x1 x2 x3 x4 x5 : Value} {a : Int32} : ZW zG d 195 100 [x0, x1, x2, x3, x4, x5, .int a] st z Q = ZW zG d 195 102 [x0, x1, x2, x3, x4, x5, .int a] (.int a :: st) z Q := zw_next (f := z_iload 6 102) rfl rfl
theorem s195_102 {ls : List Value} {w0 : Int32} {w1 : Int32} : ZW zG (d + 1) 195 102 ls (.int w1 :: .int w0 :: st) z Q = (zcs st = true ∧ ZC zG d 149 [.int w0, .int w1] z (zk zG (d + 1) 195 (none) 105 ls st Q)) := zc_S2 rfl (Nat.le_of_ble_eq_true rfl)
theorem s195_105 {ls : List Value} {a : Int32} : ZW zG d 195 105 ls (.int a :: st) z Q = if ¬ a = 0 then ZW zG d 195 211 ls st z Q else ZW zG d 195 108 ls st z Q := zw_ifne rfl
theorem s195_108 {x0 x1 x2 x3 x4 x5 x6 : Value} : ZW zG d 195 108 [x0, x1, x2, x3, x4, x5, x6] st z Q = (zir x0 = true ∧ ZW zG d 195 109 [x0, x1, x2, x3, x4, x5, x6] (x0 :: st) z Q) := zw_cond (f := z_aload 0 109) rfl rfl
theorem s195_109 {x0 x1 x2 x3 x4 x5 : Value} {a : Int32} : ZW zG d 195 109 [x0, x1, x2, x3, x4, x5, .int a] st z Q = ZW zG d 195 111 [x0, x1, x2, x3, x4, x5, .int a] (.int a :: st) z Q := zw_next (f := z_iload 6 111) rfl rfl
theorem s195_111 {x0 x1 x2 x3 x4 x5 x6 : Value} : ZW zG d 195 111 [x0, x1, x2, x3, x4, x5, x6] st z Q = (zir x0 = true ∧ ZW zG d 195 112 [x0, x1, x2, x3, x4, x5, x6] (x0 :: st) z Q) := zw_cond (f := z_aload 0 112) rfl rfl
theorem s195_112 {ls : List Value}  {r : Nat} : ZW zG (d + 1) 195 112 ls (.ref r :: st) z Q = (zcls z r = 12 ∧ zcs st = true ∧ ZC zG d 141 [.ref r] z (zk zG (d + 1) 195 (none) 115 ls st Q)) := zc_V0 rfl (Nat.le_of_ble_eq_true rfl)
theorem s195_115 {ls : List Value} {w0 : Int32} {w1 : Int32} {r : Nat} : ZW zG (d + 1) 195 115 ls (.int w1 :: .int w0 :: .ref r :: st) z Q = (zcls z r = 12 ∧ zcs st = true ∧ ZC zG d 147 [.ref r, .int w0, .int w1] z (zk zG (d + 1) 195 (none) 118 ls st Q)) := zc_V2 rfl (Nat.le_of_ble_eq_true rfl)
theorem s195_118 {ls : List Value} {a : Int32} : ZW zG d 195 118 ls (.int a :: st) z Q = if a = 0 then ZW zG d 195 211 ls st z Q else ZW zG d 195 121 ls st z Q := zw_ifeq rfl
theorem s195_121 {x0 x1 x2 x3 x4 x5 x6 : Value} : ZW zG d 195 121 [x0, x1, x2, x3, x4, x5, x6] st z Q = (zir x0 = true ∧ ZW zG d 195 122 [x0, x1, x2, x3, x4, x5, x6] (x0 :: st) z Q) := zw_cond (f := z_aload 0 122) rfl rfl
theorem s195_122 {x0 x1 x2 x3 x4 x6 : Value} {a : Int32} : ZW zG d 195 122 [x0, x1, x2, x3, x4, .int a, x6] st z Q = ZW zG d 195 124 [x0, x1, x2, x3, x4, .int a, x6] (.int a :: st) z Q := zw_next (f := z_iload 5 124) rfl rfl
theorem s195_124 {x0 x1 x2 x3 x4 x5 : Value} {a : Int32} : ZW zG d 195 124 [x0, x1, x2, x3, x4, x5, .int a] st z Q = ZW zG d 195 126 [x0, x1, x2, x3, x4, x5, .int a] (.int a :: st) z Q := zw_next (f := z_iload 6 126) rfl rfl
theorem s195_126 {ls : List Value} {w0 : Int32} {w1 : Int32} {r : Nat} : ZW zG (d + 1) 195 126 ls (.int w1 :: .int w0 :: .ref r :: st) z Q = (zcls z r = 12 ∧ zcs st = true ∧ ZC zG d 151 [.ref r, .int w0, .int w1] z (zk zG (d + 1) 195 (none) 129 ls st Q)) := zc_V2 rfl (Nat.le_of_ble_eq_true rfl)
theorem s195_129 {ls : List Value} {a : Int32} : ZW zG d 195 129 ls (.int a :: st) z Q = if a = 0 then ZW zG d 195 211 ls st z Q else ZW zG d 195 132 ls st z Q := zw_ifeq rfl
theorem s195_132 {x0 x1 x2 x3 x4 x5 x6 : Value} : ZW zG d 195 132 [x0, x1, x2, x3, x4, x5, x6] st z Q = (zir x0 = true ∧ ZW zG d 195 133 [x0, x1, x2, x3, x4, x5, x6] (x0 :: st) z Q) := zw_cond (f := z_aload 0 133) rfl rfl
theorem s195_133 {ls : List Value} {r : Nat} : ZW zG d 195 133 ls (.ref r :: st) z Q = ((zcls z r = 12 ∧ zir (zfr z r 32) = true) ∧ ZW zG d 195 136 ls (zfr z r 32 :: st) (z) Q) := zw_getR rfl
theorem s195_136 {x0 x1 x2 x3 x4 x6 : Value} {a : Int32} : ZW zG d 195 136 [x0, x1, x2, x3, x4, .int a, x6] st z Q = ZW zG d 195 138 [x0, x1, x2, x3, x4, .int a, x6] (.int a :: st) z Q := zw_next (f := z_iload 5 138) rfl rfl
theorem s195_138 {ls : List Value}  : ZW zG d 195 138 ls (st) z Q = ZW zG d 195 139 ls ((.int (nI 1)) :: st) z Q := zw_push rfl
theorem s195_139 {x0 x1 x2 x3 x4 x5 : Value} {a : Int32} : ZW zG d 195 139 [x0, x1, x2, x3, x4, x5, .int a] st z Q = ZW zG d 195 141 [x0, x1, x2, x3, x4, x5, .int a] (.int a :: st) z Q := zw_next (f := z_iload 6 141) rfl rfl
theorem s195_141 {ls : List Value} {a b : Int32} : ZW zG d 195 141 ls (.int b :: .int a :: st) z Q = ZW zG d 195 142 ls (.int (a <<< (b &&& 31)) :: st) z Q := zw_ishl rfl
theorem s195_142 {ls : List Value} {a b : Int32} : ZW zG d 195 142 ls (.int b :: .int a :: st) z Q = ZW zG d 195 143 ls (.int (a ||| b) :: st) z Q := zw_ior rfl
theorem s195_143 {ls : List Value} {a : Int32} {r : Nat} : ZW zG d 195 143 ls (.int a :: .ref r :: st) z Q = ((zcls z r = 54 ∧ zin a (zlen z r) = true) ∧ ZW zG d 195 144 ls (.int (zia z r (zx a)) :: st) (z) Q) := zw_iald rfl
theorem s195_144 {ls : List Value} {a : Int32} : ZW zG d 195 144 ls (.int a :: st) z Q = if a = 0 then ZW zG d 195 150 ls st z Q else ZW zG d 195 147 ls st z Q := zw_ifeq rfl
theorem s195_147 {ls : List Value}  : ZW zG d 195 147 ls (st) z Q = ZW zG d 195 211 ls st z Q := zw_goto rfl
theorem s195_150 {x0 x1 x2 x3 x4 x5 x6 : Value} : ZW zG d 195 150 [x0, x1, x2, x3, x4, x5, x6] st z Q = (zir x0 = true ∧ ZW zG d 195 151 [x0, x1, x2, x3, x4, x5, x6] (x0 :: st) z Q) := zw_cond (f := z_aload 0 151) rfl rfl
theorem s195_151 {ls : List Value} {r : Nat} : ZW zG d 195 151 ls (.ref r :: st) z Q = ((zcls z r = 12 ∧ zir (zfr z r 32) = true) ∧ ZW zG d 195 154 ls (zfr z r 32 :: st) (z) Q) := zw_getR rfl
theorem s195_154 {x0 x1 x2 x3 x4 x6 : Value} {a : Int32} : ZW zG d 195 154 [x0, x1, x2, x3, x4, .int a, x6] st z Q = ZW zG d 195 156 [x0, x1, x2, x3, x4, .int a, x6] (.int a :: st) z Q := zw_next (f := z_iload 5 156) rfl rfl
theorem s195_156 {ls : List Value}  : ZW zG d 195 156 ls (st) z Q = ZW zG d 195 157 ls ((.int (nI 1)) :: st) z Q := zw_push rfl
theorem s195_157 {x0 x1 x2 x3 x4 x5 : Value} {a : Int32} : ZW zG d 195 157 [x0, x1, x2, x3, x4, x5, .int a] st z Q = ZW zG d 195 159 [x0, x1, x2, x3, x4, x5, .int a] (.int a :: st) z Q := zw_next (f := z_iload 6 159) rfl rfl
theorem s195_159 {ls : List Value} {a b : Int32} : ZW zG d 195 159 ls (.int b :: .int a :: st) z Q = ZW zG d 195 160 ls (.int (a <<< (b &&& 31)) :: st) z Q := zw_ishl rfl
theorem s195_160 {ls : List Value} {a b : Int32} : ZW zG d 195 160 ls (.int b :: .int a :: st) z Q = ZW zG d 195 161 ls (.int (a ||| b) :: st) z Q := zw_ior rfl
theorem s195_161 {ls : List Value}  : ZW zG d 195 161 ls (st) z Q = ZW zG d 195 162 ls ((.int (nI 1)) :: st) z Q := zw_push rfl
theorem s195_162 {ls : List Value} {a b : Int32} {r : Nat} : ZW zG d 195 162 ls (.int b :: .int a :: .ref r :: st) z Q = ((zcls z r = 54 ∧ zin a (zlen z r) = true) ∧ ZW zG d 195 163 ls (st) (sia z r (zx a) (znar 54 b)) Q) := zw_iast rfl
theorem s195_163 {x0 x1 x2 x3 x4 x5 x6 : Value} : ZW zG d 195 163 [x0, x1, x2, x3, x4, x5, x6] st z Q = (zir x0 = true ∧ ZW zG d 195 164 [x0, x1, x2, x3, x4, x5, x6] (x0 :: st) z Q) := zw_cond (f := z_aload 0 164) rfl rfl
theorem s195_164 {ls : List Value} {r : Nat} : ZW zG d 195 164 ls (.ref r :: st) z Q = ((zcls z r = 12 ∧ zir (zfr z r 29) = true) ∧ ZW zG d 195 167 ls (zfr z r 29 :: st) (z) Q) := zw_getR rfl
theorem s195_167 {x0 x1 x2 x3 x5 x6 : Value} {a : Int32} : ZW zG d 195 167 [x0, x1, x2, x3, .int a, x5, x6] st z Q = ZW zG d 195 169 [x0, x1, x2, x3, .int a, x5, x6] (.int a :: st) z Q := zw_next (f := z_iload 4 169) rfl rfl
theorem s195_169 {x0 x1 x2 x3 x4 x6 : Value} {a : Int32} : ZW zG d 195 169 [x0, x1, x2, x3, x4, .int a, x6] st z Q = ZW zG d 195 171 [x0, x1, x2, x3, x4, .int a, x6] (.int a :: st) z Q := zw_next (f := z_iload 5 171) rfl rfl
theorem s195_171 {ls : List Value}  : ZW zG d 195 171 ls (st) z Q = ZW zG d 195 172 ls ((.int (nI 1)) :: st) z Q := zw_push rfl
theorem s195_172 {x0 x1 x2 x3 x4 x5 : Value} {a : Int32} : ZW zG d 195 172 [x0, x1, x2, x3, x4, x5, .int a] st z Q = ZW zG d 195 174 [x0, x1, x2, x3, x4, x5, .int a] (.int a :: st) z Q := zw_next (f := z_iload 6 174) rfl rfl
theorem s195_174 {ls : List Value} {a b : Int32} : ZW zG d 195 174 ls (.int b :: .int a :: st) z Q = ZW zG d 195 175 ls (.int (a <<< (b &&& 31)) :: st) z Q := zw_ishl rfl
theorem s195_175 {ls : List Value} {a b : Int32} : ZW zG d 195 175 ls (.int b :: .int a :: st) z Q = ZW zG d 195 176 ls (.int (a ||| b) :: st) z Q := zw_ior rfl
theorem s195_176 {ls : List Value} {a b : Int32} {r : Nat} : ZW zG d 195 176 ls (.int b :: .int a :: .ref r :: st) z Q = ((zcls z r = 50 ∧ zin a (zlen z r) = true) ∧ ZW zG d 195 177 ls (st) (sia z r (zx a) (znar 50 b)) Q) := zw_iast rfl
theorem s195_177 {x0 x1 x2 x3 x4 x5 x6 : Value} : ZW zG d 195 177 [x0, x1, x2, x3, x4, x5, x6] st z Q = (zir x0 = true ∧ ZW zG d 195 178 [x0, x1, x2, x3, x4, x5, x6] (x0 :: st) z Q) := zw_cond (f := z_aload 0 178) rfl rfl
theorem s195_178 {ls : List Value} {r : Nat} : ZW zG d 195 178 ls (.ref r :: st) z Q = ((zcls z r = 12 ∧ zir (zfr z r 31) = true) ∧ ZW zG d 195 181 ls (zfr z r 31 :: st) (z) Q) := zw_getR rfl
theorem s195_181 {x0 x1 x2 x3 x5 x6 : Value} {a : Int32} : ZW zG d 195 181 [x0, x1, x2, x3, .int a, x5, x6] st z Q = ZW zG d 195 183 [x0, x1, x2, x3, .int a, x5, x6] (.int a :: st) z Q := zw_next (f := z_iload 4 183) rfl rfl
theorem s195_183 {x0 x1 x2 x4 x5 x6 : Value} {a : Int32} : ZW zG d 195 183 [x0, x1, x2, .int a, x4, x5, x6] st z Q = ZW zG d 195 184 [x0, x1, x2, .int a, x4, x5, x6] (.int a :: st) z Q := zw_next (f := z_iload 3 184) rfl rfl
theorem s195_184 {ls : List Value} {a b : Int32} {r : Nat} : ZW zG d 195 184 ls (.int b :: .int a :: .ref r :: st) z Q = ((zcls z r = 50 ∧ zin a (zlen z r) = true) ∧ ZW zG d 195 185 ls (st) (sia z r (zx a) (znar 50 b)) Q) := zw_iast rfl
theorem s195_185 {x0 x1 x2 x3 x4 x5 x6 : Value} : ZW zG d 195 185 [x0, x1, x2, x3, x4, x5, x6] st z Q = (zir x0 = true ∧ ZW zG d 195 186 [x0, x1, x2, x3, x4, x5, x6] (x0 :: st) z Q) := zw_cond (f := z_aload 0 186) rfl rfl
theorem s195_186 {ls : List Value} {r : Nat} : ZW zG d 195 186 ls (.ref r :: st) z Q = ((zcls z r = 12 ∧ zir (zfr z r 30) = true) ∧ ZW zG d 195 189 ls (zfr z r 30 :: st) (z) Q) := zw_getR rfl
theorem s195_189 {x0 x1 x2 x3 x5 x6 : Value} {a : Int32} : ZW zG d 195 189 [x0, x1, x2, x3, .int a, x5, x6] st z Q = ZW zG d 195 191 [x0, x1, x2, x3, .int a, x5, x6] (.int a :: st) z Q := zw_next (f := z_iload 4 191) rfl rfl
theorem s195_191 {x0 x1 x2 x3 x4 x5 : Value} {a : Int32} : ZW zG d 195 191 [x0, x1, x2, x3, x4, x5, .int a] st z Q = ZW zG d 195 193 [x0, x1, x2, x3, x4, x5, .int a] (.int a :: st) z Q := zw_next (f := z_iload 6 193) rfl rfl
theorem s195_193 {ls : List Value} {a b : Int32} {r : Nat} : ZW zG d 195 193 ls (.int b :: .int a :: .ref r :: st) z Q = ((zcls z r = 50 ∧ zin a (zlen z r) = true) ∧ ZW zG d 195 194 ls (st) (sia z r (zx a) (znar 50 b)) Q) := zw_iast rfl
theorem s195_194 {x0 x1 x2 x3 x4 x5 : Value} {a : Int32} : ZW zG d 195 194 [x0, x1, x2, x3, x4, x5, .int a] st z Q = ZW zG d 195 196 [x0, x1, x2, x3, x4, x5, .int a] (.int a :: st) z Q := zw_next (f := z_iload 6 196) rfl rfl
theorem s195_196 {x0 x1 x3 x4 x5 x6 : Value} {a : Int32} : ZW zG d 195 196 [x0, x1, .int a, x3, x4, x5, x6] st z Q = ZW zG d 195 197 [x0, x1, .int a, x3, x4, x5, x6] (.int a :: st) z Q := zw_next (f := z_iload 2 197) rfl rfl
theorem s195_197 {ls : List Value} {a b : Int32} : ZW zG d 195 197 ls (.int b :: .int a :: st) z Q = if ¬ a = b then ZW zG d 195 208 ls st z Q else ZW zG d 195 200 ls st z Q := zw_icne rfl
theorem s195_200 {x0 x1 x2 x3 x4 x5 x6 : Value} : ZW zG d 195 200 [x0, x1, x2, x3, x4, x5, x6] st z Q = (zir x0 = true ∧ ZW zG d 195 201 [x0, x1, x2, x3, x4, x5, x6] (x0 :: st) z Q) := zw_cond (f := z_aload 0 201) rfl rfl
theorem s195_201 {x0 x1 x2 x3 x5 x6 : Value} {a : Int32} : ZW zG d 195 201 [x0, x1, x2, x3, .int a, x5, x6] st z Q = ZW zG d 195 203 [x0, x1, x2, x3, .int a, x5, x6] (.int a :: st) z Q := zw_next (f := z_iload 4 203) rfl rfl
theorem s195_203 {ls : List Value} {w0 : Int32} {r : Nat} : ZW zG (d + 1) 195 203 ls (.int w0 :: .ref r :: st) z Q = (zcls z r = 12 ∧ zcs st = true ∧ ZC zG d 196 [.ref r, .int w0] z (zk zG (d + 1) 195 (none) 206 ls st Q)) := zc_V1 rfl (Nat.le_of_ble_eq_true rfl)
theorem s195_206 {ls : List Value}  : ZW zG d 195 206 ls (st) z Q = ZW zG d 195 207 ls ((.int (nI 1)) :: st) z Q := zw_push rfl
theorem s195_207 {ls : List Value} {a : Int32} : ZW zG d 195 207 ls ([.int a]) z Q = ((a = 0 ∨ a = 1) ∧ Q (.inl (some (.int a))) z) := zw_retz rfl
theorem s195_208 {x0 x1 x2 x3 x5 x6 : Value} {a : Int32} : ZW zG d 195 208 [x0, x1, x2, x3, .int a, x5, x6] st z Q = ZW zG d 195 211 [x0, x1, x2, zclr x3, .int (a + (nI 1)), x5, x6] st z Q := zw_next (f := z_iinc 4 (nI 1) 211) rfl rfl
theorem s195_211 {x0 x1 x2 x3 x4 x5 : Value} {a : Int32} : ZW zG d 195 211 [x0, x1, x2, x3, x4, x5, .int a] st z Q = ZW zG d 195 214 [x0, x1, x2, x3, x4, zclr x5, .int (a + (nI 1))] st z Q := zw_next (f := z_iinc 6 (nI 1) 214) rfl rfl
theorem s195_214 {ls : List Value}  : ZW zG d 195 214 ls (st) z Q = ZW zG d 195 81 ls st z Q := zw_goto rfl
theorem s195_217 {x0 x1 x2 x4 x5 x6 : Value} {a : Int32} : ZW zG d 195 217 [x0, x1, x2, .int a, x4, x5, x6] st z Q = ZW zG d 195 220 [x0, x1, zclr x2, .int (a + (nI 1)), x4, x5, x6] st z Q := zw_next (f := z_iinc 3 (nI 1) 220) rfl rfl
theorem s195_220 {ls : List Value}  : ZW zG d 195 220 ls (st) z Q = ZW zG d 195 64 ls st z Q := zw_goto rfl
theorem s195_223 {ls : List Value}  : ZW zG d 195 223 ls (st) z Q = ZW zG d 195 224 ls ((.int (nI 0)) :: st) z Q := zw_push rfl
theorem s195_224 {ls : List Value} {a : Int32} : ZW zG d 195 224 ls ([.int a]) z Q = ((a = 0 ∨ a = 1) ∧ Q (.inl (some (.int a))) z) := zw_retz rfl
/-- X12_walks (I)V -/
theorem e196 {r0 : Nat} {v0 : Int32} : ZC zG d 196 [.ref r0, .int v0] z Q = ZW zG d 196 0 [.ref r0, .int v0, zdum, zdum] [] z Q := rfl
theorem s196_0 {x0 x1 x2 x3 : Value} : ZW zG d 196 0 [x0, x1, x2, x3] st z Q = (zir x0 = true ∧ ZW zG d 196 1 [x0, x1, x2, x3] (x0 :: st) z Q) := zw_cond (f := z_aload 0 1) rfl rfl
theorem s196_1 {ls : List Value}  : ZW zG d 196 1 ls (st) z Q = ZW zG d 196 2 ls ((.int (nI 0)) :: st) z Q := zw_push rfl
theorem s196_2 {ls : List Value} {a : Int32} {r : Nat} : ZW zG d 196 2 ls (.int a :: .ref r :: st) z Q = ((zcls z r = 12) ∧ ZW zG d 196 5 ls (st) (sfi z r 34 a) Q) := zw_putI rfl
theorem s196_5 {x0 x2 x3 : Value} {a : Int32} : ZW zG d 196 5 [x0, .int a, x2, x3] st z Q = ZW zG d 196 6 [x0, .int a, x2, x3] (.int a :: st) z Q := zw_next (f := z_iload 1 6) rfl rfl
theorem s196_6 {x0 x1 x2 x3 : Value} {a : Int32} : ZW zG d 196 6 [x0, x1, x2, x3] (.int a :: st) z Q = ZW zG d 196 7 [x0, zclr x1, .int a, x3] st z Q := zw_next (f := z_istore 2 7) rfl rfl
theorem s196_7 {x0 x1 x2 x3 : Value} : ZW zG d 196 7 [x0, x1, x2, x3] st z Q = (zir x0 = true ∧ ZW zG d 196 8 [x0, x1, x2, x3] (x0 :: st) z Q) := zw_cond (f := z_aload 0 8) rfl rfl
theorem s196_8 {ls : List Value} {r : Nat} : ZW zG d 196 8 ls (.ref r :: st) z Q = ((zcls z r = 12 ∧ zir (zfr z r 31) = true) ∧ ZW zG d 196 11 ls (zfr z r 31 :: st) (z) Q) := zw_getR rfl
theorem s196_11 {x0 x1 x3 : Value} {a : Int32} : ZW zG d 196 11 [x0, x1, .int a, x3] st z Q = ZW zG d 196 12 [x0, x1, .int a, x3] (.int a :: st) z Q := zw_next (f := z_iload 2 12) rfl rfl
theorem s196_12 {ls : List Value} {a : Int32} {r : Nat} : ZW zG d 196 12 ls (.int a :: .ref r :: st) z Q = ((zcls z r = 50 ∧ zin a (zlen z r) = true) ∧ ZW zG d 196 13 ls (.int (zia z r (zx a)) :: st) (z) Q) := zw_iald rfl
theorem s196_13 {ls : List Value}  : ZW zG d 196 13 ls (st) z Q = ZW zG d 196 14 ls ((.int (-1)) :: st) z Q := zw_push rfl
theorem s196_14 {ls : List Value} {a b : Int32} : ZW zG d 196 14 ls (.int b :: .int a :: st) z Q = if a = b then ZW zG d 196 37 ls st z Q else ZW zG d 196 17 ls st z Q := zw_iceq rfl
theorem s196_17 {x0 x1 x2 x3 : Value} : ZW zG d 196 17 [x0, x1, x2, x3] st z Q = (zir x0 = true ∧ ZW zG d 196 18 [x0, x1, x2, x3] (x0 :: st) z Q) := zw_cond (f := z_aload 0 18) rfl rfl
theorem s196_18 {ls : List Value} {r : Nat} : ZW zG d 196 18 ls (.ref r :: st) z Q = ZW zG d 196 19 ls (.ref r :: .ref r :: st) z Q := zw_dupr rfl
theorem s196_19 {ls : List Value} {r : Nat} : ZW zG d 196 19 ls (.ref r :: st) z Q = ((zcls z r = 12) ∧ ZW zG d 196 22 ls (.int (zfi z r 34) :: st) (z) Q) := zw_getI rfl
theorem s196_22 {ls : List Value}  : ZW zG d 196 22 ls (st) z Q = ZW zG d 196 23 ls ((.int (nI 1)) :: st) z Q := zw_push rfl
theorem s196_23 {ls : List Value} {a b : Int32} : ZW zG d 196 23 ls (.int b :: .int a :: st) z Q = ZW zG d 196 24 ls (.int (a + b) :: st) z Q := zw_iadd rfl
theorem s196_24 {ls : List Value} {a : Int32} {r : Nat} : ZW zG d 196 24 ls (.int a :: .ref r :: st) z Q = ((zcls z r = 12) ∧ ZW zG d 196 27 ls (st) (sfi z r 34 a) Q) := zw_putI rfl
theorem s196_27 {x0 x1 x2 x3 : Value} : ZW zG d 196 27 [x0, x1, x2, x3] st z Q = (zir x0 = true ∧ ZW zG d 196 28 [x0, x1, x2, x3] (x0 :: st) z Q) := zw_cond (f := z_aload 0 28) rfl rfl
theorem s196_28 {ls : List Value} {r : Nat} : ZW zG d 196 28 ls (.ref r :: st) z Q = ((zcls z r = 12 ∧ zir (zfr z r 31) = true) ∧ ZW zG d 196 31 ls (zfr z r 31 :: st) (z) Q) := zw_getR rfl
theorem s196_31 {x0 x1 x3 : Value} {a : Int32} : ZW zG d 196 31 [x0, x1, .int a, x3] st z Q = ZW zG d 196 32 [x0, x1, .int a, x3] (.int a :: st) z Q := zw_next (f := z_iload 2 32) rfl rfl
theorem s196_32 {ls : List Value} {a : Int32} {r : Nat} : ZW zG d 196 32 ls (.int a :: .ref r :: st) z Q = ((zcls z r = 50 ∧ zin a (zlen z r) = true) ∧ ZW zG d 196 33 ls (.int (zia z r (zx a)) :: st) (z) Q) := zw_iald rfl
theorem s196_33 {x0 x1 x2 x3 : Value} {a : Int32} : ZW zG d 196 33 [x0, x1, x2, x3] (.int a :: st) z Q = ZW zG d 196 34 [x0, zclr x1, .int a, x3] st z Q := zw_next (f := z_istore 2 34) rfl rfl
theorem s196_34 {ls : List Value}  : ZW zG d 196 34 ls (st) z Q = ZW zG d 196 7 ls st z Q := zw_goto rfl
theorem s196_37 {x0 x1 x2 x3 : Value} : ZW zG d 196 37 [x0, x1, x2, x3] st z Q = (zir x0 = true ∧ ZW zG d 196 38 [x0, x1, x2, x3] (x0 :: st) z Q) := zw_cond (f := z_aload 0 38) rfl rfl
theorem s196_38 {ls : List Value} {r : Nat} : ZW zG d 196 38 ls (.ref r :: st) z Q = ((zcls z r = 12) ∧ ZW zG d 196 41 ls (.int (zfi z r 34) :: st) (z) Q) := zw_getI rfl
theorem s196_41 {x0 x1 x2 x3 : Value} {a : Int32} : ZW zG d 196 41 [x0, x1, x2, x3] (.int a :: st) z Q = ZW zG d 196 42 [x0, zclr x1, .int a, x3] st z Q := zw_next (f := z_istore 2 42) rfl rfl
theorem s196_42 {x0 x2 x3 : Value} {a : Int32} : ZW zG d 196 42 [x0, .int a, x2, x3] st z Q = ZW zG d 196 43 [x0, .int a, x2, x3] (.int a :: st) z Q := zw_next (f := z_iload 1 43) rfl rfl
theorem s196_43 {x0 x1 x2 x3 : Value} {a : Int32} : ZW zG d 196 43 [x0, x1, x2, x3] (.int a :: st) z Q = ZW zG d 196 44 [x0, x1, zclr x2, .int a] st z Q := zw_next (f := z_istore 3 44) rfl rfl
theorem s196_44 {x0 x1 x2 x3 : Value} : ZW zG d 196 44 [x0, x1, x2, x3] st z Q = (zir x0 = true ∧ ZW zG d 196 45 [x0, x1, x2, x3] (x0 :: st) z Q) := zw_cond (f := z_aload 0 45) rfl rfl
theorem s196_45 {ls : List Value} {r : Nat} : ZW zG d 196 45 ls (.ref r :: st) z Q = ((zcls z r = 12 ∧ zir (zfr z r 31) = true) ∧ ZW zG d 196 48 ls (zfr z r 31 :: st) (z) Q) := zw_getR rfl
theorem s196_48 {x0 x1 x2 : Value} {a : Int32} : ZW zG d 196 48 [x0, x1, x2, .int a] st z Q = ZW zG d 196 49 [x0, x1, x2, .int a] (.int a :: st) z Q := zw_next (f := z_iload 3 49) rfl rfl
theorem s196_49 {ls : List Value} {a : Int32} {r : Nat} : ZW zG d 196 49 ls (.int a :: .ref r :: st) z Q = ((zcls z r = 50 ∧ zin a (zlen z r) = true) ∧ ZW zG d 196 50 ls (.int (zia z r (zx a)) :: st) (z) Q) := zw_iald rfl
theorem s196_50 {ls : List Value}  : ZW zG d 196 50 ls (st) z Q = ZW zG d 196 51 ls ((.int (-1)) :: st) z Q := zw_push rfl
theorem s196_51 {ls : List Value} {a b : Int32} : ZW zG d 196 51 ls (.int b :: .int a :: st) z Q = if a = b then ZW zG d 196 79 ls st z Q else ZW zG d 196 54 ls st z Q := zw_iceq rfl
theorem s196_54 {x0 x1 x3 : Value} {a : Int32} : ZW zG d 196 54 [x0, x1, .int a, x3] st z Q = ZW zG d 196 57 [x0, zclr x1, .int (a + (-1)), x3] st z Q := zw_next (f := z_iinc 2 (-1) 57) rfl rfl
theorem s196_57 {x0 x1 x2 x3 : Value} : ZW zG d 196 57 [x0, x1, x2, x3] st z Q = (zir x0 = true ∧ ZW zG d 196 58 [x0, x1, x2, x3] (x0 :: st) z Q) := zw_cond (f := z_aload 0 58) rfl rfl
theorem s196_58 {ls : List Value} {r : Nat} : ZW zG d 196 58 ls (.ref r :: st) z Q = ((zcls z r = 12 ∧ zir (zfr z r 33) = true) ∧ ZW zG d 196 61 ls (zfr z r 33 :: st) (z) Q) := zw_getR rfl
theorem s196_61 {x0 x1 x3 : Value} {a : Int32} : ZW zG d 196 61 [x0, x1, .int a, x3] st z Q = ZW zG d 196 62 [x0, x1, .int a, x3] (.int a :: st) z Q := zw_next (f := z_iload 2 62) rfl rfl
theorem s196_62 {x0 x1 x2 x3 : Value} : ZW zG d 196 62 [x0, x1, x2, x3] st z Q = (zir x0 = true ∧ ZW zG d 196 63 [x0, x1, x2, x3] (x0 :: st) z Q) := zw_cond (f := z_aload 0 63) rfl rfl
theorem s196_63 {ls : List Value} {r : Nat} : ZW zG d 196 63 ls (.ref r :: st) z Q = ((zcls z r = 12 ∧ zir (zfr z r 30) = true) ∧ ZW zG d 196 66 ls (zfr z r 30 :: st) (z) Q) := zw_getR rfl
theorem s196_66 {x0 x1 x2 : Value} {a : Int32} : ZW zG d 196 66 [x0, x1, x2, .int a] st z Q = ZW zG d 196 67 [x0, x1, x2, .int a] (.int a :: st) z Q := zw_next (f := z_iload 3 67) rfl rfl
theorem s196_67 {ls : List Value} {a : Int32} {r : Nat} : ZW zG d 196 67 ls (.int a :: .ref r :: st) z Q = ((zcls z r = 50 ∧ zin a (zlen z r) = true) ∧ ZW zG d 196 68 ls (.int (zia z r (zx a)) :: st) (z) Q) := zw_iald rfl
theorem s196_68 {ls : List Value} {a b : Int32} {r : Nat} : ZW zG d 196 68 ls (.int b :: .int a :: .ref r :: st) z Q = ((zcls z r = 50 ∧ zin a (zlen z r) = true) ∧ ZW zG d 196 69 ls (st) (sia z r (zx a) (znar 50 b)) Q) := zw_iast rfl
theorem s196_69 {x0 x1 x2 x3 : Value} : ZW zG d 196 69 [x0, x1, x2, x3] st z Q = (zir x0 = true ∧ ZW zG d 196 70 [x0, x1, x2, x3] (x0 :: st) z Q) := zw_cond (f := z_aload 0 70) rfl rfl
theorem s196_70 {ls : List Value} {r : Nat} : ZW zG d 196 70 ls (.ref r :: st) z Q = ((zcls z r = 12 ∧ zir (zfr z r 31) = true) ∧ ZW zG d 196 73 ls (zfr z r 31 :: st) (z) Q) := zw_getR rfl
theorem s196_73 {x0 x1 x2 : Value} {a : Int32} : ZW zG d 196 73 [x0, x1, x2, .int a] st z Q = ZW zG d 196 74 [x0, x1, x2, .int a] (.int a :: st) z Q := zw_next (f := z_iload 3 74) rfl rfl
theorem s196_74 {ls : List Value} {a : Int32} {r : Nat} : ZW zG d 196 74 ls (.int a :: .ref r :: st) z Q = ((zcls z r = 50 ∧ zin a (zlen z r) = true) ∧ ZW zG d 196 75 ls (.int (zia z r (zx a)) :: st) (z) Q) := zw_iald rfl
theorem s196_75 {x0 x1 x2 x3 : Value} {a : Int32} : ZW zG d 196 75 [x0, x1, x2, x3] (.int a :: st) z Q = ZW zG d 196 76 [x0, x1, zclr x2, .int a] st z Q := zw_next (f := z_istore 3 76) rfl rfl
theorem s196_76 {ls : List Value}  : ZW zG d 196 76 ls (st) z Q = ZW zG d 196 44 ls st z Q := zw_goto rfl
theorem s196_79 {ls : List Value}  : ZW zG d 196 79 ls ([]) z Q = Q (.inl none) z := zw_ret rfl
/-- X12_path (III)I -/
theorem e197 {r0 : Nat} {v0 : Int32} {v1 : Int32} {v2 : Int32} : ZC zG d 197 [.ref r0, .int v0, .int v1, .int v2] z Q = ZW zG d 197 0 [.ref r0, .int v0, .int v1, .int v2] [] z Q := rfl
theorem s197_0 {x0 x1 x2 x3 : Value} : ZW zG d 197 0 [x0, x1, x2, x3] st z Q = (zir x0 = true ∧ ZW zG d 197 1 [x0, x1, x2, x3] (x0 :: st) z Q) := zw_cond (f := z_aload 0 1) rfl rfl
theorem s197_1 {x0 x2 x3 : Value} {a : Int32} : ZW zG d 197 1 [x0, .int a, x2, x3] st z Q = ZW zG d 197 2 [x0, .int a, x2, x3] (.int a :: st) z Q := zw_next (f := z_iload 1 2) rfl rfl
theorem s197_2 {x0 x1 x3 : Value} {a : Int32} : ZW zG d 197 2 [x0, x1, .int a, x3] st z Q = ZW zG d 197 3 [x0, x1, .int a, x3] (.int a :: st) z Q := zw_next (f := z_iload 2 3) rfl rfl
theorem s197_3 {ls : List Value} {w0 : Int32} {w1 : Int32} {r : Nat} : ZW zG (d + 1) 197 3 ls (.int w1 :: .int w0 :: .ref r :: st) z Q = (zcls z r = 12 ∧ zcs st = true ∧ ZC zG d 143 [.ref r, .int w0, .int w1] z (zk zG (d + 1) 197 (none) 6 ls st Q)) := zc_V2 rfl (Nat.le_of_ble_eq_true rfl)
theorem s197_6 {ls : List Value} {a : Int32} : ZW zG d 197 6 ls (.int a :: st) z Q = if ¬ a = 0 then ZW zG d 197 12 ls st z Q else ZW zG d 197 9 ls st z Q := zw_ifne rfl
theorem s197_9 {ls : List Value}  : ZW zG d 197 9 ls (st) z Q = ZW zG d 197 11 ls ((.int (-2)) :: st) z Q := zw_push rfl
theorem s197_11 {ls : List Value} {a : Int32} : ZW zG d 197 11 ls ([.int a]) z Q = Q (.inl (some (.int a))) z := zw_reti rfl
theorem s197_12 {x0 x1 x2 x3 : Value} : ZW zG d 197 12 [x0, x1, x2, x3] st z Q = (zir x0 = true ∧ ZW zG d 197 13 [x0, x1, x2, x3] (x0 :: st) z Q) := zw_cond (f := z_aload 0 13) rfl rfl
theorem s197_13 {x0 x2 x3 : Value} {a : Int32} : ZW zG d 197 13 [x0, .int a, x2, x3] st z Q = ZW zG d 197 14 [x0, .int a, x2, x3] (.int a :: st) z Q := zw_next (f := z_iload 1 14) rfl rfl
theorem s197_14 {x0 x1 x3 : Value} {a : Int32} : ZW zG d 197 14 [x0, x1, .int a, x3] st z Q = ZW zG d 197 15 [x0, x1, .int a, x3] (.int a :: st) z Q := zw_next (f := z_iload 2 15) rfl rfl
theorem s197_15 {ls : List Value} {w0 : Int32} {w1 : Int32} {r : Nat} : ZW zG (d + 1) 197 15 ls (.int w1 :: .int w0 :: .ref r :: st) z Q = (zcls z r = 12 ∧ zcs st = true ∧ ZC zG d 148 [.ref r, .int w0, .int w1] z (zk zG (d + 1) 197 (none) 18 ls st Q)) := zc_V2 rfl (Nat.le_of_ble_eq_true rfl)
theorem s197_18 {ls : List Value} {a : Int32} : ZW zG d 197 18 ls (.int a :: st) z Q = if ¬ a = 0 then ZW zG d 197 55 ls st z Q else ZW zG d 197 21 ls st z Q := zw_ifne rfl
theorem s197_21 {x0 x1 x2 x3 : Value} : ZW zG d 197 21 [x0, x1, x2, x3] st z Q = (zir x0 = true ∧ ZW zG d 197 22 [x0, x1, x2, x3] (x0 :: st) z Q) := zw_cond (f := z_aload 0 22) rfl rfl
theorem s197_22 {x0 x2 x3 : Value} {a : Int32} : ZW zG d 197 22 [x0, .int a, x2, x3] st z Q = ZW zG d 197 23 [x0, .int a, x2, x3] (.int a :: st) z Q := zw_next (f := z_iload 1 23) rfl rfl
theorem s197_23 {x0 x1 x3 : Value} {a : Int32} : ZW zG d 197 23 [x0, x1, .int a, x3] st z Q = ZW zG d 197 24 [x0, x1, .int a, x3] (.int a :: st) z Q := zw_next (f := z_iload 2 24) rfl rfl
theorem s197_24 {ls : List Value} {w0 : Int32} {w1 : Int32} {r : Nat} : ZW zG (d + 1) 197 24 ls (.int w1 :: .int w0 :: .ref r :: st) z Q = (zcls z r = 12 ∧ zcs st = true ∧ ZC zG d 195 [.ref r, .int w0, .int w1] z (zk zG (d + 1) 197 (none) 27 ls st Q)) := zc_V2 rfl (Nat.le_of_ble_eq_true rfl)
theorem s197_27 {ls : List Value} {a : Int32} : ZW zG d 197 27 ls (.int a :: st) z Q = if a = 0 then ZW zG d 197 55 ls st z Q else ZW zG d 197 30 ls st z Q := zw_ifeq rfl
theorem s197_30 {x0 x1 x2 : Value} {a : Int32} : ZW zG d 197 30 [x0, x1, x2, .int a] st z Q = ZW zG d 197 31 [x0, x1, x2, .int a] (.int a :: st) z Q := zw_next (f := z_iload 3 31) rfl rfl
theorem s197_31 {ls : List Value} {a : Int32} : ZW zG d 197 31 ls (.int a :: st) z Q = ZW zG d 197 32 ls (.long a.toInt64 :: st) z Q := zw_i2l rfl
theorem s197_32 {ls : List Value}  : ZW zG d 197 32 ls (st) z Q = ZW zG d 197 33 ls ((.long (lN 0)) :: st) z Q := zw_push rfl
theorem s197_33 {x0 x1 x2 x3 : Value} : ZW zG d 197 33 [x0, x1, x2, x3] st z Q = (zir x0 = true ∧ ZW zG d 197 34 [x0, x1, x2, x3] (x0 :: st) z Q) := zw_cond (f := z_aload 0 34) rfl rfl
theorem s197_34 {ls : List Value} {r : Nat} : ZW zG d 197 34 ls (.ref r :: st) z Q = ((zcls z r = 12) ∧ ZW zG d 197 37 ls (.int (zfi z r 34) :: st) (z) Q) := zw_getI rfl
theorem s197_37 {ls : List Value}  : ZW zG d 197 37 ls (st) z Q = ZW zG d 197 38 ls ((.int (nI 1)) :: st) z Q := zw_push rfl
theorem s197_38 {ls : List Value} {a b : Int32} : ZW zG d 197 38 ls (.int b :: .int a :: st) z Q = ZW zG d 197 39 ls (.int (a - b) :: st) z Q := zw_isub rfl
theorem s197_39 {ls : List Value} {a : Int32} : ZW zG d 197 39 ls (.int a :: st) z Q = ZW zG d 197 40 ls (.long a.toInt64 :: st) z Q := zw_i2l rfl
theorem s197_40 {ls : List Value} {w0 : Int64} {w1 : Int64} {w2 : Int64} : ZW zG (d + 1) 197 40 ls (.long w2 :: .long w1 :: .long w0 :: st) z Q = (zcs st = true ∧ ZC zG d 114 [.long w0, .long w1, .long w2] z (zk zG (d + 1) 197 (none) 43 ls st Q)) := zc_S3 rfl (Nat.le_of_ble_eq_true rfl)
theorem s197_43 {ls : List Value} {a : Int32} : ZW zG d 197 43 ls (.int a :: st) z Q = if a = 0 then ZW zG d 197 55 ls st z Q else ZW zG d 197 46 ls st z Q := zw_ifeq rfl
theorem s197_46 {x0 x1 x2 x3 : Value} : ZW zG d 197 46 [x0, x1, x2, x3] st z Q = (zir x0 = true ∧ ZW zG d 197 47 [x0, x1, x2, x3] (x0 :: st) z Q) := zw_cond (f := z_aload 0 47) rfl rfl
theorem s197_47 {ls : List Value} {r : Nat} : ZW zG d 197 47 ls (.ref r :: st) z Q = ((zcls z r = 12 ∧ zir (zfr z r 33) = true) ∧ ZW zG d 197 50 ls (zfr z r 33 :: st) (z) Q) := zw_getR rfl
theorem s197_50 {x0 x1 x2 : Value} {a : Int32} : ZW zG d 197 50 [x0, x1, x2, .int a] st z Q = ZW zG d 197 51 [x0, x1, x2, .int a] (.int a :: st) z Q := zw_next (f := z_iload 3 51) rfl rfl
theorem s197_51 {ls : List Value} {a : Int32} {r : Nat} : ZW zG d 197 51 ls (.int a :: .ref r :: st) z Q = ((zcls z r = 50 ∧ zin a (zlen z r) = true) ∧ ZW zG d 197 52 ls (.int (zia z r (zx a)) :: st) (z) Q) := zw_iald rfl
theorem s197_52 {ls : List Value}  : ZW zG d 197 52 ls (st) z Q = ZW zG d 197 56 ls st z Q := zw_goto rfl
theorem s197_55 {ls : List Value}  : ZW zG d 197 55 ls (st) z Q = ZW zG d 197 56 ls ((.int (-1)) :: st) z Q := zw_push rfl
theorem s197_56 {ls : List Value} {a : Int32} : ZW zG d 197 56 ls ([.int a]) z Q = Q (.inl (some (.int a))) z := zw_reti rfl
/-- X12_reach (I)I -/
theorem e198 {r0 : Nat} {v0 : Int32} : ZC zG d 198 [.ref r0, .int v0] z Q = ZW zG d 198 0 [.ref r0, .int v0] [] z Q := rfl
theorem s198_0 {x0 x1 : Value} : ZW zG d 198 0 [x0, x1] st z Q = (zir x0 = true ∧ ZW zG d 198 1 [x0, x1] (x0 :: st) z Q) := zw_cond (f := z_aload 0 1) rfl rfl
theorem s198_1 {x0 : Value} {a : Int32} : ZW zG d 198 1 [x0, .int a] st z Q = ZW zG d 198 2 [x0, .int a] (.int a :: st) z Q := zw_next (f := z_iload 1 2) rfl rfl
theorem s198_2 {ls : List Value} {w0 : Int32} {r : Nat} : ZW zG (d + 1) 198 2 ls (.int w0 :: .ref r :: st) z Q = (zcls z r = 12 ∧ zcs st = true ∧ ZC zG d 144 [.ref r, .int w0] z (zk zG (d + 1) 198 (none) 5 ls st Q)) := zc_V1 rfl (Nat.le_of_ble_eq_true rfl)
theorem s198_5 {ls : List Value} {a : Int32} : ZW zG d 198 5 ls (.int a :: st) z Q = if a = 0 then ZW zG d 198 18 ls st z Q else ZW zG d 198 8 ls st z Q := zw_ifeq rfl
theorem s198_8 {x0 x1 : Value} : ZW zG d 198 8 [x0, x1] st z Q = (zir x0 = true ∧ ZW zG d 198 9 [x0, x1] (x0 :: st) z Q) := zw_cond (f := z_aload 0 9) rfl rfl
theorem s198_9 {x0 : Value} {a : Int32} : ZW zG d 198 9 [x0, .int a] st z Q = ZW zG d 198 10 [x0, .int a] (.int a :: st) z Q := zw_next (f := z_iload 1 10) rfl rfl
theorem s198_10 {ls : List Value}  : ZW zG d 198 10 ls (st) z Q = ZW zG d 198 11 ls ((.int (-1)) :: st) z Q := zw_push rfl
theorem s198_11 {ls : List Value}  : ZW zG d 198 11 ls (st) z Q = ZW zG d 198 12 ls ((.int (-1)) :: st) z Q := zw_push rfl
theorem s198_12 {ls : List Value} {w0 : Int32} {w1 : Int32} {w2 : Int32} {r : Nat} : ZW zG (d + 1) 198 12 ls (.int w2 :: .int w1 :: .int w0 :: .ref r :: st) z Q = (zcls z r = 12 ∧ zcs st = true ∧ ZC zG d 199 [.ref r, .int w0, .int w1, .int w2] z (zk zG (d + 1) 198 (none) 15 ls st Q)) := zc_V3 rfl (Nat.le_of_ble_eq_true rfl)
theorem s198_15 {ls : List Value}  : ZW zG d 198 15 ls (st) z Q = ZW zG d 198 20 ls st z Q := zw_goto rfl
theorem s198_18 {ls : List Value}  : ZW zG d 198 18 ls (st) z Q = ZW zG d 198 20 ls ((.int (-2)) :: st) z Q := zw_push rfl
theorem s198_20 {ls : List Value} {a : Int32} : ZW zG d 198 20 ls ([.int a]) z Q = Q (.inl (some (.int a))) z := zw_reti rfl
/-- X12_hangs (III)I -/
theorem e199 {r0 : Nat} {v0 : Int32} {v1 : Int32} {v2 : Int32} : ZC zG d 199 [.ref r0, .int v0, .int v1, .int v2] z Q = ZW zG d 199 0 [.ref r0, .int v0, .int v1, .int v2, zdum, zdum, zdum, zdum] [] z Q := rfl
theorem s199_0 {ls : List Value}  : ZW zG d 199 0 ls (st) z Q = ZW zG d 199 1 ls ((.int (nI 1)) :: st) z Q := zw_push rfl
theorem s199_1 {x0 x2 x3 x4 x5 x6 x7 : Value} {a : Int32} : ZW zG d 199 1 [x0, .int a, x2, x3, x4, x5, x6, x7] st z Q = ZW zG d 199 2 [x0, .int a, x2, x3, x4, x5, x6, x7] (.int a :: st) z Q := zw_next (f := z_iload 1 2) rfl rfl
theorem s199_2 {ls : List Value} {a b : Int32} : ZW zG d 199 2 ls (.int b :: .int a :: st) z Q = ZW zG d 199 3 ls (.int (a <<< (b &&& 31)) :: st) z Q := zw_ishl rfl
theorem s199_3 {x0 x1 x2 x3 x4 x5 x6 x7 : Value} {a : Int32} : ZW zG d 199 3 [x0, x1, x2, x3, x4, x5, x6, x7] (.int a :: st) z Q = ZW zG d 199 5 [x0, x1, x2, zclr x3, .int a, x5, x6, x7] st z Q := zw_next (f := z_istore 4 5) rfl rfl
theorem s199_5 {ls : List Value}  : ZW zG d 199 5 ls (st) z Q = ZW zG d 199 6 ls ((.int (nI 0)) :: st) z Q := zw_push rfl
theorem s199_6 {x0 x1 x2 x3 x4 x5 x6 x7 : Value} {a : Int32} : ZW zG d 199 6 [x0, x1, x2, x3, x4, x5, x6, x7] (.int a :: st) z Q = ZW zG d 199 8 [x0, x1, x2, x3, zclr x4, .int a, x6, x7] st z Q := zw_next (f := z_istore 5 8) rfl rfl
theorem s199_8 {x0 x1 x2 x3 x4 x6 x7 : Value} {a : Int32} : ZW zG d 199 8 [x0, x1, x2, x3, x4, .int a, x6, x7] st z Q = ZW zG d 199 10 [x0, x1, x2, x3, x4, .int a, x6, x7] (.int a :: st) z Q := zw_next (f := z_iload 5 10) rfl rfl
theorem s199_10 {x0 x1 x2 x3 x5 x6 x7 : Value} {a : Int32} : ZW zG d 199 10 [x0, x1, x2, x3, .int a, x5, x6, x7] st z Q = ZW zG d 199 12 [x0, x1, x2, x3, .int a, x5, x6, x7] (.int a :: st) z Q := zw_next (f := z_iload 4 12) rfl rfl
theorem s199_12 {ls : List Value} {a b : Int32} : ZW zG d 199 12 ls (.int b :: .int a :: st) z Q = if a = b then ZW zG d 199 107 ls st z Q else ZW zG d 199 15 ls st z Q := zw_iceq rfl
theorem s199_15 {x0 x1 x2 x3 x5 x6 x7 : Value} {a : Int32} : ZW zG d 199 15 [x0, x1, x2, x3, .int a, x5, x6, x7] st z Q = ZW zG d 199 17 [x0, x1, x2, x3, .int a, x5, x6, x7] (.int a :: st) z Q := zw_next (f := z_iload 4 17) rfl rfl
theorem s199_17 {x0 x1 x2 x3 x4 x5 x6 x7 : Value} {a : Int32} : ZW zG d 199 17 [x0, x1, x2, x3, x4, x5, x6, x7] (.int a :: st) z Q = ZW zG d 199 19 [x0, x1, x2, x3, zclr x4, .int a, x6, x7] st z Q := zw_next (f := z_istore 5 19) rfl rfl
theorem s199_19 {ls : List Value}  : ZW zG d 199 19 ls (st) z Q = ZW zG d 199 20 ls ((.int (nI 0)) :: st) z Q := zw_push rfl
theorem s199_20 {x0 x1 x2 x3 x4 x5 x6 x7 : Value} {a : Int32} : ZW zG d 199 20 [x0, x1, x2, x3, x4, x5, x6, x7] (.int a :: st) z Q = ZW zG d 199 22 [x0, x1, x2, x3, x4, zclr x5, .int a, x7] st z Q := zw_next (f := z_istore 6 22) rfl rfl
theorem s199_22 {x0 x1 x2 x3 x4 x5 x7 : Value} {a : Int32} : ZW zG d 199 22 [x0, x1, x2, x3, x4, x5, .int a, x7] st z Q = ZW zG d 199 24 [x0, x1, x2, x3, x4, x5, .int a, x7] (.int a :: st) z Q := zw_next (f := z_iload 6 24) rfl rfl
theorem s199_24 {x0 x1 x2 x3 x4 x5 x6 x7 : Value} : ZW zG d 199 24 [x0, x1, x2, x3, x4, x5, x6, x7] st z Q = (zir x0 = true ∧ ZW zG d 199 25 [x0, x1, x2, x3, x4, x5, x6, x7] (x0 :: st) z Q) := zw_cond (f := z_aload 0 25) rfl rfl
theorem s199_25 {ls : List Value} {r : Nat} : ZW zG d 199 25 ls (.ref r :: st) z Q = ((zcls z r = 12 ∧ zir (zfr z r 1) = true) ∧ ZW zG d 199 28 ls (zfr z r 1 :: st) (z) Q) := zw_getR rfl
theorem s199_28 {ls : List Value}  : ZW zG d 199 28 ls (st) z Q = ZW zG d 199 29 ls ((.int (nI 0)) :: st) z Q := zw_push rfl
theorem s199_29 {ls : List Value} {a : Int32} {r : Nat} : ZW zG d 199 29 ls (.int a :: .ref r :: st) z Q = ((zcls z r = 50 ∧ zin a (zlen z r) = true) ∧ ZW zG d 199 30 ls (.int (zia z r (zx a)) :: st) (z) Q) := zw_iald rfl
theorem s199_30 {ls : List Value} {a b : Int32} : ZW zG d 199 30 ls (.int b :: .int a :: st) z Q = if b ≤ a then ZW zG d 199 104 ls st z Q else ZW zG d 199 33 ls st z Q := zw_icge rfl
theorem s199_33 {x0 x1 x2 x3 x4 x6 x7 : Value} {a : Int32} : ZW zG d 199 33 [x0, x1, x2, x3, x4, .int a, x6, x7] st z Q = ZW zG d 199 35 [x0, x1, x2, x3, x4, .int a, x6, x7] (.int a :: st) z Q := zw_next (f := z_iload 5 35) rfl rfl
theorem s199_35 {x0 x1 x2 x3 x4 x5 x7 : Value} {a : Int32} : ZW zG d 199 35 [x0, x1, x2, x3, x4, x5, .int a, x7] st z Q = ZW zG d 199 37 [x0, x1, x2, x3, x4, x5, .int a, x7] (.int a :: st) z Q := zw_next (f := z_iload 6 37) rfl rfl
theorem s199_37 {ls : List Value} {w0 : Int32} {w1 : Int32} : ZW zG (d + 1) 199 37 ls (.int w1 :: .int w0 :: st) z Q = (zcs st = true ∧ ZC zG d 149 [.int w0, .int w1] z (zk zG (d + 1) 199 (none) 40 ls st Q)) := zc_S2 rfl (Nat.le_of_ble_eq_true rfl)
theorem s199_40 {ls : List Value} {a : Int32} : ZW zG d 199 40 ls (.int a :: st) z Q = if ¬ a = 0 then ZW zG d 199 46 ls st z Q else ZW zG d 199 43 ls st z Q := zw_ifne rfl
theorem s199_43 {ls : List Value}  : ZW zG d 199 43 ls (st) z Q = ZW zG d 199 98 ls st z Q := zw_goto rfl
theorem s199_46 {x0 x1 x2 x3 x4 x5 x6 x7 : Value} : ZW zG d 199 46 [x0, x1, x2, x3, x4, x5, x6, x7] st z Q = (zir x0 = true ∧ ZW zG d 199 47 [x0, x1, x2, x3, x4, x5, x6, x7] (x0 :: st) z Q) := zw_cond (f := z_aload 0 47) rfl rfl
theorem s199_47 {ls : List Value} {r : Nat} : ZW zG d 199 47 ls (.ref r :: st) z Q = ((zcls z r = 12 ∧ zir (zfr z r 1) = true) ∧ ZW zG d 199 50 ls (zfr z r 1 :: st) (z) Q) := zw_getR rfl
theorem s199_50 {ls : List Value}  : ZW zG d 199 50 ls (st) z Q = ZW zG d 199 53 ls ((.int (nI 1864)) :: st) z Q := zw_push rfl
theorem s199_53 {x0 x1 x2 x3 x4 x5 x7 : Value} {a : Int32} : ZW zG d 199 53 [x0, x1, x2, x3, x4, x5, .int a, x7] st z Q = ZW zG d 199 55 [x0, x1, x2, x3, x4, x5, .int a, x7] (.int a :: st) z Q := zw_next (f := z_iload 6 55) rfl rfl
theorem s199_55 {ls : List Value} {a b : Int32} : ZW zG d 199 55 ls (.int b :: .int a :: st) z Q = ZW zG d 199 56 ls (.int (a + b) :: st) z Q := zw_iadd rfl
theorem s199_56 {ls : List Value} {a : Int32} {r : Nat} : ZW zG d 199 56 ls (.int a :: .ref r :: st) z Q = ((zcls z r = 50 ∧ zin a (zlen z r) = true) ∧ ZW zG d 199 57 ls (.int (zia z r (zx a)) :: st) (z) Q) := zw_iald rfl
theorem s199_57 {x0 x1 x2 x3 x4 x5 x6 x7 : Value} {a : Int32} : ZW zG d 199 57 [x0, x1, x2, x3, x4, x5, x6, x7] (.int a :: st) z Q = ZW zG d 199 59 [x0, x1, x2, x3, x4, x5, zclr x6, .int a] st z Q := zw_next (f := z_istore 7 59) rfl rfl
theorem s199_59 {x0 x1 x2 x3 x4 x5 x7 : Value} {a : Int32} : ZW zG d 199 59 [x0, x1, x2, x3, x4, x5, .int a, x7] st z Q = ZW zG d 199 61 [x0, x1, x2, x3, x4, x5, .int a, x7] (.int a :: st) z Q := zw_next (f := z_iload 6 61) rfl rfl
theorem s199_61 {x0 x1 x3 x4 x5 x6 x7 : Value} {a : Int32} : ZW zG d 199 61 [x0, x1, .int a, x3, x4, x5, x6, x7] st z Q = ZW zG d 199 62 [x0, x1, .int a, x3, x4, x5, x6, x7] (.int a :: st) z Q := zw_next (f := z_iload 2 62) rfl rfl
theorem s199_62 {ls : List Value} {a b : Int32} : ZW zG d 199 62 ls (.int b :: .int a :: st) z Q = if ¬ a = b then ZW zG d 199 75 ls st z Q else ZW zG d 199 65 ls st z Q := zw_icne rfl
theorem s199_65 {x0 x1 x2 x3 x4 x5 x6 : Value} {a : Int32} : ZW zG d 199 65 [x0, x1, x2, x3, x4, x5, x6, .int a] st z Q = ZW zG d 199 67 [x0, x1, x2, x3, x4, x5, x6, .int a] (.int a :: st) z Q := zw_next (f := z_iload 7 67) rfl rfl
theorem s199_67 {ls : List Value}  : ZW zG d 199 67 ls (st) z Q = ZW zG d 199 68 ls ((.int (nI 1)) :: st) z Q := zw_push rfl
theorem s199_68 {x0 x1 x2 x4 x5 x6 x7 : Value} {a : Int32} : ZW zG d 199 68 [x0, x1, x2, .int a, x4, x5, x6, x7] st z Q = ZW zG d 199 69 [x0, x1, x2, .int a, x4, x5, x6, x7] (.int a :: st) z Q := zw_next (f := z_iload 3 69) rfl rfl
theorem s199_69 {ls : List Value} {a b : Int32} : ZW zG d 199 69 ls (.int b :: .int a :: st) z Q = ZW zG d 199 70 ls (.int (a <<< (b &&& 31)) :: st) z Q := zw_ishl rfl
theorem s199_70 {ls : List Value}  : ZW zG d 199 70 ls (st) z Q = ZW zG d 199 71 ls ((.int (-1)) :: st) z Q := zw_push rfl
theorem s199_71 {ls : List Value} {a b : Int32} : ZW zG d 199 71 ls (.int b :: .int a :: st) z Q = ZW zG d 199 72 ls (.int (a ^^^ b) :: st) z Q := zw_ixor rfl
theorem s199_72 {ls : List Value} {a b : Int32} : ZW zG d 199 72 ls (.int b :: .int a :: st) z Q = ZW zG d 199 73 ls (.int (a &&& b) :: st) z Q := zw_iand rfl
theorem s199_73 {x0 x1 x2 x3 x4 x5 x6 x7 : Value} {a : Int32} : ZW zG d 199 73 [x0, x1, x2, x3, x4, x5, x6, x7] (.int a :: st) z Q = ZW zG d 199 75 [x0, x1, x2, x3, x4, x5, zclr x6, .int a] st z Q := zw_next (f := z_istore 7 75) rfl rfl
theorem s199_75 {x0 x1 x2 x3 x4 x5 x7 : Value} {a : Int32} : ZW zG d 199 75 [x0, x1, x2, x3, x4, x5, .int a, x7] st z Q = ZW zG d 199 77 [x0, x1, x2, x3, x4, x5, .int a, x7] (.int a :: st) z Q := zw_next (f := z_iload 6 77) rfl rfl
theorem s199_77 {x0 x1 x2 x4 x5 x6 x7 : Value} {a : Int32} : ZW zG d 199 77 [x0, x1, x2, .int a, x4, x5, x6, x7] st z Q = ZW zG d 199 78 [x0, x1, x2, .int a, x4, x5, x6, x7] (.int a :: st) z Q := zw_next (f := z_iload 3 78) rfl rfl
theorem s199_78 {ls : List Value} {a b : Int32} : ZW zG d 199 78 ls (.int b :: .int a :: st) z Q = if ¬ a = b then ZW zG d 199 91 ls st z Q else ZW zG d 199 81 ls st z Q := zw_icne rfl
theorem s199_81 {x0 x1 x2 x3 x4 x5 x6 : Value} {a : Int32} : ZW zG d 199 81 [x0, x1, x2, x3, x4, x5, x6, .int a] st z Q = ZW zG d 199 83 [x0, x1, x2, x3, x4, x5, x6, .int a] (.int a :: st) z Q := zw_next (f := z_iload 7 83) rfl rfl
theorem s199_83 {ls : List Value}  : ZW zG d 199 83 ls (st) z Q = ZW zG d 199 84 ls ((.int (nI 1)) :: st) z Q := zw_push rfl
theorem s199_84 {x0 x1 x3 x4 x5 x6 x7 : Value} {a : Int32} : ZW zG d 199 84 [x0, x1, .int a, x3, x4, x5, x6, x7] st z Q = ZW zG d 199 85 [x0, x1, .int a, x3, x4, x5, x6, x7] (.int a :: st) z Q := zw_next (f := z_iload 2 85) rfl rfl
theorem s199_85 {ls : List Value} {a b : Int32} : ZW zG d 199 85 ls (.int b :: .int a :: st) z Q = ZW zG d 199 86 ls (.int (a <<< (b &&& 31)) :: st) z Q := zw_ishl rfl
theorem s199_86 {ls : List Value}  : ZW zG d 199 86 ls (st) z Q = ZW zG d 199 87 ls ((.int (-1)) :: st) z Q := zw_push rfl
theorem s199_87 {ls : List Value} {a b : Int32} : ZW zG d 199 87 ls (.int b :: .int a :: st) z Q = ZW zG d 199 88 ls (.int (a ^^^ b) :: st) z Q := zw_ixor rfl
theorem s199_88 {ls : List Value} {a b : Int32} : ZW zG d 199 88 ls (.int b :: .int a :: st) z Q = ZW zG d 199 89 ls (.int (a &&& b) :: st) z Q := zw_iand rfl
theorem s199_89 {x0 x1 x2 x3 x4 x5 x6 x7 : Value} {a : Int32} : ZW zG d 199 89 [x0, x1, x2, x3, x4, x5, x6, x7] (.int a :: st) z Q = ZW zG d 199 91 [x0, x1, x2, x3, x4, x5, zclr x6, .int a] st z Q := zw_next (f := z_istore 7 91) rfl rfl
theorem s199_91 {x0 x1 x2 x3 x5 x6 x7 : Value} {a : Int32} : ZW zG d 199 91 [x0, x1, x2, x3, .int a, x5, x6, x7] st z Q = ZW zG d 199 93 [x0, x1, x2, x3, .int a, x5, x6, x7] (.int a :: st) z Q := zw_next (f := z_iload 4 93) rfl rfl
theorem s199_93 {x0 x1 x2 x3 x4 x5 x6 : Value} {a : Int32} : ZW zG d 199 93 [x0, x1, x2, x3, x4, x5, x6, .int a] st z Q = ZW zG d 199 95 [x0, x1, x2, x3, x4, x5, x6, .int a] (.int a :: st) z Q := zw_next (f := z_iload 7 95) rfl rfl
theorem s199_95 {ls : List Value} {a b : Int32} : ZW zG d 199 95 ls (.int b :: .int a :: st) z Q = ZW zG d 199 96 ls (.int (a ||| b) :: st) z Q := zw_ior rfl
theorem s199_96 {x0 x1 x2 x3 x4 x5 x6 x7 : Value} {a : Int32} : ZW zG d 199 96 [x0, x1, x2, x3, x4, x5, x6, x7] (.int a :: st) z Q = ZW zG d 199 98 [x0, x1, x2, zclr x3, .int a, x5, x6, x7] st z Q := zw_next (f := z_istore 4 98) rfl rfl
theorem s199_98 {x0 x1 x2 x3 x4 x5 x7 : Value} {a : Int32} : ZW zG d 199 98 [x0, x1, x2, x3, x4, x5, .int a, x7] st z Q = ZW zG d 199 101 [x0, x1, x2, x3, x4, zclr x5, .int (a + (nI 1)), x7] st z Q := zw_next (f := z_iinc 6 (nI 1) 101) rfl rfl
theorem s199_101 {ls : List Value}  : ZW zG d 199 101 ls (st) z Q = ZW zG d 199 22 ls st z Q := zw_goto rfl
theorem s199_104 {ls : List Value}  : ZW zG d 199 104 ls (st) z Q = ZW zG d 199 8 ls st z Q := zw_goto rfl
theorem s199_107 {x0 x1 x2 x3 x5 x6 x7 : Value} {a : Int32} : ZW zG d 199 107 [x0, x1, x2, x3, .int a, x5, x6, x7] st z Q = ZW zG d 199 109 [x0, x1, x2, x3, .int a, x5, x6, x7] (.int a :: st) z Q := zw_next (f := z_iload 4 109) rfl rfl
theorem s199_109 {ls : List Value} {a : Int32} : ZW zG d 199 109 ls ([.int a]) z Q = Q (.inl (some (.int a))) z := zw_reti rfl
/-- X12_drop (I)I -/
theorem e200 {r0 : Nat} {v0 : Int32} : ZC zG d 200 [.ref r0, .int v0] z Q = ZW zG d 200 0 [.ref r0, .int v0, zdum, zdum, zdum] [] z Q := rfl
theorem s200_0 {x0 x1 x2 x3 x4 : Value} : ZW zG d 200 0 [x0, x1, x2, x3, x4] st z Q = (zir x0 = true ∧ ZW zG d 200 1 [x0, x1, x2, x3, x4] (x0 :: st) z Q) := zw_cond (f := z_aload 0 1) rfl rfl
theorem s200_1 {x0 x2 x3 x4 : Value} {a : Int32} : ZW zG d 200 1 [x0, .int a, x2, x3, x4] st z Q = ZW zG d 200 2 [x0, .int a, x2, x3, x4] (.int a :: st) z Q := zw_next (f := z_iload 1 2) rfl rfl
theorem s200_2 {ls : List Value} {w0 : Int32} {r : Nat} : ZW zG (d + 1) 200 2 ls (.int w0 :: .ref r :: st) z Q = (zcls z r = 12 ∧ zcs st = true ∧ ZC zG d 144 [.ref r, .int w0] z (zk zG (d + 1) 200 (none) 5 ls st Q)) := zc_V1 rfl (Nat.le_of_ble_eq_true rfl)
theorem s200_5 {ls : List Value} {a : Int32} : ZW zG d 200 5 ls (.int a :: st) z Q = if ¬ a = 0 then ZW zG d 200 11 ls st z Q else ZW zG d 200 8 ls st z Q := zw_ifne rfl
theorem s200_8 {ls : List Value}  : ZW zG d 200 8 ls (st) z Q = ZW zG d 200 10 ls ((.int (-2)) :: st) z Q := zw_push rfl
theorem s200_10 {ls : List Value} {a : Int32} : ZW zG d 200 10 ls ([.int a]) z Q = Q (.inl (some (.int a))) z := zw_reti rfl
theorem s200_11 {x0 x1 x2 x3 x4 : Value} : ZW zG d 200 11 [x0, x1, x2, x3, x4] st z Q = (zir x0 = true ∧ ZW zG d 200 12 [x0, x1, x2, x3, x4] (x0 :: st) z Q) := zw_cond (f := z_aload 0 12) rfl rfl
theorem s200_12 {x0 x2 x3 x4 : Value} {a : Int32} : ZW zG d 200 12 [x0, .int a, x2, x3, x4] st z Q = ZW zG d 200 13 [x0, .int a, x2, x3, x4] (.int a :: st) z Q := zw_next (f := z_iload 1 13) rfl rfl
theorem s200_13 {ls : List Value} {w0 : Int32} {r : Nat} : ZW zG (d + 1) 200 13 ls (.int w0 :: .ref r :: st) z Q = (zcls z r = 12 ∧ zcs st = true ∧ ZC zG d 181 [.ref r, .int w0] z (zk zG (d + 1) 200 (none) 16 ls st Q)) := zc_V1 rfl (Nat.le_of_ble_eq_true rfl)
theorem s200_16 {ls : List Value}  : ZW zG d 200 16 ls (st) z Q = ZW zG d 200 17 ls ((.int (-1)) :: st) z Q := zw_push rfl
theorem s200_17 {x0 x1 x2 x3 x4 : Value} {a : Int32} : ZW zG d 200 17 [x0, x1, x2, x3, x4] (.int a :: st) z Q = ZW zG d 200 18 [x0, zclr x1, .int a, x3, x4] st z Q := zw_next (f := z_istore 2 18) rfl rfl
theorem s200_18 {x0 x1 x2 x3 x4 : Value} : ZW zG d 200 18 [x0, x1, x2, x3, x4] st z Q = (zir x0 = true ∧ ZW zG d 200 19 [x0, x1, x2, x3, x4] (x0 :: st) z Q) := zw_cond (f := z_aload 0 19) rfl rfl
theorem s200_19 {x0 x2 x3 x4 : Value} {a : Int32} : ZW zG d 200 19 [x0, .int a, x2, x3, x4] st z Q = ZW zG d 200 20 [x0, .int a, x2, x3, x4] (.int a :: st) z Q := zw_next (f := z_iload 1 20) rfl rfl
theorem s200_20 {ls : List Value}  : ZW zG d 200 20 ls (st) z Q = ZW zG d 200 21 ls ((.int (-1)) :: st) z Q := zw_push rfl
theorem s200_21 {ls : List Value}  : ZW zG d 200 21 ls (st) z Q = ZW zG d 200 22 ls ((.int (-1)) :: st) z Q := zw_push rfl
theorem s200_22 {ls : List Value} {w0 : Int32} {w1 : Int32} {w2 : Int32} {r : Nat} : ZW zG (d + 1) 200 22 ls (.int w2 :: .int w1 :: .int w0 :: .ref r :: st) z Q = (zcls z r = 12 ∧ zcs st = true ∧ ZC zG d 199 [.ref r, .int w0, .int w1, .int w2] z (zk zG (d + 1) 200 (none) 25 ls st Q)) := zc_V3 rfl (Nat.le_of_ble_eq_true rfl)
theorem s200_25 {ls : List Value} {w0 : Int32} : ZW zG (d + 1) 200 25 ls (.int w0 :: st) z Q = (zcs st = true ∧ ZC zG d 152 [.int w0] z (zk zG (d + 1) 200 (none) 28 ls st Q)) := zc_S1 rfl (Nat.le_of_ble_eq_true rfl)
theorem s200_28 {x0 x1 x2 x3 x4 : Value} {a : Int32} : ZW zG d 200 28 [x0, x1, x2, x3, x4] (.int a :: st) z Q = ZW zG d 200 29 [x0, x1, zclr x2, .int a, x4] st z Q := zw_next (f := z_istore 3 29) rfl rfl
theorem s200_29 {ls : List Value}  : ZW zG d 200 29 ls (st) z Q = ZW zG d 200 30 ls ((.int (nI 0)) :: st) z Q := zw_push rfl
theorem s200_30 {x0 x1 x2 x3 x4 : Value} {a : Int32} : ZW zG d 200 30 [x0, x1, x2, x3, x4] (.int a :: st) z Q = ZW zG d 200 32 [x0, x1, x2, zclr x3, .int a] st z Q := zw_next (f := z_istore 4 32) rfl rfl
theorem s200_32 {x0 x1 x2 x3 : Value} {a : Int32} : ZW zG d 200 32 [x0, x1, x2, x3, .int a] st z Q = ZW zG d 200 34 [x0, x1, x2, x3, .int a] (.int a :: st) z Q := zw_next (f := z_iload 4 34) rfl rfl
theorem s200_34 {x0 x1 x2 x3 x4 : Value} : ZW zG d 200 34 [x0, x1, x2, x3, x4] st z Q = (zir x0 = true ∧ ZW zG d 200 35 [x0, x1, x2, x3, x4] (x0 :: st) z Q) := zw_cond (f := z_aload 0 35) rfl rfl
theorem s200_35 {ls : List Value} {r : Nat} : ZW zG d 200 35 ls (.ref r :: st) z Q = ((zcls z r = 12 ∧ zir (zfr z r 1) = true) ∧ ZW zG d 200 38 ls (zfr z r 1 :: st) (z) Q) := zw_getR rfl
theorem s200_38 {ls : List Value}  : ZW zG d 200 38 ls (st) z Q = ZW zG d 200 39 ls ((.int (nI 0)) :: st) z Q := zw_push rfl
theorem s200_39 {ls : List Value} {a : Int32} {r : Nat} : ZW zG d 200 39 ls (.int a :: .ref r :: st) z Q = ((zcls z r = 50 ∧ zin a (zlen z r) = true) ∧ ZW zG d 200 40 ls (.int (zia z r (zx a)) :: st) (z) Q) := zw_iald rfl
theorem s200_40 {ls : List Value} {a b : Int32} : ZW zG d 200 40 ls (.int b :: .int a :: st) z Q = if b ≤ a then ZW zG d 200 111 ls st z Q else ZW zG d 200 43 ls st z Q := zw_icge rfl
theorem s200_43 {x0 x1 x2 x3 x4 : Value} : ZW zG d 200 43 [x0, x1, x2, x3, x4] st z Q = (zir x0 = true ∧ ZW zG d 200 44 [x0, x1, x2, x3, x4] (x0 :: st) z Q) := zw_cond (f := z_aload 0 44) rfl rfl
theorem s200_44 {x0 x2 x3 x4 : Value} {a : Int32} : ZW zG d 200 44 [x0, .int a, x2, x3, x4] st z Q = ZW zG d 200 45 [x0, .int a, x2, x3, x4] (.int a :: st) z Q := zw_next (f := z_iload 1 45) rfl rfl
theorem s200_45 {x0 x1 x2 x3 : Value} {a : Int32} : ZW zG d 200 45 [x0, x1, x2, x3, .int a] st z Q = ZW zG d 200 47 [x0, x1, x2, x3, .int a] (.int a :: st) z Q := zw_next (f := z_iload 4 47) rfl rfl
theorem s200_47 {ls : List Value} {w0 : Int32} {w1 : Int32} {r : Nat} : ZW zG (d + 1) 200 47 ls (.int w1 :: .int w0 :: .ref r :: st) z Q = (zcls z r = 12 ∧ zcs st = true ∧ ZC zG d 148 [.ref r, .int w0, .int w1] z (zk zG (d + 1) 200 (none) 50 ls st Q)) := zc_V2 rfl (Nat.le_of_ble_eq_true rfl)
theorem s200_50 {ls : List Value} {a : Int32} : ZW zG d 200 50 ls (.int a :: st) z Q = if a = 0 then ZW zG d 200 105 ls st z Q else ZW zG d 200 53 ls st z Q := zw_ifeq rfl
theorem s200_53 {x0 x1 x2 x3 x4 : Value} : ZW zG d 200 53 [x0, x1, x2, x3, x4] st z Q = (zir x0 = true ∧ ZW zG d 200 54 [x0, x1, x2, x3, x4] (x0 :: st) z Q) := zw_cond (f := z_aload 0 54) rfl rfl
theorem s200_54 {ls : List Value} {r : Nat} : ZW zG d 200 54 ls (.ref r :: st) z Q = ((zcls z r = 12 ∧ zir (zfr z r 18) = true) ∧ ZW zG d 200 57 ls (zfr z r 18 :: st) (z) Q) := zw_getR rfl
theorem s200_57 {x0 x1 x2 x3 : Value} {a : Int32} : ZW zG d 200 57 [x0, x1, x2, x3, .int a] st z Q = ZW zG d 200 59 [x0, x1, x2, x3, .int a] (.int a :: st) z Q := zw_next (f := z_iload 4 59) rfl rfl
theorem s200_59 {ls : List Value} {a : Int32} {r : Nat} : ZW zG d 200 59 ls (.int a :: .ref r :: st) z Q = ((zcls z r = 50 ∧ zin a (zlen z r) = true) ∧ ZW zG d 200 60 ls (.int (zia z r (zx a)) :: st) (z) Q) := zw_iald rfl
theorem s200_60 {ls : List Value} {a : Int32} : ZW zG d 200 60 ls (.int a :: st) z Q = if 0 < a then ZW zG d 200 105 ls st z Q else ZW zG d 200 63 ls st z Q := zw_ifgt rfl
theorem s200_63 {x0 x1 x2 x3 x4 : Value} : ZW zG d 200 63 [x0, x1, x2, x3, x4] st z Q = (zir x0 = true ∧ ZW zG d 200 64 [x0, x1, x2, x3, x4] (x0 :: st) z Q) := zw_cond (f := z_aload 0 64) rfl rfl
theorem s200_64 {x0 x2 x3 x4 : Value} {a : Int32} : ZW zG d 200 64 [x0, .int a, x2, x3, x4] st z Q = ZW zG d 200 65 [x0, .int a, x2, x3, x4] (.int a :: st) z Q := zw_next (f := z_iload 1 65) rfl rfl
theorem s200_65 {x0 x2 x3 x4 : Value} {a : Int32} : ZW zG d 200 65 [x0, .int a, x2, x3, x4] st z Q = ZW zG d 200 66 [x0, .int a, x2, x3, x4] (.int a :: st) z Q := zw_next (f := z_iload 1 66) rfl rfl
theorem s200_66 {x0 x1 x2 x3 : Value} {a : Int32} : ZW zG d 200 66 [x0, x1, x2, x3, .int a] st z Q = ZW zG d 200 68 [x0, x1, x2, x3, .int a] (.int a :: st) z Q := zw_next (f := z_iload 4 68) rfl rfl
theorem s200_68 {ls : List Value} {w0 : Int32} {w1 : Int32} {w2 : Int32} {r : Nat} : ZW zG (d + 1) 200 68 ls (.int w2 :: .int w1 :: .int w0 :: .ref r :: st) z Q = (zcls z r = 12 ∧ zcs st = true ∧ ZC zG d 199 [.ref r, .int w0, .int w1, .int w2] z (zk zG (d + 1) 200 (none) 71 ls st Q)) := zc_V3 rfl (Nat.le_of_ble_eq_true rfl)
theorem s200_71 {ls : List Value} {w0 : Int32} : ZW zG (d + 1) 200 71 ls (.int w0 :: st) z Q = (zcs st = true ∧ ZC zG d 152 [.int w0] z (zk zG (d + 1) 200 (none) 74 ls st Q)) := zc_S1 rfl (Nat.le_of_ble_eq_true rfl)
theorem s200_74 {x0 x1 x2 x4 : Value} {a : Int32} : ZW zG d 200 74 [x0, x1, x2, .int a, x4] st z Q = ZW zG d 200 75 [x0, x1, x2, .int a, x4] (.int a :: st) z Q := zw_next (f := z_iload 3 75) rfl rfl
theorem s200_75 {ls : List Value} {a b : Int32} : ZW zG d 200 75 ls (.int b :: .int a :: st) z Q = if a = b then ZW zG d 200 81 ls st z Q else ZW zG d 200 78 ls st z Q := zw_iceq rfl
theorem s200_78 {ls : List Value}  : ZW zG d 200 78 ls (st) z Q = ZW zG d 200 105 ls st z Q := zw_goto rfl
theorem s200_81 {x0 x1 x3 x4 : Value} {a : Int32} : ZW zG d 200 81 [x0, x1, .int a, x3, x4] st z Q = ZW zG d 200 82 [x0, x1, .int a, x3, x4] (.int a :: st) z Q := zw_next (f := z_iload 2 82) rfl rfl
theorem s200_82 {ls : List Value}  : ZW zG d 200 82 ls (st) z Q = ZW zG d 200 83 ls ((.int (-1)) :: st) z Q := zw_push rfl
theorem s200_83 {ls : List Value} {a b : Int32} : ZW zG d 200 83 ls (.int b :: .int a :: st) z Q = if a = b then ZW zG d 200 102 ls st z Q else ZW zG d 200 86 ls st z Q := zw_iceq rfl
theorem s200_86 {x0 x1 x2 x3 x4 : Value} : ZW zG d 200 86 [x0, x1, x2, x3, x4] st z Q = (zir x0 = true ∧ ZW zG d 200 87 [x0, x1, x2, x3, x4] (x0 :: st) z Q) := zw_cond (f := z_aload 0 87) rfl rfl
theorem s200_87 {x0 x1 x2 x3 : Value} {a : Int32} : ZW zG d 200 87 [x0, x1, x2, x3, .int a] st z Q = ZW zG d 200 89 [x0, x1, x2, x3, .int a] (.int a :: st) z Q := zw_next (f := z_iload 4 89) rfl rfl
theorem s200_89 {ls : List Value}  : ZW zG d 200 89 ls (st) z Q = ZW zG d 200 90 ls ((.int (nI 2)) :: st) z Q := zw_push rfl
theorem s200_90 {ls : List Value} {w0 : Int32} {w1 : Int32} {r : Nat} : ZW zG (d + 1) 200 90 ls (.int w1 :: .int w0 :: .ref r :: st) z Q = (zcls z r = 12 ∧ zcs st = true ∧ ZC zG d 139 [.ref r, .int w0, .int w1] z (zk zG (d + 1) 200 (none) 93 ls st Q)) := zc_V2 rfl (Nat.le_of_ble_eq_true rfl)
theorem s200_93 {x0 x1 x2 x3 x4 : Value} : ZW zG d 200 93 [x0, x1, x2, x3, x4] st z Q = (zir x0 = true ∧ ZW zG d 200 94 [x0, x1, x2, x3, x4] (x0 :: st) z Q) := zw_cond (f := z_aload 0 94) rfl rfl
theorem s200_94 {x0 x1 x3 x4 : Value} {a : Int32} : ZW zG d 200 94 [x0, x1, .int a, x3, x4] st z Q = ZW zG d 200 95 [x0, x1, .int a, x3, x4] (.int a :: st) z Q := zw_next (f := z_iload 2 95) rfl rfl
theorem s200_95 {ls : List Value}  : ZW zG d 200 95 ls (st) z Q = ZW zG d 200 96 ls ((.int (nI 2)) :: st) z Q := zw_push rfl
theorem s200_96 {ls : List Value} {w0 : Int32} {w1 : Int32} {r : Nat} : ZW zG (d + 1) 200 96 ls (.int w1 :: .int w0 :: .ref r :: st) z Q = (zcls z r = 12 ∧ zcs st = true ∧ ZC zG d 139 [.ref r, .int w0, .int w1] z (zk zG (d + 1) 200 (none) 99 ls st Q)) := zc_V2 rfl (Nat.le_of_ble_eq_true rfl)
theorem s200_99 {ls : List Value} {a b : Int32} : ZW zG d 200 99 ls (.int b :: .int a :: st) z Q = if b ≤ a then ZW zG d 200 105 ls st z Q else ZW zG d 200 102 ls st z Q := zw_icge rfl
theorem s200_102 {x0 x1 x2 x3 : Value} {a : Int32} : ZW zG d 200 102 [x0, x1, x2, x3, .int a] st z Q = ZW zG d 200 104 [x0, x1, x2, x3, .int a] (.int a :: st) z Q := zw_next (f := z_iload 4 104) rfl rfl
theorem s200_104 {x0 x1 x2 x3 x4 : Value} {a : Int32} : ZW zG d 200 104 [x0, x1, x2, x3, x4] (.int a :: st) z Q = ZW zG d 200 105 [x0, zclr x1, .int a, x3, x4] st z Q := zw_next (f := z_istore 2 105) rfl rfl
theorem s200_105 {x0 x1 x2 x3 : Value} {a : Int32} : ZW zG d 200 105 [x0, x1, x2, x3, .int a] st z Q = ZW zG d 200 108 [x0, x1, x2, zclr x3, .int (a + (nI 1))] st z Q := zw_next (f := z_iinc 4 (nI 1) 108) rfl rfl
theorem s200_108 {ls : List Value}  : ZW zG d 200 108 ls (st) z Q = ZW zG d 200 32 ls st z Q := zw_goto rfl
theorem s200_111 {x0 x1 x3 x4 : Value} {a : Int32} : ZW zG d 200 111 [x0, x1, .int a, x3, x4] st z Q = ZW zG d 200 112 [x0, x1, .int a, x3, x4] (.int a :: st) z Q := zw_next (f := z_iload 2 112) rfl rfl
theorem s200_112 {ls : List Value} {a : Int32} : ZW zG d 200 112 ls ([.int a]) z Q = Q (.inl (some (.int a))) z := zw_reti rfl
/-- X12_tie (II)I -/
theorem e201 {r0 : Nat} {v0 : Int32} {v1 : Int32} : ZC zG d 201 [.ref r0, .int v0, .int v1] z Q = ZW zG d 201 0 [.ref r0, .int v0, .int v1] [] z Q := rfl
theorem s201_0 {x0 x1 x2 : Value} : ZW zG d 201 0 [x0, x1, x2] st z Q = (zir x0 = true ∧ ZW zG d 201 1 [x0, x1, x2] (x0 :: st) z Q) := zw_cond (f := z_aload 0 1) rfl rfl
theorem s201_1 {x0 x2 : Value} {a : Int32} : ZW zG d 201 1 [x0, .int a, x2] st z Q = ZW zG d 201 2 [x0, .int a, x2] (.int a :: st) z Q := zw_next (f := z_iload 1 2) rfl rfl
theorem s201_2 {x0 x1 : Value} {a : Int32} : ZW zG d 201 2 [x0, x1, .int a] st z Q = ZW zG d 201 3 [x0, x1, .int a] (.int a :: st) z Q := zw_next (f := z_iload 2 3) rfl rfl
theorem s201_3 {ls : List Value} {w0 : Int32} {w1 : Int32} {r : Nat} : ZW zG (d + 1) 201 3 ls (.int w1 :: .int w0 :: .ref r :: st) z Q = (zcls z r = 12 ∧ zcs st = true ∧ ZC zG d 143 [.ref r, .int w0, .int w1] z (zk zG (d + 1) 201 (none) 6 ls st Q)) := zc_V2 rfl (Nat.le_of_ble_eq_true rfl)
theorem s201_6 {ls : List Value} {a : Int32} : ZW zG d 201 6 ls (.int a :: st) z Q = if ¬ a = 0 then ZW zG d 201 12 ls st z Q else ZW zG d 201 9 ls st z Q := zw_ifne rfl
theorem s201_9 {ls : List Value}  : ZW zG d 201 9 ls (st) z Q = ZW zG d 201 11 ls ((.int (-2)) :: st) z Q := zw_push rfl
theorem s201_11 {ls : List Value} {a : Int32} : ZW zG d 201 11 ls ([.int a]) z Q = Q (.inl (some (.int a))) z := zw_reti rfl
theorem s201_12 {x0 x1 x2 : Value} : ZW zG d 201 12 [x0, x1, x2] st z Q = (zir x0 = true ∧ ZW zG d 201 13 [x0, x1, x2] (x0 :: st) z Q) := zw_cond (f := z_aload 0 13) rfl rfl
theorem s201_13 {x0 x2 : Value} {a : Int32} : ZW zG d 201 13 [x0, .int a, x2] st z Q = ZW zG d 201 14 [x0, .int a, x2] (.int a :: st) z Q := zw_next (f := z_iload 1 14) rfl rfl
theorem s201_14 {x0 x1 : Value} {a : Int32} : ZW zG d 201 14 [x0, x1, .int a] st z Q = ZW zG d 201 15 [x0, x1, .int a] (.int a :: st) z Q := zw_next (f := z_iload 2 15) rfl rfl
theorem s201_15 {ls : List Value} {w0 : Int32} {w1 : Int32} {r : Nat} : ZW zG (d + 1) 201 15 ls (.int w1 :: .int w0 :: .ref r :: st) z Q = (zcls z r = 12 ∧ zcs st = true ∧ ZC zG d 148 [.ref r, .int w0, .int w1] z (zk zG (d + 1) 201 (none) 18 ls st Q)) := zc_V2 rfl (Nat.le_of_ble_eq_true rfl)
theorem s201_18 {ls : List Value} {a : Int32} : ZW zG d 201 18 ls (.int a :: st) z Q = if ¬ a = 0 then ZW zG d 201 23 ls st z Q else ZW zG d 201 21 ls st z Q := zw_ifne rfl
theorem s201_21 {ls : List Value}  : ZW zG d 201 21 ls (st) z Q = ZW zG d 201 22 ls ((.int (-1)) :: st) z Q := zw_push rfl
theorem s201_22 {ls : List Value} {a : Int32} : ZW zG d 201 22 ls ([.int a]) z Q = Q (.inl (some (.int a))) z := zw_reti rfl
theorem s201_23 {x0 x1 x2 : Value} : ZW zG d 201 23 [x0, x1, x2] st z Q = (zir x0 = true ∧ ZW zG d 201 24 [x0, x1, x2] (x0 :: st) z Q) := zw_cond (f := z_aload 0 24) rfl rfl
theorem s201_24 {x0 x2 : Value} {a : Int32} : ZW zG d 201 24 [x0, .int a, x2] st z Q = ZW zG d 201 25 [x0, .int a, x2] (.int a :: st) z Q := zw_next (f := z_iload 1 25) rfl rfl
theorem s201_25 {x0 x2 : Value} {a : Int32} : ZW zG d 201 25 [x0, .int a, x2] st z Q = ZW zG d 201 26 [x0, .int a, x2] (.int a :: st) z Q := zw_next (f := z_iload 1 26) rfl rfl
theorem s201_26 {x0 x1 : Value} {a : Int32} : ZW zG d 201 26 [x0, x1, .int a] st z Q = ZW zG d 201 27 [x0, x1, .int a] (.int a :: st) z Q := zw_next (f := z_iload 2 27) rfl rfl
theorem s201_27 {ls : List Value} {w0 : Int32} {w1 : Int32} {w2 : Int32} {r : Nat} : ZW zG (d + 1) 201 27 ls (.int w2 :: .int w1 :: .int w0 :: .ref r :: st) z Q = (zcls z r = 12 ∧ zcs st = true ∧ ZC zG d 199 [.ref r, .int w0, .int w1, .int w2] z (zk zG (d + 1) 201 (none) 30 ls st Q)) := zc_V3 rfl (Nat.le_of_ble_eq_true rfl)
theorem s201_30 {x0 x1 : Value} {a : Int32} : ZW zG d 201 30 [x0, x1, .int a] st z Q = ZW zG d 201 31 [x0, x1, .int a] (.int a :: st) z Q := zw_next (f := z_iload 2 31) rfl rfl
theorem s201_31 {ls : List Value} {w0 : Int32} {w1 : Int32} : ZW zG (d + 1) 201 31 ls (.int w1 :: .int w0 :: st) z Q = (zcs st = true ∧ ZC zG d 149 [.int w0, .int w1] z (zk zG (d + 1) 201 (none) 34 ls st Q)) := zc_S2 rfl (Nat.le_of_ble_eq_true rfl)
theorem s201_34 {ls : List Value} {a : Int32} : ZW zG d 201 34 ls (.int a :: st) z Q = if a = 0 then ZW zG d 201 41 ls st z Q else ZW zG d 201 37 ls st z Q := zw_ifeq rfl
theorem s201_37 {ls : List Value}  : ZW zG d 201 37 ls (st) z Q = ZW zG d 201 38 ls ((.int (nI 0)) :: st) z Q := zw_push rfl
theorem s201_38 {ls : List Value}  : ZW zG d 201 38 ls (st) z Q = ZW zG d 201 42 ls st z Q := zw_goto rfl
theorem s201_41 {ls : List Value}  : ZW zG d 201 41 ls (st) z Q = ZW zG d 201 42 ls ((.int (nI 1)) :: st) z Q := zw_push rfl
theorem s201_42 {ls : List Value} {a : Int32} : ZW zG d 201 42 ls ([.int a]) z Q = Q (.inl (some (.int a))) z := zw_reti rfl
/-- X12_ring (I)I -/
theorem e202 {r0 : Nat} {v0 : Int32} : ZC zG d 202 [.ref r0, .int v0] z Q = ZW zG d 202 0 [.ref r0, .int v0] [] z Q := rfl
theorem s202_0 {x0 x1 : Value} : ZW zG d 202 0 [x0, x1] st z Q = (zir x0 = true ∧ ZW zG d 202 1 [x0, x1] (x0 :: st) z Q) := zw_cond (f := z_aload 0 1) rfl rfl
theorem s202_1 {x0 : Value} {a : Int32} : ZW zG d 202 1 [x0, .int a] st z Q = ZW zG d 202 2 [x0, .int a] (.int a :: st) z Q := zw_next (f := z_iload 1 2) rfl rfl
theorem s202_2 {ls : List Value} {w0 : Int32} {r : Nat} : ZW zG (d + 1) 202 2 ls (.int w0 :: .ref r :: st) z Q = (zcls z r = 12 ∧ zcs st = true ∧ ZC zG d 144 [.ref r, .int w0] z (zk zG (d + 1) 202 (none) 5 ls st Q)) := zc_V1 rfl (Nat.le_of_ble_eq_true rfl)
theorem s202_5 {ls : List Value} {a : Int32} : ZW zG d 202 5 ls (.int a :: st) z Q = if ¬ a = 0 then ZW zG d 202 11 ls st z Q else ZW zG d 202 8 ls st z Q := zw_ifne rfl
theorem s202_8 {ls : List Value}  : ZW zG d 202 8 ls (st) z Q = ZW zG d 202 10 ls ((.int (-2)) :: st) z Q := zw_push rfl
theorem s202_10 {ls : List Value} {a : Int32} : ZW zG d 202 10 ls ([.int a]) z Q = Q (.inl (some (.int a))) z := zw_reti rfl
theorem s202_11 {x0 x1 : Value} : ZW zG d 202 11 [x0, x1] st z Q = (zir x0 = true ∧ ZW zG d 202 12 [x0, x1] (x0 :: st) z Q) := zw_cond (f := z_aload 0 12) rfl rfl
theorem s202_12 {ls : List Value}  {r : Nat} : ZW zG (d + 1) 202 12 ls (.ref r :: st) z Q = (zcls z r = 12 ∧ zcs st = true ∧ ZC zG d 203 [.ref r] z (zk zG (d + 1) 202 (none) 15 ls st Q)) := zc_V0 rfl (Nat.le_of_ble_eq_true rfl)
theorem s202_15 {x0 x1 : Value} : ZW zG d 202 15 [x0, x1] st z Q = (zir x0 = true ∧ ZW zG d 202 16 [x0, x1] (x0 :: st) z Q) := zw_cond (f := z_aload 0 16) rfl rfl
theorem s202_16 {x0 : Value} {a : Int32} : ZW zG d 202 16 [x0, .int a] st z Q = ZW zG d 202 17 [x0, .int a] (.int a :: st) z Q := zw_next (f := z_iload 1 17) rfl rfl
theorem s202_17 {ls : List Value} {w0 : Int32} {r : Nat} : ZW zG (d + 1) 202 17 ls (.int w0 :: .ref r :: st) z Q = (zcls z r = 12 ∧ zcs st = true ∧ ZC zG d 204 [.ref r, .int w0] z (zk zG (d + 1) 202 (none) 20 ls st Q)) := zc_V1 rfl (Nat.le_of_ble_eq_true rfl)
theorem s202_20 {ls : List Value} {a : Int32} : ZW zG d 202 20 ls ([.int a]) z Q = Q (.inl (some (.int a))) z := zw_reti rfl
/-- X12_callsAll ()V -/
theorem e203 {r0 : Nat} : ZC zG d 203 [.ref r0] z Q = ZW zG d 203 0 [.ref r0, zdum] [] z Q := rfl
theorem s203_0 {ls : List Value}  : ZW zG d 203 0 ls (st) z Q = ZW zG d 203 1 ls ((.int (nI 0)) :: st) z Q := zw_push rfl
theorem s203_1 {x0 x1 : Value} {a : Int32} : ZW zG d 203 1 [x0, x1] (.int a :: st) z Q = ZW zG d 203 2 [zclr x0, .int a] st z Q := zw_next (f := z_istore 1 2) rfl rfl
theorem s203_2 {x0 : Value} {a : Int32} : ZW zG d 203 2 [x0, .int a] st z Q = ZW zG d 203 3 [x0, .int a] (.int a :: st) z Q := zw_next (f := z_iload 1 3) rfl rfl
theorem s203_3 {ls : List Value}  : ZW zG d 203 3 ls (st) z Q = ZW zG d 203 5 ls ((.int (nI 16)) :: st) z Q := zw_push rfl
theorem s203_5 {ls : List Value} {a b : Int32} : ZW zG d 203 5 ls (.int b :: .int a :: st) z Q = if b ≤ a then ZW zG d 203 21 ls st z Q else ZW zG d 203 8 ls st z Q := zw_icge rfl
theorem s203_8 {x0 x1 : Value} : ZW zG d 203 8 [x0, x1] st z Q = (zir x0 = true ∧ ZW zG d 203 9 [x0, x1] (x0 :: st) z Q) := zw_cond (f := z_aload 0 9) rfl rfl
theorem s203_9 {ls : List Value} {r : Nat} : ZW zG d 203 9 ls (.ref r :: st) z Q = ((zcls z r = 12 ∧ zir (zfr z r 35) = true) ∧ ZW zG d 203 12 ls (zfr z r 35 :: st) (z) Q) := zw_getR rfl
theorem s203_12 {x0 : Value} {a : Int32} : ZW zG d 203 12 [x0, .int a] st z Q = ZW zG d 203 13 [x0, .int a] (.int a :: st) z Q := zw_next (f := z_iload 1 13) rfl rfl
theorem s203_13 {ls : List Value}  : ZW zG d 203 13 ls (st) z Q = ZW zG d 203 14 ls ((.int (nI 0)) :: st) z Q := zw_push rfl
theorem s203_14 {ls : List Value} {a b : Int32} {r : Nat} : ZW zG d 203 14 ls (.int b :: .int a :: .ref r :: st) z Q = ((zcls z r = 50 ∧ zin a (zlen z r) = true) ∧ ZW zG d 203 15 ls (st) (sia z r (zx a) (znar 50 b)) Q) := zw_iast rfl
theorem s203_15 {x0 : Value} {a : Int32} : ZW zG d 203 15 [x0, .int a] st z Q = ZW zG d 203 18 [zclr x0, .int (a + (nI 1))] st z Q := zw_next (f := z_iinc 1 (nI 1) 18) rfl rfl
theorem s203_18 {ls : List Value}  : ZW zG d 203 18 ls (st) z Q = ZW zG d 203 2 ls st z Q := zw_goto rfl
theorem s203_21 {ls : List Value}  : ZW zG d 203 21 ls (st) z Q = ZW zG d 203 22 ls ((.int (nI 0)) :: st) z Q := zw_push rfl
theorem s203_22 {x0 x1 : Value} {a : Int32} : ZW zG d 203 22 [x0, x1] (.int a :: st) z Q = ZW zG d 203 23 [zclr x0, .int a] st z Q := zw_next (f := z_istore 1 23) rfl rfl
theorem s203_23 {x0 : Value} {a : Int32} : ZW zG d 203 23 [x0, .int a] st z Q = ZW zG d 203 24 [x0, .int a] (.int a :: st) z Q := zw_next (f := z_iload 1 24) rfl rfl
theorem s203_24 {x0 x1 : Value} : ZW zG d 203 24 [x0, x1] st z Q = (zir x0 = true ∧ ZW zG d 203 25 [x0, x1] (x0 :: st) z Q) := zw_cond (f := z_aload 0 25) rfl rfl
theorem s203_25 {ls : List Value} {r : Nat} : ZW zG d 203 25 ls (.ref r :: st) z Q = ((zcls z r = 12 ∧ zir (zfr z r 1) = true) ∧ ZW zG d 203 28 ls (zfr z r 1 :: st) (z) Q) := zw_getR rfl
theorem s203_28 {ls : List Value}  : ZW zG d 203 28 ls (st) z Q = ZW zG d 203 30 ls ((.int (nI 8)) :: st) z Q := zw_push rfl
theorem s203_30 {ls : List Value} {a : Int32} {r : Nat} : ZW zG d 203 30 ls (.int a :: .ref r :: st) z Q = ((zcls z r = 50 ∧ zin a (zlen z r) = true) ∧ ZW zG d 203 31 ls (.int (zia z r (zx a)) :: st) (z) Q) := zw_iald rfl
theorem s203_31 {ls : List Value} {a b : Int32} : ZW zG d 203 31 ls (.int b :: .int a :: st) z Q = if b ≤ a then ZW zG d 203 103 ls st z Q else ZW zG d 203 34 ls st z Q := zw_icge rfl
theorem s203_34 {x0 x1 : Value} : ZW zG d 203 34 [x0, x1] st z Q = (zir x0 = true ∧ ZW zG d 203 35 [x0, x1] (x0 :: st) z Q) := zw_cond (f := z_aload 0 35) rfl rfl
theorem s203_35 {ls : List Value} {r : Nat} : ZW zG d 203 35 ls (.ref r :: st) z Q = ((zcls z r = 12 ∧ zir (zfr z r 1) = true) ∧ ZW zG d 203 38 ls (zfr z r 1 :: st) (z) Q) := zw_getR rfl
theorem s203_38 {ls : List Value}  : ZW zG d 203 38 ls (st) z Q = ZW zG d 203 41 ls ((.int (nI 6680)) :: st) z Q := zw_push rfl
theorem s203_41 {ls : List Value}  : ZW zG d 203 41 ls (st) z Q = ZW zG d 203 42 ls ((.int (nI 4)) :: st) z Q := zw_push rfl
theorem s203_42 {x0 : Value} {a : Int32} : ZW zG d 203 42 [x0, .int a] st z Q = ZW zG d 203 43 [x0, .int a] (.int a :: st) z Q := zw_next (f := z_iload 1 43) rfl rfl
theorem s203_43 {ls : List Value} {a b : Int32} : ZW zG d 203 43 ls (.int b :: .int a :: st) z Q = ZW zG d 203 44 ls (.int (a * b) :: st) z Q := zw_imul rfl
theorem s203_44 {ls : List Value} {a b : Int32} : ZW zG d 203 44 ls (.int b :: .int a :: st) z Q = ZW zG d 203 45 ls (.int (a + b) :: st) z Q := zw_iadd rfl
theorem s203_45 {ls : List Value}  : ZW zG d 203 45 ls (st) z Q = ZW zG d 203 46 ls ((.int (nI 2)) :: st) z Q := zw_push rfl
theorem s203_46 {ls : List Value} {a b : Int32} : ZW zG d 203 46 ls (.int b :: .int a :: st) z Q = ZW zG d 203 47 ls (.int (a + b) :: st) z Q := zw_iadd rfl
theorem s203_47 {ls : List Value} {a : Int32} {r : Nat} : ZW zG d 203 47 ls (.int a :: .ref r :: st) z Q = ((zcls z r = 50 ∧ zin a (zlen z r) = true) ∧ ZW zG d 203 48 ls (.int (zia z r (zx a)) :: st) (z) Q) := zw_iald rfl
theorem s203_48 {ls : List Value} {a : Int32} : ZW zG d 203 48 ls (.int a :: st) z Q = ZW zG d 203 49 ls (.long a.toInt64 :: st) z Q := zw_i2l rfl
theorem s203_49 {ls : List Value}  : ZW zG d 203 49 ls (st) z Q = ZW zG d 203 52 ls ((.long (lN 2)) :: st) z Q := zw_push rfl
theorem s203_52 {ls : List Value}  : ZW zG d 203 52 ls (st) z Q = ZW zG d 203 55 ls ((.long (lN 3)) :: st) z Q := zw_push rfl
theorem s203_55 {ls : List Value} {w0 : Int64} {w1 : Int64} {w2 : Int64} : ZW zG (d + 1) 203 55 ls (.long w2 :: .long w1 :: .long w0 :: st) z Q = (zcs st = true ∧ ZC zG d 114 [.long w0, .long w1, .long w2] z (zk zG (d + 1) 203 (none) 58 ls st Q)) := zc_S3 rfl (Nat.le_of_ble_eq_true rfl)
theorem s203_58 {ls : List Value} {a : Int32} : ZW zG d 203 58 ls (.int a :: st) z Q = if a = 0 then ZW zG d 203 97 ls st z Q else ZW zG d 203 61 ls st z Q := zw_ifeq rfl
theorem s203_61 {x0 x1 : Value} : ZW zG d 203 61 [x0, x1] st z Q = (zir x0 = true ∧ ZW zG d 203 62 [x0, x1] (x0 :: st) z Q) := zw_cond (f := z_aload 0 62) rfl rfl
theorem s203_62 {ls : List Value} {r : Nat} : ZW zG d 203 62 ls (.ref r :: st) z Q = ((zcls z r = 12 ∧ zir (zfr z r 35) = true) ∧ ZW zG d 203 65 ls (zfr z r 35 :: st) (z) Q) := zw_getR rfl
theorem s203_65 {x0 x1 : Value} : ZW zG d 203 65 [x0, x1] st z Q = (zir x0 = true ∧ ZW zG d 203 66 [x0, x1] (x0 :: st) z Q) := zw_cond (f := z_aload 0 66) rfl rfl
theorem s203_66 {ls : List Value} {r : Nat} : ZW zG d 203 66 ls (.ref r :: st) z Q = ((zcls z r = 12 ∧ zir (zfr z r 1) = true) ∧ ZW zG d 203 69 ls (zfr z r 1 :: st) (z) Q) := zw_getR rfl
theorem s203_69 {ls : List Value}  : ZW zG d 203 69 ls (st) z Q = ZW zG d 203 72 ls ((.int (nI 6680)) :: st) z Q := zw_push rfl
theorem s203_72 {ls : List Value}  : ZW zG d 203 72 ls (st) z Q = ZW zG d 203 73 ls ((.int (nI 4)) :: st) z Q := zw_push rfl
theorem s203_73 {x0 : Value} {a : Int32} : ZW zG d 203 73 [x0, .int a] st z Q = ZW zG d 203 74 [x0, .int a] (.int a :: st) z Q := zw_next (f := z_iload 1 74) rfl rfl
theorem s203_74 {ls : List Value} {a b : Int32} : ZW zG d 203 74 ls (.int b :: .int a :: st) z Q = ZW zG d 203 75 ls (.int (a * b) :: st) z Q := zw_imul rfl
theorem s203_75 {ls : List Value} {a b : Int32} : ZW zG d 203 75 ls (.int b :: .int a :: st) z Q = ZW zG d 203 76 ls (.int (a + b) :: st) z Q := zw_iadd rfl
theorem s203_76 {ls : List Value} {a : Int32} {r : Nat} : ZW zG d 203 76 ls (.int a :: .ref r :: st) z Q = ((zcls z r = 50 ∧ zin a (zlen z r) = true) ∧ ZW zG d 203 77 ls (.int (zia z r (zx a)) :: st) (z) Q) := zw_iald rfl
theorem s203_77 {ls : List Value} {a : Int32} {r : Nat} : ZW zG d 203 77 ls (.int a :: .ref r :: st) z Q = ZW zG d 203 78 ls (.int a :: .ref r :: .int a :: .ref r :: st) z Q := zw_dup2 rfl
theorem s203_78 {ls : List Value} {a : Int32} {r : Nat} : ZW zG d 203 78 ls (.int a :: .ref r :: st) z Q = ((zcls z r = 50 ∧ zin a (zlen z r) = true) ∧ ZW zG d 203 79 ls (.int (zia z r (zx a)) :: st) (z) Q) := zw_iald rfl
theorem s203_79 {ls : List Value}  : ZW zG d 203 79 ls (st) z Q = ZW zG d 203 80 ls ((.int (nI 1)) :: st) z Q := zw_push rfl
theorem s203_80 {x0 x1 : Value} : ZW zG d 203 80 [x0, x1] st z Q = (zir x0 = true ∧ ZW zG d 203 81 [x0, x1] (x0 :: st) z Q) := zw_cond (f := z_aload 0 81) rfl rfl
theorem s203_81 {ls : List Value} {r : Nat} : ZW zG d 203 81 ls (.ref r :: st) z Q = ((zcls z r = 12 ∧ zir (zfr z r 1) = true) ∧ ZW zG d 203 84 ls (zfr z r 1 :: st) (z) Q) := zw_getR rfl
theorem s203_84 {ls : List Value}  : ZW zG d 203 84 ls (st) z Q = ZW zG d 203 87 ls ((.int (nI 6680)) :: st) z Q := zw_push rfl
theorem s203_87 {ls : List Value}  : ZW zG d 203 87 ls (st) z Q = ZW zG d 203 88 ls ((.int (nI 4)) :: st) z Q := zw_push rfl
theorem s203_88 {x0 : Value} {a : Int32} : ZW zG d 203 88 [x0, .int a] st z Q = ZW zG d 203 89 [x0, .int a] (.int a :: st) z Q := zw_next (f := z_iload 1 89) rfl rfl
theorem s203_89 {ls : List Value} {a b : Int32} : ZW zG d 203 89 ls (.int b :: .int a :: st) z Q = ZW zG d 203 90 ls (.int (a * b) :: st) z Q := zw_imul rfl
theorem s203_90 {ls : List Value} {a b : Int32} : ZW zG d 203 90 ls (.int b :: .int a :: st) z Q = ZW zG d 203 91 ls (.int (a + b) :: st) z Q := zw_iadd rfl
theorem s203_91 {ls : List Value}  : ZW zG d 203 91 ls (st) z Q = ZW zG d 203 92 ls ((.int (nI 1)) :: st) z Q := zw_push rfl
theorem s203_92 {ls : List Value} {a b : Int32} : ZW zG d 203 92 ls (.int b :: .int a :: st) z Q = ZW zG d 203 93 ls (.int (a + b) :: st) z Q := zw_iadd rfl
theorem s203_93 {ls : List Value} {a : Int32} {r : Nat} : ZW zG d 203 93 ls (.int a :: .ref r :: st) z Q = ((zcls z r = 50 ∧ zin a (zlen z r) = true) ∧ ZW zG d 203 94 ls (.int (zia z r (zx a)) :: st) (z) Q) := zw_iald rfl
theorem s203_94 {ls : List Value} {a b : Int32} : ZW zG d 203 94 ls (.int b :: .int a :: st) z Q = ZW zG d 203 95 ls (.int (a <<< (b &&& 31)) :: st) z Q := zw_ishl rfl
theorem s203_95 {ls : List Value} {a b : Int32} : ZW zG d 203 95 ls (.int b :: .int a :: st) z Q = ZW zG d 203 96 ls (.int (a ||| b) :: st) z Q := zw_ior rfl
theorem s203_96 {ls : List Value} {a b : Int32} {r : Nat} : ZW zG d 203 96 ls (.int b :: .int a :: .ref r :: st) z Q = ((zcls z r = 50 ∧ zin a (zlen z r) = true) ∧ ZW zG d 203 97 ls (st) (sia z r (zx a) (znar 50 b)) Q) := zw_iast rfl
theorem s203_97 {x0 : Value} {a : Int32} : ZW zG d 203 97 [x0, .int a] st z Q = ZW zG d 203 100 [zclr x0, .int (a + (nI 1))] st z Q := zw_next (f := z_iinc 1 (nI 1) 100) rfl rfl
theorem s203_100 {ls : List Value}  : ZW zG d 203 100 ls (st) z Q = ZW zG d 203 23 ls st z Q := zw_goto rfl
theorem s203_103 {ls : List Value}  : ZW zG d 203 103 ls ([]) z Q = Q (.inl none) z := zw_ret rfl
/-- X12_ringOf (I)I -/
theorem e204 {r0 : Nat} {v0 : Int32} : ZC zG d 204 [.ref r0, .int v0] z Q = ZW zG d 204 0 [.ref r0, .int v0, zdum, zdum] [] z Q := rfl
theorem s204_0 {x0 x1 x2 x3 : Value} : ZW zG d 204 0 [x0, x1, x2, x3] st z Q = (zir x0 = true ∧ ZW zG d 204 1 [x0, x1, x2, x3] (x0 :: st) z Q) := zw_cond (f := z_aload 0 1) rfl rfl
theorem s204_1 {x0 x2 x3 : Value} {a : Int32} : ZW zG d 204 1 [x0, .int a, x2, x3] st z Q = ZW zG d 204 2 [x0, .int a, x2, x3] (.int a :: st) z Q := zw_next (f := z_iload 1 2) rfl rfl
theorem s204_2 {ls : List Value} {w0 : Int32} {r : Nat} : ZW zG (d + 1) 204 2 ls (.int w0 :: .ref r :: st) z Q = (zcls z r = 12 ∧ zcs st = true ∧ ZC zG d 205 [.ref r, .int w0] z (zk zG (d + 1) 204 (none) 5 ls st Q)) := zc_V1 rfl (Nat.le_of_ble_eq_true rfl)
theorem s204_5 {x0 x1 x2 x3 : Value} {a : Int32} : ZW zG d 204 5 [x0, x1, x2, x3] (.int a :: st) z Q = ZW zG d 204 6 [x0, zclr x1, .int a, x3] st z Q := zw_next (f := z_istore 2 6) rfl rfl
theorem s204_6 {x0 x1 x3 : Value} {a : Int32} : ZW zG d 204 6 [x0, x1, .int a, x3] st z Q = ZW zG d 204 7 [x0, x1, .int a, x3] (.int a :: st) z Q := zw_next (f := z_iload 2 7) rfl rfl
theorem s204_7 {ls : List Value} {w0 : Int32} : ZW zG (d + 1) 204 7 ls (.int w0 :: st) z Q = (zcs st = true ∧ ZC zG d 152 [.int w0] z (zk zG (d + 1) 204 (none) 10 ls st Q)) := zc_S1 rfl (Nat.le_of_ble_eq_true rfl)
theorem s204_10 {ls : List Value}  : ZW zG d 204 10 ls (st) z Q = ZW zG d 204 11 ls ((.int (nI 2)) :: st) z Q := zw_push rfl
theorem s204_11 {ls : List Value} {a b : Int32} : ZW zG d 204 11 ls (.int b :: .int a :: st) z Q = if b ≤ a then ZW zG d 204 16 ls st z Q else ZW zG d 204 14 ls st z Q := zw_icge rfl
theorem s204_14 {ls : List Value}  : ZW zG d 204 14 ls (st) z Q = ZW zG d 204 15 ls ((.int (nI 0)) :: st) z Q := zw_push rfl
theorem s204_15 {ls : List Value} {a : Int32} : ZW zG d 204 15 ls ([.int a]) z Q = Q (.inl (some (.int a))) z := zw_reti rfl
theorem s204_16 {ls : List Value}  : ZW zG d 204 16 ls (st) z Q = ZW zG d 204 17 ls ((.int (nI 0)) :: st) z Q := zw_push rfl
theorem s204_17 {x0 x1 x2 x3 : Value} {a : Int32} : ZW zG d 204 17 [x0, x1, x2, x3] (.int a :: st) z Q = ZW zG d 204 18 [x0, x1, zclr x2, .int a] st z Q := zw_next (f := z_istore 3 18) rfl rfl
theorem s204_18 {x0 x1 x2 : Value} {a : Int32} : ZW zG d 204 18 [x0, x1, x2, .int a] st z Q = ZW zG d 204 19 [x0, x1, x2, .int a] (.int a :: st) z Q := zw_next (f := z_iload 3 19) rfl rfl
theorem s204_19 {ls : List Value}  : ZW zG d 204 19 ls (st) z Q = ZW zG d 204 21 ls ((.int (nI 16)) :: st) z Q := zw_push rfl
theorem s204_21 {ls : List Value} {a b : Int32} : ZW zG d 204 21 ls (.int b :: .int a :: st) z Q = if b ≤ a then ZW zG d 204 49 ls st z Q else ZW zG d 204 24 ls st z Q := zw_icge rfl
theorem s204_24 {x0 x1 x3 : Value} {a : Int32} : ZW zG d 204 24 [x0, x1, .int a, x3] st z Q = ZW zG d 204 25 [x0, x1, .int a, x3] (.int a :: st) z Q := zw_next (f := z_iload 2 25) rfl rfl
theorem s204_25 {x0 x1 x2 : Value} {a : Int32} : ZW zG d 204 25 [x0, x1, x2, .int a] st z Q = ZW zG d 204 26 [x0, x1, x2, .int a] (.int a :: st) z Q := zw_next (f := z_iload 3 26) rfl rfl
theorem s204_26 {ls : List Value} {w0 : Int32} {w1 : Int32} : ZW zG (d + 1) 204 26 ls (.int w1 :: .int w0 :: st) z Q = (zcs st = true ∧ ZC zG d 149 [.int w0, .int w1] z (zk zG (d + 1) 204 (none) 29 ls st Q)) := zc_S2 rfl (Nat.le_of_ble_eq_true rfl)
theorem s204_29 {ls : List Value} {a : Int32} : ZW zG d 204 29 ls (.int a :: st) z Q = if a = 0 then ZW zG d 204 43 ls st z Q else ZW zG d 204 32 ls st z Q := zw_ifeq rfl
theorem s204_32 {x0 x1 x2 x3 : Value} : ZW zG d 204 32 [x0, x1, x2, x3] st z Q = (zir x0 = true ∧ ZW zG d 204 33 [x0, x1, x2, x3] (x0 :: st) z Q) := zw_cond (f := z_aload 0 33) rfl rfl
theorem s204_33 {x0 x1 x2 : Value} {a : Int32} : ZW zG d 204 33 [x0, x1, x2, .int a] st z Q = ZW zG d 204 34 [x0, x1, x2, .int a] (.int a :: st) z Q := zw_next (f := z_iload 3 34) rfl rfl
theorem s204_34 {ls : List Value} {w0 : Int32} {r : Nat} : ZW zG (d + 1) 204 34 ls (.int w0 :: .ref r :: st) z Q = (zcls z r = 12 ∧ zcs st = true ∧ ZC zG d 205 [.ref r, .int w0] z (zk zG (d + 1) 204 (none) 37 ls st Q)) := zc_V1 rfl (Nat.le_of_ble_eq_true rfl)
theorem s204_37 {x0 x1 x3 : Value} {a : Int32} : ZW zG d 204 37 [x0, x1, .int a, x3] st z Q = ZW zG d 204 38 [x0, x1, .int a, x3] (.int a :: st) z Q := zw_next (f := z_iload 2 38) rfl rfl
theorem s204_38 {ls : List Value} {a b : Int32} : ZW zG d 204 38 ls (.int b :: .int a :: st) z Q = if a = b then ZW zG d 204 43 ls st z Q else ZW zG d 204 41 ls st z Q := zw_iceq rfl
theorem s204_41 {ls : List Value}  : ZW zG d 204 41 ls (st) z Q = ZW zG d 204 42 ls ((.int (nI 0)) :: st) z Q := zw_push rfl
theorem s204_42 {ls : List Value} {a : Int32} : ZW zG d 204 42 ls ([.int a]) z Q = Q (.inl (some (.int a))) z := zw_reti rfl
theorem s204_43 {x0 x1 x2 : Value} {a : Int32} : ZW zG d 204 43 [x0, x1, x2, .int a] st z Q = ZW zG d 204 46 [x0, x1, zclr x2, .int (a + (nI 1))] st z Q := zw_next (f := z_iinc 3 (nI 1) 46) rfl rfl
theorem s204_46 {ls : List Value}  : ZW zG d 204 46 ls (st) z Q = ZW zG d 204 18 ls st z Q := zw_goto rfl
theorem s204_49 {x0 x1 x3 : Value} {a : Int32} : ZW zG d 204 49 [x0, x1, .int a, x3] st z Q = ZW zG d 204 50 [x0, x1, .int a, x3] (.int a :: st) z Q := zw_next (f := z_iload 2 50) rfl rfl
theorem s204_50 {ls : List Value} {a : Int32} : ZW zG d 204 50 ls ([.int a]) z Q = Q (.inl (some (.int a))) z := zw_reti rfl
/-- X12_comesTo (I)I -/
theorem e205 {r0 : Nat} {v0 : Int32} : ZC zG d 205 [.ref r0, .int v0] z Q = ZW zG d 205 0 [.ref r0, .int v0, zdum, zdum, zdum] [] z Q := rfl
theorem s205_0 {ls : List Value}  : ZW zG d 205 0 ls (st) z Q = ZW zG d 205 1 ls ((.int (nI 1)) :: st) z Q := zw_push rfl
theorem s205_1 {x0 x2 x3 x4 : Value} {a : Int32} : ZW zG d 205 1 [x0, .int a, x2, x3, x4] st z Q = ZW zG d 205 2 [x0, .int a, x2, x3, x4] (.int a :: st) z Q := zw_next (f := z_iload 1 2) rfl rfl
theorem s205_2 {ls : List Value} {a b : Int32} : ZW zG d 205 2 ls (.int b :: .int a :: st) z Q = ZW zG d 205 3 ls (.int (a <<< (b &&& 31)) :: st) z Q := zw_ishl rfl
theorem s205_3 {x0 x1 x2 x3 x4 : Value} {a : Int32} : ZW zG d 205 3 [x0, x1, x2, x3, x4] (.int a :: st) z Q = ZW zG d 205 4 [x0, zclr x1, .int a, x3, x4] st z Q := zw_next (f := z_istore 2 4) rfl rfl
theorem s205_4 {ls : List Value}  : ZW zG d 205 4 ls (st) z Q = ZW zG d 205 5 ls ((.int (nI 0)) :: st) z Q := zw_push rfl
theorem s205_5 {x0 x1 x2 x3 x4 : Value} {a : Int32} : ZW zG d 205 5 [x0, x1, x2, x3, x4] (.int a :: st) z Q = ZW zG d 205 6 [x0, x1, zclr x2, .int a, x4] st z Q := zw_next (f := z_istore 3 6) rfl rfl
theorem s205_6 {x0 x1 x2 x4 : Value} {a : Int32} : ZW zG d 205 6 [x0, x1, x2, .int a, x4] st z Q = ZW zG d 205 7 [x0, x1, x2, .int a, x4] (.int a :: st) z Q := zw_next (f := z_iload 3 7) rfl rfl
theorem s205_7 {x0 x1 x3 x4 : Value} {a : Int32} : ZW zG d 205 7 [x0, x1, .int a, x3, x4] st z Q = ZW zG d 205 8 [x0, x1, .int a, x3, x4] (.int a :: st) z Q := zw_next (f := z_iload 2 8) rfl rfl
theorem s205_8 {ls : List Value} {a b : Int32} : ZW zG d 205 8 ls (.int b :: .int a :: st) z Q = if a = b then ZW zG d 205 51 ls st z Q else ZW zG d 205 11 ls st z Q := zw_iceq rfl
theorem s205_11 {x0 x1 x3 x4 : Value} {a : Int32} : ZW zG d 205 11 [x0, x1, .int a, x3, x4] st z Q = ZW zG d 205 12 [x0, x1, .int a, x3, x4] (.int a :: st) z Q := zw_next (f := z_iload 2 12) rfl rfl
theorem s205_12 {x0 x1 x2 x3 x4 : Value} {a : Int32} : ZW zG d 205 12 [x0, x1, x2, x3, x4] (.int a :: st) z Q = ZW zG d 205 13 [x0, x1, zclr x2, .int a, x4] st z Q := zw_next (f := z_istore 3 13) rfl rfl
theorem s205_13 {ls : List Value}  : ZW zG d 205 13 ls (st) z Q = ZW zG d 205 14 ls ((.int (nI 0)) :: st) z Q := zw_push rfl
theorem s205_14 {x0 x1 x2 x3 x4 : Value} {a : Int32} : ZW zG d 205 14 [x0, x1, x2, x3, x4] (.int a :: st) z Q = ZW zG d 205 16 [x0, x1, x2, zclr x3, .int a] st z Q := zw_next (f := z_istore 4 16) rfl rfl
theorem s205_16 {x0 x1 x2 x3 : Value} {a : Int32} : ZW zG d 205 16 [x0, x1, x2, x3, .int a] st z Q = ZW zG d 205 18 [x0, x1, x2, x3, .int a] (.int a :: st) z Q := zw_next (f := z_iload 4 18) rfl rfl
theorem s205_18 {ls : List Value}  : ZW zG d 205 18 ls (st) z Q = ZW zG d 205 20 ls ((.int (nI 16)) :: st) z Q := zw_push rfl
theorem s205_20 {ls : List Value} {a b : Int32} : ZW zG d 205 20 ls (.int b :: .int a :: st) z Q = if b ≤ a then ZW zG d 205 48 ls st z Q else ZW zG d 205 23 ls st z Q := zw_icge rfl
theorem s205_23 {x0 x1 x2 x4 : Value} {a : Int32} : ZW zG d 205 23 [x0, x1, x2, .int a, x4] st z Q = ZW zG d 205 24 [x0, x1, x2, .int a, x4] (.int a :: st) z Q := zw_next (f := z_iload 3 24) rfl rfl
theorem s205_24 {x0 x1 x2 x3 : Value} {a : Int32} : ZW zG d 205 24 [x0, x1, x2, x3, .int a] st z Q = ZW zG d 205 26 [x0, x1, x2, x3, .int a] (.int a :: st) z Q := zw_next (f := z_iload 4 26) rfl rfl
theorem s205_26 {ls : List Value} {w0 : Int32} {w1 : Int32} : ZW zG (d + 1) 205 26 ls (.int w1 :: .int w0 :: st) z Q = (zcs st = true ∧ ZC zG d 149 [.int w0, .int w1] z (zk zG (d + 1) 205 (none) 29 ls st Q)) := zc_S2 rfl (Nat.le_of_ble_eq_true rfl)
theorem s205_29 {ls : List Value} {a : Int32} : ZW zG d 205 29 ls (.int a :: st) z Q = if a = 0 then ZW zG d 205 42 ls st z Q else ZW zG d 205 32 ls st z Q := zw_ifeq rfl
theorem s205_32 {x0 x1 x3 x4 : Value} {a : Int32} : ZW zG d 205 32 [x0, x1, .int a, x3, x4] st z Q = ZW zG d 205 33 [x0, x1, .int a, x3, x4] (.int a :: st) z Q := zw_next (f := z_iload 2 33) rfl rfl
theorem s205_33 {x0 x1 x2 x3 x4 : Value} : ZW zG d 205 33 [x0, x1, x2, x3, x4] st z Q = (zir x0 = true ∧ ZW zG d 205 34 [x0, x1, x2, x3, x4] (x0 :: st) z Q) := zw_cond (f := z_aload 0 34) rfl rfl
theorem s205_34 {ls : List Value} {r : Nat} : ZW zG d 205 34 ls (.ref r :: st) z Q = ((zcls z r = 12 ∧ zir (zfr z r 35) = true) ∧ ZW zG d 205 37 ls (zfr z r 35 :: st) (z) Q) := zw_getR rfl
theorem s205_37 {x0 x1 x2 x3 : Value} {a : Int32} : ZW zG d 205 37 [x0, x1, x2, x3, .int a] st z Q = ZW zG d 205 39 [x0, x1, x2, x3, .int a] (.int a :: st) z Q := zw_next (f := z_iload 4 39) rfl rfl
theorem s205_39 {ls : List Value} {a : Int32} {r : Nat} : ZW zG d 205 39 ls (.int a :: .ref r :: st) z Q = ((zcls z r = 50 ∧ zin a (zlen z r) = true) ∧ ZW zG d 205 40 ls (.int (zia z r (zx a)) :: st) (z) Q) := zw_iald rfl
theorem s205_40 {ls : List Value} {a b : Int32} : ZW zG d 205 40 ls (.int b :: .int a :: st) z Q = ZW zG d 205 41 ls (.int (a ||| b) :: st) z Q := zw_ior rfl
theorem s205_41 {x0 x1 x2 x3 x4 : Value} {a : Int32} : ZW zG d 205 41 [x0, x1, x2, x3, x4] (.int a :: st) z Q = ZW zG d 205 42 [x0, zclr x1, .int a, x3, x4] st z Q := zw_next (f := z_istore 2 42) rfl rfl
theorem s205_42 {x0 x1 x2 x3 : Value} {a : Int32} : ZW zG d 205 42 [x0, x1, x2, x3, .int a] st z Q = ZW zG d 205 45 [x0, x1, x2, zclr x3, .int (a + (nI 1))] st z Q := zw_next (f := z_iinc 4 (nI 1) 45) rfl rfl
theorem s205_45 {ls : List Value}  : ZW zG d 205 45 ls (st) z Q = ZW zG d 205 16 ls st z Q := zw_goto rfl
theorem s205_48 {ls : List Value}  : ZW zG d 205 48 ls (st) z Q = ZW zG d 205 6 ls st z Q := zw_goto rfl
theorem s205_51 {x0 x1 x3 x4 : Value} {a : Int32} : ZW zG d 205 51 [x0, x1, .int a, x3, x4] st z Q = ZW zG d 205 52 [x0, x1, .int a, x3, x4] (.int a :: st) z Q := zw_next (f := z_iload 2 52) rfl rfl
theorem s205_52 {ls : List Value} {a : Int32} : ZW zG d 205 52 ls ([.int a]) z Q = Q (.inl (some (.int a))) z := zw_reti rfl
/-- X12_rings ()I -/
theorem e206 {r0 : Nat} : ZC zG d 206 [.ref r0] z Q = ZW zG d 206 0 [.ref r0, zdum, zdum, zdum] [] z Q := rfl
theorem s206_0 {x0 x1 x2 x3 : Value} : ZW zG d 206 0 [x0, x1, x2, x3] st z Q = (zir x0 = true ∧ ZW zG d 206 1 [x0, x1, x2, x3] (x0 :: st) z Q) := zw_cond (f := z_aload 0 1) rfl rfl
theorem s206_1 {ls : List Value}  {r : Nat} : ZW zG (d + 1) 206 1 ls (.ref r :: st) z Q = (zcls z r = 12 ∧ zcs st = true ∧ ZC zG d 203 [.ref r] z (zk zG (d + 1) 206 (none) 4 ls st Q)) := zc_V0 rfl (Nat.le_of_ble_eq_true rfl)
theorem s206_4 {ls : List Value}  : ZW zG d 206 4 ls (st) z Q = ZW zG d 206 5 ls ((.int (nI 0)) :: st) z Q := zw_push rfl
theorem s206_5 {x0 x1 x2 x3 : Value} {a : Int32} : ZW zG d 206 5 [x0, x1, x2, x3] (.int a :: st) z Q = ZW zG d 206 6 [zclr x0, .int a, x2, x3] st z Q := zw_next (f := z_istore 1 6) rfl rfl
theorem s206_6 {ls : List Value}  : ZW zG d 206 6 ls (st) z Q = ZW zG d 206 7 ls ((.int (nI 0)) :: st) z Q := zw_push rfl
theorem s206_7 {x0 x1 x2 x3 : Value} {a : Int32} : ZW zG d 206 7 [x0, x1, x2, x3] (.int a :: st) z Q = ZW zG d 206 8 [x0, zclr x1, .int a, x3] st z Q := zw_next (f := z_istore 2 8) rfl rfl
theorem s206_8 {x0 x1 x3 : Value} {a : Int32} : ZW zG d 206 8 [x0, x1, .int a, x3] st z Q = ZW zG d 206 9 [x0, x1, .int a, x3] (.int a :: st) z Q := zw_next (f := z_iload 2 9) rfl rfl
theorem s206_9 {x0 x1 x2 x3 : Value} : ZW zG d 206 9 [x0, x1, x2, x3] st z Q = (zir x0 = true ∧ ZW zG d 206 10 [x0, x1, x2, x3] (x0 :: st) z Q) := zw_cond (f := z_aload 0 10) rfl rfl
theorem s206_10 {ls : List Value} {r : Nat} : ZW zG d 206 10 ls (.ref r :: st) z Q = ((zcls z r = 12 ∧ zir (zfr z r 1) = true) ∧ ZW zG d 206 13 ls (zfr z r 1 :: st) (z) Q) := zw_getR rfl
theorem s206_13 {ls : List Value}  : ZW zG d 206 13 ls (st) z Q = ZW zG d 206 14 ls ((.int (nI 0)) :: st) z Q := zw_push rfl
theorem s206_14 {ls : List Value} {a : Int32} {r : Nat} : ZW zG d 206 14 ls (.int a :: .ref r :: st) z Q = ((zcls z r = 50 ∧ zin a (zlen z r) = true) ∧ ZW zG d 206 15 ls (.int (zia z r (zx a)) :: st) (z) Q) := zw_iald rfl
theorem s206_15 {ls : List Value} {a b : Int32} : ZW zG d 206 15 ls (.int b :: .int a :: st) z Q = if b ≤ a then ZW zG d 206 52 ls st z Q else ZW zG d 206 18 ls st z Q := zw_icge rfl
theorem s206_18 {x0 x1 x2 x3 : Value} : ZW zG d 206 18 [x0, x1, x2, x3] st z Q = (zir x0 = true ∧ ZW zG d 206 19 [x0, x1, x2, x3] (x0 :: st) z Q) := zw_cond (f := z_aload 0 19) rfl rfl
theorem s206_19 {x0 x1 x3 : Value} {a : Int32} : ZW zG d 206 19 [x0, x1, .int a, x3] st z Q = ZW zG d 206 20 [x0, x1, .int a, x3] (.int a :: st) z Q := zw_next (f := z_iload 2 20) rfl rfl
theorem s206_20 {ls : List Value} {w0 : Int32} {r : Nat} : ZW zG (d + 1) 206 20 ls (.int w0 :: .ref r :: st) z Q = (zcls z r = 12 ∧ zcs st = true ∧ ZC zG d 204 [.ref r, .int w0] z (zk zG (d + 1) 206 (none) 23 ls st Q)) := zc_V1 rfl (Nat.le_of_ble_eq_true rfl)
theorem s206_23 {x0 x1 x2 x3 : Value} {a : Int32} : ZW zG d 206 23 [x0, x1, x2, x3] (.int a :: st) z Q = ZW zG d 206 24 [x0, x1, zclr x2, .int a] st z Q := zw_next (f := z_istore 3 24) rfl rfl
theorem s206_24 {x0 x2 x3 : Value} {a : Int32} : ZW zG d 206 24 [x0, .int a, x2, x3] st z Q = ZW zG d 206 25 [x0, .int a, x2, x3] (.int a :: st) z Q := zw_next (f := z_iload 1 25) rfl rfl
theorem s206_25 {x0 x1 x2 : Value} {a : Int32} : ZW zG d 206 25 [x0, x1, x2, .int a] st z Q = ZW zG d 206 26 [x0, x1, x2, .int a] (.int a :: st) z Q := zw_next (f := z_iload 3 26) rfl rfl
theorem s206_26 {ls : List Value} {a : Int32} : ZW zG d 206 26 ls (.int a :: st) z Q = if a = 0 then ZW zG d 206 43 ls st z Q else ZW zG d 206 29 ls st z Q := zw_ifeq rfl
theorem s206_29 {x0 x1 x2 : Value} {a : Int32} : ZW zG d 206 29 [x0, x1, x2, .int a] st z Q = ZW zG d 206 30 [x0, x1, x2, .int a] (.int a :: st) z Q := zw_next (f := z_iload 3 30) rfl rfl
theorem s206_30 {ls : List Value}  : ZW zG d 206 30 ls (st) z Q = ZW zG d 206 31 ls ((.int (nI 1)) :: st) z Q := zw_push rfl
theorem s206_31 {x0 x1 x3 : Value} {a : Int32} : ZW zG d 206 31 [x0, x1, .int a, x3] st z Q = ZW zG d 206 32 [x0, x1, .int a, x3] (.int a :: st) z Q := zw_next (f := z_iload 2 32) rfl rfl
theorem s206_32 {ls : List Value} {a b : Int32} : ZW zG d 206 32 ls (.int b :: .int a :: st) z Q = ZW zG d 206 33 ls (.int (a <<< (b &&& 31)) :: st) z Q := zw_ishl rfl
theorem s206_33 {ls : List Value}  : ZW zG d 206 33 ls (st) z Q = ZW zG d 206 34 ls ((.int (nI 1)) :: st) z Q := zw_push rfl
theorem s206_34 {ls : List Value} {a b : Int32} : ZW zG d 206 34 ls (.int b :: .int a :: st) z Q = ZW zG d 206 35 ls (.int (a - b) :: st) z Q := zw_isub rfl
theorem s206_35 {ls : List Value} {a b : Int32} : ZW zG d 206 35 ls (.int b :: .int a :: st) z Q = ZW zG d 206 36 ls (.int (a &&& b) :: st) z Q := zw_iand rfl
theorem s206_36 {ls : List Value} {a : Int32} : ZW zG d 206 36 ls (.int a :: st) z Q = if ¬ a = 0 then ZW zG d 206 43 ls st z Q else ZW zG d 206 39 ls st z Q := zw_ifne rfl
theorem s206_39 {ls : List Value}  : ZW zG d 206 39 ls (st) z Q = ZW zG d 206 40 ls ((.int (nI 1)) :: st) z Q := zw_push rfl
theorem s206_40 {ls : List Value}  : ZW zG d 206 40 ls (st) z Q = ZW zG d 206 44 ls st z Q := zw_goto rfl
theorem s206_43 {ls : List Value}  : ZW zG d 206 43 ls (st) z Q = ZW zG d 206 44 ls ((.int (nI 0)) :: st) z Q := zw_push rfl
theorem s206_44 {ls : List Value} {a b : Int32} : ZW zG d 206 44 ls (.int b :: .int a :: st) z Q = ZW zG d 206 45 ls (.int (a + b) :: st) z Q := zw_iadd rfl
theorem s206_45 {x0 x1 x2 x3 : Value} {a : Int32} : ZW zG d 206 45 [x0, x1, x2, x3] (.int a :: st) z Q = ZW zG d 206 46 [zclr x0, .int a, x2, x3] st z Q := zw_next (f := z_istore 1 46) rfl rfl
theorem s206_46 {x0 x1 x3 : Value} {a : Int32} : ZW zG d 206 46 [x0, x1, .int a, x3] st z Q = ZW zG d 206 49 [x0, zclr x1, .int (a + (nI 1)), x3] st z Q := zw_next (f := z_iinc 2 (nI 1) 49) rfl rfl
theorem s206_49 {ls : List Value}  : ZW zG d 206 49 ls (st) z Q = ZW zG d 206 8 ls st z Q := zw_goto rfl
theorem s206_52 {x0 x2 x3 : Value} {a : Int32} : ZW zG d 206 52 [x0, .int a, x2, x3] st z Q = ZW zG d 206 53 [x0, .int a, x2, x3] (.int a :: st) z Q := zw_next (f := z_iload 1 53) rfl rfl
theorem s206_53 {ls : List Value} {a : Int32} : ZW zG d 206 53 ls ([.int a]) z Q = Q (.inl (some (.int a))) z := zw_reti rfl
/-- X12_house (II)I -/
theorem e207 {r0 : Nat} {v0 : Int32} {v1 : Int32} : ZC zG d 207 [.ref r0, .int v0, .int v1] z Q = ZW zG d 207 0 [.ref r0, .int v0, .int v1, zdum, zdum] [] z Q := rfl
theorem s207_0 {x0 x1 x2 x3 x4 : Value} : ZW zG d 207 0 [x0, x1, x2, x3, x4] st z Q = (zir x0 = true ∧ ZW zG d 207 1 [x0, x1, x2, x3, x4] (x0 :: st) z Q) := zw_cond (f := z_aload 0 1) rfl rfl
theorem s207_1 {x0 x2 x3 x4 : Value} {a : Int32} : ZW zG d 207 1 [x0, .int a, x2, x3, x4] st z Q = ZW zG d 207 2 [x0, .int a, x2, x3, x4] (.int a :: st) z Q := zw_next (f := z_iload 1 2) rfl rfl
theorem s207_2 {ls : List Value} {w0 : Int32} {r : Nat} : ZW zG (d + 1) 207 2 ls (.int w0 :: .ref r :: st) z Q = (zcls z r = 12 ∧ zcs st = true ∧ ZC zG d 144 [.ref r, .int w0] z (zk zG (d + 1) 207 (none) 5 ls st Q)) := zc_V1 rfl (Nat.le_of_ble_eq_true rfl)
theorem s207_5 {ls : List Value} {a : Int32} : ZW zG d 207 5 ls (.int a :: st) z Q = if a = 0 then ZW zG d 207 20 ls st z Q else ZW zG d 207 8 ls st z Q := zw_ifeq rfl
theorem s207_8 {x0 x1 x3 x4 : Value} {a : Int32} : ZW zG d 207 8 [x0, x1, .int a, x3, x4] st z Q = ZW zG d 207 9 [x0, x1, .int a, x3, x4] (.int a :: st) z Q := zw_next (f := z_iload 2 9) rfl rfl
theorem s207_9 {ls : List Value} {a : Int32} : ZW zG d 207 9 ls (.int a :: st) z Q = ZW zG d 207 10 ls (.long a.toInt64 :: st) z Q := zw_i2l rfl
theorem s207_10 {ls : List Value}  : ZW zG d 207 10 ls (st) z Q = ZW zG d 207 11 ls ((.long (lN 0)) :: st) z Q := zw_push rfl
theorem s207_11 {ls : List Value}  : ZW zG d 207 11 ls (st) z Q = ZW zG d 207 14 ls ((.long (lN 8)) :: st) z Q := zw_push rfl
theorem s207_14 {ls : List Value} {w0 : Int64} {w1 : Int64} {w2 : Int64} : ZW zG (d + 1) 207 14 ls (.long w2 :: .long w1 :: .long w0 :: st) z Q = (zcs st = true ∧ ZC zG d 114 [.long w0, .long w1, .long w2] z (zk zG (d + 1) 207 (none) 17 ls st Q)) := zc_S3 rfl (Nat.le_of_ble_eq_true rfl)
theorem s207_17 {ls : List Value} {a : Int32} : ZW zG d 207 17 ls (.int a :: st) z Q = if ¬ a = 0 then ZW zG d 207 24 ls st z Q else ZW zG d 207 20 ls st z Q := zw_ifne rfl
theorem s207_20 {ls : List Value}  : ZW zG d 207 20 ls (st) z Q = ZW zG d 207 23 ls ((.int (-2000000000)) :: st) z Q := zw_push rfl
theorem s207_23 {ls : List Value} {a : Int32} : ZW zG d 207 23 ls ([.int a]) z Q = Q (.inl (some (.int a))) z := zw_reti rfl
theorem s207_24 {x0 x1 x3 x4 : Value} {a : Int32} : ZW zG d 207 24 [x0, x1, .int a, x3, x4] st z Q = ZW zG d 207 25 [x0, x1, .int a, x3, x4] (.int a :: st) z Q := zw_next (f := z_iload 2 25) rfl rfl
theorem s207_25 {ls : List Value}  : ZW zG d 207 25 ls (st) z Q = ZW zG d 207 27 ls ((.int (nI 7)) :: st) z Q := zw_push rfl
theorem s207_27 {ls : List Value} {a b : Int32} : ZW zG d 207 27 ls (.int b :: .int a :: st) z Q = if b ≤ a then ZW zG d 207 37 ls st z Q else ZW zG d 207 30 ls st z Q := zw_icge rfl
theorem s207_30 {x0 x1 x2 x3 x4 : Value} : ZW zG d 207 30 [x0, x1, x2, x3, x4] st z Q = (zir x0 = true ∧ ZW zG d 207 31 [x0, x1, x2, x3, x4] (x0 :: st) z Q) := zw_cond (f := z_aload 0 31) rfl rfl
theorem s207_31 {x0 x2 x3 x4 : Value} {a : Int32} : ZW zG d 207 31 [x0, .int a, x2, x3, x4] st z Q = ZW zG d 207 32 [x0, .int a, x2, x3, x4] (.int a :: st) z Q := zw_next (f := z_iload 1 32) rfl rfl
theorem s207_32 {x0 x1 x3 x4 : Value} {a : Int32} : ZW zG d 207 32 [x0, x1, .int a, x3, x4] st z Q = ZW zG d 207 33 [x0, x1, .int a, x3, x4] (.int a :: st) z Q := zw_next (f := z_iload 2 33) rfl rfl
theorem s207_33 {ls : List Value} {w0 : Int32} {w1 : Int32} {r : Nat} : ZW zG (d + 1) 207 33 ls (.int w1 :: .int w0 :: .ref r :: st) z Q = (zcls z r = 12 ∧ zcs st = true ∧ ZC zG d 139 [.ref r, .int w0, .int w1] z (zk zG (d + 1) 207 (none) 36 ls st Q)) := zc_V2 rfl (Nat.le_of_ble_eq_true rfl)
theorem s207_36 {ls : List Value} {a : Int32} : ZW zG d 207 36 ls ([.int a]) z Q = Q (.inl (some (.int a))) z := zw_reti rfl
theorem s207_37 {ls : List Value}  : ZW zG d 207 37 ls (st) z Q = ZW zG d 207 38 ls ((.int (nI 0)) :: st) z Q := zw_push rfl
theorem s207_38 {x0 x1 x2 x3 x4 : Value} {a : Int32} : ZW zG d 207 38 [x0, x1, x2, x3, x4] (.int a :: st) z Q = ZW zG d 207 39 [x0, x1, zclr x2, .int a, x4] st z Q := zw_next (f := z_istore 3 39) rfl rfl
theorem s207_39 {ls : List Value}  : ZW zG d 207 39 ls (st) z Q = ZW zG d 207 40 ls ((.int (nI 0)) :: st) z Q := zw_push rfl
theorem s207_40 {x0 x1 x2 x3 x4 : Value} {a : Int32} : ZW zG d 207 40 [x0, x1, x2, x3, x4] (.int a :: st) z Q = ZW zG d 207 42 [x0, x1, x2, zclr x3, .int a] st z Q := zw_next (f := z_istore 4 42) rfl rfl
theorem s207_42 {x0 x1 x2 x3 : Value} {a : Int32} : ZW zG d 207 42 [x0, x1, x2, x3, .int a] st z Q = ZW zG d 207 44 [x0, x1, x2, x3, .int a] (.int a :: st) z Q := zw_next (f := z_iload 4 44) rfl rfl
theorem s207_44 {x0 x1 x2 x3 x4 : Value} : ZW zG d 207 44 [x0, x1, x2, x3, x4] st z Q = (zir x0 = true ∧ ZW zG d 207 45 [x0, x1, x2, x3, x4] (x0 :: st) z Q) := zw_cond (f := z_aload 0 45) rfl rfl
theorem s207_45 {ls : List Value} {r : Nat} : ZW zG d 207 45 ls (.ref r :: st) z Q = ((zcls z r = 12 ∧ zir (zfr z r 1) = true) ∧ ZW zG d 207 48 ls (zfr z r 1 :: st) (z) Q) := zw_getR rfl
theorem s207_48 {ls : List Value}  : ZW zG d 207 48 ls (st) z Q = ZW zG d 207 50 ls ((.int (nI 8)) :: st) z Q := zw_push rfl
theorem s207_50 {ls : List Value} {a : Int32} {r : Nat} : ZW zG d 207 50 ls (.int a :: .ref r :: st) z Q = ((zcls z r = 50 ∧ zin a (zlen z r) = true) ∧ ZW zG d 207 51 ls (.int (zia z r (zx a)) :: st) (z) Q) := zw_iald rfl
theorem s207_51 {ls : List Value} {a b : Int32} : ZW zG d 207 51 ls (.int b :: .int a :: st) z Q = if b ≤ a then ZW zG d 207 118 ls st z Q else ZW zG d 207 54 ls st z Q := zw_icge rfl
theorem s207_54 {x0 x1 x2 x4 : Value} {a : Int32} : ZW zG d 207 54 [x0, x1, x2, .int a, x4] st z Q = ZW zG d 207 55 [x0, x1, x2, .int a, x4] (.int a :: st) z Q := zw_next (f := z_iload 3 55) rfl rfl
theorem s207_55 {x0 x1 x2 x3 x4 : Value} : ZW zG d 207 55 [x0, x1, x2, x3, x4] st z Q = (zir x0 = true ∧ ZW zG d 207 56 [x0, x1, x2, x3, x4] (x0 :: st) z Q) := zw_cond (f := z_aload 0 56) rfl rfl
theorem s207_56 {ls : List Value} {r : Nat} : ZW zG d 207 56 ls (.ref r :: st) z Q = ((zcls z r = 12 ∧ zir (zfr z r 1) = true) ∧ ZW zG d 207 59 ls (zfr z r 1 :: st) (z) Q) := zw_getR rfl
theorem s207_59 {ls : List Value}  : ZW zG d 207 59 ls (st) z Q = ZW zG d 207 62 ls ((.int (nI 6680)) :: st) z Q := zw_push rfl
theorem s207_62 {ls : List Value}  : ZW zG d 207 62 ls (st) z Q = ZW zG d 207 63 ls ((.int (nI 4)) :: st) z Q := zw_push rfl
theorem s207_63 {x0 x1 x2 x3 : Value} {a : Int32} : ZW zG d 207 63 [x0, x1, x2, x3, .int a] st z Q = ZW zG d 207 65 [x0, x1, x2, x3, .int a] (.int a :: st) z Q := zw_next (f := z_iload 4 65) rfl rfl
theorem s207_65 {ls : List Value} {a b : Int32} : ZW zG d 207 65 ls (.int b :: .int a :: st) z Q = ZW zG d 207 66 ls (.int (a * b) :: st) z Q := zw_imul rfl
theorem s207_66 {ls : List Value} {a b : Int32} : ZW zG d 207 66 ls (.int b :: .int a :: st) z Q = ZW zG d 207 67 ls (.int (a + b) :: st) z Q := zw_iadd rfl
theorem s207_67 {ls : List Value}  : ZW zG d 207 67 ls (st) z Q = ZW zG d 207 68 ls ((.int (nI 2)) :: st) z Q := zw_push rfl
theorem s207_68 {ls : List Value} {a b : Int32} : ZW zG d 207 68 ls (.int b :: .int a :: st) z Q = ZW zG d 207 69 ls (.int (a + b) :: st) z Q := zw_iadd rfl
theorem s207_69 {ls : List Value} {a : Int32} {r : Nat} : ZW zG d 207 69 ls (.int a :: .ref r :: st) z Q = ((zcls z r = 50 ∧ zin a (zlen z r) = true) ∧ ZW zG d 207 70 ls (.int (zia z r (zx a)) :: st) (z) Q) := zw_iald rfl
theorem s207_70 {ls : List Value} {a : Int32} : ZW zG d 207 70 ls (.int a :: st) z Q = ZW zG d 207 71 ls (.long a.toInt64 :: st) z Q := zw_i2l rfl
theorem s207_71 {ls : List Value}  : ZW zG d 207 71 ls (st) z Q = ZW zG d 207 74 ls ((.long (lN 2)) :: st) z Q := zw_push rfl
theorem s207_74 {ls : List Value}  : ZW zG d 207 74 ls (st) z Q = ZW zG d 207 77 ls ((.long (lN 3)) :: st) z Q := zw_push rfl
theorem s207_77 {ls : List Value} {w0 : Int64} {w1 : Int64} {w2 : Int64} : ZW zG (d + 1) 207 77 ls (.long w2 :: .long w1 :: .long w0 :: st) z Q = (zcs st = true ∧ ZC zG d 114 [.long w0, .long w1, .long w2] z (zk zG (d + 1) 207 (none) 80 ls st Q)) := zc_S3 rfl (Nat.le_of_ble_eq_true rfl)
theorem s207_80 {ls : List Value} {a : Int32} : ZW zG d 207 80 ls (.int a :: st) z Q = if a = 0 then ZW zG d 207 109 ls st z Q else ZW zG d 207 83 ls st z Q := zw_ifeq rfl
theorem s207_83 {x0 x1 x2 x3 x4 : Value} : ZW zG d 207 83 [x0, x1, x2, x3, x4] st z Q = (zir x0 = true ∧ ZW zG d 207 84 [x0, x1, x2, x3, x4] (x0 :: st) z Q) := zw_cond (f := z_aload 0 84) rfl rfl
theorem s207_84 {ls : List Value} {r : Nat} : ZW zG d 207 84 ls (.ref r :: st) z Q = ((zcls z r = 12 ∧ zir (zfr z r 1) = true) ∧ ZW zG d 207 87 ls (zfr z r 1 :: st) (z) Q) := zw_getR rfl
theorem s207_87 {ls : List Value}  : ZW zG d 207 87 ls (st) z Q = ZW zG d 207 90 ls ((.int (nI 6680)) :: st) z Q := zw_push rfl
theorem s207_90 {ls : List Value}  : ZW zG d 207 90 ls (st) z Q = ZW zG d 207 91 ls ((.int (nI 4)) :: st) z Q := zw_push rfl
theorem s207_91 {x0 x1 x2 x3 : Value} {a : Int32} : ZW zG d 207 91 [x0, x1, x2, x3, .int a] st z Q = ZW zG d 207 93 [x0, x1, x2, x3, .int a] (.int a :: st) z Q := zw_next (f := z_iload 4 93) rfl rfl
theorem s207_93 {ls : List Value} {a b : Int32} : ZW zG d 207 93 ls (.int b :: .int a :: st) z Q = ZW zG d 207 94 ls (.int (a * b) :: st) z Q := zw_imul rfl
theorem s207_94 {ls : List Value} {a b : Int32} : ZW zG d 207 94 ls (.int b :: .int a :: st) z Q = ZW zG d 207 95 ls (.int (a + b) :: st) z Q := zw_iadd rfl
theorem s207_95 {x0 x1 x3 x4 : Value} {a : Int32} : ZW zG d 207 95 [x0, x1, .int a, x3, x4] st z Q = ZW zG d 207 96 [x0, x1, .int a, x3, x4] (.int a :: st) z Q := zw_next (f := z_iload 2 96) rfl rfl
theorem s207_96 {ls : List Value} {a b : Int32} : ZW zG d 207 96 ls (.int b :: .int a :: st) z Q = ZW zG d 207 97 ls (.int (a + b) :: st) z Q := zw_iadd rfl
theorem s207_97 {ls : List Value}  : ZW zG d 207 97 ls (st) z Q = ZW zG d 207 99 ls ((.int (nI 7)) :: st) z Q := zw_push rfl
theorem s207_99 {ls : List Value} {a b : Int32} : ZW zG d 207 99 ls (.int b :: .int a :: st) z Q = ZW zG d 207 100 ls (.int (a - b) :: st) z Q := zw_isub rfl
theorem s207_100 {ls : List Value} {a : Int32} {r : Nat} : ZW zG d 207 100 ls (.int a :: .ref r :: st) z Q = ((zcls z r = 50 ∧ zin a (zlen z r) = true) ∧ ZW zG d 207 101 ls (.int (zia z r (zx a)) :: st) (z) Q) := zw_iald rfl
theorem s207_101 {x0 x2 x3 x4 : Value} {a : Int32} : ZW zG d 207 101 [x0, .int a, x2, x3, x4] st z Q = ZW zG d 207 102 [x0, .int a, x2, x3, x4] (.int a :: st) z Q := zw_next (f := z_iload 1 102) rfl rfl
theorem s207_102 {ls : List Value} {a b : Int32} : ZW zG d 207 102 ls (.int b :: .int a :: st) z Q = if ¬ a = b then ZW zG d 207 109 ls st z Q else ZW zG d 207 105 ls st z Q := zw_icne rfl
theorem s207_105 {ls : List Value}  : ZW zG d 207 105 ls (st) z Q = ZW zG d 207 106 ls ((.int (nI 1)) :: st) z Q := zw_push rfl
theorem s207_106 {ls : List Value}  : ZW zG d 207 106 ls (st) z Q = ZW zG d 207 110 ls st z Q := zw_goto rfl
theorem s207_109 {ls : List Value}  : ZW zG d 207 109 ls (st) z Q = ZW zG d 207 110 ls ((.int (nI 0)) :: st) z Q := zw_push rfl
theorem s207_110 {ls : List Value} {a b : Int32} : ZW zG d 207 110 ls (.int b :: .int a :: st) z Q = ZW zG d 207 111 ls (.int (a + b) :: st) z Q := zw_iadd rfl
theorem s207_111 {x0 x1 x2 x3 x4 : Value} {a : Int32} : ZW zG d 207 111 [x0, x1, x2, x3, x4] (.int a :: st) z Q = ZW zG d 207 112 [x0, x1, zclr x2, .int a, x4] st z Q := zw_next (f := z_istore 3 112) rfl rfl
theorem s207_112 {x0 x1 x2 x3 : Value} {a : Int32} : ZW zG d 207 112 [x0, x1, x2, x3, .int a] st z Q = ZW zG d 207 115 [x0, x1, x2, zclr x3, .int (a + (nI 1))] st z Q := zw_next (f := z_iinc 4 (nI 1) 115) rfl rfl
theorem s207_115 {ls : List Value}  : ZW zG d 207 115 ls (st) z Q = ZW zG d 207 42 ls st z Q := zw_goto rfl
theorem s207_118 {x0 x1 x2 x4 : Value} {a : Int32} : ZW zG d 207 118 [x0, x1, x2, .int a, x4] st z Q = ZW zG d 207 119 [x0, x1, x2, .int a, x4] (.int a :: st) z Q := zw_next (f := z_iload 3 119) rfl rfl
theorem s207_119 {ls : List Value} {a : Int32} : ZW zG d 207 119 ls ([.int a]) z Q = Q (.inl (some (.int a))) z := zw_reti rfl
/-- X12_beside (I)I -/
theorem e208 {r0 : Nat} {v0 : Int32} : ZC zG d 208 [.ref r0, .int v0] z Q = ZW zG d 208 0 [.ref r0, .int v0, zdum, zdum, zdum] [] z Q := rfl
theorem s208_0 {x0 x2 x3 x4 : Value} {a : Int32} : ZW zG d 208 0 [x0, .int a, x2, x3, x4] st z Q = ZW zG d 208 1 [x0, .int a, x2, x3, x4] (.int a :: st) z Q := zw_next (f := z_iload 1 1) rfl rfl
theorem s208_1 {ls : List Value} {a : Int32} : ZW zG d 208 1 ls (.int a :: st) z Q = ZW zG d 208 2 ls (.long a.toInt64 :: st) z Q := zw_i2l rfl
theorem s208_2 {ls : List Value}  : ZW zG d 208 2 ls (st) z Q = ZW zG d 208 3 ls ((.long (lN 0)) :: st) z Q := zw_push rfl
theorem s208_3 {ls : List Value}  : ZW zG d 208 3 ls (st) z Q = ZW zG d 208 6 ls ((.long (lN 2)) :: st) z Q := zw_push rfl
theorem s208_6 {ls : List Value} {w0 : Int64} {w1 : Int64} {w2 : Int64} : ZW zG (d + 1) 208 6 ls (.long w2 :: .long w1 :: .long w0 :: st) z Q = (zcs st = true ∧ ZC zG d 114 [.long w0, .long w1, .long w2] z (zk zG (d + 1) 208 (none) 9 ls st Q)) := zc_S3 rfl (Nat.le_of_ble_eq_true rfl)
theorem s208_9 {ls : List Value} {a : Int32} : ZW zG d 208 9 ls (.int a :: st) z Q = if ¬ a = 0 then ZW zG d 208 15 ls st z Q else ZW zG d 208 12 ls st z Q := zw_ifne rfl
theorem s208_12 {ls : List Value}  : ZW zG d 208 12 ls (st) z Q = ZW zG d 208 14 ls ((.int (-2)) :: st) z Q := zw_push rfl
theorem s208_14 {ls : List Value} {a : Int32} : ZW zG d 208 14 ls ([.int a]) z Q = Q (.inl (some (.int a))) z := zw_reti rfl
theorem s208_15 {x0 x1 x2 x3 x4 : Value} : ZW zG d 208 15 [x0, x1, x2, x3, x4] st z Q = (zir x0 = true ∧ ZW zG d 208 16 [x0, x1, x2, x3, x4] (x0 :: st) z Q) := zw_cond (f := z_aload 0 16) rfl rfl
theorem s208_16 {ls : List Value} {r : Nat} : ZW zG d 208 16 ls (.ref r :: st) z Q = ((zcls z r = 12 ∧ zir (zfr z r 3) = true) ∧ ZW zG d 208 19 ls (zfr z r 3 :: st) (z) Q) := zw_getR rfl
theorem s208_19 {x0 x2 x3 x4 : Value} {a : Int32} : ZW zG d 208 19 [x0, .int a, x2, x3, x4] st z Q = ZW zG d 208 20 [x0, .int a, x2, x3, x4] (.int a :: st) z Q := zw_next (f := z_iload 1 20) rfl rfl
theorem s208_20 {ls : List Value} {a : Int32} {r : Nat} : ZW zG d 208 20 ls (.int a :: .ref r :: st) z Q = ((zcls z r = 54 ∧ zin a (zlen z r) = true) ∧ ZW zG d 208 21 ls (.int (zia z r (zx a)) :: st) (z) Q) := zw_iald rfl
theorem s208_21 {ls : List Value} {a : Int32} : ZW zG d 208 21 ls (.int a :: st) z Q = if ¬ a = 0 then ZW zG d 208 27 ls st z Q else ZW zG d 208 24 ls st z Q := zw_ifne rfl
theorem s208_24 {ls : List Value}  : ZW zG d 208 24 ls (st) z Q = ZW zG d 208 26 ls ((.int (-6)) :: st) z Q := zw_push rfl
theorem s208_26 {ls : List Value} {a : Int32} : ZW zG d 208 26 ls ([.int a]) z Q = Q (.inl (some (.int a))) z := zw_reti rfl
theorem s208_27 {ls : List Value}  : ZW zG d 208 27 ls (st) z Q = ZW zG d 208 28 ls ((.int (nI 0)) :: st) z Q := zw_push rfl
theorem s208_28 {x0 x1 x2 x3 x4 : Value} {a : Int32} : ZW zG d 208 28 [x0, x1, x2, x3, x4] (.int a :: st) z Q = ZW zG d 208 29 [x0, zclr x1, .int a, x3, x4] st z Q := zw_next (f := z_istore 2 29) rfl rfl
theorem s208_29 {x0 x1 x3 x4 : Value} {a : Int32} : ZW zG d 208 29 [x0, x1, .int a, x3, x4] st z Q = ZW zG d 208 30 [x0, x1, .int a, x3, x4] (.int a :: st) z Q := zw_next (f := z_iload 2 30) rfl rfl
theorem s208_30 {ls : List Value}  : ZW zG d 208 30 ls (st) z Q = ZW zG d 208 33 ls ((.int (nI 9080)) :: st) z Q := zw_push rfl
theorem s208_33 {ls : List Value} {a b : Int32} : ZW zG d 208 33 ls (.int b :: .int a :: st) z Q = if b ≤ a then ZW zG d 208 54 ls st z Q else ZW zG d 208 36 ls st z Q := zw_icge rfl
theorem s208_36 {x0 x1 x2 x3 x4 : Value} : ZW zG d 208 36 [x0, x1, x2, x3, x4] st z Q = (zir x0 = true ∧ ZW zG d 208 37 [x0, x1, x2, x3, x4] (x0 :: st) z Q) := zw_cond (f := z_aload 0 37) rfl rfl
theorem s208_37 {ls : List Value} {r : Nat} : ZW zG d 208 37 ls (.ref r :: st) z Q = ((zcls z r = 12 ∧ zir (zfr z r 36) = true) ∧ ZW zG d 208 40 ls (zfr z r 36 :: st) (z) Q) := zw_getR rfl
theorem s208_40 {x0 x1 x3 x4 : Value} {a : Int32} : ZW zG d 208 40 [x0, x1, .int a, x3, x4] st z Q = ZW zG d 208 41 [x0, x1, .int a, x3, x4] (.int a :: st) z Q := zw_next (f := z_iload 2 41) rfl rfl
theorem s208_41 {x0 x1 x2 x3 x4 : Value} : ZW zG d 208 41 [x0, x1, x2, x3, x4] st z Q = (zir x0 = true ∧ ZW zG d 208 42 [x0, x1, x2, x3, x4] (x0 :: st) z Q) := zw_cond (f := z_aload 0 42) rfl rfl
theorem s208_42 {ls : List Value} {r : Nat} : ZW zG d 208 42 ls (.ref r :: st) z Q = ((zcls z r = 12 ∧ zir (zfr z r 1) = true) ∧ ZW zG d 208 45 ls (zfr z r 1 :: st) (z) Q) := zw_getR rfl
theorem s208_45 {x0 x1 x3 x4 : Value} {a : Int32} : ZW zG d 208 45 [x0, x1, .int a, x3, x4] st z Q = ZW zG d 208 46 [x0, x1, .int a, x3, x4] (.int a :: st) z Q := zw_next (f := z_iload 2 46) rfl rfl
theorem s208_46 {ls : List Value} {a : Int32} {r : Nat} : ZW zG d 208 46 ls (.int a :: .ref r :: st) z Q = ((zcls z r = 50 ∧ zin a (zlen z r) = true) ∧ ZW zG d 208 47 ls (.int (zia z r (zx a)) :: st) (z) Q) := zw_iald rfl
theorem s208_47 {ls : List Value} {a b : Int32} {r : Nat} : ZW zG d 208 47 ls (.int b :: .int a :: .ref r :: st) z Q = ((zcls z r = 50 ∧ zin a (zlen z r) = true) ∧ ZW zG d 208 48 ls (st) (sia z r (zx a) (znar 50 b)) Q) := zw_iast rfl
theorem s208_48 {x0 x1 x3 x4 : Value} {a : Int32} : ZW zG d 208 48 [x0, x1, .int a, x3, x4] st z Q = ZW zG d 208 51 [x0, zclr x1, .int (a + (nI 1)), x3, x4] st z Q := zw_next (f := z_iinc 2 (nI 1) 51) rfl rfl
theorem s208_51 {ls : List Value}  : ZW zG d 208 51 ls (st) z Q = ZW zG d 208 29 ls st z Q := zw_goto rfl
theorem s208_54 {ls : List Value}  : ZW zG d 208 54 ls (st) z Q = ZW zG d 208 57 ls ((.int (nI 154)) :: st) z Q := zw_push rfl
theorem s208_57 {x0 x1 x2 x3 x4 : Value} {a : Int32} : ZW zG d 208 57 [x0, x1, x2, x3, x4] (.int a :: st) z Q = ZW zG d 208 58 [x0, zclr x1, .int a, x3, x4] st z Q := zw_next (f := z_istore 2 58) rfl rfl
theorem s208_58 {x0 x1 x3 x4 : Value} {a : Int32} : ZW zG d 208 58 [x0, x1, .int a, x3, x4] st z Q = ZW zG d 208 59 [x0, x1, .int a, x3, x4] (.int a :: st) z Q := zw_next (f := z_iload 2 59) rfl rfl
theorem s208_59 {ls : List Value}  : ZW zG d 208 59 ls (st) z Q = ZW zG d 208 62 ls ((.int (nI 1864)) :: st) z Q := zw_push rfl
theorem s208_62 {ls : List Value} {a b : Int32} : ZW zG d 208 62 ls (.int b :: .int a :: st) z Q = if b ≤ a then ZW zG d 208 89 ls st z Q else ZW zG d 208 65 ls st z Q := zw_icge rfl
theorem s208_65 {x0 x1 x2 x3 x4 : Value} : ZW zG d 208 65 [x0, x1, x2, x3, x4] st z Q = (zir x0 = true ∧ ZW zG d 208 66 [x0, x1, x2, x3, x4] (x0 :: st) z Q) := zw_cond (f := z_aload 0 66) rfl rfl
theorem s208_66 {ls : List Value} {r : Nat} : ZW zG d 208 66 ls (.ref r :: st) z Q = ((zcls z r = 12 ∧ zir (zfr z r 1) = true) ∧ ZW zG d 208 69 ls (zfr z r 1 :: st) (z) Q) := zw_getR rfl
theorem s208_69 {x0 x1 x3 x4 : Value} {a : Int32} : ZW zG d 208 69 [x0, x1, .int a, x3, x4] st z Q = ZW zG d 208 70 [x0, x1, .int a, x3, x4] (.int a :: st) z Q := zw_next (f := z_iload 2 70) rfl rfl
theorem s208_70 {x0 x1 x2 x3 x4 : Value} : ZW zG d 208 70 [x0, x1, x2, x3, x4] st z Q = (zir x0 = true ∧ ZW zG d 208 71 [x0, x1, x2, x3, x4] (x0 :: st) z Q) := zw_cond (f := z_aload 0 71) rfl rfl
theorem s208_71 {ls : List Value} {r : Nat} : ZW zG d 208 71 ls (.ref r :: st) z Q = ((zcls z r = 12 ∧ zir (zfr z r 2) = true) ∧ ZW zG d 208 74 ls (zfr z r 2 :: st) (z) Q) := zw_getR rfl
theorem s208_74 {ls : List Value}  : ZW zG d 208 74 ls (st) z Q = ZW zG d 208 77 ls ((.int (nI 9080)) :: st) z Q := zw_push rfl
theorem s208_77 {x0 x2 x3 x4 : Value} {a : Int32} : ZW zG d 208 77 [x0, .int a, x2, x3, x4] st z Q = ZW zG d 208 78 [x0, .int a, x2, x3, x4] (.int a :: st) z Q := zw_next (f := z_iload 1 78) rfl rfl
theorem s208_78 {ls : List Value} {a b : Int32} : ZW zG d 208 78 ls (.int b :: .int a :: st) z Q = ZW zG d 208 79 ls (.int (a * b) :: st) z Q := zw_imul rfl
theorem s208_79 {x0 x1 x3 x4 : Value} {a : Int32} : ZW zG d 208 79 [x0, x1, .int a, x3, x4] st z Q = ZW zG d 208 80 [x0, x1, .int a, x3, x4] (.int a :: st) z Q := zw_next (f := z_iload 2 80) rfl rfl
theorem s208_80 {ls : List Value} {a b : Int32} : ZW zG d 208 80 ls (.int b :: .int a :: st) z Q = ZW zG d 208 81 ls (.int (a + b) :: st) z Q := zw_iadd rfl
theorem s208_81 {ls : List Value} {a : Int32} {r : Nat} : ZW zG d 208 81 ls (.int a :: .ref r :: st) z Q = ((zcls z r = 50 ∧ zin a (zlen z r) = true) ∧ ZW zG d 208 82 ls (.int (zia z r (zx a)) :: st) (z) Q) := zw_iald rfl
theorem s208_82 {ls : List Value} {a b : Int32} {r : Nat} : ZW zG d 208 82 ls (.int b :: .int a :: .ref r :: st) z Q = ((zcls z r = 50 ∧ zin a (zlen z r) = true) ∧ ZW zG d 208 83 ls (st) (sia z r (zx a) (znar 50 b)) Q) := zw_iast rfl
theorem s208_83 {x0 x1 x3 x4 : Value} {a : Int32} : ZW zG d 208 83 [x0, x1, .int a, x3, x4] st z Q = ZW zG d 208 86 [x0, zclr x1, .int (a + (nI 1)), x3, x4] st z Q := zw_next (f := z_iinc 2 (nI 1) 86) rfl rfl
theorem s208_86 {ls : List Value}  : ZW zG d 208 86 ls (st) z Q = ZW zG d 208 58 ls st z Q := zw_goto rfl
theorem s208_89 {ls : List Value}  : ZW zG d 208 89 ls (st) z Q = ZW zG d 208 90 ls ((.int (nI 1)) :: st) z Q := zw_push rfl
theorem s208_90 {x0 x1 x2 x3 x4 : Value} {a : Int32} : ZW zG d 208 90 [x0, x1, x2, x3, x4] (.int a :: st) z Q = ZW zG d 208 91 [x0, zclr x1, .int a, x3, x4] st z Q := zw_next (f := z_istore 2 91) rfl rfl
theorem s208_91 {x0 x1 x3 x4 : Value} {a : Int32} : ZW zG d 208 91 [x0, x1, .int a, x3, x4] st z Q = ZW zG d 208 92 [x0, x1, .int a, x3, x4] (.int a :: st) z Q := zw_next (f := z_iload 2 92) rfl rfl
theorem s208_92 {ls : List Value}  : ZW zG d 208 92 ls (st) z Q = ZW zG d 208 93 ls ((.int (nI 3)) :: st) z Q := zw_push rfl
theorem s208_93 {ls : List Value} {a b : Int32} : ZW zG d 208 93 ls (.int b :: .int a :: st) z Q = if b < a then ZW zG d 208 120 ls st z Q else ZW zG d 208 96 ls st z Q := zw_icgt rfl
theorem s208_96 {x0 x1 x2 x3 x4 : Value} : ZW zG d 208 96 [x0, x1, x2, x3, x4] st z Q = (zir x0 = true ∧ ZW zG d 208 97 [x0, x1, x2, x3, x4] (x0 :: st) z Q) := zw_cond (f := z_aload 0 97) rfl rfl
theorem s208_97 {ls : List Value} {r : Nat} : ZW zG d 208 97 ls (.ref r :: st) z Q = ((zcls z r = 12 ∧ zir (zfr z r 1) = true) ∧ ZW zG d 208 100 ls (zfr z r 1 :: st) (z) Q) := zw_getR rfl
theorem s208_100 {x0 x1 x3 x4 : Value} {a : Int32} : ZW zG d 208 100 [x0, x1, .int a, x3, x4] st z Q = ZW zG d 208 101 [x0, x1, .int a, x3, x4] (.int a :: st) z Q := zw_next (f := z_iload 2 101) rfl rfl
theorem s208_101 {x0 x1 x2 x3 x4 : Value} : ZW zG d 208 101 [x0, x1, x2, x3, x4] st z Q = (zir x0 = true ∧ ZW zG d 208 102 [x0, x1, x2, x3, x4] (x0 :: st) z Q) := zw_cond (f := z_aload 0 102) rfl rfl
theorem s208_102 {ls : List Value} {r : Nat} : ZW zG d 208 102 ls (.ref r :: st) z Q = ((zcls z r = 12 ∧ zir (zfr z r 2) = true) ∧ ZW zG d 208 105 ls (zfr z r 2 :: st) (z) Q) := zw_getR rfl
theorem s208_105 {ls : List Value}  : ZW zG d 208 105 ls (st) z Q = ZW zG d 208 108 ls ((.int (nI 9080)) :: st) z Q := zw_push rfl
theorem s208_108 {x0 x2 x3 x4 : Value} {a : Int32} : ZW zG d 208 108 [x0, .int a, x2, x3, x4] st z Q = ZW zG d 208 109 [x0, .int a, x2, x3, x4] (.int a :: st) z Q := zw_next (f := z_iload 1 109) rfl rfl
theorem s208_109 {ls : List Value} {a b : Int32} : ZW zG d 208 109 ls (.int b :: .int a :: st) z Q = ZW zG d 208 110 ls (.int (a * b) :: st) z Q := zw_imul rfl
theorem s208_110 {x0 x1 x3 x4 : Value} {a : Int32} : ZW zG d 208 110 [x0, x1, .int a, x3, x4] st z Q = ZW zG d 208 111 [x0, x1, .int a, x3, x4] (.int a :: st) z Q := zw_next (f := z_iload 2 111) rfl rfl
theorem s208_111 {ls : List Value} {a b : Int32} : ZW zG d 208 111 ls (.int b :: .int a :: st) z Q = ZW zG d 208 112 ls (.int (a + b) :: st) z Q := zw_iadd rfl
theorem s208_112 {ls : List Value} {a : Int32} {r : Nat} : ZW zG d 208 112 ls (.int a :: .ref r :: st) z Q = ((zcls z r = 50 ∧ zin a (zlen z r) = true) ∧ ZW zG d 208 113 ls (.int (zia z r (zx a)) :: st) (z) Q) := zw_iald rfl
theorem s208_113 {ls : List Value} {a b : Int32} {r : Nat} : ZW zG d 208 113 ls (.int b :: .int a :: .ref r :: st) z Q = ((zcls z r = 50 ∧ zin a (zlen z r) = true) ∧ ZW zG d 208 114 ls (st) (sia z r (zx a) (znar 50 b)) Q) := zw_iast rfl
theorem s208_114 {x0 x1 x3 x4 : Value} {a : Int32} : ZW zG d 208 114 [x0, x1, .int a, x3, x4] st z Q = ZW zG d 208 117 [x0, zclr x1, .int (a + (nI 1)), x3, x4] st z Q := zw_next (f := z_iinc 2 (nI 1) 117) rfl rfl
theorem s208_117 {ls : List Value}  : ZW zG d 208 117 ls (st) z Q = ZW zG d 208 91 ls st z Q := zw_goto rfl
theorem s208_120 {ls : List Value}  : ZW zG d 208 120 ls (st) z Q = ZW zG d 208 121 ls ((.int (nI 0)) :: st) z Q := zw_push rfl
theorem s208_121 {x0 x1 x2 x3 x4 : Value} {a : Int32} : ZW zG d 208 121 [x0, x1, x2, x3, x4] (.int a :: st) z Q = ZW zG d 208 122 [x0, zclr x1, .int a, x3, x4] st z Q := zw_next (f := z_istore 2 122) rfl rfl
theorem s208_122 {x0 x1 x3 x4 : Value} {a : Int32} : ZW zG d 208 122 [x0, x1, .int a, x3, x4] st z Q = ZW zG d 208 123 [x0, x1, .int a, x3, x4] (.int a :: st) z Q := zw_next (f := z_iload 2 123) rfl rfl
theorem s208_123 {ls : List Value}  : ZW zG d 208 123 ls (st) z Q = ZW zG d 208 125 ls ((.int (nI 16)) :: st) z Q := zw_push rfl
theorem s208_125 {ls : List Value} {a b : Int32} : ZW zG d 208 125 ls (.int b :: .int a :: st) z Q = if b ≤ a then ZW zG d 208 151 ls st z Q else ZW zG d 208 128 ls st z Q := zw_icge rfl
theorem s208_128 {x0 x1 x2 x3 x4 : Value} : ZW zG d 208 128 [x0, x1, x2, x3, x4] st z Q = (zir x0 = true ∧ ZW zG d 208 129 [x0, x1, x2, x3, x4] (x0 :: st) z Q) := zw_cond (f := z_aload 0 129) rfl rfl
theorem s208_129 {ls : List Value} {r : Nat} : ZW zG d 208 129 ls (.ref r :: st) z Q = ((zcls z r = 12 ∧ zir (zfr z r 1) = true) ∧ ZW zG d 208 132 ls (zfr z r 1 :: st) (z) Q) := zw_getR rfl
theorem s208_132 {ls : List Value}  : ZW zG d 208 132 ls (st) z Q = ZW zG d 208 135 ls ((.int (nI 1864)) :: st) z Q := zw_push rfl
theorem s208_135 {x0 x1 x3 x4 : Value} {a : Int32} : ZW zG d 208 135 [x0, x1, .int a, x3, x4] st z Q = ZW zG d 208 136 [x0, x1, .int a, x3, x4] (.int a :: st) z Q := zw_next (f := z_iload 2 136) rfl rfl
theorem s208_136 {ls : List Value} {a b : Int32} : ZW zG d 208 136 ls (.int b :: .int a :: st) z Q = ZW zG d 208 137 ls (.int (a + b) :: st) z Q := zw_iadd rfl
theorem s208_137 {x0 x1 x2 x3 x4 : Value} : ZW zG d 208 137 [x0, x1, x2, x3, x4] st z Q = (zir x0 = true ∧ ZW zG d 208 138 [x0, x1, x2, x3, x4] (x0 :: st) z Q) := zw_cond (f := z_aload 0 138) rfl rfl
theorem s208_138 {x0 x1 x3 x4 : Value} {a : Int32} : ZW zG d 208 138 [x0, x1, .int a, x3, x4] st z Q = ZW zG d 208 139 [x0, x1, .int a, x3, x4] (.int a :: st) z Q := zw_next (f := z_iload 2 139) rfl rfl
theorem s208_139 {ls : List Value}  : ZW zG d 208 139 ls (st) z Q = ZW zG d 208 141 ls ((.int (nI 8)) :: st) z Q := zw_push rfl
theorem s208_141 {ls : List Value} {w0 : Int32} {w1 : Int32} {r : Nat} : ZW zG (d + 1) 208 141 ls (.int w1 :: .int w0 :: .ref r :: st) z Q = (zcls z r = 12 ∧ zcs st = true ∧ ZC zG d 139 [.ref r, .int w0, .int w1] z (zk zG (d + 1) 208 (none) 144 ls st Q)) := zc_V2 rfl (Nat.le_of_ble_eq_true rfl)
theorem s208_144 {ls : List Value} {a b : Int32} {r : Nat} : ZW zG d 208 144 ls (.int b :: .int a :: .ref r :: st) z Q = ((zcls z r = 50 ∧ zin a (zlen z r) = true) ∧ ZW zG d 208 145 ls (st) (sia z r (zx a) (znar 50 b)) Q) := zw_iast rfl
theorem s208_145 {x0 x1 x3 x4 : Value} {a : Int32} : ZW zG d 208 145 [x0, x1, .int a, x3, x4] st z Q = ZW zG d 208 148 [x0, zclr x1, .int (a + (nI 1)), x3, x4] st z Q := zw_next (f := z_iinc 2 (nI 1) 148) rfl rfl
theorem s208_148 {ls : List Value}  : ZW zG d 208 148 ls (st) z Q = ZW zG d 208 122 ls st z Q := zw_goto rfl
theorem s208_151 {x0 x1 x2 x3 x4 : Value} : ZW zG d 208 151 [x0, x1, x2, x3, x4] st z Q = (zir x0 = true ∧ ZW zG d 208 152 [x0, x1, x2, x3, x4] (x0 :: st) z Q) := zw_cond (f := z_aload 0 152) rfl rfl
theorem s208_152 {ls : List Value} {r : Nat} : ZW zG d 208 152 ls (.ref r :: st) z Q = ((zcls z r = 12 ∧ zir (zfr z r 1) = true) ∧ ZW zG d 208 155 ls (zfr z r 1 :: st) (z) Q) := zw_getR rfl
theorem s208_155 {ls : List Value}  : ZW zG d 208 155 ls (st) z Q = ZW zG d 208 157 ls ((.int (nI 7)) :: st) z Q := zw_push rfl
theorem s208_157 {ls : List Value}  : ZW zG d 208 157 ls (st) z Q = ZW zG d 208 158 ls ((.int (nI 0)) :: st) z Q := zw_push rfl
theorem s208_158 {ls : List Value} {a b : Int32} {r : Nat} : ZW zG d 208 158 ls (.int b :: .int a :: .ref r :: st) z Q = ((zcls z r = 50 ∧ zin a (zlen z r) = true) ∧ ZW zG d 208 159 ls (st) (sia z r (zx a) (znar 50 b)) Q) := zw_iast rfl
theorem s208_159 {ls : List Value}  : ZW zG d 208 159 ls (st) z Q = ZW zG d 208 160 ls ((.int (nI 0)) :: st) z Q := zw_push rfl
theorem s208_160 {x0 x1 x2 x3 x4 : Value} {a : Int32} : ZW zG d 208 160 [x0, x1, x2, x3, x4] (.int a :: st) z Q = ZW zG d 208 161 [x0, zclr x1, .int a, x3, x4] st z Q := zw_next (f := z_istore 2 161) rfl rfl
theorem s208_161 {x0 x1 x3 x4 : Value} {a : Int32} : ZW zG d 208 161 [x0, x1, .int a, x3, x4] st z Q = ZW zG d 208 162 [x0, x1, .int a, x3, x4] (.int a :: st) z Q := zw_next (f := z_iload 2 162) rfl rfl
theorem s208_162 {x0 x1 x2 x3 x4 : Value} : ZW zG d 208 162 [x0, x1, x2, x3, x4] st z Q = (zir x0 = true ∧ ZW zG d 208 163 [x0, x1, x2, x3, x4] (x0 :: st) z Q) := zw_cond (f := z_aload 0 163) rfl rfl
theorem s208_163 {ls : List Value} {r : Nat} : ZW zG d 208 163 ls (.ref r :: st) z Q = ((zcls z r = 12 ∧ zir (zfr z r 1) = true) ∧ ZW zG d 208 166 ls (zfr z r 1 :: st) (z) Q) := zw_getR rfl
theorem s208_166 {ls : List Value}  : ZW zG d 208 166 ls (st) z Q = ZW zG d 208 168 ls ((.int (nI 8)) :: st) z Q := zw_push rfl
theorem s208_168 {ls : List Value} {a : Int32} {r : Nat} : ZW zG d 208 168 ls (.int a :: .ref r :: st) z Q = ((zcls z r = 50 ∧ zin a (zlen z r) = true) ∧ ZW zG d 208 169 ls (.int (zia z r (zx a)) :: st) (z) Q) := zw_iald rfl
theorem s208_169 {ls : List Value} {a b : Int32} : ZW zG d 208 169 ls (.int b :: .int a :: st) z Q = if b ≤ a then ZW zG d 208 222 ls st z Q else ZW zG d 208 172 ls st z Q := zw_icge rfl
theorem s208_172 {ls : List Value}  : ZW zG d 208 172 ls (st) z Q = ZW zG d 208 175 ls ((.int (nI 6680)) :: st) z Q := zw_push rfl
theorem s208_175 {ls : List Value}  : ZW zG d 208 175 ls (st) z Q = ZW zG d 208 176 ls ((.int (nI 4)) :: st) z Q := zw_push rfl
theorem s208_176 {x0 x1 x3 x4 : Value} {a : Int32} : ZW zG d 208 176 [x0, x1, .int a, x3, x4] st z Q = ZW zG d 208 177 [x0, x1, .int a, x3, x4] (.int a :: st) z Q := zw_next (f := z_iload 2 177) rfl rfl
theorem s208_177 {ls : List Value} {a b : Int32} : ZW zG d 208 177 ls (.int b :: .int a :: st) z Q = ZW zG d 208 178 ls (.int (a * b) :: st) z Q := zw_imul rfl
theorem s208_178 {ls : List Value} {a b : Int32} : ZW zG d 208 178 ls (.int b :: .int a :: st) z Q = ZW zG d 208 179 ls (.int (a + b) :: st) z Q := zw_iadd rfl
theorem s208_179 {x0 x1 x2 x3 x4 : Value} {a : Int32} : ZW zG d 208 179 [x0, x1, x2, x3, x4] (.int a :: st) z Q = ZW zG d 208 180 [x0, x1, zclr x2, .int a, x4] st z Q := zw_next (f := z_istore 3 180) rfl rfl
theorem s208_180 {x0 x1 x2 x3 x4 : Value} : ZW zG d 208 180 [x0, x1, x2, x3, x4] st z Q = (zir x0 = true ∧ ZW zG d 208 181 [x0, x1, x2, x3, x4] (x0 :: st) z Q) := zw_cond (f := z_aload 0 181) rfl rfl
theorem s208_181 {x0 x1 x2 x3 x4 : Value} : ZW zG d 208 181 [x0, x1, x2, x3, x4] st z Q = (zir x0 = true ∧ ZW zG d 208 182 [x0, x1, x2, x3, x4] (x0 :: st) z Q) := zw_cond (f := z_aload 0 182) rfl rfl
theorem s208_182 {ls : List Value} {r : Nat} : ZW zG d 208 182 ls (.ref r :: st) z Q = ((zcls z r = 12 ∧ zir (zfr z r 1) = true) ∧ ZW zG d 208 185 ls (zfr z r 1 :: st) (z) Q) := zw_getR rfl
theorem s208_185 {x0 x1 x2 x4 : Value} {a : Int32} : ZW zG d 208 185 [x0, x1, x2, .int a, x4] st z Q = ZW zG d 208 186 [x0, x1, x2, .int a, x4] (.int a :: st) z Q := zw_next (f := z_iload 3 186) rfl rfl
theorem s208_186 {ls : List Value} {a : Int32} {r : Nat} : ZW zG d 208 186 ls (.int a :: .ref r :: st) z Q = ((zcls z r = 50 ∧ zin a (zlen z r) = true) ∧ ZW zG d 208 187 ls (.int (zia z r (zx a)) :: st) (z) Q) := zw_iald rfl
theorem s208_187 {x0 x1 x2 x3 x4 : Value} : ZW zG d 208 187 [x0, x1, x2, x3, x4] st z Q = (zir x0 = true ∧ ZW zG d 208 188 [x0, x1, x2, x3, x4] (x0 :: st) z Q) := zw_cond (f := z_aload 0 188) rfl rfl
theorem s208_188 {ls : List Value} {r : Nat} : ZW zG d 208 188 ls (.ref r :: st) z Q = ((zcls z r = 12 ∧ zir (zfr z r 1) = true) ∧ ZW zG d 208 191 ls (zfr z r 1 :: st) (z) Q) := zw_getR rfl
theorem s208_191 {x0 x1 x2 x4 : Value} {a : Int32} : ZW zG d 208 191 [x0, x1, x2, .int a, x4] st z Q = ZW zG d 208 192 [x0, x1, x2, .int a, x4] (.int a :: st) z Q := zw_next (f := z_iload 3 192) rfl rfl
theorem s208_192 {ls : List Value}  : ZW zG d 208 192 ls (st) z Q = ZW zG d 208 193 ls ((.int (nI 1)) :: st) z Q := zw_push rfl
theorem s208_193 {ls : List Value} {a b : Int32} : ZW zG d 208 193 ls (.int b :: .int a :: st) z Q = ZW zG d 208 194 ls (.int (a + b) :: st) z Q := zw_iadd rfl
theorem s208_194 {ls : List Value} {a : Int32} {r : Nat} : ZW zG d 208 194 ls (.int a :: .ref r :: st) z Q = ((zcls z r = 50 ∧ zin a (zlen z r) = true) ∧ ZW zG d 208 195 ls (.int (zia z r (zx a)) :: st) (z) Q) := zw_iald rfl
theorem s208_195 {x0 x1 x2 x3 x4 : Value} : ZW zG d 208 195 [x0, x1, x2, x3, x4] st z Q = (zir x0 = true ∧ ZW zG d 208 196 [x0, x1, x2, x3, x4] (x0 :: st) z Q) := zw_cond (f := z_aload 0 196) rfl rfl
theorem s208_196 {ls : List Value} {r : Nat} : ZW zG d 208 196 ls (.ref r :: st) z Q = ((zcls z r = 12 ∧ zir (zfr z r 1) = true) ∧ ZW zG d 208 199 ls (zfr z r 1 :: st) (z) Q) := zw_getR rfl
theorem s208_199 {x0 x1 x2 x4 : Value} {a : Int32} : ZW zG d 208 199 [x0, x1, x2, .int a, x4] st z Q = ZW zG d 208 200 [x0, x1, x2, .int a, x4] (.int a :: st) z Q := zw_next (f := z_iload 3 200) rfl rfl
theorem s208_200 {ls : List Value}  : ZW zG d 208 200 ls (st) z Q = ZW zG d 208 201 ls ((.int (nI 2)) :: st) z Q := zw_push rfl
theorem s208_201 {ls : List Value} {a b : Int32} : ZW zG d 208 201 ls (.int b :: .int a :: st) z Q = ZW zG d 208 202 ls (.int (a + b) :: st) z Q := zw_iadd rfl
theorem s208_202 {ls : List Value} {a : Int32} {r : Nat} : ZW zG d 208 202 ls (.int a :: .ref r :: st) z Q = ((zcls z r = 50 ∧ zin a (zlen z r) = true) ∧ ZW zG d 208 203 ls (.int (zia z r (zx a)) :: st) (z) Q) := zw_iald rfl
theorem s208_203 {x0 x1 x2 x3 x4 : Value} : ZW zG d 208 203 [x0, x1, x2, x3, x4] st z Q = (zir x0 = true ∧ ZW zG d 208 204 [x0, x1, x2, x3, x4] (x0 :: st) z Q) := zw_cond (f := z_aload 0 204) rfl rfl
theorem s208_204 {ls : List Value} {r : Nat} : ZW zG d 208 204 ls (.ref r :: st) z Q = ((zcls z r = 12 ∧ zir (zfr z r 1) = true) ∧ ZW zG d 208 207 ls (zfr z r 1 :: st) (z) Q) := zw_getR rfl
theorem s208_207 {x0 x1 x2 x4 : Value} {a : Int32} : ZW zG d 208 207 [x0, x1, x2, .int a, x4] st z Q = ZW zG d 208 208 [x0, x1, x2, .int a, x4] (.int a :: st) z Q := zw_next (f := z_iload 3 208) rfl rfl
theorem s208_208 {ls : List Value}  : ZW zG d 208 208 ls (st) z Q = ZW zG d 208 209 ls ((.int (nI 3)) :: st) z Q := zw_push rfl
theorem s208_209 {ls : List Value} {a b : Int32} : ZW zG d 208 209 ls (.int b :: .int a :: st) z Q = ZW zG d 208 210 ls (.int (a + b) :: st) z Q := zw_iadd rfl
theorem s208_210 {ls : List Value} {a : Int32} {r : Nat} : ZW zG d 208 210 ls (.int a :: .ref r :: st) z Q = ((zcls z r = 50 ∧ zin a (zlen z r) = true) ∧ ZW zG d 208 211 ls (.int (zia z r (zx a)) :: st) (z) Q) := zw_iald rfl
theorem s208_211 {ls : List Value} {w0 : Int32} {w1 : Int32} {w2 : Int32} {w3 : Int32} {r : Nat} : ZW zG (d + 1) 208 211 ls (.int w3 :: .int w2 :: .int w1 :: .int w0 :: .ref r :: st) z Q = (zcls z r = 12 ∧ zcs st = true ∧ ZC zG d 156 [.ref r, .int w0, .int w1, .int w2, .int w3] z (zk zG (d + 1) 208 (none) 214 ls st Q)) := zc_V4 rfl (Nat.le_of_ble_eq_true rfl)
theorem s208_214 {x0 x1 x2 x3 x4 : Value} {a : Int32} : ZW zG d 208 214 [x0, x1, x2, x3, x4] (.int a :: st) z Q = ZW zG d 208 216 [x0, x1, x2, zclr x3, .int a] st z Q := zw_next (f := z_istore 4 216) rfl rfl
theorem s208_216 {x0 x1 x3 x4 : Value} {a : Int32} : ZW zG d 208 216 [x0, x1, .int a, x3, x4] st z Q = ZW zG d 208 219 [x0, zclr x1, .int (a + (nI 1)), x3, x4] st z Q := zw_next (f := z_iinc 2 (nI 1) 219) rfl rfl
theorem s208_219 {ls : List Value}  : ZW zG d 208 219 ls (st) z Q = ZW zG d 208 161 ls st z Q := zw_goto rfl
theorem s208_222 {x0 x1 x2 x3 x4 : Value} : ZW zG d 208 222 [x0, x1, x2, x3, x4] st z Q = (zir x0 = true ∧ ZW zG d 208 223 [x0, x1, x2, x3, x4] (x0 :: st) z Q) := zw_cond (f := z_aload 0 223) rfl rfl
theorem s208_223 {ls : List Value} {r : Nat} : ZW zG d 208 223 ls (.ref r :: st) z Q = ((zcls z r = 12 ∧ zir (zfr z r 1) = true) ∧ ZW zG d 208 226 ls (zfr z r 1 :: st) (z) Q) := zw_getR rfl
theorem s208_226 {ls : List Value}  : ZW zG d 208 226 ls (st) z Q = ZW zG d 208 228 ls ((.int (nI 7)) :: st) z Q := zw_push rfl
theorem s208_228 {ls : List Value} {a : Int32} {r : Nat} : ZW zG d 208 228 ls (.int a :: .ref r :: st) z Q = ((zcls z r = 50 ∧ zin a (zlen z r) = true) ∧ ZW zG d 208 229 ls (.int (zia z r (zx a)) :: st) (z) Q) := zw_iald rfl
theorem s208_229 {x0 x1 x2 x3 x4 : Value} {a : Int32} : ZW zG d 208 229 [x0, x1, x2, x3, x4] (.int a :: st) z Q = ZW zG d 208 230 [x0, zclr x1, .int a, x3, x4] st z Q := zw_next (f := z_istore 2 230) rfl rfl
theorem s208_230 {ls : List Value}  : ZW zG d 208 230 ls (st) z Q = ZW zG d 208 231 ls ((.int (nI 0)) :: st) z Q := zw_push rfl
theorem s208_231 {x0 x1 x2 x3 x4 : Value} {a : Int32} : ZW zG d 208 231 [x0, x1, x2, x3, x4] (.int a :: st) z Q = ZW zG d 208 232 [x0, x1, zclr x2, .int a, x4] st z Q := zw_next (f := z_istore 3 232) rfl rfl
theorem s208_232 {x0 x1 x2 x4 : Value} {a : Int32} : ZW zG d 208 232 [x0, x1, x2, .int a, x4] st z Q = ZW zG d 208 233 [x0, x1, x2, .int a, x4] (.int a :: st) z Q := zw_next (f := z_iload 3 233) rfl rfl
theorem s208_233 {ls : List Value}  : ZW zG d 208 233 ls (st) z Q = ZW zG d 208 236 ls ((.int (nI 9080)) :: st) z Q := zw_push rfl
theorem s208_236 {ls : List Value} {a b : Int32} : ZW zG d 208 236 ls (.int b :: .int a :: st) z Q = if b ≤ a then ZW zG d 208 257 ls st z Q else ZW zG d 208 239 ls st z Q := zw_icge rfl
theorem s208_239 {x0 x1 x2 x3 x4 : Value} : ZW zG d 208 239 [x0, x1, x2, x3, x4] st z Q = (zir x0 = true ∧ ZW zG d 208 240 [x0, x1, x2, x3, x4] (x0 :: st) z Q) := zw_cond (f := z_aload 0 240) rfl rfl
theorem s208_240 {ls : List Value} {r : Nat} : ZW zG d 208 240 ls (.ref r :: st) z Q = ((zcls z r = 12 ∧ zir (zfr z r 1) = true) ∧ ZW zG d 208 243 ls (zfr z r 1 :: st) (z) Q) := zw_getR rfl
theorem s208_243 {x0 x1 x2 x4 : Value} {a : Int32} : ZW zG d 208 243 [x0, x1, x2, .int a, x4] st z Q = ZW zG d 208 244 [x0, x1, x2, .int a, x4] (.int a :: st) z Q := zw_next (f := z_iload 3 244) rfl rfl
theorem s208_244 {x0 x1 x2 x3 x4 : Value} : ZW zG d 208 244 [x0, x1, x2, x3, x4] st z Q = (zir x0 = true ∧ ZW zG d 208 245 [x0, x1, x2, x3, x4] (x0 :: st) z Q) := zw_cond (f := z_aload 0 245) rfl rfl
theorem s208_245 {ls : List Value} {r : Nat} : ZW zG d 208 245 ls (.ref r :: st) z Q = ((zcls z r = 12 ∧ zir (zfr z r 36) = true) ∧ ZW zG d 208 248 ls (zfr z r 36 :: st) (z) Q) := zw_getR rfl
theorem s208_248 {x0 x1 x2 x4 : Value} {a : Int32} : ZW zG d 208 248 [x0, x1, x2, .int a, x4] st z Q = ZW zG d 208 249 [x0, x1, x2, .int a, x4] (.int a :: st) z Q := zw_next (f := z_iload 3 249) rfl rfl
theorem s208_249 {ls : List Value} {a : Int32} {r : Nat} : ZW zG d 208 249 ls (.int a :: .ref r :: st) z Q = ((zcls z r = 50 ∧ zin a (zlen z r) = true) ∧ ZW zG d 208 250 ls (.int (zia z r (zx a)) :: st) (z) Q) := zw_iald rfl
theorem s208_250 {ls : List Value} {a b : Int32} {r : Nat} : ZW zG d 208 250 ls (.int b :: .int a :: .ref r :: st) z Q = ((zcls z r = 50 ∧ zin a (zlen z r) = true) ∧ ZW zG d 208 251 ls (st) (sia z r (zx a) (znar 50 b)) Q) := zw_iast rfl
theorem s208_251 {x0 x1 x2 x4 : Value} {a : Int32} : ZW zG d 208 251 [x0, x1, x2, .int a, x4] st z Q = ZW zG d 208 254 [x0, x1, zclr x2, .int (a + (nI 1)), x4] st z Q := zw_next (f := z_iinc 3 (nI 1) 254) rfl rfl
theorem s208_254 {ls : List Value}  : ZW zG d 208 254 ls (st) z Q = ZW zG d 208 232 ls st z Q := zw_goto rfl
theorem s208_257 {x0 x1 x3 x4 : Value} {a : Int32} : ZW zG d 208 257 [x0, x1, .int a, x3, x4] st z Q = ZW zG d 208 258 [x0, x1, .int a, x3, x4] (.int a :: st) z Q := zw_next (f := z_iload 2 258) rfl rfl
theorem s208_258 {ls : List Value} {a : Int32} : ZW zG d 208 258 ls ([.int a]) z Q = Q (.inl (some (.int a))) z := zw_reti rfl
/-- X12_count (I)I -/
theorem e209 {r0 : Nat} {v0 : Int32} : ZC zG d 209 [.ref r0, .int v0] z Q = ZW zG d 209 0 [.ref r0, .int v0, zdum, zdum] [] z Q := rfl
theorem s209_0 {ls : List Value}  : ZW zG d 209 0 ls (st) z Q = ZW zG d 209 1 ls ((.int (nI 0)) :: st) z Q := zw_push rfl
theorem s209_1 {x0 x1 x2 x3 : Value} {a : Int32} : ZW zG d 209 1 [x0, x1, x2, x3] (.int a :: st) z Q = ZW zG d 209 2 [x0, zclr x1, .int a, x3] st z Q := zw_next (f := z_istore 2 2) rfl rfl
theorem s209_2 {x0 x2 x3 : Value} {a : Int32} : ZW zG d 209 2 [x0, .int a, x2, x3] st z Q = ZW zG d 209 3 [x0, .int a, x2, x3] (.int a :: st) z Q := zw_next (f := z_iload 1 3) rfl rfl
theorem s209_3 {ls : List Value} {a : Int32} : ZW zG d 209 3 ls (.int a :: st) z Q = ZW zG d 209 (ztsw [60, 67, 74, 79, 87, 129, 137, 145, 150, 157, 164] 197 a) ls st z Q := zw_tsw rfl
theorem s209_60 {x0 x1 x2 x3 : Value} : ZW zG d 209 60 [x0, x1, x2, x3] st z Q = (zir x0 = true ∧ ZW zG d 209 61 [x0, x1, x2, x3] (x0 :: st) z Q) := zw_cond (f := z_aload 0 61) rfl rfl
theorem s209_61 {ls : List Value} {r : Nat} : ZW zG d 209 61 ls (.ref r :: st) z Q = ((zcls z r = 12 ∧ zir (zfr z r 1) = true) ∧ ZW zG d 209 64 ls (zfr z r 1 :: st) (z) Q) := zw_getR rfl
theorem s209_64 {ls : List Value}  : ZW zG d 209 64 ls (st) z Q = ZW zG d 209 65 ls ((.int (nI 0)) :: st) z Q := zw_push rfl
theorem s209_65 {ls : List Value} {a : Int32} {r : Nat} : ZW zG d 209 65 ls (.int a :: .ref r :: st) z Q = ((zcls z r = 50 ∧ zin a (zlen z r) = true) ∧ ZW zG d 209 66 ls (.int (zia z r (zx a)) :: st) (z) Q) := zw_iald rfl
theorem s209_66 {ls : List Value} {a : Int32} : ZW zG d 209 66 ls ([.int a]) z Q = Q (.inl (some (.int a))) z := zw_reti rfl
theorem s209_67 {x0 x1 x2 x3 : Value} : ZW zG d 209 67 [x0, x1, x2, x3] st z Q = (zir x0 = true ∧ ZW zG d 209 68 [x0, x1, x2, x3] (x0 :: st) z Q) := zw_cond (f := z_aload 0 68) rfl rfl
theorem s209_68 {ls : List Value} {r : Nat} : ZW zG d 209 68 ls (.ref r :: st) z Q = ((zcls z r = 12 ∧ zir (zfr z r 1) = true) ∧ ZW zG d 209 71 ls (zfr z r 1 :: st) (z) Q) := zw_getR rfl
theorem s209_71 {ls : List Value}  : ZW zG d 209 71 ls (st) z Q = ZW zG d 209 72 ls ((.int (nI 1)) :: st) z Q := zw_push rfl
theorem s209_72 {ls : List Value} {a : Int32} {r : Nat} : ZW zG d 209 72 ls (.int a :: .ref r :: st) z Q = ((zcls z r = 50 ∧ zin a (zlen z r) = true) ∧ ZW zG d 209 73 ls (.int (zia z r (zx a)) :: st) (z) Q) := zw_iald rfl
theorem s209_73 {ls : List Value} {a : Int32} : ZW zG d 209 73 ls ([.int a]) z Q = Q (.inl (some (.int a))) z := zw_reti rfl
theorem s209_74 {x0 x1 x2 x3 : Value} : ZW zG d 209 74 [x0, x1, x2, x3] st z Q = (zir x0 = true ∧ ZW zG d 209 75 [x0, x1, x2, x3] (x0 :: st) z Q) := zw_cond (f := z_aload 0 75) rfl rfl
theorem s209_75 {ls : List Value}  {r : Nat} : ZW zG (d + 1) 209 75 ls (.ref r :: st) z Q = (zcls z r = 12 ∧ zcs st = true ∧ ZC zG d 141 [.ref r] z (zk zG (d + 1) 209 (none) 78 ls st Q)) := zc_V0 rfl (Nat.le_of_ble_eq_true rfl)
theorem s209_78 {ls : List Value} {a : Int32} : ZW zG d 209 78 ls ([.int a]) z Q = Q (.inl (some (.int a))) z := zw_reti rfl
theorem s209_79 {x0 x1 x2 x3 : Value} : ZW zG d 209 79 [x0, x1, x2, x3] st z Q = (zir x0 = true ∧ ZW zG d 209 80 [x0, x1, x2, x3] (x0 :: st) z Q) := zw_cond (f := z_aload 0 80) rfl rfl
theorem s209_80 {ls : List Value} {r : Nat} : ZW zG d 209 80 ls (.ref r :: st) z Q = ((zcls z r = 12 ∧ zir (zfr z r 1) = true) ∧ ZW zG d 209 83 ls (zfr z r 1 :: st) (z) Q) := zw_getR rfl
theorem s209_83 {ls : List Value}  : ZW zG d 209 83 ls (st) z Q = ZW zG d 209 85 ls ((.int (nI 7)) :: st) z Q := zw_push rfl
theorem s209_85 {ls : List Value} {a : Int32} {r : Nat} : ZW zG d 209 85 ls (.int a :: .ref r :: st) z Q = ((zcls z r = 50 ∧ zin a (zlen z r) = true) ∧ ZW zG d 209 86 ls (.int (zia z r (zx a)) :: st) (z) Q) := zw_iald rfl
theorem s209_86 {ls : List Value} {a : Int32} : ZW zG d 209 86 ls ([.int a]) z Q = Q (.inl (some (.int a))) z := zw_reti rfl
theorem s209_87 {ls : List Value}  : ZW zG d 209 87 ls (st) z Q = ZW zG d 209 88 ls ((.int (nI 0)) :: st) z Q := zw_push rfl
theorem s209_88 {x0 x1 x2 x3 : Value} {a : Int32} : ZW zG d 209 88 [x0, x1, x2, x3] (.int a :: st) z Q = ZW zG d 209 89 [x0, x1, zclr x2, .int a] st z Q := zw_next (f := z_istore 3 89) rfl rfl
theorem s209_89 {x0 x1 x2 : Value} {a : Int32} : ZW zG d 209 89 [x0, x1, x2, .int a] st z Q = ZW zG d 209 90 [x0, x1, x2, .int a] (.int a :: st) z Q := zw_next (f := z_iload 3 90) rfl rfl
theorem s209_90 {x0 x1 x2 x3 : Value} : ZW zG d 209 90 [x0, x1, x2, x3] st z Q = (zir x0 = true ∧ ZW zG d 209 91 [x0, x1, x2, x3] (x0 :: st) z Q) := zw_cond (f := z_aload 0 91) rfl rfl
theorem s209_91 {ls : List Value} {r : Nat} : ZW zG d 209 91 ls (.ref r :: st) z Q = ((zcls z r = 12 ∧ zir (zfr z r 1) = true) ∧ ZW zG d 209 94 ls (zfr z r 1 :: st) (z) Q) := zw_getR rfl
theorem s209_94 {ls : List Value}  : ZW zG d 209 94 ls (st) z Q = ZW zG d 209 96 ls ((.int (nI 7)) :: st) z Q := zw_push rfl
theorem s209_96 {ls : List Value} {a : Int32} {r : Nat} : ZW zG d 209 96 ls (.int a :: .ref r :: st) z Q = ((zcls z r = 50 ∧ zin a (zlen z r) = true) ∧ ZW zG d 209 97 ls (.int (zia z r (zx a)) :: st) (z) Q) := zw_iald rfl
theorem s209_97 {ls : List Value} {a b : Int32} : ZW zG d 209 97 ls (.int b :: .int a :: st) z Q = if b ≤ a then ZW zG d 209 127 ls st z Q else ZW zG d 209 100 ls st z Q := zw_icge rfl
theorem s209_100 {x0 x1 x3 : Value} {a : Int32} : ZW zG d 209 100 [x0, x1, .int a, x3] st z Q = ZW zG d 209 101 [x0, x1, .int a, x3] (.int a :: st) z Q := zw_next (f := z_iload 2 101) rfl rfl
theorem s209_101 {x0 x1 x2 x3 : Value} : ZW zG d 209 101 [x0, x1, x2, x3] st z Q = (zir x0 = true ∧ ZW zG d 209 102 [x0, x1, x2, x3] (x0 :: st) z Q) := zw_cond (f := z_aload 0 102) rfl rfl
theorem s209_102 {x0 x1 x2 : Value} {a : Int32} : ZW zG d 209 102 [x0, x1, x2, .int a] st z Q = ZW zG d 209 103 [x0, x1, x2, .int a] (.int a :: st) z Q := zw_next (f := z_iload 3 103) rfl rfl
theorem s209_103 {ls : List Value}  : ZW zG d 209 103 ls (st) z Q = ZW zG d 209 104 ls ((.int (nI 3)) :: st) z Q := zw_push rfl
theorem s209_104 {ls : List Value} {w0 : Int32} {w1 : Int32} {r : Nat} : ZW zG (d + 1) 209 104 ls (.int w1 :: .int w0 :: .ref r :: st) z Q = (zcls z r = 12 ∧ zcs st = true ∧ ZC zG d 159 [.ref r, .int w0, .int w1] z (zk zG (d + 1) 209 (none) 107 ls st Q)) := zc_V2 rfl (Nat.le_of_ble_eq_true rfl)
theorem s209_107 {x0 x1 x2 x3 : Value} : ZW zG d 209 107 [x0, x1, x2, x3] st z Q = (zir x0 = true ∧ ZW zG d 209 108 [x0, x1, x2, x3] (x0 :: st) z Q) := zw_cond (f := z_aload 0 108) rfl rfl
theorem s209_108 {ls : List Value}  {r : Nat} : ZW zG (d + 1) 209 108 ls (.ref r :: st) z Q = (zcls z r = 12 ∧ zcs st = true ∧ ZC zG d 141 [.ref r] z (zk zG (d + 1) 209 (none) 111 ls st Q)) := zc_V0 rfl (Nat.le_of_ble_eq_true rfl)
theorem s209_111 {ls : List Value} {a b : Int32} : ZW zG d 209 111 ls (.int b :: .int a :: st) z Q = if b ≤ a then ZW zG d 209 118 ls st z Q else ZW zG d 209 114 ls st z Q := zw_icge rfl
theorem s209_114 {ls : List Value}  : ZW zG d 209 114 ls (st) z Q = ZW zG d 209 115 ls ((.int (nI 1)) :: st) z Q := zw_push rfl
theorem s209_115 {ls : List Value}  : ZW zG d 209 115 ls (st) z Q = ZW zG d 209 119 ls st z Q := zw_goto rfl
theorem s209_118 {ls : List Value}  : ZW zG d 209 118 ls (st) z Q = ZW zG d 209 119 ls ((.int (nI 0)) :: st) z Q := zw_push rfl
theorem s209_119 {ls : List Value} {a b : Int32} : ZW zG d 209 119 ls (.int b :: .int a :: st) z Q = ZW zG d 209 120 ls (.int (a + b) :: st) z Q := zw_iadd rfl
theorem s209_120 {x0 x1 x2 x3 : Value} {a : Int32} : ZW zG d 209 120 [x0, x1, x2, x3] (.int a :: st) z Q = ZW zG d 209 121 [x0, zclr x1, .int a, x3] st z Q := zw_next (f := z_istore 2 121) rfl rfl
theorem s209_121 {x0 x1 x2 : Value} {a : Int32} : ZW zG d 209 121 [x0, x1, x2, .int a] st z Q = ZW zG d 209 124 [x0, x1, zclr x2, .int (a + (nI 1))] st z Q := zw_next (f := z_iinc 3 (nI 1) 124) rfl rfl
theorem s209_124 {ls : List Value}  : ZW zG d 209 124 ls (st) z Q = ZW zG d 209 89 ls st z Q := zw_goto rfl
theorem s209_127 {x0 x1 x3 : Value} {a : Int32} : ZW zG d 209 127 [x0, x1, .int a, x3] st z Q = ZW zG d 209 128 [x0, x1, .int a, x3] (.int a :: st) z Q := zw_next (f := z_iload 2 128) rfl rfl
theorem s209_128 {ls : List Value} {a : Int32} : ZW zG d 209 128 ls ([.int a]) z Q = Q (.inl (some (.int a))) z := zw_reti rfl
theorem s209_129 {x0 x1 x2 x3 : Value} : ZW zG d 209 129 [x0, x1, x2, x3] st z Q = (zir x0 = true ∧ ZW zG d 209 130 [x0, x1, x2, x3] (x0 :: st) z Q) := zw_cond (f := z_aload 0 130) rfl rfl
theorem s209_130 {ls : List Value} {r : Nat} : ZW zG d 209 130 ls (.ref r :: st) z Q = ((zcls z r = 12 ∧ zir (zfr z r 1) = true) ∧ ZW zG d 209 133 ls (zfr z r 1 :: st) (z) Q) := zw_getR rfl
theorem s209_133 {ls : List Value}  : ZW zG d 209 133 ls (st) z Q = ZW zG d 209 135 ls ((.int (nI 8)) :: st) z Q := zw_push rfl
theorem s209_135 {ls : List Value} {a : Int32} {r : Nat} : ZW zG d 209 135 ls (.int a :: .ref r :: st) z Q = ((zcls z r = 50 ∧ zin a (zlen z r) = true) ∧ ZW zG d 209 136 ls (.int (zia z r (zx a)) :: st) (z) Q) := zw_iald rfl
theorem s209_136 {ls : List Value} {a : Int32} : ZW zG d 209 136 ls ([.int a]) z Q = Q (.inl (some (.int a))) z := zw_reti rfl
theorem s209_137 {x0 x1 x2 x3 : Value} : ZW zG d 209 137 [x0, x1, x2, x3] st z Q = (zir x0 = true ∧ ZW zG d 209 138 [x0, x1, x2, x3] (x0 :: st) z Q) := zw_cond (f := z_aload 0 138) rfl rfl
theorem s209_138 {ls : List Value} {r : Nat} : ZW zG d 209 138 ls (.ref r :: st) z Q = ((zcls z r = 12 ∧ zir (zfr z r 1) = true) ∧ ZW zG d 209 141 ls (zfr z r 1 :: st) (z) Q) := zw_getR rfl
theorem s209_141 {ls : List Value}  : ZW zG d 209 141 ls (st) z Q = ZW zG d 209 143 ls ((.int (nI 9)) :: st) z Q := zw_push rfl
theorem s209_143 {ls : List Value} {a : Int32} {r : Nat} : ZW zG d 209 143 ls (.int a :: .ref r :: st) z Q = ((zcls z r = 50 ∧ zin a (zlen z r) = true) ∧ ZW zG d 209 144 ls (.int (zia z r (zx a)) :: st) (z) Q) := zw_iald rfl
theorem s209_144 {ls : List Value} {a : Int32} : ZW zG d 209 144 ls ([.int a]) z Q = Q (.inl (some (.int a))) z := zw_reti rfl
theorem s209_145 {x0 x1 x2 x3 : Value} : ZW zG d 209 145 [x0, x1, x2, x3] st z Q = (zir x0 = true ∧ ZW zG d 209 146 [x0, x1, x2, x3] (x0 :: st) z Q) := zw_cond (f := z_aload 0 146) rfl rfl
theorem s209_146 {ls : List Value} {r : Nat} : ZW zG d 209 146 ls (.ref r :: st) z Q = ((zcls z r = 12) ∧ ZW zG d 209 149 ls (.int (zfi z r 5) :: st) (z) Q) := zw_getI rfl
theorem s209_149 {ls : List Value} {a : Int32} : ZW zG d 209 149 ls ([.int a]) z Q = Q (.inl (some (.int a))) z := zw_reti rfl
theorem s209_150 {x0 x1 x2 x3 : Value} : ZW zG d 209 150 [x0, x1, x2, x3] st z Q = (zir x0 = true ∧ ZW zG d 209 151 [x0, x1, x2, x3] (x0 :: st) z Q) := zw_cond (f := z_aload 0 151) rfl rfl
theorem s209_151 {ls : List Value} {r : Nat} : ZW zG d 209 151 ls (.ref r :: st) z Q = ((zcls z r = 12 ∧ zir (zfr z r 1) = true) ∧ ZW zG d 209 154 ls (zfr z r 1 :: st) (z) Q) := zw_getR rfl
theorem s209_154 {ls : List Value}  : ZW zG d 209 154 ls (st) z Q = ZW zG d 209 155 ls ((.int (nI 5)) :: st) z Q := zw_push rfl
theorem s209_155 {ls : List Value} {a : Int32} {r : Nat} : ZW zG d 209 155 ls (.int a :: .ref r :: st) z Q = ((zcls z r = 50 ∧ zin a (zlen z r) = true) ∧ ZW zG d 209 156 ls (.int (zia z r (zx a)) :: st) (z) Q) := zw_iald rfl
theorem s209_156 {ls : List Value} {a : Int32} : ZW zG d 209 156 ls ([.int a]) z Q = Q (.inl (some (.int a))) z := zw_reti rfl
theorem s209_157 {x0 x1 x2 x3 : Value} : ZW zG d 209 157 [x0, x1, x2, x3] st z Q = (zir x0 = true ∧ ZW zG d 209 158 [x0, x1, x2, x3] (x0 :: st) z Q) := zw_cond (f := z_aload 0 158) rfl rfl
theorem s209_158 {ls : List Value} {r : Nat} : ZW zG d 209 158 ls (.ref r :: st) z Q = ((zcls z r = 12 ∧ zir (zfr z r 1) = true) ∧ ZW zG d 209 161 ls (zfr z r 1 :: st) (z) Q) := zw_getR rfl
theorem s209_161 {ls : List Value}  : ZW zG d 209 161 ls (st) z Q = ZW zG d 209 162 ls ((.int (nI 4)) :: st) z Q := zw_push rfl
theorem s209_162 {ls : List Value} {a : Int32} {r : Nat} : ZW zG d 209 162 ls (.int a :: .ref r :: st) z Q = ((zcls z r = 50 ∧ zin a (zlen z r) = true) ∧ ZW zG d 209 163 ls (.int (zia z r (zx a)) :: st) (z) Q) := zw_iald rfl
theorem s209_163 {ls : List Value} {a : Int32} : ZW zG d 209 163 ls ([.int a]) z Q = Q (.inl (some (.int a))) z := zw_reti rfl
theorem s209_164 {ls : List Value}  : ZW zG d 209 164 ls (st) z Q = ZW zG d 209 165 ls ((.int (nI 0)) :: st) z Q := zw_push rfl
theorem s209_165 {x0 x1 x2 x3 : Value} {a : Int32} : ZW zG d 209 165 [x0, x1, x2, x3] (.int a :: st) z Q = ZW zG d 209 166 [x0, x1, zclr x2, .int a] st z Q := zw_next (f := z_istore 3 166) rfl rfl
theorem s209_166 {x0 x1 x2 : Value} {a : Int32} : ZW zG d 209 166 [x0, x1, x2, .int a] st z Q = ZW zG d 209 167 [x0, x1, x2, .int a] (.int a :: st) z Q := zw_next (f := z_iload 3 167) rfl rfl
theorem s209_167 {ls : List Value}  : ZW zG d 209 167 ls (st) z Q = ZW zG d 209 168 ls ((.int (nI 4)) :: st) z Q := zw_push rfl
theorem s209_168 {ls : List Value} {a b : Int32} : ZW zG d 209 168 ls (.int b :: .int a :: st) z Q = if b ≤ a then ZW zG d 209 195 ls st z Q else ZW zG d 209 171 ls st z Q := zw_icge rfl
theorem s209_171 {x0 x1 x3 : Value} {a : Int32} : ZW zG d 209 171 [x0, x1, .int a, x3] st z Q = ZW zG d 209 172 [x0, x1, .int a, x3] (.int a :: st) z Q := zw_next (f := z_iload 2 172) rfl rfl
theorem s209_172 {x0 x1 x2 x3 : Value} : ZW zG d 209 172 [x0, x1, x2, x3] st z Q = (zir x0 = true ∧ ZW zG d 209 173 [x0, x1, x2, x3] (x0 :: st) z Q) := zw_cond (f := z_aload 0 173) rfl rfl
theorem s209_173 {ls : List Value} {r : Nat} : ZW zG d 209 173 ls (.ref r :: st) z Q = ((zcls z r = 12 ∧ zir (zfr z r 37) = true) ∧ ZW zG d 209 176 ls (zfr z r 37 :: st) (z) Q) := zw_getR rfl
theorem s209_176 {x0 x1 x2 : Value} {a : Int32} : ZW zG d 209 176 [x0, x1, x2, .int a] st z Q = ZW zG d 209 177 [x0, x1, x2, .int a] (.int a :: st) z Q := zw_next (f := z_iload 3 177) rfl rfl
theorem s209_177 {ls : List Value} {a : Int32} {r : Nat} : ZW zG d 209 177 ls (.int a :: .ref r :: st) z Q = ((zcls z r = 50 ∧ zin a (zlen z r) = true) ∧ ZW zG d 209 178 ls (.int (zia z r (zx a)) :: st) (z) Q) := zw_iald rfl
theorem s209_178 {ls : List Value}  : ZW zG d 209 178 ls (st) z Q = ZW zG d 209 179 ls ((.int (-1)) :: st) z Q := zw_push rfl
theorem s209_179 {ls : List Value} {a b : Int32} : ZW zG d 209 179 ls (.int b :: .int a :: st) z Q = if ¬ a = b then ZW zG d 209 186 ls st z Q else ZW zG d 209 182 ls st z Q := zw_icne rfl
theorem s209_182 {ls : List Value}  : ZW zG d 209 182 ls (st) z Q = ZW zG d 209 183 ls ((.int (nI 0)) :: st) z Q := zw_push rfl
theorem s209_183 {ls : List Value}  : ZW zG d 209 183 ls (st) z Q = ZW zG d 209 187 ls st z Q := zw_goto rfl
theorem s209_186 {ls : List Value}  : ZW zG d 209 186 ls (st) z Q = ZW zG d 209 187 ls ((.int (nI 1)) :: st) z Q := zw_push rfl
theorem s209_187 {ls : List Value} {a b : Int32} : ZW zG d 209 187 ls (.int b :: .int a :: st) z Q = ZW zG d 209 188 ls (.int (a + b) :: st) z Q := zw_iadd rfl
theorem s209_188 {x0 x1 x2 x3 : Value} {a : Int32} : ZW zG d 209 188 [x0, x1, x2, x3] (.int a :: st) z Q = ZW zG d 209 189 [x0, zclr x1, .int a, x3] st z Q := zw_next (f := z_istore 2 189) rfl rfl
theorem s209_189 {x0 x1 x2 : Value} {a : Int32} : ZW zG d 209 189 [x0, x1, x2, .int a] st z Q = ZW zG d 209 192 [x0, x1, zclr x2, .int (a + (nI 1))] st z Q := zw_next (f := z_iinc 3 (nI 1) 192) rfl rfl
theorem s209_192 {ls : List Value}  : ZW zG d 209 192 ls (st) z Q = ZW zG d 209 166 ls st z Q := zw_goto rfl
theorem s209_195 {x0 x1 x3 : Value} {a : Int32} : ZW zG d 209 195 [x0, x1, .int a, x3] st z Q = ZW zG d 209 196 [x0, x1, .int a, x3] (.int a :: st) z Q := zw_next (f := z_iload 2 196) rfl rfl
theorem s209_196 {ls : List Value} {a : Int32} : ZW zG d 209 196 ls ([.int a]) z Q = Q (.inl (some (.int a))) z := zw_reti rfl
theorem s209_197 {ls : List Value}  : ZW zG d 209 197 ls (st) z Q = ZW zG d 209 198 ls ((.int (-1)) :: st) z Q := zw_push rfl
theorem s209_198 {ls : List Value} {a : Int32} : ZW zG d 209 198 ls ([.int a]) z Q = Q (.inl (some (.int a))) z := zw_reti rfl
/-- X12_row (III)I -/
theorem e210 {r0 : Nat} {v0 : Int32} {v1 : Int32} {v2 : Int32} : ZC zG d 210 [.ref r0, .int v0, .int v1, .int v2] z Q = ZW zG d 210 0 [.ref r0, .int v0, .int v1, .int v2, zdum] [] z Q := rfl
theorem s210_0 {x0 x2 x3 x4 : Value} {a : Int32} : ZW zG d 210 0 [x0, .int a, x2, x3, x4] st z Q = ZW zG d 210 1 [x0, .int a, x2, x3, x4] (.int a :: st) z Q := zw_next (f := z_iload 1 1) rfl rfl
theorem s210_1 {ls : List Value} {w0 : Int32} : ZW zG (d + 1) 210 1 ls (.int w0 :: st) z Q = (zcs st = true ∧ ZC zG d 169 [.int w0] z (zk zG (d + 1) 210 (none) 4 ls st Q)) := zc_S1 rfl (Nat.le_of_ble_eq_true rfl)
theorem s210_4 {ls : List Value} {a : Int32} : ZW zG d 210 4 ls (.int a :: st) z Q = if a = 0 then ZW zG d 210 25 ls st z Q else ZW zG d 210 7 ls st z Q := zw_ifeq rfl
theorem s210_7 {x0 x1 x3 x4 : Value} {a : Int32} : ZW zG d 210 7 [x0, x1, .int a, x3, x4] st z Q = ZW zG d 210 8 [x0, x1, .int a, x3, x4] (.int a :: st) z Q := zw_next (f := z_iload 2 8) rfl rfl
theorem s210_8 {ls : List Value} {a : Int32} : ZW zG d 210 8 ls (.int a :: st) z Q = ZW zG d 210 9 ls (.long a.toInt64 :: st) z Q := zw_i2l rfl
theorem s210_9 {ls : List Value}  : ZW zG d 210 9 ls (st) z Q = ZW zG d 210 10 ls ((.long (lN 0)) :: st) z Q := zw_push rfl
theorem s210_10 {ls : List Value}  : ZW zG d 210 10 ls (st) z Q = ZW zG d 210 13 ls ((.long (lN 3)) :: st) z Q := zw_push rfl
theorem s210_13 {ls : List Value} {w0 : Int64} {w1 : Int64} {w2 : Int64} : ZW zG (d + 1) 210 13 ls (.long w2 :: .long w1 :: .long w0 :: st) z Q = (zcs st = true ∧ ZC zG d 114 [.long w0, .long w1, .long w2] z (zk zG (d + 1) 210 (none) 16 ls st Q)) := zc_S3 rfl (Nat.le_of_ble_eq_true rfl)
theorem s210_16 {ls : List Value} {a : Int32} : ZW zG d 210 16 ls (.int a :: st) z Q = if a = 0 then ZW zG d 210 25 ls st z Q else ZW zG d 210 19 ls st z Q := zw_ifeq rfl
theorem s210_19 {x0 x1 x2 x4 : Value} {a : Int32} : ZW zG d 210 19 [x0, x1, x2, .int a, x4] st z Q = ZW zG d 210 20 [x0, x1, x2, .int a, x4] (.int a :: st) z Q := zw_next (f := z_iload 3 20) rfl rfl
theorem s210_20 {ls : List Value}  : ZW zG d 210 20 ls (st) z Q = ZW zG d 210 22 ls ((.int (nI 60)) :: st) z Q := zw_push rfl
theorem s210_22 {ls : List Value} {a b : Int32} : ZW zG d 210 22 ls (.int b :: .int a :: st) z Q = if a ≤ b then ZW zG d 210 28 ls st z Q else ZW zG d 210 25 ls st z Q := zw_icle rfl
theorem s210_25 {ls : List Value}  : ZW zG d 210 25 ls (st) z Q = ZW zG d 210 27 ls ((.int (-2)) :: st) z Q := zw_push rfl
theorem s210_27 {ls : List Value} {a : Int32} : ZW zG d 210 27 ls ([.int a]) z Q = Q (.inl (some (.int a))) z := zw_reti rfl
theorem s210_28 {x0 x1 x2 x4 : Value} {a : Int32} : ZW zG d 210 28 [x0, x1, x2, .int a, x4] st z Q = ZW zG d 210 29 [x0, x1, x2, .int a, x4] (.int a :: st) z Q := zw_next (f := z_iload 3 29) rfl rfl
theorem s210_29 {ls : List Value} {a : Int32} : ZW zG d 210 29 ls (.int a :: st) z Q = if 0 ≤ a then ZW zG d 210 35 ls st z Q else ZW zG d 210 32 ls st z Q := zw_ifge rfl
theorem s210_32 {ls : List Value}  : ZW zG d 210 32 ls (st) z Q = ZW zG d 210 34 ls ((.int (-3)) :: st) z Q := zw_push rfl
theorem s210_34 {ls : List Value} {a : Int32} : ZW zG d 210 34 ls ([.int a]) z Q = Q (.inl (some (.int a))) z := zw_reti rfl
theorem s210_35 {x0 x1 x2 x3 x4 : Value} : ZW zG d 210 35 [x0, x1, x2, x3, x4] st z Q = (zir x0 = true ∧ ZW zG d 210 36 [x0, x1, x2, x3, x4] (x0 :: st) z Q) := zw_cond (f := z_aload 0 36) rfl rfl
theorem s210_36 {ls : List Value} {r : Nat} : ZW zG d 210 36 ls (.ref r :: st) z Q = ((zcls z r = 12 ∧ zir (zfr z r 37) = true) ∧ ZW zG d 210 39 ls (zfr z r 37 :: st) (z) Q) := zw_getR rfl
theorem s210_39 {x0 x2 x3 x4 : Value} {a : Int32} : ZW zG d 210 39 [x0, .int a, x2, x3, x4] st z Q = ZW zG d 210 40 [x0, .int a, x2, x3, x4] (.int a :: st) z Q := zw_next (f := z_iload 1 40) rfl rfl
theorem s210_40 {x0 x1 x2 x4 : Value} {a : Int32} : ZW zG d 210 40 [x0, x1, x2, .int a, x4] st z Q = ZW zG d 210 41 [x0, x1, x2, .int a, x4] (.int a :: st) z Q := zw_next (f := z_iload 3 41) rfl rfl
theorem s210_41 {ls : List Value} {a b : Int32} {r : Nat} : ZW zG d 210 41 ls (.int b :: .int a :: .ref r :: st) z Q = ((zcls z r = 50 ∧ zin a (zlen z r) = true) ∧ ZW zG d 210 42 ls (st) (sia z r (zx a) (znar 50 b)) Q) := zw_iast rfl
theorem s210_42 {x0 x1 x2 x3 x4 : Value} : ZW zG d 210 42 [x0, x1, x2, x3, x4] st z Q = (zir x0 = true ∧ ZW zG d 210 43 [x0, x1, x2, x3, x4] (x0 :: st) z Q) := zw_cond (f := z_aload 0 43) rfl rfl
theorem s210_43 {ls : List Value} {r : Nat} : ZW zG d 210 43 ls (.ref r :: st) z Q = ((zcls z r = 12 ∧ zir (zfr z r 38) = true) ∧ ZW zG d 210 46 ls (zfr z r 38 :: st) (z) Q) := zw_getR rfl
theorem s210_46 {x0 x2 x3 x4 : Value} {a : Int32} : ZW zG d 210 46 [x0, .int a, x2, x3, x4] st z Q = ZW zG d 210 47 [x0, .int a, x2, x3, x4] (.int a :: st) z Q := zw_next (f := z_iload 1 47) rfl rfl
theorem s210_47 {x0 x1 x3 x4 : Value} {a : Int32} : ZW zG d 210 47 [x0, x1, .int a, x3, x4] st z Q = ZW zG d 210 48 [x0, x1, .int a, x3, x4] (.int a :: st) z Q := zw_next (f := z_iload 2 48) rfl rfl
theorem s210_48 {ls : List Value} {a b : Int32} {r : Nat} : ZW zG d 210 48 ls (.int b :: .int a :: .ref r :: st) z Q = ((zcls z r = 50 ∧ zin a (zlen z r) = true) ∧ ZW zG d 210 49 ls (st) (sia z r (zx a) (znar 50 b)) Q) := zw_iast rfl
theorem s210_49 {ls : List Value}  : ZW zG d 210 49 ls (st) z Q = ZW zG d 210 50 ls ((.int (nI 0)) :: st) z Q := zw_push rfl
theorem s210_50 {x0 x1 x2 x3 x4 : Value} {a : Int32} : ZW zG d 210 50 [x0, x1, x2, x3, x4] (.int a :: st) z Q = ZW zG d 210 52 [x0, x1, x2, zclr x3, .int a] st z Q := zw_next (f := z_istore 4 52) rfl rfl
theorem s210_52 {x0 x1 x2 x3 : Value} {a : Int32} : ZW zG d 210 52 [x0, x1, x2, x3, .int a] st z Q = ZW zG d 210 54 [x0, x1, x2, x3, .int a] (.int a :: st) z Q := zw_next (f := z_iload 4 54) rfl rfl
theorem s210_54 {ls : List Value}  : ZW zG d 210 54 ls (st) z Q = ZW zG d 210 56 ls ((.int (nI 60)) :: st) z Q := zw_push rfl
theorem s210_56 {ls : List Value} {a b : Int32} : ZW zG d 210 56 ls (.int b :: .int a :: st) z Q = if b ≤ a then ZW zG d 210 78 ls st z Q else ZW zG d 210 59 ls st z Q := zw_icge rfl
theorem s210_59 {x0 x1 x2 x3 x4 : Value} : ZW zG d 210 59 [x0, x1, x2, x3, x4] st z Q = (zir x0 = true ∧ ZW zG d 210 60 [x0, x1, x2, x3, x4] (x0 :: st) z Q) := zw_cond (f := z_aload 0 60) rfl rfl
theorem s210_60 {ls : List Value} {r : Nat} : ZW zG d 210 60 ls (.ref r :: st) z Q = ((zcls z r = 12 ∧ zir (zfr z r 39) = true) ∧ ZW zG d 210 63 ls (zfr z r 39 :: st) (z) Q) := zw_getR rfl
theorem s210_63 {ls : List Value}  : ZW zG d 210 63 ls (st) z Q = ZW zG d 210 65 ls ((.int (nI 60)) :: st) z Q := zw_push rfl
theorem s210_65 {x0 x2 x3 x4 : Value} {a : Int32} : ZW zG d 210 65 [x0, .int a, x2, x3, x4] st z Q = ZW zG d 210 66 [x0, .int a, x2, x3, x4] (.int a :: st) z Q := zw_next (f := z_iload 1 66) rfl rfl
theorem s210_66 {ls : List Value} {a b : Int32} : ZW zG d 210 66 ls (.int b :: .int a :: st) z Q = ZW zG d 210 67 ls (.int (a * b) :: st) z Q := zw_imul rfl
theorem s210_67 {x0 x1 x2 x3 : Value} {a : Int32} : ZW zG d 210 67 [x0, x1, x2, x3, .int a] st z Q = ZW zG d 210 69 [x0, x1, x2, x3, .int a] (.int a :: st) z Q := zw_next (f := z_iload 4 69) rfl rfl
theorem s210_69 {ls : List Value} {a b : Int32} : ZW zG d 210 69 ls (.int b :: .int a :: st) z Q = ZW zG d 210 70 ls (.int (a + b) :: st) z Q := zw_iadd rfl
theorem s210_70 {ls : List Value}  : ZW zG d 210 70 ls (st) z Q = ZW zG d 210 71 ls ((.long (lN 0)) :: st) z Q := zw_push rfl
theorem s210_71 {ls : List Value} {a : Int32} {x : Int64} {r : Nat} : ZW zG d 210 71 ls (.long x :: .int a :: .ref r :: st) z Q = ((zcls z r = 51 ∧ zin a (zlen z r) = true) ∧ ZW zG d 210 72 ls (st) (sla z r (zx a) x) Q) := zw_last rfl
theorem s210_72 {x0 x1 x2 x3 : Value} {a : Int32} : ZW zG d 210 72 [x0, x1, x2, x3, .int a] st z Q = ZW zG d 210 75 [x0, x1, x2, zclr x3, .int (a + (nI 1))] st z Q := zw_next (f := z_iinc 4 (nI 1) 75) rfl rfl
theorem s210_75 {ls : List Value}  : ZW zG d 210 75 ls (st) z Q = ZW zG d 210 52 ls st z Q := zw_goto rfl
theorem s210_78 {ls : List Value}  : ZW zG d 210 78 ls (st) z Q = ZW zG d 210 79 ls ((.int (nI 0)) :: st) z Q := zw_push rfl
theorem s210_79 {ls : List Value} {a : Int32} : ZW zG d 210 79 ls ([.int a]) z Q = Q (.inl (some (.int a))) z := zw_reti rfl
/-- X12_write (IIJ)I -/
theorem e211 {r0 : Nat} {v0 : Int32} {v1 : Int32} {v2 : Int64} : ZC zG d 211 [.ref r0, .int v0, .int v1, .long v2] z Q = ZW zG d 211 0 [.ref r0, .int v0, .int v1, .long v2, zdum] [] z Q := rfl
theorem s211_0 {x0 x2 x3 x4 : Value} {a : Int32} : ZW zG d 211 0 [x0, .int a, x2, x3, x4] st z Q = ZW zG d 211 1 [x0, .int a, x2, x3, x4] (.int a :: st) z Q := zw_next (f := z_iload 1 1) rfl rfl
theorem s211_1 {ls : List Value} {w0 : Int32} : ZW zG (d + 1) 211 1 ls (.int w0 :: st) z Q = (zcs st = true ∧ ZC zG d 169 [.int w0] z (zk zG (d + 1) 211 (none) 4 ls st Q)) := zc_S1 rfl (Nat.le_of_ble_eq_true rfl)
theorem s211_4 {ls : List Value} {a : Int32} : ZW zG d 211 4 ls (.int a :: st) z Q = if ¬ a = 0 then ZW zG d 211 10 ls st z Q else ZW zG d 211 7 ls st z Q := zw_ifne rfl
theorem s211_7 {ls : List Value}  : ZW zG d 211 7 ls (st) z Q = ZW zG d 211 9 ls ((.int (-2)) :: st) z Q := zw_push rfl
theorem s211_9 {ls : List Value} {a : Int32} : ZW zG d 211 9 ls ([.int a]) z Q = Q (.inl (some (.int a))) z := zw_reti rfl
theorem s211_10 {x0 x1 x2 x3 x4 : Value} : ZW zG d 211 10 [x0, x1, x2, x3, x4] st z Q = (zir x0 = true ∧ ZW zG d 211 11 [x0, x1, x2, x3, x4] (x0 :: st) z Q) := zw_cond (f := z_aload 0 11) rfl rfl
theorem s211_11 {ls : List Value} {r : Nat} : ZW zG d 211 11 ls (.ref r :: st) z Q = ((zcls z r = 12 ∧ zir (zfr z r 37) = true) ∧ ZW zG d 211 14 ls (zfr z r 37 :: st) (z) Q) := zw_getR rfl
theorem s211_14 {x0 x2 x3 x4 : Value} {a : Int32} : ZW zG d 211 14 [x0, .int a, x2, x3, x4] st z Q = ZW zG d 211 15 [x0, .int a, x2, x3, x4] (.int a :: st) z Q := zw_next (f := z_iload 1 15) rfl rfl
theorem s211_15 {ls : List Value} {a : Int32} {r : Nat} : ZW zG d 211 15 ls (.int a :: .ref r :: st) z Q = ((zcls z r = 50 ∧ zin a (zlen z r) = true) ∧ ZW zG d 211 16 ls (.int (zia z r (zx a)) :: st) (z) Q) := zw_iald rfl
theorem s211_16 {ls : List Value}  : ZW zG d 211 16 ls (st) z Q = ZW zG d 211 17 ls ((.int (-1)) :: st) z Q := zw_push rfl
theorem s211_17 {ls : List Value} {a b : Int32} : ZW zG d 211 17 ls (.int b :: .int a :: st) z Q = if ¬ a = b then ZW zG d 211 23 ls st z Q else ZW zG d 211 20 ls st z Q := zw_icne rfl
theorem s211_20 {ls : List Value}  : ZW zG d 211 20 ls (st) z Q = ZW zG d 211 22 ls ((.int (-6)) :: st) z Q := zw_push rfl
theorem s211_22 {ls : List Value} {a : Int32} : ZW zG d 211 22 ls ([.int a]) z Q = Q (.inl (some (.int a))) z := zw_reti rfl
theorem s211_23 {x0 x1 x3 x4 : Value} {a : Int32} : ZW zG d 211 23 [x0, x1, .int a, x3, x4] st z Q = ZW zG d 211 24 [x0, x1, .int a, x3, x4] (.int a :: st) z Q := zw_next (f := z_iload 2 24) rfl rfl
theorem s211_24 {ls : List Value} {a : Int32} : ZW zG d 211 24 ls (.int a :: st) z Q = ZW zG d 211 25 ls (.long a.toInt64 :: st) z Q := zw_i2l rfl
theorem s211_25 {ls : List Value}  : ZW zG d 211 25 ls (st) z Q = ZW zG d 211 26 ls ((.long (lN 0)) :: st) z Q := zw_push rfl
theorem s211_26 {x0 x1 x2 x3 x4 : Value} : ZW zG d 211 26 [x0, x1, x2, x3, x4] st z Q = (zir x0 = true ∧ ZW zG d 211 27 [x0, x1, x2, x3, x4] (x0 :: st) z Q) := zw_cond (f := z_aload 0 27) rfl rfl
theorem s211_27 {ls : List Value} {r : Nat} : ZW zG d 211 27 ls (.ref r :: st) z Q = ((zcls z r = 12 ∧ zir (zfr z r 37) = true) ∧ ZW zG d 211 30 ls (zfr z r 37 :: st) (z) Q) := zw_getR rfl
theorem s211_30 {x0 x2 x3 x4 : Value} {a : Int32} : ZW zG d 211 30 [x0, .int a, x2, x3, x4] st z Q = ZW zG d 211 31 [x0, .int a, x2, x3, x4] (.int a :: st) z Q := zw_next (f := z_iload 1 31) rfl rfl
theorem s211_31 {ls : List Value} {a : Int32} {r : Nat} : ZW zG d 211 31 ls (.int a :: .ref r :: st) z Q = ((zcls z r = 50 ∧ zin a (zlen z r) = true) ∧ ZW zG d 211 32 ls (.int (zia z r (zx a)) :: st) (z) Q) := zw_iald rfl
theorem s211_32 {ls : List Value}  : ZW zG d 211 32 ls (st) z Q = ZW zG d 211 33 ls ((.int (nI 1)) :: st) z Q := zw_push rfl
theorem s211_33 {ls : List Value} {a b : Int32} : ZW zG d 211 33 ls (.int b :: .int a :: st) z Q = ZW zG d 211 34 ls (.int (a - b) :: st) z Q := zw_isub rfl
theorem s211_34 {ls : List Value} {a : Int32} : ZW zG d 211 34 ls (.int a :: st) z Q = ZW zG d 211 35 ls (.long a.toInt64 :: st) z Q := zw_i2l rfl
theorem s211_35 {ls : List Value} {w0 : Int64} {w1 : Int64} {w2 : Int64} : ZW zG (d + 1) 211 35 ls (.long w2 :: .long w1 :: .long w0 :: st) z Q = (zcs st = true ∧ ZC zG d 114 [.long w0, .long w1, .long w2] z (zk zG (d + 1) 211 (none) 38 ls st Q)) := zc_S3 rfl (Nat.le_of_ble_eq_true rfl)
theorem s211_38 {ls : List Value} {a : Int32} : ZW zG d 211 38 ls (.int a :: st) z Q = if ¬ a = 0 then ZW zG d 211 44 ls st z Q else ZW zG d 211 41 ls st z Q := zw_ifne rfl
theorem s211_41 {ls : List Value}  : ZW zG d 211 41 ls (st) z Q = ZW zG d 211 43 ls ((.int (-7)) :: st) z Q := zw_push rfl
theorem s211_43 {ls : List Value} {a : Int32} : ZW zG d 211 43 ls ([.int a]) z Q = Q (.inl (some (.int a))) z := zw_reti rfl
theorem s211_44 {x0 x1 x2 x3 x4 : Value} : ZW zG d 211 44 [x0, x1, x2, x3, x4] st z Q = (zir x0 = true ∧ ZW zG d 211 45 [x0, x1, x2, x3, x4] (x0 :: st) z Q) := zw_cond (f := z_aload 0 45) rfl rfl
theorem s211_45 {ls : List Value} {r : Nat} : ZW zG d 211 45 ls (.ref r :: st) z Q = ((zcls z r = 12 ∧ zir (zfr z r 39) = true) ∧ ZW zG d 211 48 ls (zfr z r 39 :: st) (z) Q) := zw_getR rfl
theorem s211_48 {ls : List Value}  : ZW zG d 211 48 ls (st) z Q = ZW zG d 211 50 ls ((.int (nI 60)) :: st) z Q := zw_push rfl
theorem s211_50 {x0 x2 x3 x4 : Value} {a : Int32} : ZW zG d 211 50 [x0, .int a, x2, x3, x4] st z Q = ZW zG d 211 51 [x0, .int a, x2, x3, x4] (.int a :: st) z Q := zw_next (f := z_iload 1 51) rfl rfl
theorem s211_51 {ls : List Value} {a b : Int32} : ZW zG d 211 51 ls (.int b :: .int a :: st) z Q = ZW zG d 211 52 ls (.int (a * b) :: st) z Q := zw_imul rfl
theorem s211_52 {x0 x1 x3 x4 : Value} {a : Int32} : ZW zG d 211 52 [x0, x1, .int a, x3, x4] st z Q = ZW zG d 211 53 [x0, x1, .int a, x3, x4] (.int a :: st) z Q := zw_next (f := z_iload 2 53) rfl rfl
theorem s211_53 {ls : List Value} {a b : Int32} : ZW zG d 211 53 ls (.int b :: .int a :: st) z Q = ZW zG d 211 54 ls (.int (a + b) :: st) z Q := zw_iadd rfl
theorem s211_54 {x0 x1 x2 x4 : Value} {a : Int64} : ZW zG d 211 54 [x0, x1, x2, .long a, x4] st z Q = ZW zG d 211 55 [x0, x1, x2, .long a, x4] (.long a :: st) z Q := zw_next (f := z_lload 3 55) rfl rfl
theorem s211_55 {x0 x1 x2 x3 x4 : Value} : ZW zG d 211 55 [x0, x1, x2, x3, x4] st z Q = (zir x0 = true ∧ ZW zG d 211 56 [x0, x1, x2, x3, x4] (x0 :: st) z Q) := zw_cond (f := z_aload 0 56) rfl rfl
theorem s211_56 {ls : List Value} {r : Nat} : ZW zG d 211 56 ls (.ref r :: st) z Q = ((zcls z r = 12 ∧ zir (zfr z r 38) = true) ∧ ZW zG d 211 59 ls (zfr z r 38 :: st) (z) Q) := zw_getR rfl
theorem s211_59 {x0 x2 x3 x4 : Value} {a : Int32} : ZW zG d 211 59 [x0, .int a, x2, x3, x4] st z Q = ZW zG d 211 60 [x0, .int a, x2, x3, x4] (.int a :: st) z Q := zw_next (f := z_iload 1 60) rfl rfl
theorem s211_60 {ls : List Value} {a : Int32} {r : Nat} : ZW zG d 211 60 ls (.int a :: .ref r :: st) z Q = ((zcls z r = 50 ∧ zin a (zlen z r) = true) ∧ ZW zG d 211 61 ls (.int (zia z r (zx a)) :: st) (z) Q) := zw_iald rfl
theorem s211_61 {ls : List Value} {w0 : Int64} {w1 : Int32} : ZW zG (d + 1) 211 61 ls (.int w1 :: .long w0 :: st) z Q = (zcs st = true ∧ ZC zG d 212 [.long w0, .int w1] z (zk zG (d + 1) 211 (none) 64 ls st Q)) := zc_S2 rfl (Nat.le_of_ble_eq_true rfl)
theorem s211_64 {ls : List Value} {a : Int32} {x : Int64} {r : Nat} : ZW zG d 211 64 ls (.long x :: .int a :: .ref r :: st) z Q = ((zcls z r = 51 ∧ zin a (zlen z r) = true) ∧ ZW zG d 211 65 ls (st) (sla z r (zx a) x) Q) := zw_last rfl
theorem s211_65 {ls : List Value}  : ZW zG d 211 65 ls (st) z Q = ZW zG d 211 66 ls ((.int (nI 0)) :: st) z Q := zw_push rfl
theorem s211_66 {ls : List Value} {a : Int32} : ZW zG d 211 66 ls ([.int a]) z Q = Q (.inl (some (.int a))) z := zw_reti rfl
/-- X12_cut (JI)J -/
theorem e212 {v0 : Int64} {v1 : Int32} : ZC zG d 212 [.long v0, .int v1] z Q = ZW zG d 212 0 [.long v0, zdum, .int v1, zdum] [] z Q := rfl
theorem s212_0 {ls : List Value}  : ZW zG d 212 0 ls (st) z Q = ZW zG d 212 2 ls ((.int (nI 64)) :: st) z Q := zw_push rfl
theorem s212_2 {ls : List Value}  : ZW zG d 212 2 ls (st) z Q = ZW zG d 212 4 ls ((.int (nI 8)) :: st) z Q := zw_push rfl
theorem s212_4 {x0 x1 x3 : Value} {a : Int32} : ZW zG d 212 4 [x0, x1, .int a, x3] st z Q = ZW zG d 212 5 [x0, x1, .int a, x3] (.int a :: st) z Q := zw_next (f := z_iload 2 5) rfl rfl
theorem s212_5 {ls : List Value} {a b : Int32} : ZW zG d 212 5 ls (.int b :: .int a :: st) z Q = ZW zG d 212 6 ls (.int (a <<< (b &&& 31)) :: st) z Q := zw_ishl rfl
theorem s212_6 {ls : List Value} {a b : Int32} : ZW zG d 212 6 ls (.int b :: .int a :: st) z Q = ZW zG d 212 7 ls (.int (a - b) :: st) z Q := zw_isub rfl
theorem s212_7 {x0 x1 x2 x3 : Value} {a : Int32} : ZW zG d 212 7 [x0, x1, x2, x3] (.int a :: st) z Q = ZW zG d 212 8 [x0, x1, zclr x2, .int a] st z Q := zw_next (f := z_istore 3 8) rfl rfl
theorem s212_8 {x1 x2 x3 : Value} {a : Int64} : ZW zG d 212 8 [.long a, x1, x2, x3] st z Q = ZW zG d 212 9 [.long a, x1, x2, x3] (.long a :: st) z Q := zw_next (f := z_lload 0 9) rfl rfl
theorem s212_9 {x0 x1 x2 : Value} {a : Int32} : ZW zG d 212 9 [x0, x1, x2, .int a] st z Q = ZW zG d 212 10 [x0, x1, x2, .int a] (.int a :: st) z Q := zw_next (f := z_iload 3 10) rfl rfl
theorem s212_10 {ls : List Value} {b : Int32} {x : Int64} : ZW zG d 212 10 ls (.int b :: .long x :: st) z Q = ZW zG d 212 11 ls (.long (x <<< (b.toInt64 &&& 63)) :: st) z Q := zw_lshl rfl
theorem s212_11 {x0 x1 x2 : Value} {a : Int32} : ZW zG d 212 11 [x0, x1, x2, .int a] st z Q = ZW zG d 212 12 [x0, x1, x2, .int a] (.int a :: st) z Q := zw_next (f := z_iload 3 12) rfl rfl
theorem s212_12 {ls : List Value} {b : Int32} {x : Int64} : ZW zG d 212 12 ls (.int b :: .long x :: st) z Q = ZW zG d 212 13 ls (.long (x >>> (b.toInt64 &&& 63)) :: st) z Q := zw_lshr rfl
theorem s212_13 {ls : List Value} {a : Int64} : ZW zG d 212 13 ls ([.long a]) z Q = Q (.inl (some (.long a))) z := zw_retl rfl
/-- X12_paste (IIIII)I -/
theorem e213 {r0 : Nat} {v0 : Int32} {v1 : Int32} {v2 : Int32} {v3 : Int32} {v4 : Int32} : ZC zG d 213 [.ref r0, .int v0, .int v1, .int v2, .int v3, .int v4] z Q = ZW zG d 213 0 [.ref r0, .int v0, .int v1, .int v2, .int v3, .int v4, zdum] [] z Q := rfl
theorem s213_0 {x0 x2 x3 x4 x5 x6 : Value} {a : Int32} : ZW zG d 213 0 [x0, .int a, x2, x3, x4, x5, x6] st z Q = ZW zG d 213 1 [x0, .int a, x2, x3, x4, x5, x6] (.int a :: st) z Q := zw_next (f := z_iload 1 1) rfl rfl
theorem s213_1 {ls : List Value} {w0 : Int32} : ZW zG (d + 1) 213 1 ls (.int w0 :: st) z Q = (zcs st = true ∧ ZC zG d 169 [.int w0] z (zk zG (d + 1) 213 (none) 4 ls st Q)) := zc_S1 rfl (Nat.le_of_ble_eq_true rfl)
theorem s213_4 {ls : List Value} {a : Int32} : ZW zG d 213 4 ls (.int a :: st) z Q = if a = 0 then ZW zG d 213 14 ls st z Q else ZW zG d 213 7 ls st z Q := zw_ifeq rfl
theorem s213_7 {x0 x1 x2 x4 x5 x6 : Value} {a : Int32} : ZW zG d 213 7 [x0, x1, x2, .int a, x4, x5, x6] st z Q = ZW zG d 213 8 [x0, x1, x2, .int a, x4, x5, x6] (.int a :: st) z Q := zw_next (f := z_iload 3 8) rfl rfl
theorem s213_8 {ls : List Value} {w0 : Int32} : ZW zG (d + 1) 213 8 ls (.int w0 :: st) z Q = (zcs st = true ∧ ZC zG d 169 [.int w0] z (zk zG (d + 1) 213 (none) 11 ls st Q)) := zc_S1 rfl (Nat.le_of_ble_eq_true rfl)
theorem s213_11 {ls : List Value} {a : Int32} : ZW zG d 213 11 ls (.int a :: st) z Q = if ¬ a = 0 then ZW zG d 213 17 ls st z Q else ZW zG d 213 14 ls st z Q := zw_ifne rfl
theorem s213_14 {ls : List Value}  : ZW zG d 213 14 ls (st) z Q = ZW zG d 213 16 ls ((.int (-2)) :: st) z Q := zw_push rfl
theorem s213_16 {ls : List Value} {a : Int32} : ZW zG d 213 16 ls ([.int a]) z Q = Q (.inl (some (.int a))) z := zw_reti rfl
theorem s213_17 {x0 x1 x2 x3 x4 x5 x6 : Value} : ZW zG d 213 17 [x0, x1, x2, x3, x4, x5, x6] st z Q = (zir x0 = true ∧ ZW zG d 213 18 [x0, x1, x2, x3, x4, x5, x6] (x0 :: st) z Q) := zw_cond (f := z_aload 0 18) rfl rfl
theorem s213_18 {ls : List Value} {r : Nat} : ZW zG d 213 18 ls (.ref r :: st) z Q = ((zcls z r = 12 ∧ zir (zfr z r 37) = true) ∧ ZW zG d 213 21 ls (zfr z r 37 :: st) (z) Q) := zw_getR rfl
theorem s213_21 {x0 x2 x3 x4 x5 x6 : Value} {a : Int32} : ZW zG d 213 21 [x0, .int a, x2, x3, x4, x5, x6] st z Q = ZW zG d 213 22 [x0, .int a, x2, x3, x4, x5, x6] (.int a :: st) z Q := zw_next (f := z_iload 1 22) rfl rfl
theorem s213_22 {ls : List Value} {a : Int32} {r : Nat} : ZW zG d 213 22 ls (.int a :: .ref r :: st) z Q = ((zcls z r = 50 ∧ zin a (zlen z r) = true) ∧ ZW zG d 213 23 ls (.int (zia z r (zx a)) :: st) (z) Q) := zw_iald rfl
theorem s213_23 {ls : List Value}  : ZW zG d 213 23 ls (st) z Q = ZW zG d 213 24 ls ((.int (-1)) :: st) z Q := zw_push rfl
theorem s213_24 {ls : List Value} {a b : Int32} : ZW zG d 213 24 ls (.int b :: .int a :: st) z Q = if a = b then ZW zG d 213 37 ls st z Q else ZW zG d 213 27 ls st z Q := zw_iceq rfl
theorem s213_27 {x0 x1 x2 x3 x4 x5 x6 : Value} : ZW zG d 213 27 [x0, x1, x2, x3, x4, x5, x6] st z Q = (zir x0 = true ∧ ZW zG d 213 28 [x0, x1, x2, x3, x4, x5, x6] (x0 :: st) z Q) := zw_cond (f := z_aload 0 28) rfl rfl
theorem s213_28 {ls : List Value} {r : Nat} : ZW zG d 213 28 ls (.ref r :: st) z Q = ((zcls z r = 12 ∧ zir (zfr z r 37) = true) ∧ ZW zG d 213 31 ls (zfr z r 37 :: st) (z) Q) := zw_getR rfl
theorem s213_31 {x0 x1 x2 x4 x5 x6 : Value} {a : Int32} : ZW zG d 213 31 [x0, x1, x2, .int a, x4, x5, x6] st z Q = ZW zG d 213 32 [x0, x1, x2, .int a, x4, x5, x6] (.int a :: st) z Q := zw_next (f := z_iload 3 32) rfl rfl
theorem s213_32 {ls : List Value} {a : Int32} {r : Nat} : ZW zG d 213 32 ls (.int a :: .ref r :: st) z Q = ((zcls z r = 50 ∧ zin a (zlen z r) = true) ∧ ZW zG d 213 33 ls (.int (zia z r (zx a)) :: st) (z) Q) := zw_iald rfl
theorem s213_33 {ls : List Value}  : ZW zG d 213 33 ls (st) z Q = ZW zG d 213 34 ls ((.int (-1)) :: st) z Q := zw_push rfl
theorem s213_34 {ls : List Value} {a b : Int32} : ZW zG d 213 34 ls (.int b :: .int a :: st) z Q = if ¬ a = b then ZW zG d 213 40 ls st z Q else ZW zG d 213 37 ls st z Q := zw_icne rfl
theorem s213_37 {ls : List Value}  : ZW zG d 213 37 ls (st) z Q = ZW zG d 213 39 ls ((.int (-6)) :: st) z Q := zw_push rfl
theorem s213_39 {ls : List Value} {a : Int32} : ZW zG d 213 39 ls ([.int a]) z Q = Q (.inl (some (.int a))) z := zw_reti rfl
theorem s213_40 {x0 x1 x2 x3 x4 x5 x6 : Value} : ZW zG d 213 40 [x0, x1, x2, x3, x4, x5, x6] st z Q = (zir x0 = true ∧ ZW zG d 213 41 [x0, x1, x2, x3, x4, x5, x6] (x0 :: st) z Q) := zw_cond (f := z_aload 0 41) rfl rfl
theorem s213_41 {ls : List Value} {r : Nat} : ZW zG d 213 41 ls (.ref r :: st) z Q = ((zcls z r = 12 ∧ zir (zfr z r 38) = true) ∧ ZW zG d 213 44 ls (zfr z r 38 :: st) (z) Q) := zw_getR rfl
theorem s213_44 {x0 x2 x3 x4 x5 x6 : Value} {a : Int32} : ZW zG d 213 44 [x0, .int a, x2, x3, x4, x5, x6] st z Q = ZW zG d 213 45 [x0, .int a, x2, x3, x4, x5, x6] (.int a :: st) z Q := zw_next (f := z_iload 1 45) rfl rfl
theorem s213_45 {ls : List Value} {a : Int32} {r : Nat} : ZW zG d 213 45 ls (.int a :: .ref r :: st) z Q = ((zcls z r = 50 ∧ zin a (zlen z r) = true) ∧ ZW zG d 213 46 ls (.int (zia z r (zx a)) :: st) (z) Q) := zw_iald rfl
theorem s213_46 {x0 x1 x2 x3 x4 x5 x6 : Value} : ZW zG d 213 46 [x0, x1, x2, x3, x4, x5, x6] st z Q = (zir x0 = true ∧ ZW zG d 213 47 [x0, x1, x2, x3, x4, x5, x6] (x0 :: st) z Q) := zw_cond (f := z_aload 0 47) rfl rfl
theorem s213_47 {ls : List Value} {r : Nat} : ZW zG d 213 47 ls (.ref r :: st) z Q = ((zcls z r = 12 ∧ zir (zfr z r 38) = true) ∧ ZW zG d 213 50 ls (zfr z r 38 :: st) (z) Q) := zw_getR rfl
theorem s213_50 {x0 x1 x2 x4 x5 x6 : Value} {a : Int32} : ZW zG d 213 50 [x0, x1, x2, .int a, x4, x5, x6] st z Q = ZW zG d 213 51 [x0, x1, x2, .int a, x4, x5, x6] (.int a :: st) z Q := zw_next (f := z_iload 3 51) rfl rfl
theorem s213_51 {ls : List Value} {a : Int32} {r : Nat} : ZW zG d 213 51 ls (.int a :: .ref r :: st) z Q = ((zcls z r = 50 ∧ zin a (zlen z r) = true) ∧ ZW zG d 213 52 ls (.int (zia z r (zx a)) :: st) (z) Q) := zw_iald rfl
theorem s213_52 {ls : List Value} {a b : Int32} : ZW zG d 213 52 ls (.int b :: .int a :: st) z Q = if a = b then ZW zG d 213 58 ls st z Q else ZW zG d 213 55 ls st z Q := zw_iceq rfl
theorem s213_55 {ls : List Value}  : ZW zG d 213 55 ls (st) z Q = ZW zG d 213 57 ls ((.int (-8)) :: st) z Q := zw_push rfl
theorem s213_57 {ls : List Value} {a : Int32} : ZW zG d 213 57 ls ([.int a]) z Q = Q (.inl (some (.int a))) z := zw_reti rfl
theorem s213_58 {x0 x1 x3 x4 x5 x6 : Value} {a : Int32} : ZW zG d 213 58 [x0, x1, .int a, x3, x4, x5, x6] st z Q = ZW zG d 213 59 [x0, x1, .int a, x3, x4, x5, x6] (.int a :: st) z Q := zw_next (f := z_iload 2 59) rfl rfl
theorem s213_59 {ls : List Value} {a : Int32} : ZW zG d 213 59 ls (.int a :: st) z Q = if a < 0 then ZW zG d 213 107 ls st z Q else ZW zG d 213 62 ls st z Q := zw_iflt rfl
theorem s213_62 {x0 x1 x2 x3 x5 x6 : Value} {a : Int32} : ZW zG d 213 62 [x0, x1, x2, x3, .int a, x5, x6] st z Q = ZW zG d 213 64 [x0, x1, x2, x3, .int a, x5, x6] (.int a :: st) z Q := zw_next (f := z_iload 4 64) rfl rfl
theorem s213_64 {ls : List Value} {a : Int32} : ZW zG d 213 64 ls (.int a :: st) z Q = if a < 0 then ZW zG d 213 107 ls st z Q else ZW zG d 213 67 ls st z Q := zw_iflt rfl
theorem s213_67 {x0 x1 x2 x3 x4 x6 : Value} {a : Int32} : ZW zG d 213 67 [x0, x1, x2, x3, x4, .int a, x6] st z Q = ZW zG d 213 69 [x0, x1, x2, x3, x4, .int a, x6] (.int a :: st) z Q := zw_next (f := z_iload 5 69) rfl rfl
theorem s213_69 {ls : List Value} {a : Int32} : ZW zG d 213 69 ls (.int a :: st) z Q = if a < 0 then ZW zG d 213 107 ls st z Q else ZW zG d 213 72 ls st z Q := zw_iflt rfl
theorem s213_72 {x0 x1 x3 x4 x5 x6 : Value} {a : Int32} : ZW zG d 213 72 [x0, x1, .int a, x3, x4, x5, x6] st z Q = ZW zG d 213 73 [x0, x1, .int a, x3, x4, x5, x6] (.int a :: st) z Q := zw_next (f := z_iload 2 73) rfl rfl
theorem s213_73 {ls : List Value} {a : Int32} : ZW zG d 213 73 ls (.int a :: st) z Q = ZW zG d 213 74 ls (.long a.toInt64 :: st) z Q := zw_i2l rfl
theorem s213_74 {x0 x1 x2 x3 x4 x6 : Value} {a : Int32} : ZW zG d 213 74 [x0, x1, x2, x3, x4, .int a, x6] st z Q = ZW zG d 213 76 [x0, x1, x2, x3, x4, .int a, x6] (.int a :: st) z Q := zw_next (f := z_iload 5 76) rfl rfl
theorem s213_76 {ls : List Value} {a : Int32} : ZW zG d 213 76 ls (.int a :: st) z Q = ZW zG d 213 77 ls (.long a.toInt64 :: st) z Q := zw_i2l rfl
theorem s213_77 {ls : List Value} {x y : Int64} : ZW zG d 213 77 ls (.long y :: .long x :: st) z Q = ZW zG d 213 78 ls (.long (x + y) :: st) z Q := zw_ladd rfl
theorem s213_78 {x0 x1 x2 x3 x4 x5 x6 : Value} : ZW zG d 213 78 [x0, x1, x2, x3, x4, x5, x6] st z Q = (zir x0 = true ∧ ZW zG d 213 79 [x0, x1, x2, x3, x4, x5, x6] (x0 :: st) z Q) := zw_cond (f := z_aload 0 79) rfl rfl
theorem s213_79 {ls : List Value} {r : Nat} : ZW zG d 213 79 ls (.ref r :: st) z Q = ((zcls z r = 12 ∧ zir (zfr z r 37) = true) ∧ ZW zG d 213 82 ls (zfr z r 37 :: st) (z) Q) := zw_getR rfl
theorem s213_82 {x0 x2 x3 x4 x5 x6 : Value} {a : Int32} : ZW zG d 213 82 [x0, .int a, x2, x3, x4, x5, x6] st z Q = ZW zG d 213 83 [x0, .int a, x2, x3, x4, x5, x6] (.int a :: st) z Q := zw_next (f := z_iload 1 83) rfl rfl
theorem s213_83 {ls : List Value} {a : Int32} {r : Nat} : ZW zG d 213 83 ls (.int a :: .ref r :: st) z Q = ((zcls z r = 50 ∧ zin a (zlen z r) = true) ∧ ZW zG d 213 84 ls (.int (zia z r (zx a)) :: st) (z) Q) := zw_iald rfl
theorem s213_84 {ls : List Value} {a : Int32} : ZW zG d 213 84 ls (.int a :: st) z Q = ZW zG d 213 85 ls (.long a.toInt64 :: st) z Q := zw_i2l rfl
theorem s213_85 {ls : List Value} {x y : Int64} : ZW zG d 213 85 ls (.long y :: .long x :: st) z Q = ZW zG d 213 86 ls (.int (lg_cmp x y) :: st) z Q := zw_lcmp rfl
theorem s213_86 {ls : List Value} {a : Int32} : ZW zG d 213 86 ls (.int a :: st) z Q = if 0 < a then ZW zG d 213 107 ls st z Q else ZW zG d 213 89 ls st z Q := zw_ifgt rfl
theorem s213_89 {x0 x1 x2 x3 x5 x6 : Value} {a : Int32} : ZW zG d 213 89 [x0, x1, x2, x3, .int a, x5, x6] st z Q = ZW zG d 213 91 [x0, x1, x2, x3, .int a, x5, x6] (.int a :: st) z Q := zw_next (f := z_iload 4 91) rfl rfl
theorem s213_91 {ls : List Value} {a : Int32} : ZW zG d 213 91 ls (.int a :: st) z Q = ZW zG d 213 92 ls (.long a.toInt64 :: st) z Q := zw_i2l rfl
theorem s213_92 {x0 x1 x2 x3 x4 x6 : Value} {a : Int32} : ZW zG d 213 92 [x0, x1, x2, x3, x4, .int a, x6] st z Q = ZW zG d 213 94 [x0, x1, x2, x3, x4, .int a, x6] (.int a :: st) z Q := zw_next (f := z_iload 5 94) rfl rfl
theorem s213_94 {ls : List Value} {a : Int32} : ZW zG d 213 94 ls (.int a :: st) z Q = ZW zG d 213 95 ls (.long a.toInt64 :: st) z Q := zw_i2l rfl
theorem s213_95 {ls : List Value} {x y : Int64} : ZW zG d 213 95 ls (.long y :: .long x :: st) z Q = ZW zG d 213 96 ls (.long (x + y) :: st) z Q := zw_ladd rfl
theorem s213_96 {x0 x1 x2 x3 x4 x5 x6 : Value} : ZW zG d 213 96 [x0, x1, x2, x3, x4, x5, x6] st z Q = (zir x0 = true ∧ ZW zG d 213 97 [x0, x1, x2, x3, x4, x5, x6] (x0 :: st) z Q) := zw_cond (f := z_aload 0 97) rfl rfl
theorem s213_97 {ls : List Value} {r : Nat} : ZW zG d 213 97 ls (.ref r :: st) z Q = ((zcls z r = 12 ∧ zir (zfr z r 37) = true) ∧ ZW zG d 213 100 ls (zfr z r 37 :: st) (z) Q) := zw_getR rfl
theorem s213_100 {x0 x1 x2 x4 x5 x6 : Value} {a : Int32} : ZW zG d 213 100 [x0, x1, x2, .int a, x4, x5, x6] st z Q = ZW zG d 213 101 [x0, x1, x2, .int a, x4, x5, x6] (.int a :: st) z Q := zw_next (f := z_iload 3 101) rfl rfl
theorem s213_101 {ls : List Value} {a : Int32} {r : Nat} : ZW zG d 213 101 ls (.int a :: .ref r :: st) z Q = ((zcls z r = 50 ∧ zin a (zlen z r) = true) ∧ ZW zG d 213 102 ls (.int (zia z r (zx a)) :: st) (z) Q) := zw_iald rfl
theorem s213_102 {ls : List Value} {a : Int32} : ZW zG d 213 102 ls (.int a :: st) z Q = ZW zG d 213 103 ls (.long a.toInt64 :: st) z Q := zw_i2l rfl
theorem s213_103 {ls : List Value} {x y : Int64} : ZW zG d 213 103 ls (.long y :: .long x :: st) z Q = ZW zG d 213 104 ls (.int (lg_cmp x y) :: st) z Q := zw_lcmp rfl
theorem s213_104 {ls : List Value} {a : Int32} : ZW zG d 213 104 ls (.int a :: st) z Q = if a ≤ 0 then ZW zG d 213 110 ls st z Q else ZW zG d 213 107 ls st z Q := zw_ifle rfl
theorem s213_107 {ls : List Value}  : ZW zG d 213 107 ls (st) z Q = ZW zG d 213 109 ls ((.int (-7)) :: st) z Q := zw_push rfl
theorem s213_109 {ls : List Value} {a : Int32} : ZW zG d 213 109 ls ([.int a]) z Q = Q (.inl (some (.int a))) z := zw_reti rfl
theorem s213_110 {ls : List Value}  : ZW zG d 213 110 ls (st) z Q = ZW zG d 213 111 ls ((.int (nI 0)) :: st) z Q := zw_push rfl
theorem s213_111 {x0 x1 x2 x3 x4 x5 x6 : Value} {a : Int32} : ZW zG d 213 111 [x0, x1, x2, x3, x4, x5, x6] (.int a :: st) z Q = ZW zG d 213 113 [x0, x1, x2, x3, x4, zclr x5, .int a] st z Q := zw_next (f := z_istore 6 113) rfl rfl
theorem s213_113 {x0 x1 x2 x3 x4 x5 : Value} {a : Int32} : ZW zG d 213 113 [x0, x1, x2, x3, x4, x5, .int a] st z Q = ZW zG d 213 115 [x0, x1, x2, x3, x4, x5, .int a] (.int a :: st) z Q := zw_next (f := z_iload 6 115) rfl rfl
theorem s213_115 {x0 x1 x2 x3 x4 x6 : Value} {a : Int32} : ZW zG d 213 115 [x0, x1, x2, x3, x4, .int a, x6] st z Q = ZW zG d 213 117 [x0, x1, x2, x3, x4, .int a, x6] (.int a :: st) z Q := zw_next (f := z_iload 5 117) rfl rfl
theorem s213_117 {ls : List Value} {a b : Int32} : ZW zG d 213 117 ls (.int b :: .int a :: st) z Q = if b ≤ a then ZW zG d 213 147 ls st z Q else ZW zG d 213 120 ls st z Q := zw_icge rfl
theorem s213_120 {x0 x1 x2 x3 x4 x5 x6 : Value} : ZW zG d 213 120 [x0, x1, x2, x3, x4, x5, x6] st z Q = (zir x0 = true ∧ ZW zG d 213 121 [x0, x1, x2, x3, x4, x5, x6] (x0 :: st) z Q) := zw_cond (f := z_aload 0 121) rfl rfl
theorem s213_121 {ls : List Value} {r : Nat} : ZW zG d 213 121 ls (.ref r :: st) z Q = ((zcls z r = 12 ∧ zir (zfr z r 40) = true) ∧ ZW zG d 213 124 ls (zfr z r 40 :: st) (z) Q) := zw_getR rfl
theorem s213_124 {x0 x1 x2 x3 x4 x5 : Value} {a : Int32} : ZW zG d 213 124 [x0, x1, x2, x3, x4, x5, .int a] st z Q = ZW zG d 213 126 [x0, x1, x2, x3, x4, x5, .int a] (.int a :: st) z Q := zw_next (f := z_iload 6 126) rfl rfl
theorem s213_126 {x0 x1 x2 x3 x4 x5 x6 : Value} : ZW zG d 213 126 [x0, x1, x2, x3, x4, x5, x6] st z Q = (zir x0 = true ∧ ZW zG d 213 127 [x0, x1, x2, x3, x4, x5, x6] (x0 :: st) z Q) := zw_cond (f := z_aload 0 127) rfl rfl
theorem s213_127 {ls : List Value} {r : Nat} : ZW zG d 213 127 ls (.ref r :: st) z Q = ((zcls z r = 12 ∧ zir (zfr z r 39) = true) ∧ ZW zG d 213 130 ls (zfr z r 39 :: st) (z) Q) := zw_getR rfl
theorem s213_130 {ls : List Value}  : ZW zG d 213 130 ls (st) z Q = ZW zG d 213 132 ls ((.int (nI 60)) :: st) z Q := zw_push rfl
theorem s213_132 {x0 x2 x3 x4 x5 x6 : Value} {a : Int32} : ZW zG d 213 132 [x0, .int a, x2, x3, x4, x5, x6] st z Q = ZW zG d 213 133 [x0, .int a, x2, x3, x4, x5, x6] (.int a :: st) z Q := zw_next (f := z_iload 1 133) rfl rfl
theorem s213_133 {ls : List Value} {a b : Int32} : ZW zG d 213 133 ls (.int b :: .int a :: st) z Q = ZW zG d 213 134 ls (.int (a * b) :: st) z Q := zw_imul rfl
theorem s213_134 {x0 x1 x3 x4 x5 x6 : Value} {a : Int32} : ZW zG d 213 134 [x0, x1, .int a, x3, x4, x5, x6] st z Q = ZW zG d 213 135 [x0, x1, .int a, x3, x4, x5, x6] (.int a :: st) z Q := zw_next (f := z_iload 2 135) rfl rfl
theorem s213_135 {ls : List Value} {a b : Int32} : ZW zG d 213 135 ls (.int b :: .int a :: st) z Q = ZW zG d 213 136 ls (.int (a + b) :: st) z Q := zw_iadd rfl
theorem s213_136 {x0 x1 x2 x3 x4 x5 : Value} {a : Int32} : ZW zG d 213 136 [x0, x1, x2, x3, x4, x5, .int a] st z Q = ZW zG d 213 138 [x0, x1, x2, x3, x4, x5, .int a] (.int a :: st) z Q := zw_next (f := z_iload 6 138) rfl rfl
theorem s213_138 {ls : List Value} {a b : Int32} : ZW zG d 213 138 ls (.int b :: .int a :: st) z Q = ZW zG d 213 139 ls (.int (a + b) :: st) z Q := zw_iadd rfl
theorem s213_139 {ls : List Value} {a : Int32} {r : Nat} : ZW zG d 213 139 ls (.int a :: .ref r :: st) z Q = ((zcls z r = 51 ∧ zin a (zlen z r) = true) ∧ ZW zG d 213 140 ls (.long (zla z r (zx a)) :: st) (z) Q) := zw_lald rfl
theorem s213_140 {ls : List Value} {a : Int32} {x : Int64} {r : Nat} : ZW zG d 213 140 ls (.long x :: .int a :: .ref r :: st) z Q = ((zcls z r = 51 ∧ zin a (zlen z r) = true) ∧ ZW zG d 213 141 ls (st) (sla z r (zx a) x) Q) := zw_last rfl
theorem s213_141 {x0 x1 x2 x3 x4 x5 : Value} {a : Int32} : ZW zG d 213 141 [x0, x1, x2, x3, x4, x5, .int a] st z Q = ZW zG d 213 144 [x0, x1, x2, x3, x4, zclr x5, .int (a + (nI 1))] st z Q := zw_next (f := z_iinc 6 (nI 1) 144) rfl rfl
theorem s213_144 {ls : List Value}  : ZW zG d 213 144 ls (st) z Q = ZW zG d 213 113 ls st z Q := zw_goto rfl
theorem s213_147 {ls : List Value}  : ZW zG d 213 147 ls (st) z Q = ZW zG d 213 148 ls ((.int (nI 0)) :: st) z Q := zw_push rfl
theorem s213_148 {x0 x1 x2 x3 x4 x5 x6 : Value} {a : Int32} : ZW zG d 213 148 [x0, x1, x2, x3, x4, x5, x6] (.int a :: st) z Q = ZW zG d 213 150 [x0, x1, x2, x3, x4, zclr x5, .int a] st z Q := zw_next (f := z_istore 6 150) rfl rfl
theorem s213_150 {x0 x1 x2 x3 x4 x5 : Value} {a : Int32} : ZW zG d 213 150 [x0, x1, x2, x3, x4, x5, .int a] st z Q = ZW zG d 213 152 [x0, x1, x2, x3, x4, x5, .int a] (.int a :: st) z Q := zw_next (f := z_iload 6 152) rfl rfl
theorem s213_152 {x0 x1 x2 x3 x4 x6 : Value} {a : Int32} : ZW zG d 213 152 [x0, x1, x2, x3, x4, .int a, x6] st z Q = ZW zG d 213 154 [x0, x1, x2, x3, x4, .int a, x6] (.int a :: st) z Q := zw_next (f := z_iload 5 154) rfl rfl
theorem s213_154 {ls : List Value} {a b : Int32} : ZW zG d 213 154 ls (.int b :: .int a :: st) z Q = if b ≤ a then ZW zG d 213 185 ls st z Q else ZW zG d 213 157 ls st z Q := zw_icge rfl
theorem s213_157 {x0 x1 x2 x3 x4 x5 x6 : Value} : ZW zG d 213 157 [x0, x1, x2, x3, x4, x5, x6] st z Q = (zir x0 = true ∧ ZW zG d 213 158 [x0, x1, x2, x3, x4, x5, x6] (x0 :: st) z Q) := zw_cond (f := z_aload 0 158) rfl rfl
theorem s213_158 {ls : List Value} {r : Nat} : ZW zG d 213 158 ls (.ref r :: st) z Q = ((zcls z r = 12 ∧ zir (zfr z r 39) = true) ∧ ZW zG d 213 161 ls (zfr z r 39 :: st) (z) Q) := zw_getR rfl
theorem s213_161 {ls : List Value}  : ZW zG d 213 161 ls (st) z Q = ZW zG d 213 163 ls ((.int (nI 60)) :: st) z Q := zw_push rfl
theorem s213_163 {x0 x1 x2 x4 x5 x6 : Value} {a : Int32} : ZW zG d 213 163 [x0, x1, x2, .int a, x4, x5, x6] st z Q = ZW zG d 213 164 [x0, x1, x2, .int a, x4, x5, x6] (.int a :: st) z Q := zw_next (f := z_iload 3 164) rfl rfl
theorem s213_164 {ls : List Value} {a b : Int32} : ZW zG d 213 164 ls (.int b :: .int a :: st) z Q = ZW zG d 213 165 ls (.int (a * b) :: st) z Q := zw_imul rfl
theorem s213_165 {x0 x1 x2 x3 x5 x6 : Value} {a : Int32} : ZW zG d 213 165 [x0, x1, x2, x3, .int a, x5, x6] st z Q = ZW zG d 213 167 [x0, x1, x2, x3, .int a, x5, x6] (.int a :: st) z Q := zw_next (f := z_iload 4 167) rfl rfl
theorem s213_167 {ls : List Value} {a b : Int32} : ZW zG d 213 167 ls (.int b :: .int a :: st) z Q = ZW zG d 213 168 ls (.int (a + b) :: st) z Q := zw_iadd rfl
theorem s213_168 {x0 x1 x2 x3 x4 x5 : Value} {a : Int32} : ZW zG d 213 168 [x0, x1, x2, x3, x4, x5, .int a] st z Q = ZW zG d 213 170 [x0, x1, x2, x3, x4, x5, .int a] (.int a :: st) z Q := zw_next (f := z_iload 6 170) rfl rfl
theorem s213_170 {ls : List Value} {a b : Int32} : ZW zG d 213 170 ls (.int b :: .int a :: st) z Q = ZW zG d 213 171 ls (.int (a + b) :: st) z Q := zw_iadd rfl
theorem s213_171 {x0 x1 x2 x3 x4 x5 x6 : Value} : ZW zG d 213 171 [x0, x1, x2, x3, x4, x5, x6] st z Q = (zir x0 = true ∧ ZW zG d 213 172 [x0, x1, x2, x3, x4, x5, x6] (x0 :: st) z Q) := zw_cond (f := z_aload 0 172) rfl rfl
theorem s213_172 {ls : List Value} {r : Nat} : ZW zG d 213 172 ls (.ref r :: st) z Q = ((zcls z r = 12 ∧ zir (zfr z r 40) = true) ∧ ZW zG d 213 175 ls (zfr z r 40 :: st) (z) Q) := zw_getR rfl
theorem s213_175 {x0 x1 x2 x3 x4 x5 : Value} {a : Int32} : ZW zG d 213 175 [x0, x1, x2, x3, x4, x5, .int a] st z Q = ZW zG d 213 177 [x0, x1, x2, x3, x4, x5, .int a] (.int a :: st) z Q := zw_next (f := z_iload 6 177) rfl rfl
theorem s213_177 {ls : List Value} {a : Int32} {r : Nat} : ZW zG d 213 177 ls (.int a :: .ref r :: st) z Q = ((zcls z r = 51 ∧ zin a (zlen z r) = true) ∧ ZW zG d 213 178 ls (.long (zla z r (zx a)) :: st) (z) Q) := zw_lald rfl
theorem s213_178 {ls : List Value} {a : Int32} {x : Int64} {r : Nat} : ZW zG d 213 178 ls (.long x :: .int a :: .ref r :: st) z Q = ((zcls z r = 51 ∧ zin a (zlen z r) = true) ∧ ZW zG d 213 179 ls (st) (sla z r (zx a) x) Q) := zw_last rfl
theorem s213_179 {x0 x1 x2 x3 x4 x5 : Value} {a : Int32} : ZW zG d 213 179 [x0, x1, x2, x3, x4, x5, .int a] st z Q = ZW zG d 213 182 [x0, x1, x2, x3, x4, zclr x5, .int (a + (nI 1))] st z Q := zw_next (f := z_iinc 6 (nI 1) 182) rfl rfl
theorem s213_182 {ls : List Value}  : ZW zG d 213 182 ls (st) z Q = ZW zG d 213 150 ls st z Q := zw_goto rfl
theorem s213_185 {ls : List Value}  : ZW zG d 213 185 ls (st) z Q = ZW zG d 213 186 ls ((.int (nI 0)) :: st) z Q := zw_push rfl
theorem s213_186 {ls : List Value} {a : Int32} : ZW zG d 213 186 ls ([.int a]) z Q = Q (.inl (some (.int a))) z := zw_reti rfl
/-- J13_bitCount (I)I -/
theorem e251 {v0 : Int32} : ZC zG d 251 [.int v0] z Q = ZW zG d 251 0 [.int v0] [] z Q := rfl
theorem s251_0 {a : Int32} : ZW zG d 251 0 [.int a] st z Q = ZW zG d 251 1 [.int a] (.int a :: st) z Q := zw_next (f := z_iload 0 1) rfl rfl
theorem s251_1 {a : Int32} : ZW zG d 251 1 [.int a] st z Q = ZW zG d 251 2 [.int a] (.int a :: st) z Q := zw_next (f := z_iload 0 2) rfl rfl
theorem s251_2 {ls : List Value}  : ZW zG d 251 2 ls (st) z Q = ZW zG d 251 3 ls ((.int (nI 1)) :: st) z Q := zw_push rfl
theorem s251_3 {ls : List Value} {a b : Int32} : ZW zG d 251 3 ls (.int b :: .int a :: st) z Q = ZW zG d 251 4 ls (.int ((a.toUInt32 >>> (b.toUInt32 &&& Int32.toUInt32 31)).toInt32) :: st) z Q := zw_iushr rfl
theorem s251_4 {ls : List Value}  : ZW zG d 251 4 ls (st) z Q = ZW zG d 251 7 ls ((.int (nI 1431655765)) :: st) z Q := zw_push rfl
theorem s251_7 {ls : List Value} {a b : Int32} : ZW zG d 251 7 ls (.int b :: .int a :: st) z Q = ZW zG d 251 8 ls (.int (a &&& b) :: st) z Q := zw_iand rfl
theorem s251_8 {ls : List Value} {a b : Int32} : ZW zG d 251 8 ls (.int b :: .int a :: st) z Q = ZW zG d 251 9 ls (.int (a - b) :: st) z Q := zw_isub rfl
theorem s251_9 {x0 : Value} {a : Int32} : ZW zG d 251 9 [x0] (.int a :: st) z Q = ZW zG d 251 10 [.int a] st z Q := zw_next (f := z_istore 0 10) rfl rfl
theorem s251_10 {a : Int32} : ZW zG d 251 10 [.int a] st z Q = ZW zG d 251 11 [.int a] (.int a :: st) z Q := zw_next (f := z_iload 0 11) rfl rfl
theorem s251_11 {ls : List Value}  : ZW zG d 251 11 ls (st) z Q = ZW zG d 251 14 ls ((.int (nI 858993459)) :: st) z Q := zw_push rfl
theorem s251_14 {ls : List Value} {a b : Int32} : ZW zG d 251 14 ls (.int b :: .int a :: st) z Q = ZW zG d 251 15 ls (.int (a &&& b) :: st) z Q := zw_iand rfl
theorem s251_15 {a : Int32} : ZW zG d 251 15 [.int a] st z Q = ZW zG d 251 16 [.int a] (.int a :: st) z Q := zw_next (f := z_iload 0 16) rfl rfl
theorem s251_16 {ls : List Value}  : ZW zG d 251 16 ls (st) z Q = ZW zG d 251 17 ls ((.int (nI 2)) :: st) z Q := zw_push rfl
theorem s251_17 {ls : List Value} {a b : Int32} : ZW zG d 251 17 ls (.int b :: .int a :: st) z Q = ZW zG d 251 18 ls (.int ((a.toUInt32 >>> (b.toUInt32 &&& Int32.toUInt32 31)).toInt32) :: st) z Q := zw_iushr rfl
theorem s251_18 {ls : List Value}  : ZW zG d 251 18 ls (st) z Q = ZW zG d 251 21 ls ((.int (nI 858993459)) :: st) z Q := zw_push rfl
theorem s251_21 {ls : List Value} {a b : Int32} : ZW zG d 251 21 ls (.int b :: .int a :: st) z Q = ZW zG d 251 22 ls (.int (a &&& b) :: st) z Q := zw_iand rfl
theorem s251_22 {ls : List Value} {a b : Int32} : ZW zG d 251 22 ls (.int b :: .int a :: st) z Q = ZW zG d 251 23 ls (.int (a + b) :: st) z Q := zw_iadd rfl
theorem s251_23 {x0 : Value} {a : Int32} : ZW zG d 251 23 [x0] (.int a :: st) z Q = ZW zG d 251 24 [.int a] st z Q := zw_next (f := z_istore 0 24) rfl rfl
theorem s251_24 {a : Int32} : ZW zG d 251 24 [.int a] st z Q = ZW zG d 251 25 [.int a] (.int a :: st) z Q := zw_next (f := z_iload 0 25) rfl rfl
theorem s251_25 {a : Int32} : ZW zG d 251 25 [.int a] st z Q = ZW zG d 251 26 [.int a] (.int a :: st) z Q := zw_next (f := z_iload 0 26) rfl rfl
theorem s251_26 {ls : List Value}  : ZW zG d 251 26 ls (st) z Q = ZW zG d 251 27 ls ((.int (nI 4)) :: st) z Q := zw_push rfl
theorem s251_27 {ls : List Value} {a b : Int32} : ZW zG d 251 27 ls (.int b :: .int a :: st) z Q = ZW zG d 251 28 ls (.int ((a.toUInt32 >>> (b.toUInt32 &&& Int32.toUInt32 31)).toInt32) :: st) z Q := zw_iushr rfl
theorem s251_28 {ls : List Value} {a b : Int32} : ZW zG d 251 28 ls (.int b :: .int a :: st) z Q = ZW zG d 251 29 ls (.int (a + b) :: st) z Q := zw_iadd rfl
theorem s251_29 {ls : List Value}  : ZW zG d 251 29 ls (st) z Q = ZW zG d 251 32 ls ((.int (nI 252645135)) :: st) z Q := zw_push rfl
theorem s251_32 {ls : List Value} {a b : Int32} : ZW zG d 251 32 ls (.int b :: .int a :: st) z Q = ZW zG d 251 33 ls (.int (a &&& b) :: st) z Q := zw_iand rfl
theorem s251_33 {x0 : Value} {a : Int32} : ZW zG d 251 33 [x0] (.int a :: st) z Q = ZW zG d 251 34 [.int a] st z Q := zw_next (f := z_istore 0 34) rfl rfl
theorem s251_34 {a : Int32} : ZW zG d 251 34 [.int a] st z Q = ZW zG d 251 35 [.int a] (.int a :: st) z Q := zw_next (f := z_iload 0 35) rfl rfl
theorem s251_35 {a : Int32} : ZW zG d 251 35 [.int a] st z Q = ZW zG d 251 36 [.int a] (.int a :: st) z Q := zw_next (f := z_iload 0 36) rfl rfl
theorem s251_36 {ls : List Value}  : ZW zG d 251 36 ls (st) z Q = ZW zG d 251 38 ls ((.int (nI 8)) :: st) z Q := zw_push rfl
theorem s251_38 {ls : List Value} {a b : Int32} : ZW zG d 251 38 ls (.int b :: .int a :: st) z Q = ZW zG d 251 39 ls (.int ((a.toUInt32 >>> (b.toUInt32 &&& Int32.toUInt32 31)).toInt32) :: st) z Q := zw_iushr rfl
theorem s251_39 {ls : List Value} {a b : Int32} : ZW zG d 251 39 ls (.int b :: .int a :: st) z Q = ZW zG d 251 40 ls (.int (a + b) :: st) z Q := zw_iadd rfl
theorem s251_40 {x0 : Value} {a : Int32} : ZW zG d 251 40 [x0] (.int a :: st) z Q = ZW zG d 251 41 [.int a] st z Q := zw_next (f := z_istore 0 41) rfl rfl
theorem s251_41 {a : Int32} : ZW zG d 251 41 [.int a] st z Q = ZW zG d 251 42 [.int a] (.int a :: st) z Q := zw_next (f := z_iload 0 42) rfl rfl
theorem s251_42 {a : Int32} : ZW zG d 251 42 [.int a] st z Q = ZW zG d 251 43 [.int a] (.int a :: st) z Q := zw_next (f := z_iload 0 43) rfl rfl
theorem s251_43 {ls : List Value}  : ZW zG d 251 43 ls (st) z Q = ZW zG d 251 45 ls ((.int (nI 16)) :: st) z Q := zw_push rfl
theorem s251_45 {ls : List Value} {a b : Int32} : ZW zG d 251 45 ls (.int b :: .int a :: st) z Q = ZW zG d 251 46 ls (.int ((a.toUInt32 >>> (b.toUInt32 &&& Int32.toUInt32 31)).toInt32) :: st) z Q := zw_iushr rfl
theorem s251_46 {ls : List Value} {a b : Int32} : ZW zG d 251 46 ls (.int b :: .int a :: st) z Q = ZW zG d 251 47 ls (.int (a + b) :: st) z Q := zw_iadd rfl
theorem s251_47 {x0 : Value} {a : Int32} : ZW zG d 251 47 [x0] (.int a :: st) z Q = ZW zG d 251 48 [.int a] st z Q := zw_next (f := z_istore 0 48) rfl rfl
theorem s251_48 {a : Int32} : ZW zG d 251 48 [.int a] st z Q = ZW zG d 251 49 [.int a] (.int a :: st) z Q := zw_next (f := z_iload 0 49) rfl rfl
theorem s251_49 {ls : List Value}  : ZW zG d 251 49 ls (st) z Q = ZW zG d 251 51 ls ((.int (nI 63)) :: st) z Q := zw_push rfl
theorem s251_51 {ls : List Value} {a b : Int32} : ZW zG d 251 51 ls (.int b :: .int a :: st) z Q = ZW zG d 251 52 ls (.int (a &&& b) :: st) z Q := zw_iand rfl
theorem s251_52 {ls : List Value} {a : Int32} : ZW zG d 251 52 ls ([.int a]) z Q = Q (.inl (some (.int a))) z := zw_reti rfl
/-- J13_numberOfTrailingZeros (I)I -/
theorem e252 {v0 : Int32} : ZC zG d 252 [.int v0] z Q = ZW zG d 252 0 [.int v0, zdum] [] z Q := rfl
theorem s252_0 {x1 : Value} {a : Int32} : ZW zG d 252 0 [.int a, x1] st z Q = ZW zG d 252 1 [.int a, x1] (.int a :: st) z Q := zw_next (f := z_iload 0 1) rfl rfl
theorem s252_1 {ls : List Value}  : ZW zG d 252 1 ls (st) z Q = ZW zG d 252 2 ls ((.int (-1)) :: st) z Q := zw_push rfl
theorem s252_2 {ls : List Value} {a b : Int32} : ZW zG d 252 2 ls (.int b :: .int a :: st) z Q = ZW zG d 252 3 ls (.int (a ^^^ b) :: st) z Q := zw_ixor rfl
theorem s252_3 {x1 : Value} {a : Int32} : ZW zG d 252 3 [.int a, x1] st z Q = ZW zG d 252 4 [.int a, x1] (.int a :: st) z Q := zw_next (f := z_iload 0 4) rfl rfl
theorem s252_4 {ls : List Value}  : ZW zG d 252 4 ls (st) z Q = ZW zG d 252 5 ls ((.int (nI 1)) :: st) z Q := zw_push rfl
theorem s252_5 {ls : List Value} {a b : Int32} : ZW zG d 252 5 ls (.int b :: .int a :: st) z Q = ZW zG d 252 6 ls (.int (a - b) :: st) z Q := zw_isub rfl
theorem s252_6 {ls : List Value} {a b : Int32} : ZW zG d 252 6 ls (.int b :: .int a :: st) z Q = ZW zG d 252 7 ls (.int (a &&& b) :: st) z Q := zw_iand rfl
theorem s252_7 {x0 x1 : Value} {a : Int32} : ZW zG d 252 7 [x0, x1] (.int a :: st) z Q = ZW zG d 252 8 [.int a, x1] st z Q := zw_next (f := z_istore 0 8) rfl rfl
theorem s252_8 {x1 : Value} {a : Int32} : ZW zG d 252 8 [.int a, x1] st z Q = ZW zG d 252 9 [.int a, x1] (.int a :: st) z Q := zw_next (f := z_iload 0 9) rfl rfl
theorem s252_9 {ls : List Value} {a : Int32} : ZW zG d 252 9 ls (.int a :: st) z Q = if 0 < a then ZW zG d 252 17 ls st z Q else ZW zG d 252 12 ls st z Q := zw_ifgt rfl
theorem s252_12 {x1 : Value} {a : Int32} : ZW zG d 252 12 [.int a, x1] st z Q = ZW zG d 252 13 [.int a, x1] (.int a :: st) z Q := zw_next (f := z_iload 0 13) rfl rfl
theorem s252_13 {ls : List Value}  : ZW zG d 252 13 ls (st) z Q = ZW zG d 252 15 ls ((.int (nI 32)) :: st) z Q := zw_push rfl
theorem s252_15 {ls : List Value} {a b : Int32} : ZW zG d 252 15 ls (.int b :: .int a :: st) z Q = ZW zG d 252 16 ls (.int (a &&& b) :: st) z Q := zw_iand rfl
theorem s252_16 {ls : List Value} {a : Int32} : ZW zG d 252 16 ls ([.int a]) z Q = Q (.inl (some (.int a))) z := zw_reti rfl
theorem s252_17 {ls : List Value}  : ZW zG d 252 17 ls (st) z Q = ZW zG d 252 18 ls ((.int (nI 1)) :: st) z Q := zw_push rfl
theorem s252_18 {x0 x1 : Value} {a : Int32} : ZW zG d 252 18 [x0, x1] (.int a :: st) z Q = ZW zG d 252 19 [zclr x0, .int a] st z Q := zw_next (f := z_istore 1 19) rfl rfl
theorem s252_19 {x1 : Value} {a : Int32} : ZW zG d 252 19 [.int a, x1] st z Q = ZW zG d 252 20 [.int a, x1] (.int a :: st) z Q := zw_next (f := z_iload 0 20) rfl rfl
theorem s252_20 {ls : List Value}  : ZW zG d 252 20 ls (st) z Q = ZW zG d 252 23 ls ((.int (nI 65536)) :: st) z Q := zw_push rfl
theorem s252_23 {ls : List Value} {a b : Int32} : ZW zG d 252 23 ls (.int b :: .int a :: st) z Q = if a ≤ b then ZW zG d 252 34 ls st z Q else ZW zG d 252 26 ls st z Q := zw_icle rfl
theorem s252_26 {x0 : Value} {a : Int32} : ZW zG d 252 26 [x0, .int a] st z Q = ZW zG d 252 29 [zclr x0, .int (a + (nI 16))] st z Q := zw_next (f := z_iinc 1 (nI 16) 29) rfl rfl
theorem s252_29 {x1 : Value} {a : Int32} : ZW zG d 252 29 [.int a, x1] st z Q = ZW zG d 252 30 [.int a, x1] (.int a :: st) z Q := zw_next (f := z_iload 0 30) rfl rfl
theorem s252_30 {ls : List Value}  : ZW zG d 252 30 ls (st) z Q = ZW zG d 252 32 ls ((.int (nI 16)) :: st) z Q := zw_push rfl
theorem s252_32 {ls : List Value} {a b : Int32} : ZW zG d 252 32 ls (.int b :: .int a :: st) z Q = ZW zG d 252 33 ls (.int ((a.toUInt32 >>> (b.toUInt32 &&& Int32.toUInt32 31)).toInt32) :: st) z Q := zw_iushr rfl
theorem s252_33 {x0 x1 : Value} {a : Int32} : ZW zG d 252 33 [x0, x1] (.int a :: st) z Q = ZW zG d 252 34 [.int a, x1] st z Q := zw_next (f := z_istore 0 34) rfl rfl
theorem s252_34 {x1 : Value} {a : Int32} : ZW zG d 252 34 [.int a, x1] st z Q = ZW zG d 252 35 [.int a, x1] (.int a :: st) z Q := zw_next (f := z_iload 0 35) rfl rfl
theorem s252_35 {ls : List Value}  : ZW zG d 252 35 ls (st) z Q = ZW zG d 252 38 ls ((.int (nI 256)) :: st) z Q := zw_push rfl
theorem s252_38 {ls : List Value} {a b : Int32} : ZW zG d 252 38 ls (.int b :: .int a :: st) z Q = if a ≤ b then ZW zG d 252 49 ls st z Q else ZW zG d 252 41 ls st z Q := zw_icle rfl
theorem s252_41 {x0 : Value} {a : Int32} : ZW zG d 252 41 [x0, .int a] st z Q = ZW zG d 252 44 [zclr x0, .int (a + (nI 8))] st z Q := zw_next (f := z_iinc 1 (nI 8) 44) rfl rfl
theorem s252_44 {x1 : Value} {a : Int32} : ZW zG d 252 44 [.int a, x1] st z Q = ZW zG d 252 45 [.int a, x1] (.int a :: st) z Q := zw_next (f := z_iload 0 45) rfl rfl
theorem s252_45 {ls : List Value}  : ZW zG d 252 45 ls (st) z Q = ZW zG d 252 47 ls ((.int (nI 8)) :: st) z Q := zw_push rfl
theorem s252_47 {ls : List Value} {a b : Int32} : ZW zG d 252 47 ls (.int b :: .int a :: st) z Q = ZW zG d 252 48 ls (.int ((a.toUInt32 >>> (b.toUInt32 &&& Int32.toUInt32 31)).toInt32) :: st) z Q := zw_iushr rfl
theorem s252_48 {x0 x1 : Value} {a : Int32} : ZW zG d 252 48 [x0, x1] (.int a :: st) z Q = ZW zG d 252 49 [.int a, x1] st z Q := zw_next (f := z_istore 0 49) rfl rfl
theorem s252_49 {x1 : Value} {a : Int32} : ZW zG d 252 49 [.int a, x1] st z Q = ZW zG d 252 50 [.int a, x1] (.int a :: st) z Q := zw_next (f := z_iload 0 50) rfl rfl
theorem s252_50 {ls : List Value}  : ZW zG d 252 50 ls (st) z Q = ZW zG d 252 52 ls ((.int (nI 16)) :: st) z Q := zw_push rfl
theorem s252_52 {ls : List Value} {a b : Int32} : ZW zG d 252 52 ls (.int b :: .int a :: st) z Q = if a ≤ b then ZW zG d 252 62 ls st z Q else ZW zG d 252 55 ls st z Q := zw_icle rfl
theorem s252_55 {x0 : Value} {a : Int32} : ZW zG d 252 55 [x0, .int a] st z Q = ZW zG d 252 58 [zclr x0, .int (a + (nI 4))] st z Q := zw_next (f := z_iinc 1 (nI 4) 58) rfl rfl
theorem s252_58 {x1 : Value} {a : Int32} : ZW zG d 252 58 [.int a, x1] st z Q = ZW zG d 252 59 [.int a, x1] (.int a :: st) z Q := zw_next (f := z_iload 0 59) rfl rfl
theorem s252_59 {ls : List Value}  : ZW zG d 252 59 ls (st) z Q = ZW zG d 252 60 ls ((.int (nI 4)) :: st) z Q := zw_push rfl
theorem s252_60 {ls : List Value} {a b : Int32} : ZW zG d 252 60 ls (.int b :: .int a :: st) z Q = ZW zG d 252 61 ls (.int ((a.toUInt32 >>> (b.toUInt32 &&& Int32.toUInt32 31)).toInt32) :: st) z Q := zw_iushr rfl
theorem s252_61 {x0 x1 : Value} {a : Int32} : ZW zG d 252 61 [x0, x1] (.int a :: st) z Q = ZW zG d 252 62 [.int a, x1] st z Q := zw_next (f := z_istore 0 62) rfl rfl
theorem s252_62 {x1 : Value} {a : Int32} : ZW zG d 252 62 [.int a, x1] st z Q = ZW zG d 252 63 [.int a, x1] (.int a :: st) z Q := zw_next (f := z_iload 0 63) rfl rfl
theorem s252_63 {ls : List Value}  : ZW zG d 252 63 ls (st) z Q = ZW zG d 252 64 ls ((.int (nI 4)) :: st) z Q := zw_push rfl
theorem s252_64 {ls : List Value} {a b : Int32} : ZW zG d 252 64 ls (.int b :: .int a :: st) z Q = if a ≤ b then ZW zG d 252 74 ls st z Q else ZW zG d 252 67 ls st z Q := zw_icle rfl
theorem s252_67 {x0 : Value} {a : Int32} : ZW zG d 252 67 [x0, .int a] st z Q = ZW zG d 252 70 [zclr x0, .int (a + (nI 2))] st z Q := zw_next (f := z_iinc 1 (nI 2) 70) rfl rfl
theorem s252_70 {x1 : Value} {a : Int32} : ZW zG d 252 70 [.int a, x1] st z Q = ZW zG d 252 71 [.int a, x1] (.int a :: st) z Q := zw_next (f := z_iload 0 71) rfl rfl
theorem s252_71 {ls : List Value}  : ZW zG d 252 71 ls (st) z Q = ZW zG d 252 72 ls ((.int (nI 2)) :: st) z Q := zw_push rfl
theorem s252_72 {ls : List Value} {a b : Int32} : ZW zG d 252 72 ls (.int b :: .int a :: st) z Q = ZW zG d 252 73 ls (.int ((a.toUInt32 >>> (b.toUInt32 &&& Int32.toUInt32 31)).toInt32) :: st) z Q := zw_iushr rfl
theorem s252_73 {x0 x1 : Value} {a : Int32} : ZW zG d 252 73 [x0, x1] (.int a :: st) z Q = ZW zG d 252 74 [.int a, x1] st z Q := zw_next (f := z_istore 0 74) rfl rfl
theorem s252_74 {x0 : Value} {a : Int32} : ZW zG d 252 74 [x0, .int a] st z Q = ZW zG d 252 75 [x0, .int a] (.int a :: st) z Q := zw_next (f := z_iload 1 75) rfl rfl
theorem s252_75 {x1 : Value} {a : Int32} : ZW zG d 252 75 [.int a, x1] st z Q = ZW zG d 252 76 [.int a, x1] (.int a :: st) z Q := zw_next (f := z_iload 0 76) rfl rfl
theorem s252_76 {ls : List Value}  : ZW zG d 252 76 ls (st) z Q = ZW zG d 252 77 ls ((.int (nI 1)) :: st) z Q := zw_push rfl
theorem s252_77 {ls : List Value} {a b : Int32} : ZW zG d 252 77 ls (.int b :: .int a :: st) z Q = ZW zG d 252 78 ls (.int ((a.toUInt32 >>> (b.toUInt32 &&& Int32.toUInt32 31)).toInt32) :: st) z Q := zw_iushr rfl
theorem s252_78 {ls : List Value} {a b : Int32} : ZW zG d 252 78 ls (.int b :: .int a :: st) z Q = ZW zG d 252 79 ls (.int (a + b) :: st) z Q := zw_iadd rfl
theorem s252_79 {ls : List Value} {a : Int32} : ZW zG d 252 79 ls ([.int a]) z Q = Q (.inl (some (.int a))) z := zw_reti rfl
/-- L_law ([I)Z -/
theorem e253 {v0 : Nat} : ZC zG d 253 [.ref v0] z Q = ZW zG d 253 0 [.ref v0, zdum, zdum, zdum] [] z Q := rfl
theorem s253_0 {ls : List Value}  : ZW zG d 253 0 ls (st) z Q = ZW zG d 253 3 ls (.ref (zn z) :: st) (snew z 0 12) Q := zw_new rfl
theorem s253_3 {ls : List Value} {r : Nat} : ZW zG d 253 3 ls (.ref r :: st) z Q = ZW zG d 253 4 ls (.ref r :: .ref r :: st) z Q := zw_dupr rfl
theorem s253_4 {ls : List Value}  {r : Nat} : ZW zG (d + 1) 253 4 ls (.ref r :: st) z Q = (zcs st = true ∧ ZC zG d 5 [.ref r] z (zk zG (d + 1) 253 (none) 7 ls st Q)) := zc_I0 rfl (Nat.le_of_ble_eq_true rfl)
theorem s253_7 {x0 x1 x2 x3 : Value} {v : Value} : ZW zG d 253 7 [x0, x1, x2, x3] (v :: st) z Q = (zir v = true ∧ ZW zG d 253 8 [zclr x0, v, x2, x3] st z Q) := by rw [zw_cond (f := z_astore 1 8) (G := zG) rfl rfl]; exact propext ⟨fun h => ⟨h.1.1, h.2⟩, fun h => ⟨⟨h.1, Nat.le_of_ble_eq_true rfl⟩, h.2⟩⟩
theorem s253_8 {ls : List Value}  : ZW zG d 253 8 ls (st) z Q = ZW zG d 253 11 ls (.ref (zn z) :: st) (snew z 12 41) Q := zw_new rfl
theorem s253_11 {ls : List Value} {r : Nat} : ZW zG d 253 11 ls (.ref r :: st) z Q = ZW zG d 253 12 ls (.ref r :: .ref r :: st) z Q := zw_dupr rfl
theorem s253_12 {ls : List Value}  {r : Nat} : ZW zG (d + 1) 253 12 ls (.ref r :: st) z Q = (zcs st = true ∧ ZC zG d 112 [.ref r] z (zk zG (d + 1) 253 (none) 15 ls st Q)) := zc_I0 rfl (Nat.le_of_ble_eq_true rfl)
theorem s253_15 {x0 x1 x2 x3 : Value} {v : Value} : ZW zG d 253 15 [x0, x1, x2, x3] (v :: st) z Q = (zir v = true ∧ ZW zG d 253 16 [x0, zclr x1, v, x3] st z Q) := by rw [zw_cond (f := z_astore 2 16) (G := zG) rfl rfl]; exact propext ⟨fun h => ⟨h.1.1, h.2⟩, fun h => ⟨⟨h.1, Nat.le_of_ble_eq_true rfl⟩, h.2⟩⟩
theorem s253_16 {ls : List Value}  : ZW zG d 253 16 ls (st) z Q = ZW zG d 253 17 ls ((.int (nI 0)) :: st) z Q := zw_push rfl
theorem s253_17 {x0 x1 x2 x3 : Value} {a : Int32} : ZW zG d 253 17 [x0, x1, x2, x3] (.int a :: st) z Q = ZW zG d 253 18 [x0, x1, zclr x2, .int a] st z Q := zw_next (f := z_istore 3 18) rfl rfl
theorem s253_18 {x0 x1 x2 : Value} {a : Int32} : ZW zG d 253 18 [x0, x1, x2, .int a] st z Q = ZW zG d 253 19 [x0, x1, x2, .int a] (.int a :: st) z Q := zw_next (f := z_iload 3 19) rfl rfl
theorem s253_19 {x0 x1 x2 x3 : Value} : ZW zG d 253 19 [x0, x1, x2, x3] st z Q = (zir x0 = true ∧ ZW zG d 253 20 [x0, x1, x2, x3] (x0 :: st) z Q) := zw_cond (f := z_aload 0 20) rfl rfl
theorem s253_20 {ls : List Value} {r : Nat} : ZW zG d 253 20 ls (.ref r :: st) z Q = ((zcls z r = 49) ∧ ZW zG d 253 21 ls (.int (nI (zlen z r)) :: st) (z) Q) := zw_alen rfl
theorem s253_21 {ls : List Value}  : ZW zG d 253 21 ls (st) z Q = ZW zG d 253 23 ls ((.int (nI 6)) :: st) z Q := zw_push rfl
theorem s253_23 {ls : List Value} {a b : Int32} : ZW zG d 253 23 ls (.int b :: .int a :: st) z Q = ZW zG d 253 24 ls (.int (a - b) :: st) z Q := zw_isub rfl
theorem s253_24 {ls : List Value} {a b : Int32} : ZW zG d 253 24 ls (.int b :: .int a :: st) z Q = if b < a then ZW zG d 253 1356 ls st z Q else ZW zG d 253 27 ls st z Q := zw_icgt rfl
theorem s253_27 {x0 x1 x2 x3 : Value} : ZW zG d 253 27 [x0, x1, x2, x3] st z Q = (zir x0 = true ∧ ZW zG d 253 28 [x0, x1, x2, x3] (x0 :: st) z Q) := zw_cond (f := z_aload 0 28) rfl rfl
theorem s253_28 {x0 x1 x2 : Value} {a : Int32} : ZW zG d 253 28 [x0, x1, x2, .int a] st z Q = ZW zG d 253 29 [x0, x1, x2, .int a] (.int a :: st) z Q := zw_next (f := z_iload 3 29) rfl rfl
theorem s253_29 {ls : List Value} {a : Int32} {r : Nat} : ZW zG d 253 29 ls (.int a :: .ref r :: st) z Q = ((zcls z r = 49 ∧ zin a (zlen z r) = true) ∧ ZW zG d 253 30 ls (.int (zia z r (zx a)) :: st) (z) Q) := zw_iald rfl
theorem s253_30 {ls : List Value}  : ZW zG d 253 30 ls (st) z Q = ZW zG d 253 32 ls ((.int (nI 63)) :: st) z Q := zw_push rfl
theorem s253_32 {ls : List Value} {a b : Int32} : ZW zG d 253 32 ls (.int b :: .int a :: st) z Q = ZW zG d 253 33 ls (.int (a &&& b) :: st) z Q := zw_iand rfl
theorem s253_33 {ls : List Value} {a : Int32} : ZW zG d 253 33 ls (.int a :: st) z Q = ZW zG d 253 (ztsw [192, 255, 278, 291, 314, 337, 380, 423, 456, 479, 512, 535, 578, 601, 614, 657, 690, 733, 766, 809, 832, 855, 888, 931, 954, 977, 1010, 1023, 1046, 1079, 1102, 1125, 1148, 1171, 1214, 1287] 1350 a) ls st z Q := zw_tsw rfl
theorem s253_192 {x0 x1 x2 x3 : Value} : ZW zG d 253 192 [x0, x1, x2, x3] st z Q = (zir x1 = true ∧ ZW zG d 253 193 [x0, x1, x2, x3] (x1 :: st) z Q) := zw_cond (f := z_aload 1 193) rfl rfl
theorem s253_193 {x0 x1 x2 x3 : Value} : ZW zG d 253 193 [x0, x1, x2, x3] st z Q = (zir x0 = true ∧ ZW zG d 253 194 [x0, x1, x2, x3] (x0 :: st) z Q) := zw_cond (f := z_aload 0 194) rfl rfl
theorem s253_194 {x0 x1 x2 : Value} {a : Int32} : ZW zG d 253 194 [x0, x1, x2, .int a] st z Q = ZW zG d 253 195 [x0, x1, x2, .int a] (.int a :: st) z Q := zw_next (f := z_iload 3 195) rfl rfl
theorem s253_195 {ls : List Value}  : ZW zG d 253 195 ls (st) z Q = ZW zG d 253 196 ls ((.int (nI 1)) :: st) z Q := zw_push rfl
theorem s253_196 {ls : List Value} {a b : Int32} : ZW zG d 253 196 ls (.int b :: .int a :: st) z Q = ZW zG d 253 197 ls (.int (a + b) :: st) z Q := zw_iadd rfl
theorem s253_197 {ls : List Value} {a : Int32} {r : Nat} : ZW zG d 253 197 ls (.int a :: .ref r :: st) z Q = ((zcls z r = 49 ∧ zin a (zlen z r) = true) ∧ ZW zG d 253 198 ls (.int (zia z r (zx a)) :: st) (z) Q) := zw_iald rfl
theorem s253_198 {x0 x1 x2 x3 : Value} : ZW zG d 253 198 [x0, x1, x2, x3] st z Q = (zir x0 = true ∧ ZW zG d 253 199 [x0, x1, x2, x3] (x0 :: st) z Q) := zw_cond (f := z_aload 0 199) rfl rfl
theorem s253_199 {x0 x1 x2 : Value} {a : Int32} : ZW zG d 253 199 [x0, x1, x2, .int a] st z Q = ZW zG d 253 200 [x0, x1, x2, .int a] (.int a :: st) z Q := zw_next (f := z_iload 3 200) rfl rfl
theorem s253_200 {ls : List Value}  : ZW zG d 253 200 ls (st) z Q = ZW zG d 253 201 ls ((.int (nI 2)) :: st) z Q := zw_push rfl
theorem s253_201 {ls : List Value} {a b : Int32} : ZW zG d 253 201 ls (.int b :: .int a :: st) z Q = ZW zG d 253 202 ls (.int (a + b) :: st) z Q := zw_iadd rfl
theorem s253_202 {ls : List Value} {a : Int32} {r : Nat} : ZW zG d 253 202 ls (.int a :: .ref r :: st) z Q = ((zcls z r = 49 ∧ zin a (zlen z r) = true) ∧ ZW zG d 253 203 ls (.int (zia z r (zx a)) :: st) (z) Q) := zw_iald rfl
theorem s253_203 {x0 x1 x2 x3 : Value} : ZW zG d 253 203 [x0, x1, x2, x3] st z Q = (zir x0 = true ∧ ZW zG d 253 204 [x0, x1, x2, x3] (x0 :: st) z Q) := zw_cond (f := z_aload 0 204) rfl rfl
theorem s253_204 {x0 x1 x2 : Value} {a : Int32} : ZW zG d 253 204 [x0, x1, x2, .int a] st z Q = ZW zG d 253 205 [x0, x1, x2, .int a] (.int a :: st) z Q := zw_next (f := z_iload 3 205) rfl rfl
theorem s253_205 {ls : List Value}  : ZW zG d 253 205 ls (st) z Q = ZW zG d 253 206 ls ((.int (nI 3)) :: st) z Q := zw_push rfl
theorem s253_206 {ls : List Value} {a b : Int32} : ZW zG d 253 206 ls (.int b :: .int a :: st) z Q = ZW zG d 253 207 ls (.int (a + b) :: st) z Q := zw_iadd rfl
theorem s253_207 {ls : List Value} {a : Int32} {r : Nat} : ZW zG d 253 207 ls (.int a :: .ref r :: st) z Q = ((zcls z r = 49 ∧ zin a (zlen z r) = true) ∧ ZW zG d 253 208 ls (.int (zia z r (zx a)) :: st) (z) Q) := zw_iald rfl
theorem s253_208 {x0 x1 x2 x3 : Value} : ZW zG d 253 208 [x0, x1, x2, x3] st z Q = (zir x0 = true ∧ ZW zG d 253 209 [x0, x1, x2, x3] (x0 :: st) z Q) := zw_cond (f := z_aload 0 209) rfl rfl
theorem s253_209 {x0 x1 x2 : Value} {a : Int32} : ZW zG d 253 209 [x0, x1, x2, .int a] st z Q = ZW zG d 253 210 [x0, x1, x2, .int a] (.int a :: st) z Q := zw_next (f := z_iload 3 210) rfl rfl
theorem s253_210 {ls : List Value}  : ZW zG d 253 210 ls (st) z Q = ZW zG d 253 211 ls ((.int (nI 4)) :: st) z Q := zw_push rfl
theorem s253_211 {ls : List Value} {a b : Int32} : ZW zG d 253 211 ls (.int b :: .int a :: st) z Q = ZW zG d 253 212 ls (.int (a + b) :: st) z Q := zw_iadd rfl
theorem s253_212 {ls : List Value} {a : Int32} {r : Nat} : ZW zG d 253 212 ls (.int a :: .ref r :: st) z Q = ((zcls z r = 49 ∧ zin a (zlen z r) = true) ∧ ZW zG d 253 213 ls (.int (zia z r (zx a)) :: st) (z) Q) := zw_iald rfl
theorem s253_213 {x0 x1 x2 x3 : Value} : ZW zG d 253 213 [x0, x1, x2, x3] st z Q = (zir x0 = true ∧ ZW zG d 253 214 [x0, x1, x2, x3] (x0 :: st) z Q) := zw_cond (f := z_aload 0 214) rfl rfl
theorem s253_214 {x0 x1 x2 : Value} {a : Int32} : ZW zG d 253 214 [x0, x1, x2, .int a] st z Q = ZW zG d 253 215 [x0, x1, x2, .int a] (.int a :: st) z Q := zw_next (f := z_iload 3 215) rfl rfl
theorem s253_215 {ls : List Value}  : ZW zG d 253 215 ls (st) z Q = ZW zG d 253 216 ls ((.int (nI 5)) :: st) z Q := zw_push rfl
theorem s253_216 {ls : List Value} {a b : Int32} : ZW zG d 253 216 ls (.int b :: .int a :: st) z Q = ZW zG d 253 217 ls (.int (a + b) :: st) z Q := zw_iadd rfl
theorem s253_217 {ls : List Value} {a : Int32} {r : Nat} : ZW zG d 253 217 ls (.int a :: .ref r :: st) z Q = ((zcls z r = 49 ∧ zin a (zlen z r) = true) ∧ ZW zG d 253 218 ls (.int (zia z r (zx a)) :: st) (z) Q) := zw_iald rfl
theorem s253_218 {ls : List Value} {w0 : Int32} {w1 : Int32} {w2 : Int32} {w3 : Int32} {w4 : Int32} {r : Nat} : ZW zG (d + 1) 253 218 ls (.int w4 :: .int w3 :: .int w2 :: .int w1 :: .int w0 :: .ref r :: st) z Q = (zcls z r = 0 ∧ zcs st = true ∧ ZC zG d 6 [.ref r, .int w0, .int w1, .int w2, .int w3, .int w4] z (zk zG (d + 1) 253 (none) 221 ls st Q)) := zc_V5 rfl (Nat.le_of_ble_eq_true rfl)
theorem s253_221 {x0 x1 x2 x3 : Value} : ZW zG d 253 221 [x0, x1, x2, x3] st z Q = (zir x2 = true ∧ ZW zG d 253 222 [x0, x1, x2, x3] (x2 :: st) z Q) := zw_cond (f := z_aload 2 222) rfl rfl
theorem s253_222 {x0 x1 x2 x3 : Value} : ZW zG d 253 222 [x0, x1, x2, x3] st z Q = (zir x0 = true ∧ ZW zG d 253 223 [x0, x1, x2, x3] (x0 :: st) z Q) := zw_cond (f := z_aload 0 223) rfl rfl
theorem s253_223 {x0 x1 x2 : Value} {a : Int32} : ZW zG d 253 223 [x0, x1, x2, .int a] st z Q = ZW zG d 253 224 [x0, x1, x2, .int a] (.int a :: st) z Q := zw_next (f := z_iload 3 224) rfl rfl
theorem s253_224 {ls : List Value}  : ZW zG d 253 224 ls (st) z Q = ZW zG d 253 225 ls ((.int (nI 1)) :: st) z Q := zw_push rfl
theorem s253_225 {ls : List Value} {a b : Int32} : ZW zG d 253 225 ls (.int b :: .int a :: st) z Q = ZW zG d 253 226 ls (.int (a + b) :: st) z Q := zw_iadd rfl
theorem s253_226 {ls : List Value} {a : Int32} {r : Nat} : ZW zG d 253 226 ls (.int a :: .ref r :: st) z Q = ((zcls z r = 49 ∧ zin a (zlen z r) = true) ∧ ZW zG d 253 227 ls (.int (zia z r (zx a)) :: st) (z) Q) := zw_iald rfl
theorem s253_227 {x0 x1 x2 x3 : Value} : ZW zG d 253 227 [x0, x1, x2, x3] st z Q = (zir x0 = true ∧ ZW zG d 253 228 [x0, x1, x2, x3] (x0 :: st) z Q) := zw_cond (f := z_aload 0 228) rfl rfl
theorem s253_228 {x0 x1 x2 : Value} {a : Int32} : ZW zG d 253 228 [x0, x1, x2, .int a] st z Q = ZW zG d 253 229 [x0, x1, x2, .int a] (.int a :: st) z Q := zw_next (f := z_iload 3 229) rfl rfl
theorem s253_229 {ls : List Value}  : ZW zG d 253 229 ls (st) z Q = ZW zG d 253 230 ls ((.int (nI 2)) :: st) z Q := zw_push rfl
theorem s253_230 {ls : List Value} {a b : Int32} : ZW zG d 253 230 ls (.int b :: .int a :: st) z Q = ZW zG d 253 231 ls (.int (a + b) :: st) z Q := zw_iadd rfl
theorem s253_231 {ls : List Value} {a : Int32} {r : Nat} : ZW zG d 253 231 ls (.int a :: .ref r :: st) z Q = ((zcls z r = 49 ∧ zin a (zlen z r) = true) ∧ ZW zG d 253 232 ls (.int (zia z r (zx a)) :: st) (z) Q) := zw_iald rfl
theorem s253_232 {x0 x1 x2 x3 : Value} : ZW zG d 253 232 [x0, x1, x2, x3] st z Q = (zir x0 = true ∧ ZW zG d 253 233 [x0, x1, x2, x3] (x0 :: st) z Q) := zw_cond (f := z_aload 0 233) rfl rfl
theorem s253_233 {x0 x1 x2 : Value} {a : Int32} : ZW zG d 253 233 [x0, x1, x2, .int a] st z Q = ZW zG d 253 234 [x0, x1, x2, .int a] (.int a :: st) z Q := zw_next (f := z_iload 3 234) rfl rfl
theorem s253_234 {ls : List Value}  : ZW zG d 253 234 ls (st) z Q = ZW zG d 253 235 ls ((.int (nI 3)) :: st) z Q := zw_push rfl
theorem s253_235 {ls : List Value} {a b : Int32} : ZW zG d 253 235 ls (.int b :: .int a :: st) z Q = ZW zG d 253 236 ls (.int (a + b) :: st) z Q := zw_iadd rfl
theorem s253_236 {ls : List Value} {a : Int32} {r : Nat} : ZW zG d 253 236 ls (.int a :: .ref r :: st) z Q = ((zcls z r = 49 ∧ zin a (zlen z r) = true) ∧ ZW zG d 253 237 ls (.int (zia z r (zx a)) :: st) (z) Q) := zw_iald rfl
theorem s253_237 {x0 x1 x2 x3 : Value} : ZW zG d 253 237 [x0, x1, x2, x3] st z Q = (zir x0 = true ∧ ZW zG d 253 238 [x0, x1, x2, x3] (x0 :: st) z Q) := zw_cond (f := z_aload 0 238) rfl rfl
theorem s253_238 {x0 x1 x2 : Value} {a : Int32} : ZW zG d 253 238 [x0, x1, x2, .int a] st z Q = ZW zG d 253 239 [x0, x1, x2, .int a] (.int a :: st) z Q := zw_next (f := z_iload 3 239) rfl rfl
theorem s253_239 {ls : List Value}  : ZW zG d 253 239 ls (st) z Q = ZW zG d 253 240 ls ((.int (nI 4)) :: st) z Q := zw_push rfl
theorem s253_240 {ls : List Value} {a b : Int32} : ZW zG d 253 240 ls (.int b :: .int a :: st) z Q = ZW zG d 253 241 ls (.int (a + b) :: st) z Q := zw_iadd rfl
theorem s253_241 {ls : List Value} {a : Int32} {r : Nat} : ZW zG d 253 241 ls (.int a :: .ref r :: st) z Q = ((zcls z r = 49 ∧ zin a (zlen z r) = true) ∧ ZW zG d 253 242 ls (.int (zia z r (zx a)) :: st) (z) Q) := zw_iald rfl
theorem s253_242 {x0 x1 x2 x3 : Value} : ZW zG d 253 242 [x0, x1, x2, x3] st z Q = (zir x0 = true ∧ ZW zG d 253 243 [x0, x1, x2, x3] (x0 :: st) z Q) := zw_cond (f := z_aload 0 243) rfl rfl
theorem s253_243 {x0 x1 x2 : Value} {a : Int32} : ZW zG d 253 243 [x0, x1, x2, .int a] st z Q = ZW zG d 253 244 [x0, x1, x2, .int a] (.int a :: st) z Q := zw_next (f := z_iload 3 244) rfl rfl
theorem s253_244 {ls : List Value}  : ZW zG d 253 244 ls (st) z Q = ZW zG d 253 245 ls ((.int (nI 5)) :: st) z Q := zw_push rfl
theorem s253_245 {ls : List Value} {a b : Int32} : ZW zG d 253 245 ls (.int b :: .int a :: st) z Q = ZW zG d 253 246 ls (.int (a + b) :: st) z Q := zw_iadd rfl
theorem s253_246 {ls : List Value} {a : Int32} {r : Nat} : ZW zG d 253 246 ls (.int a :: .ref r :: st) z Q = ((zcls z r = 49 ∧ zin a (zlen z r) = true) ∧ ZW zG d 253 247 ls (.int (zia z r (zx a)) :: st) (z) Q) := zw_iald rfl
theorem s253_247 {ls : List Value} {w0 : Int32} {w1 : Int32} {w2 : Int32} {w3 : Int32} {w4 : Int32} {r : Nat} : ZW zG (d + 1) 253 247 ls (.int w4 :: .int w3 :: .int w2 :: .int w1 :: .int w0 :: .ref r :: st) z Q = (zcls z r = 12 ∧ zcs st = true ∧ ZC zG d 116 [.ref r, .int w0, .int w1, .int w2, .int w3, .int w4] z (zk zG (d + 1) 253 (none) 250 ls st Q)) := zc_V5 rfl (Nat.le_of_ble_eq_true rfl)
theorem s253_250 {ls : List Value} {a b : Int32} : ZW zG d 253 250 ls (.int b :: .int a :: st) z Q = if a = b then ZW zG d 253 1350 ls st z Q else ZW zG d 253 253 ls st z Q := zw_iceq rfl
theorem s253_253 {ls : List Value}  : ZW zG d 253 253 ls (st) z Q = ZW zG d 253 254 ls ((.int (nI 0)) :: st) z Q := zw_push rfl
theorem s253_254 {ls : List Value} {a : Int32} : ZW zG d 253 254 ls ([.int a]) z Q = ((a = 0 ∨ a = 1) ∧ Q (.inl (some (.int a))) z) := zw_retz rfl
theorem s253_255 {x0 x1 x2 x3 : Value} : ZW zG d 253 255 [x0, x1, x2, x3] st z Q = (zir x1 = true ∧ ZW zG d 253 256 [x0, x1, x2, x3] (x1 :: st) z Q) := zw_cond (f := z_aload 1 256) rfl rfl
theorem s253_256 {x0 x1 x2 x3 : Value} : ZW zG d 253 256 [x0, x1, x2, x3] st z Q = (zir x0 = true ∧ ZW zG d 253 257 [x0, x1, x2, x3] (x0 :: st) z Q) := zw_cond (f := z_aload 0 257) rfl rfl
theorem s253_257 {x0 x1 x2 : Value} {a : Int32} : ZW zG d 253 257 [x0, x1, x2, .int a] st z Q = ZW zG d 253 258 [x0, x1, x2, .int a] (.int a :: st) z Q := zw_next (f := z_iload 3 258) rfl rfl
theorem s253_258 {ls : List Value}  : ZW zG d 253 258 ls (st) z Q = ZW zG d 253 259 ls ((.int (nI 1)) :: st) z Q := zw_push rfl
theorem s253_259 {ls : List Value} {a b : Int32} : ZW zG d 253 259 ls (.int b :: .int a :: st) z Q = ZW zG d 253 260 ls (.int (a + b) :: st) z Q := zw_iadd rfl
theorem s253_260 {ls : List Value} {a : Int32} {r : Nat} : ZW zG d 253 260 ls (.int a :: .ref r :: st) z Q = ((zcls z r = 49 ∧ zin a (zlen z r) = true) ∧ ZW zG d 253 261 ls (.int (zia z r (zx a)) :: st) (z) Q) := zw_iald rfl
theorem s253_261 {ls : List Value} {w0 : Int32} {r : Nat} : ZW zG (d + 1) 253 261 ls (.int w0 :: .ref r :: st) z Q = (zcls z r = 0 ∧ zcs st = true ∧ ZC zG d 8 [.ref r, .int w0] z (zk zG (d + 1) 253 (none) 264 ls st Q)) := zc_V1 rfl (Nat.le_of_ble_eq_true rfl)
theorem s253_264 {x0 x1 x2 x3 : Value} : ZW zG d 253 264 [x0, x1, x2, x3] st z Q = (zir x2 = true ∧ ZW zG d 253 265 [x0, x1, x2, x3] (x2 :: st) z Q) := zw_cond (f := z_aload 2 265) rfl rfl
theorem s253_265 {x0 x1 x2 x3 : Value} : ZW zG d 253 265 [x0, x1, x2, x3] st z Q = (zir x0 = true ∧ ZW zG d 253 266 [x0, x1, x2, x3] (x0 :: st) z Q) := zw_cond (f := z_aload 0 266) rfl rfl
theorem s253_266 {x0 x1 x2 : Value} {a : Int32} : ZW zG d 253 266 [x0, x1, x2, .int a] st z Q = ZW zG d 253 267 [x0, x1, x2, .int a] (.int a :: st) z Q := zw_next (f := z_iload 3 267) rfl rfl
theorem s253_267 {ls : List Value}  : ZW zG d 253 267 ls (st) z Q = ZW zG d 253 268 ls ((.int (nI 1)) :: st) z Q := zw_push rfl
theorem s253_268 {ls : List Value} {a b : Int32} : ZW zG d 253 268 ls (.int b :: .int a :: st) z Q = ZW zG d 253 269 ls (.int (a + b) :: st) z Q := zw_iadd rfl
theorem s253_269 {ls : List Value} {a : Int32} {r : Nat} : ZW zG d 253 269 ls (.int a :: .ref r :: st) z Q = ((zcls z r = 49 ∧ zin a (zlen z r) = true) ∧ ZW zG d 253 270 ls (.int (zia z r (zx a)) :: st) (z) Q) := zw_iald rfl
theorem s253_270 {ls : List Value} {w0 : Int32} {r : Nat} : ZW zG (d + 1) 253 270 ls (.int w0 :: .ref r :: st) z Q = (zcls z r = 12 ∧ zcs st = true ∧ ZC zG d 117 [.ref r, .int w0] z (zk zG (d + 1) 253 (none) 273 ls st Q)) := zc_V1 rfl (Nat.le_of_ble_eq_true rfl)
theorem s253_273 {ls : List Value} {a b : Int32} : ZW zG d 253 273 ls (.int b :: .int a :: st) z Q = if a = b then ZW zG d 253 1350 ls st z Q else ZW zG d 253 276 ls st z Q := zw_iceq rfl
theorem s253_276 {ls : List Value}  : ZW zG d 253 276 ls (st) z Q = ZW zG d 253 277 ls ((.int (nI 0)) :: st) z Q := zw_push rfl
theorem s253_277 {ls : List Value} {a : Int32} : ZW zG d 253 277 ls ([.int a]) z Q = ((a = 0 ∨ a = 1) ∧ Q (.inl (some (.int a))) z) := zw_retz rfl
theorem s253_278 {x0 x1 x2 x3 : Value} : ZW zG d 253 278 [x0, x1, x2, x3] st z Q = (zir x1 = true ∧ ZW zG d 253 279 [x0, x1, x2, x3] (x1 :: st) z Q) := zw_cond (f := z_aload 1 279) rfl rfl
theorem s253_279 {ls : List Value}  {r : Nat} : ZW zG (d + 1) 253 279 ls (.ref r :: st) z Q = (zcls z r = 0 ∧ zcs st = true ∧ ZC zG d 9 [.ref r] z (zk zG (d + 1) 253 (none) 282 ls st Q)) := zc_V0 rfl (Nat.le_of_ble_eq_true rfl)
theorem s253_282 {x0 x1 x2 x3 : Value} : ZW zG d 253 282 [x0, x1, x2, x3] st z Q = (zir x2 = true ∧ ZW zG d 253 283 [x0, x1, x2, x3] (x2 :: st) z Q) := zw_cond (f := z_aload 2 283) rfl rfl
theorem s253_283 {ls : List Value}  {r : Nat} : ZW zG (d + 1) 253 283 ls (.ref r :: st) z Q = (zcls z r = 12 ∧ zcs st = true ∧ ZC zG d 119 [.ref r] z (zk zG (d + 1) 253 (none) 286 ls st Q)) := zc_V0 rfl (Nat.le_of_ble_eq_true rfl)
theorem s253_286 {ls : List Value} {a b : Int32} : ZW zG d 253 286 ls (.int b :: .int a :: st) z Q = if a = b then ZW zG d 253 1350 ls st z Q else ZW zG d 253 289 ls st z Q := zw_iceq rfl
theorem s253_289 {ls : List Value}  : ZW zG d 253 289 ls (st) z Q = ZW zG d 253 290 ls ((.int (nI 0)) :: st) z Q := zw_push rfl
theorem s253_290 {ls : List Value} {a : Int32} : ZW zG d 253 290 ls ([.int a]) z Q = ((a = 0 ∨ a = 1) ∧ Q (.inl (some (.int a))) z) := zw_retz rfl
theorem s253_291 {x0 x1 x2 x3 : Value} : ZW zG d 253 291 [x0, x1, x2, x3] st z Q = (zir x1 = true ∧ ZW zG d 253 292 [x0, x1, x2, x3] (x1 :: st) z Q) := zw_cond (f := z_aload 1 292) rfl rfl
theorem s253_292 {x0 x1 x2 x3 : Value} : ZW zG d 253 292 [x0, x1, x2, x3] st z Q = (zir x0 = true ∧ ZW zG d 253 293 [x0, x1, x2, x3] (x0 :: st) z Q) := zw_cond (f := z_aload 0 293) rfl rfl
theorem s253_293 {x0 x1 x2 : Value} {a : Int32} : ZW zG d 253 293 [x0, x1, x2, .int a] st z Q = ZW zG d 253 294 [x0, x1, x2, .int a] (.int a :: st) z Q := zw_next (f := z_iload 3 294) rfl rfl
theorem s253_294 {ls : List Value}  : ZW zG d 253 294 ls (st) z Q = ZW zG d 253 295 ls ((.int (nI 1)) :: st) z Q := zw_push rfl
theorem s253_295 {ls : List Value} {a b : Int32} : ZW zG d 253 295 ls (.int b :: .int a :: st) z Q = ZW zG d 253 296 ls (.int (a + b) :: st) z Q := zw_iadd rfl
theorem s253_296 {ls : List Value} {a : Int32} {r : Nat} : ZW zG d 253 296 ls (.int a :: .ref r :: st) z Q = ((zcls z r = 49 ∧ zin a (zlen z r) = true) ∧ ZW zG d 253 297 ls (.int (zia z r (zx a)) :: st) (z) Q) := zw_iald rfl
theorem s253_297 {ls : List Value} {w0 : Int32} {r : Nat} : ZW zG (d + 1) 253 297 ls (.int w0 :: .ref r :: st) z Q = (zcls z r = 0 ∧ zcs st = true ∧ ZC zG d 10 [.ref r, .int w0] z (zk zG (d + 1) 253 (none) 300 ls st Q)) := zc_V1 rfl (Nat.le_of_ble_eq_true rfl)
theorem s253_300 {x0 x1 x2 x3 : Value} : ZW zG d 253 300 [x0, x1, x2, x3] st z Q = (zir x2 = true ∧ ZW zG d 253 301 [x0, x1, x2, x3] (x2 :: st) z Q) := zw_cond (f := z_aload 2 301) rfl rfl
theorem s253_301 {x0 x1 x2 x3 : Value} : ZW zG d 253 301 [x0, x1, x2, x3] st z Q = (zir x0 = true ∧ ZW zG d 253 302 [x0, x1, x2, x3] (x0 :: st) z Q) := zw_cond (f := z_aload 0 302) rfl rfl
theorem s253_302 {x0 x1 x2 : Value} {a : Int32} : ZW zG d 253 302 [x0, x1, x2, .int a] st z Q = ZW zG d 253 303 [x0, x1, x2, .int a] (.int a :: st) z Q := zw_next (f := z_iload 3 303) rfl rfl
theorem s253_303 {ls : List Value}  : ZW zG d 253 303 ls (st) z Q = ZW zG d 253 304 ls ((.int (nI 1)) :: st) z Q := zw_push rfl
theorem s253_304 {ls : List Value} {a b : Int32} : ZW zG d 253 304 ls (.int b :: .int a :: st) z Q = ZW zG d 253 305 ls (.int (a + b) :: st) z Q := zw_iadd rfl
theorem s253_305 {ls : List Value} {a : Int32} {r : Nat} : ZW zG d 253 305 ls (.int a :: .ref r :: st) z Q = ((zcls z r = 49 ∧ zin a (zlen z r) = true) ∧ ZW zG d 253 306 ls (.int (zia z r (zx a)) :: st) (z) Q) := zw_iald rfl
theorem s253_306 {ls : List Value} {w0 : Int32} {r : Nat} : ZW zG (d + 1) 253 306 ls (.int w0 :: .ref r :: st) z Q = (zcls z r = 12 ∧ zcs st = true ∧ ZC zG d 118 [.ref r, .int w0] z (zk zG (d + 1) 253 (none) 309 ls st Q)) := zc_V1 rfl (Nat.le_of_ble_eq_true rfl)
theorem s253_309 {ls : List Value} {a b : Int32} : ZW zG d 253 309 ls (.int b :: .int a :: st) z Q = if a = b then ZW zG d 253 1350 ls st z Q else ZW zG d 253 312 ls st z Q := zw_iceq rfl
theorem s253_312 {ls : List Value}  : ZW zG d 253 312 ls (st) z Q = ZW zG d 253 313 ls ((.int (nI 0)) :: st) z Q := zw_push rfl
theorem s253_313 {ls : List Value} {a : Int32} : ZW zG d 253 313 ls ([.int a]) z Q = ((a = 0 ∨ a = 1) ∧ Q (.inl (some (.int a))) z) := zw_retz rfl
theorem s253_314 {x0 x1 x2 x3 : Value} : ZW zG d 253 314 [x0, x1, x2, x3] st z Q = (zir x1 = true ∧ ZW zG d 253 315 [x0, x1, x2, x3] (x1 :: st) z Q) := zw_cond (f := z_aload 1 315) rfl rfl
theorem s253_315 {x0 x1 x2 x3 : Value} : ZW zG d 253 315 [x0, x1, x2, x3] st z Q = (zir x0 = true ∧ ZW zG d 253 316 [x0, x1, x2, x3] (x0 :: st) z Q) := zw_cond (f := z_aload 0 316) rfl rfl
theorem s253_316 {x0 x1 x2 : Value} {a : Int32} : ZW zG d 253 316 [x0, x1, x2, .int a] st z Q = ZW zG d 253 317 [x0, x1, x2, .int a] (.int a :: st) z Q := zw_next (f := z_iload 3 317) rfl rfl
theorem s253_317 {ls : List Value}  : ZW zG d 253 317 ls (st) z Q = ZW zG d 253 318 ls ((.int (nI 1)) :: st) z Q := zw_push rfl
theorem s253_318 {ls : List Value} {a b : Int32} : ZW zG d 253 318 ls (.int b :: .int a :: st) z Q = ZW zG d 253 319 ls (.int (a + b) :: st) z Q := zw_iadd rfl
theorem s253_319 {ls : List Value} {a : Int32} {r : Nat} : ZW zG d 253 319 ls (.int a :: .ref r :: st) z Q = ((zcls z r = 49 ∧ zin a (zlen z r) = true) ∧ ZW zG d 253 320 ls (.int (zia z r (zx a)) :: st) (z) Q) := zw_iald rfl
theorem s253_320 {ls : List Value} {w0 : Int32} {r : Nat} : ZW zG (d + 1) 253 320 ls (.int w0 :: .ref r :: st) z Q = (zcls z r = 0 ∧ zcs st = true ∧ ZC zG d 11 [.ref r, .int w0] z (zk zG (d + 1) 253 (none) 323 ls st Q)) := zc_V1 rfl (Nat.le_of_ble_eq_true rfl)
theorem s253_323 {x0 x1 x2 x3 : Value} : ZW zG d 253 323 [x0, x1, x2, x3] st z Q = (zir x2 = true ∧ ZW zG d 253 324 [x0, x1, x2, x3] (x2 :: st) z Q) := zw_cond (f := z_aload 2 324) rfl rfl
theorem s253_324 {x0 x1 x2 x3 : Value} : ZW zG d 253 324 [x0, x1, x2, x3] st z Q = (zir x0 = true ∧ ZW zG d 253 325 [x0, x1, x2, x3] (x0 :: st) z Q) := zw_cond (f := z_aload 0 325) rfl rfl
theorem s253_325 {x0 x1 x2 : Value} {a : Int32} : ZW zG d 253 325 [x0, x1, x2, .int a] st z Q = ZW zG d 253 326 [x0, x1, x2, .int a] (.int a :: st) z Q := zw_next (f := z_iload 3 326) rfl rfl
theorem s253_326 {ls : List Value}  : ZW zG d 253 326 ls (st) z Q = ZW zG d 253 327 ls ((.int (nI 1)) :: st) z Q := zw_push rfl
theorem s253_327 {ls : List Value} {a b : Int32} : ZW zG d 253 327 ls (.int b :: .int a :: st) z Q = ZW zG d 253 328 ls (.int (a + b) :: st) z Q := zw_iadd rfl
theorem s253_328 {ls : List Value} {a : Int32} {r : Nat} : ZW zG d 253 328 ls (.int a :: .ref r :: st) z Q = ((zcls z r = 49 ∧ zin a (zlen z r) = true) ∧ ZW zG d 253 329 ls (.int (zia z r (zx a)) :: st) (z) Q) := zw_iald rfl
theorem s253_329 {ls : List Value} {w0 : Int32} {r : Nat} : ZW zG (d + 1) 253 329 ls (.int w0 :: .ref r :: st) z Q = (zcls z r = 12 ∧ zcs st = true ∧ ZC zG d 140 [.ref r, .int w0] z (zk zG (d + 1) 253 (none) 332 ls st Q)) := zc_V1 rfl (Nat.le_of_ble_eq_true rfl)
theorem s253_332 {ls : List Value} {a b : Int32} : ZW zG d 253 332 ls (.int b :: .int a :: st) z Q = if a = b then ZW zG d 253 1350 ls st z Q else ZW zG d 253 335 ls st z Q := zw_iceq rfl
theorem s253_335 {ls : List Value}  : ZW zG d 253 335 ls (st) z Q = ZW zG d 253 336 ls ((.int (nI 0)) :: st) z Q := zw_push rfl
theorem s253_336 {ls : List Value} {a : Int32} : ZW zG d 253 336 ls ([.int a]) z Q = ((a = 0 ∨ a = 1) ∧ Q (.inl (some (.int a))) z) := zw_retz rfl
theorem s253_337 {x0 x1 x2 x3 : Value} : ZW zG d 253 337 [x0, x1, x2, x3] st z Q = (zir x1 = true ∧ ZW zG d 253 338 [x0, x1, x2, x3] (x1 :: st) z Q) := zw_cond (f := z_aload 1 338) rfl rfl
theorem s253_338 {x0 x1 x2 x3 : Value} : ZW zG d 253 338 [x0, x1, x2, x3] st z Q = (zir x0 = true ∧ ZW zG d 253 339 [x0, x1, x2, x3] (x0 :: st) z Q) := zw_cond (f := z_aload 0 339) rfl rfl
theorem s253_339 {x0 x1 x2 : Value} {a : Int32} : ZW zG d 253 339 [x0, x1, x2, .int a] st z Q = ZW zG d 253 340 [x0, x1, x2, .int a] (.int a :: st) z Q := zw_next (f := z_iload 3 340) rfl rfl
theorem s253_340 {ls : List Value}  : ZW zG d 253 340 ls (st) z Q = ZW zG d 253 341 ls ((.int (nI 1)) :: st) z Q := zw_push rfl
theorem s253_341 {ls : List Value} {a b : Int32} : ZW zG d 253 341 ls (.int b :: .int a :: st) z Q = ZW zG d 253 342 ls (.int (a + b) :: st) z Q := zw_iadd rfl
theorem s253_342 {ls : List Value} {a : Int32} {r : Nat} : ZW zG d 253 342 ls (.int a :: .ref r :: st) z Q = ((zcls z r = 49 ∧ zin a (zlen z r) = true) ∧ ZW zG d 253 343 ls (.int (zia z r (zx a)) :: st) (z) Q) := zw_iald rfl
theorem s253_343 {x0 x1 x2 x3 : Value} : ZW zG d 253 343 [x0, x1, x2, x3] st z Q = (zir x0 = true ∧ ZW zG d 253 344 [x0, x1, x2, x3] (x0 :: st) z Q) := zw_cond (f := z_aload 0 344) rfl rfl
theorem s253_344 {x0 x1 x2 : Value} {a : Int32} : ZW zG d 253 344 [x0, x1, x2, .int a] st z Q = ZW zG d 253 345 [x0, x1, x2, .int a] (.int a :: st) z Q := zw_next (f := z_iload 3 345) rfl rfl
theorem s253_345 {ls : List Value}  : ZW zG d 253 345 ls (st) z Q = ZW zG d 253 346 ls ((.int (nI 2)) :: st) z Q := zw_push rfl
theorem s253_346 {ls : List Value} {a b : Int32} : ZW zG d 253 346 ls (.int b :: .int a :: st) z Q = ZW zG d 253 347 ls (.int (a + b) :: st) z Q := zw_iadd rfl
theorem s253_347 {ls : List Value} {a : Int32} {r : Nat} : ZW zG d 253 347 ls (.int a :: .ref r :: st) z Q = ((zcls z r = 49 ∧ zin a (zlen z r) = true) ∧ ZW zG d 253 348 ls (.int (zia z r (zx a)) :: st) (z) Q) := zw_iald rfl
theorem s253_348 {x0 x1 x2 x3 : Value} : ZW zG d 253 348 [x0, x1, x2, x3] st z Q = (zir x0 = true ∧ ZW zG d 253 349 [x0, x1, x2, x3] (x0 :: st) z Q) := zw_cond (f := z_aload 0 349) rfl rfl
theorem s253_349 {x0 x1 x2 : Value} {a : Int32} : ZW zG d 253 349 [x0, x1, x2, .int a] st z Q = ZW zG d 253 350 [x0, x1, x2, .int a] (.int a :: st) z Q := zw_next (f := z_iload 3 350) rfl rfl
theorem s253_350 {ls : List Value}  : ZW zG d 253 350 ls (st) z Q = ZW zG d 253 351 ls ((.int (nI 3)) :: st) z Q := zw_push rfl
theorem s253_351 {ls : List Value} {a b : Int32} : ZW zG d 253 351 ls (.int b :: .int a :: st) z Q = ZW zG d 253 352 ls (.int (a + b) :: st) z Q := zw_iadd rfl
theorem s253_352 {ls : List Value} {a : Int32} {r : Nat} : ZW zG d 253 352 ls (.int a :: .ref r :: st) z Q = ((zcls z r = 49 ∧ zin a (zlen z r) = true) ∧ ZW zG d 253 353 ls (.int (zia z r (zx a)) :: st) (z) Q) := zw_iald rfl
theorem s253_353 {ls : List Value} {w0 : Int32} {w1 : Int32} {w2 : Int32} {r : Nat} : ZW zG (d + 1) 253 353 ls (.int w2 :: .int w1 :: .int w0 :: .ref r :: st) z Q = (zcls z r = 0 ∧ zcs st = true ∧ ZC zG d 12 [.ref r, .int w0, .int w1, .int w2] z (zk zG (d + 1) 253 (none) 356 ls st Q)) := zc_V3 rfl (Nat.le_of_ble_eq_true rfl)
theorem s253_356 {x0 x1 x2 x3 : Value} : ZW zG d 253 356 [x0, x1, x2, x3] st z Q = (zir x2 = true ∧ ZW zG d 253 357 [x0, x1, x2, x3] (x2 :: st) z Q) := zw_cond (f := z_aload 2 357) rfl rfl
theorem s253_357 {x0 x1 x2 x3 : Value} : ZW zG d 253 357 [x0, x1, x2, x3] st z Q = (zir x0 = true ∧ ZW zG d 253 358 [x0, x1, x2, x3] (x0 :: st) z Q) := zw_cond (f := z_aload 0 358) rfl rfl
theorem s253_358 {x0 x1 x2 : Value} {a : Int32} : ZW zG d 253 358 [x0, x1, x2, .int a] st z Q = ZW zG d 253 359 [x0, x1, x2, .int a] (.int a :: st) z Q := zw_next (f := z_iload 3 359) rfl rfl
theorem s253_359 {ls : List Value}  : ZW zG d 253 359 ls (st) z Q = ZW zG d 253 360 ls ((.int (nI 1)) :: st) z Q := zw_push rfl
theorem s253_360 {ls : List Value} {a b : Int32} : ZW zG d 253 360 ls (.int b :: .int a :: st) z Q = ZW zG d 253 361 ls (.int (a + b) :: st) z Q := zw_iadd rfl
theorem s253_361 {ls : List Value} {a : Int32} {r : Nat} : ZW zG d 253 361 ls (.int a :: .ref r :: st) z Q = ((zcls z r = 49 ∧ zin a (zlen z r) = true) ∧ ZW zG d 253 362 ls (.int (zia z r (zx a)) :: st) (z) Q) := zw_iald rfl
theorem s253_362 {x0 x1 x2 x3 : Value} : ZW zG d 253 362 [x0, x1, x2, x3] st z Q = (zir x0 = true ∧ ZW zG d 253 363 [x0, x1, x2, x3] (x0 :: st) z Q) := zw_cond (f := z_aload 0 363) rfl rfl
theorem s253_363 {x0 x1 x2 : Value} {a : Int32} : ZW zG d 253 363 [x0, x1, x2, .int a] st z Q = ZW zG d 253 364 [x0, x1, x2, .int a] (.int a :: st) z Q := zw_next (f := z_iload 3 364) rfl rfl
theorem s253_364 {ls : List Value}  : ZW zG d 253 364 ls (st) z Q = ZW zG d 253 365 ls ((.int (nI 2)) :: st) z Q := zw_push rfl
theorem s253_365 {ls : List Value} {a b : Int32} : ZW zG d 253 365 ls (.int b :: .int a :: st) z Q = ZW zG d 253 366 ls (.int (a + b) :: st) z Q := zw_iadd rfl
theorem s253_366 {ls : List Value} {a : Int32} {r : Nat} : ZW zG d 253 366 ls (.int a :: .ref r :: st) z Q = ((zcls z r = 49 ∧ zin a (zlen z r) = true) ∧ ZW zG d 253 367 ls (.int (zia z r (zx a)) :: st) (z) Q) := zw_iald rfl
theorem s253_367 {x0 x1 x2 x3 : Value} : ZW zG d 253 367 [x0, x1, x2, x3] st z Q = (zir x0 = true ∧ ZW zG d 253 368 [x0, x1, x2, x3] (x0 :: st) z Q) := zw_cond (f := z_aload 0 368) rfl rfl
theorem s253_368 {x0 x1 x2 : Value} {a : Int32} : ZW zG d 253 368 [x0, x1, x2, .int a] st z Q = ZW zG d 253 369 [x0, x1, x2, .int a] (.int a :: st) z Q := zw_next (f := z_iload 3 369) rfl rfl
theorem s253_369 {ls : List Value}  : ZW zG d 253 369 ls (st) z Q = ZW zG d 253 370 ls ((.int (nI 3)) :: st) z Q := zw_push rfl
theorem s253_370 {ls : List Value} {a b : Int32} : ZW zG d 253 370 ls (.int b :: .int a :: st) z Q = ZW zG d 253 371 ls (.int (a + b) :: st) z Q := zw_iadd rfl
theorem s253_371 {ls : List Value} {a : Int32} {r : Nat} : ZW zG d 253 371 ls (.int a :: .ref r :: st) z Q = ((zcls z r = 49 ∧ zin a (zlen z r) = true) ∧ ZW zG d 253 372 ls (.int (zia z r (zx a)) :: st) (z) Q) := zw_iald rfl
theorem s253_372 {ls : List Value} {w0 : Int32} {w1 : Int32} {w2 : Int32} {r : Nat} : ZW zG (d + 1) 253 372 ls (.int w2 :: .int w1 :: .int w0 :: .ref r :: st) z Q = (zcls z r = 12 ∧ zcs st = true ∧ ZC zG d 142 [.ref r, .int w0, .int w1, .int w2] z (zk zG (d + 1) 253 (none) 375 ls st Q)) := zc_V3 rfl (Nat.le_of_ble_eq_true rfl)
theorem s253_375 {ls : List Value} {a b : Int32} : ZW zG d 253 375 ls (.int b :: .int a :: st) z Q = if a = b then ZW zG d 253 1350 ls st z Q else ZW zG d 253 378 ls st z Q := zw_iceq rfl
theorem s253_378 {ls : List Value}  : ZW zG d 253 378 ls (st) z Q = ZW zG d 253 379 ls ((.int (nI 0)) :: st) z Q := zw_push rfl
theorem s253_379 {ls : List Value} {a : Int32} : ZW zG d 253 379 ls ([.int a]) z Q = ((a = 0 ∨ a = 1) ∧ Q (.inl (some (.int a))) z) := zw_retz rfl
theorem s253_380 {x0 x1 x2 x3 : Value} : ZW zG d 253 380 [x0, x1, x2, x3] st z Q = (zir x1 = true ∧ ZW zG d 253 381 [x0, x1, x2, x3] (x1 :: st) z Q) := zw_cond (f := z_aload 1 381) rfl rfl
theorem s253_381 {x0 x1 x2 x3 : Value} : ZW zG d 253 381 [x0, x1, x2, x3] st z Q = (zir x0 = true ∧ ZW zG d 253 382 [x0, x1, x2, x3] (x0 :: st) z Q) := zw_cond (f := z_aload 0 382) rfl rfl
theorem s253_382 {x0 x1 x2 : Value} {a : Int32} : ZW zG d 253 382 [x0, x1, x2, .int a] st z Q = ZW zG d 253 383 [x0, x1, x2, .int a] (.int a :: st) z Q := zw_next (f := z_iload 3 383) rfl rfl
theorem s253_383 {ls : List Value}  : ZW zG d 253 383 ls (st) z Q = ZW zG d 253 384 ls ((.int (nI 1)) :: st) z Q := zw_push rfl
theorem s253_384 {ls : List Value} {a b : Int32} : ZW zG d 253 384 ls (.int b :: .int a :: st) z Q = ZW zG d 253 385 ls (.int (a + b) :: st) z Q := zw_iadd rfl
theorem s253_385 {ls : List Value} {a : Int32} {r : Nat} : ZW zG d 253 385 ls (.int a :: .ref r :: st) z Q = ((zcls z r = 49 ∧ zin a (zlen z r) = true) ∧ ZW zG d 253 386 ls (.int (zia z r (zx a)) :: st) (z) Q) := zw_iald rfl
theorem s253_386 {x0 x1 x2 x3 : Value} : ZW zG d 253 386 [x0, x1, x2, x3] st z Q = (zir x0 = true ∧ ZW zG d 253 387 [x0, x1, x2, x3] (x0 :: st) z Q) := zw_cond (f := z_aload 0 387) rfl rfl
theorem s253_387 {x0 x1 x2 : Value} {a : Int32} : ZW zG d 253 387 [x0, x1, x2, .int a] st z Q = ZW zG d 253 388 [x0, x1, x2, .int a] (.int a :: st) z Q := zw_next (f := z_iload 3 388) rfl rfl
theorem s253_388 {ls : List Value}  : ZW zG d 253 388 ls (st) z Q = ZW zG d 253 389 ls ((.int (nI 2)) :: st) z Q := zw_push rfl
theorem s253_389 {ls : List Value} {a b : Int32} : ZW zG d 253 389 ls (.int b :: .int a :: st) z Q = ZW zG d 253 390 ls (.int (a + b) :: st) z Q := zw_iadd rfl
theorem s253_390 {ls : List Value} {a : Int32} {r : Nat} : ZW zG d 253 390 ls (.int a :: .ref r :: st) z Q = ((zcls z r = 49 ∧ zin a (zlen z r) = true) ∧ ZW zG d 253 391 ls (.int (zia z r (zx a)) :: st) (z) Q) := zw_iald rfl
theorem s253_391 {x0 x1 x2 x3 : Value} : ZW zG d 253 391 [x0, x1, x2, x3] st z Q = (zir x0 = true ∧ ZW zG d 253 392 [x0, x1, x2, x3] (x0 :: st) z Q) := zw_cond (f := z_aload 0 392) rfl rfl
theorem s253_392 {x0 x1 x2 : Value} {a : Int32} : ZW zG d 253 392 [x0, x1, x2, .int a] st z Q = ZW zG d 253 393 [x0, x1, x2, .int a] (.int a :: st) z Q := zw_next (f := z_iload 3 393) rfl rfl
theorem s253_393 {ls : List Value}  : ZW zG d 253 393 ls (st) z Q = ZW zG d 253 394 ls ((.int (nI 3)) :: st) z Q := zw_push rfl
theorem s253_394 {ls : List Value} {a b : Int32} : ZW zG d 253 394 ls (.int b :: .int a :: st) z Q = ZW zG d 253 395 ls (.int (a + b) :: st) z Q := zw_iadd rfl
theorem s253_395 {ls : List Value} {a : Int32} {r : Nat} : ZW zG d 253 395 ls (.int a :: .ref r :: st) z Q = ((zcls z r = 49 ∧ zin a (zlen z r) = true) ∧ ZW zG d 253 396 ls (.int (zia z r (zx a)) :: st) (z) Q) := zw_iald rfl
theorem s253_396 {ls : List Value} {w0 : Int32} {w1 : Int32} {w2 : Int32} {r : Nat} : ZW zG (d + 1) 253 396 ls (.int w2 :: .int w1 :: .int w0 :: .ref r :: st) z Q = (zcls z r = 0 ∧ zcs st = true ∧ ZC zG d 20 [.ref r, .int w0, .int w1, .int w2] z (zk zG (d + 1) 253 (none) 399 ls st Q)) := zc_V3 rfl (Nat.le_of_ble_eq_true rfl)
theorem s253_399 {x0 x1 x2 x3 : Value} : ZW zG d 253 399 [x0, x1, x2, x3] st z Q = (zir x2 = true ∧ ZW zG d 253 400 [x0, x1, x2, x3] (x2 :: st) z Q) := zw_cond (f := z_aload 2 400) rfl rfl
theorem s253_400 {x0 x1 x2 x3 : Value} : ZW zG d 253 400 [x0, x1, x2, x3] st z Q = (zir x0 = true ∧ ZW zG d 253 401 [x0, x1, x2, x3] (x0 :: st) z Q) := zw_cond (f := z_aload 0 401) rfl rfl
theorem s253_401 {x0 x1 x2 : Value} {a : Int32} : ZW zG d 253 401 [x0, x1, x2, .int a] st z Q = ZW zG d 253 402 [x0, x1, x2, .int a] (.int a :: st) z Q := zw_next (f := z_iload 3 402) rfl rfl
theorem s253_402 {ls : List Value}  : ZW zG d 253 402 ls (st) z Q = ZW zG d 253 403 ls ((.int (nI 1)) :: st) z Q := zw_push rfl
theorem s253_403 {ls : List Value} {a b : Int32} : ZW zG d 253 403 ls (.int b :: .int a :: st) z Q = ZW zG d 253 404 ls (.int (a + b) :: st) z Q := zw_iadd rfl
theorem s253_404 {ls : List Value} {a : Int32} {r : Nat} : ZW zG d 253 404 ls (.int a :: .ref r :: st) z Q = ((zcls z r = 49 ∧ zin a (zlen z r) = true) ∧ ZW zG d 253 405 ls (.int (zia z r (zx a)) :: st) (z) Q) := zw_iald rfl
theorem s253_405 {x0 x1 x2 x3 : Value} : ZW zG d 253 405 [x0, x1, x2, x3] st z Q = (zir x0 = true ∧ ZW zG d 253 406 [x0, x1, x2, x3] (x0 :: st) z Q) := zw_cond (f := z_aload 0 406) rfl rfl
theorem s253_406 {x0 x1 x2 : Value} {a : Int32} : ZW zG d 253 406 [x0, x1, x2, .int a] st z Q = ZW zG d 253 407 [x0, x1, x2, .int a] (.int a :: st) z Q := zw_next (f := z_iload 3 407) rfl rfl
theorem s253_407 {ls : List Value}  : ZW zG d 253 407 ls (st) z Q = ZW zG d 253 408 ls ((.int (nI 2)) :: st) z Q := zw_push rfl
theorem s253_408 {ls : List Value} {a b : Int32} : ZW zG d 253 408 ls (.int b :: .int a :: st) z Q = ZW zG d 253 409 ls (.int (a + b) :: st) z Q := zw_iadd rfl
theorem s253_409 {ls : List Value} {a : Int32} {r : Nat} : ZW zG d 253 409 ls (.int a :: .ref r :: st) z Q = ((zcls z r = 49 ∧ zin a (zlen z r) = true) ∧ ZW zG d 253 410 ls (.int (zia z r (zx a)) :: st) (z) Q) := zw_iald rfl
theorem s253_410 {x0 x1 x2 x3 : Value} : ZW zG d 253 410 [x0, x1, x2, x3] st z Q = (zir x0 = true ∧ ZW zG d 253 411 [x0, x1, x2, x3] (x0 :: st) z Q) := zw_cond (f := z_aload 0 411) rfl rfl
theorem s253_411 {x0 x1 x2 : Value} {a : Int32} : ZW zG d 253 411 [x0, x1, x2, .int a] st z Q = ZW zG d 253 412 [x0, x1, x2, .int a] (.int a :: st) z Q := zw_next (f := z_iload 3 412) rfl rfl
theorem s253_412 {ls : List Value}  : ZW zG d 253 412 ls (st) z Q = ZW zG d 253 413 ls ((.int (nI 3)) :: st) z Q := zw_push rfl
theorem s253_413 {ls : List Value} {a b : Int32} : ZW zG d 253 413 ls (.int b :: .int a :: st) z Q = ZW zG d 253 414 ls (.int (a + b) :: st) z Q := zw_iadd rfl
theorem s253_414 {ls : List Value} {a : Int32} {r : Nat} : ZW zG d 253 414 ls (.int a :: .ref r :: st) z Q = ((zcls z r = 49 ∧ zin a (zlen z r) = true) ∧ ZW zG d 253 415 ls (.int (zia z r (zx a)) :: st) (z) Q) := zw_iald rfl
theorem s253_415 {ls : List Value} {w0 : Int32} {w1 : Int32} {w2 : Int32} {r : Nat} : ZW zG (d + 1) 253 415 ls (.int w2 :: .int w1 :: .int w0 :: .ref r :: st) z Q = (zcls z r = 12 ∧ zcs st = true ∧ ZC zG d 154 [.ref r, .int w0, .int w1, .int w2] z (zk zG (d + 1) 253 (none) 418 ls st Q)) := zc_V3 rfl (Nat.le_of_ble_eq_true rfl)
theorem s253_418 {ls : List Value} {a b : Int32} : ZW zG d 253 418 ls (.int b :: .int a :: st) z Q = if a = b then ZW zG d 253 1350 ls st z Q else ZW zG d 253 421 ls st z Q := zw_iceq rfl
theorem s253_421 {ls : List Value}  : ZW zG d 253 421 ls (st) z Q = ZW zG d 253 422 ls ((.int (nI 0)) :: st) z Q := zw_push rfl
theorem s253_422 {ls : List Value} {a : Int32} : ZW zG d 253 422 ls ([.int a]) z Q = ((a = 0 ∨ a = 1) ∧ Q (.inl (some (.int a))) z) := zw_retz rfl
theorem s253_423 {x0 x1 x2 x3 : Value} : ZW zG d 253 423 [x0, x1, x2, x3] st z Q = (zir x1 = true ∧ ZW zG d 253 424 [x0, x1, x2, x3] (x1 :: st) z Q) := zw_cond (f := z_aload 1 424) rfl rfl
theorem s253_424 {x0 x1 x2 x3 : Value} : ZW zG d 253 424 [x0, x1, x2, x3] st z Q = (zir x0 = true ∧ ZW zG d 253 425 [x0, x1, x2, x3] (x0 :: st) z Q) := zw_cond (f := z_aload 0 425) rfl rfl
theorem s253_425 {x0 x1 x2 : Value} {a : Int32} : ZW zG d 253 425 [x0, x1, x2, .int a] st z Q = ZW zG d 253 426 [x0, x1, x2, .int a] (.int a :: st) z Q := zw_next (f := z_iload 3 426) rfl rfl
theorem s253_426 {ls : List Value}  : ZW zG d 253 426 ls (st) z Q = ZW zG d 253 427 ls ((.int (nI 1)) :: st) z Q := zw_push rfl
theorem s253_427 {ls : List Value} {a b : Int32} : ZW zG d 253 427 ls (.int b :: .int a :: st) z Q = ZW zG d 253 428 ls (.int (a + b) :: st) z Q := zw_iadd rfl
theorem s253_428 {ls : List Value} {a : Int32} {r : Nat} : ZW zG d 253 428 ls (.int a :: .ref r :: st) z Q = ((zcls z r = 49 ∧ zin a (zlen z r) = true) ∧ ZW zG d 253 429 ls (.int (zia z r (zx a)) :: st) (z) Q) := zw_iald rfl
theorem s253_429 {x0 x1 x2 x3 : Value} : ZW zG d 253 429 [x0, x1, x2, x3] st z Q = (zir x0 = true ∧ ZW zG d 253 430 [x0, x1, x2, x3] (x0 :: st) z Q) := zw_cond (f := z_aload 0 430) rfl rfl
theorem s253_430 {x0 x1 x2 : Value} {a : Int32} : ZW zG d 253 430 [x0, x1, x2, .int a] st z Q = ZW zG d 253 431 [x0, x1, x2, .int a] (.int a :: st) z Q := zw_next (f := z_iload 3 431) rfl rfl
theorem s253_431 {ls : List Value}  : ZW zG d 253 431 ls (st) z Q = ZW zG d 253 432 ls ((.int (nI 2)) :: st) z Q := zw_push rfl
theorem s253_432 {ls : List Value} {a b : Int32} : ZW zG d 253 432 ls (.int b :: .int a :: st) z Q = ZW zG d 253 433 ls (.int (a + b) :: st) z Q := zw_iadd rfl
theorem s253_433 {ls : List Value} {a : Int32} {r : Nat} : ZW zG d 253 433 ls (.int a :: .ref r :: st) z Q = ((zcls z r = 49 ∧ zin a (zlen z r) = true) ∧ ZW zG d 253 434 ls (.int (zia z r (zx a)) :: st) (z) Q) := zw_iald rfl
theorem s253_434 {ls : List Value} {w0 : Int32} {w1 : Int32} {r : Nat} : ZW zG (d + 1) 253 434 ls (.int w1 :: .int w0 :: .ref r :: st) z Q = (zcls z r = 0 ∧ zcs st = true ∧ ZC zG d 21 [.ref r, .int w0, .int w1] z (zk zG (d + 1) 253 (none) 437 ls st Q)) := zc_V2 rfl (Nat.le_of_ble_eq_true rfl)
theorem s253_437 {x0 x1 x2 x3 : Value} : ZW zG d 253 437 [x0, x1, x2, x3] st z Q = (zir x2 = true ∧ ZW zG d 253 438 [x0, x1, x2, x3] (x2 :: st) z Q) := zw_cond (f := z_aload 2 438) rfl rfl
theorem s253_438 {x0 x1 x2 x3 : Value} : ZW zG d 253 438 [x0, x1, x2, x3] st z Q = (zir x0 = true ∧ ZW zG d 253 439 [x0, x1, x2, x3] (x0 :: st) z Q) := zw_cond (f := z_aload 0 439) rfl rfl
theorem s253_439 {x0 x1 x2 : Value} {a : Int32} : ZW zG d 253 439 [x0, x1, x2, .int a] st z Q = ZW zG d 253 440 [x0, x1, x2, .int a] (.int a :: st) z Q := zw_next (f := z_iload 3 440) rfl rfl
theorem s253_440 {ls : List Value}  : ZW zG d 253 440 ls (st) z Q = ZW zG d 253 441 ls ((.int (nI 1)) :: st) z Q := zw_push rfl
theorem s253_441 {ls : List Value} {a b : Int32} : ZW zG d 253 441 ls (.int b :: .int a :: st) z Q = ZW zG d 253 442 ls (.int (a + b) :: st) z Q := zw_iadd rfl
theorem s253_442 {ls : List Value} {a : Int32} {r : Nat} : ZW zG d 253 442 ls (.int a :: .ref r :: st) z Q = ((zcls z r = 49 ∧ zin a (zlen z r) = true) ∧ ZW zG d 253 443 ls (.int (zia z r (zx a)) :: st) (z) Q) := zw_iald rfl
theorem s253_443 {x0 x1 x2 x3 : Value} : ZW zG d 253 443 [x0, x1, x2, x3] st z Q = (zir x0 = true ∧ ZW zG d 253 444 [x0, x1, x2, x3] (x0 :: st) z Q) := zw_cond (f := z_aload 0 444) rfl rfl
theorem s253_444 {x0 x1 x2 : Value} {a : Int32} : ZW zG d 253 444 [x0, x1, x2, .int a] st z Q = ZW zG d 253 445 [x0, x1, x2, .int a] (.int a :: st) z Q := zw_next (f := z_iload 3 445) rfl rfl
theorem s253_445 {ls : List Value}  : ZW zG d 253 445 ls (st) z Q = ZW zG d 253 446 ls ((.int (nI 2)) :: st) z Q := zw_push rfl
theorem s253_446 {ls : List Value} {a b : Int32} : ZW zG d 253 446 ls (.int b :: .int a :: st) z Q = ZW zG d 253 447 ls (.int (a + b) :: st) z Q := zw_iadd rfl
theorem s253_447 {ls : List Value} {a : Int32} {r : Nat} : ZW zG d 253 447 ls (.int a :: .ref r :: st) z Q = ((zcls z r = 49 ∧ zin a (zlen z r) = true) ∧ ZW zG d 253 448 ls (.int (zia z r (zx a)) :: st) (z) Q) := zw_iald rfl
theorem s253_448 {ls : List Value} {w0 : Int32} {w1 : Int32} {r : Nat} : ZW zG (d + 1) 253 448 ls (.int w1 :: .int w0 :: .ref r :: st) z Q = (zcls z r = 12 ∧ zcs st = true ∧ ZC zG d 167 [.ref r, .int w0, .int w1] z (zk zG (d + 1) 253 (none) 451 ls st Q)) := zc_V2 rfl (Nat.le_of_ble_eq_true rfl)
theorem s253_451 {ls : List Value} {a b : Int32} : ZW zG d 253 451 ls (.int b :: .int a :: st) z Q = if a = b then ZW zG d 253 1350 ls st z Q else ZW zG d 253 454 ls st z Q := zw_iceq rfl
theorem s253_454 {ls : List Value}  : ZW zG d 253 454 ls (st) z Q = ZW zG d 253 455 ls ((.int (nI 0)) :: st) z Q := zw_push rfl
theorem s253_455 {ls : List Value} {a : Int32} : ZW zG d 253 455 ls ([.int a]) z Q = ((a = 0 ∨ a = 1) ∧ Q (.inl (some (.int a))) z) := zw_retz rfl
theorem s253_456 {x0 x1 x2 x3 : Value} : ZW zG d 253 456 [x0, x1, x2, x3] st z Q = (zir x1 = true ∧ ZW zG d 253 457 [x0, x1, x2, x3] (x1 :: st) z Q) := zw_cond (f := z_aload 1 457) rfl rfl
theorem s253_457 {x0 x1 x2 x3 : Value} : ZW zG d 253 457 [x0, x1, x2, x3] st z Q = (zir x0 = true ∧ ZW zG d 253 458 [x0, x1, x2, x3] (x0 :: st) z Q) := zw_cond (f := z_aload 0 458) rfl rfl
theorem s253_458 {x0 x1 x2 : Value} {a : Int32} : ZW zG d 253 458 [x0, x1, x2, .int a] st z Q = ZW zG d 253 459 [x0, x1, x2, .int a] (.int a :: st) z Q := zw_next (f := z_iload 3 459) rfl rfl
theorem s253_459 {ls : List Value}  : ZW zG d 253 459 ls (st) z Q = ZW zG d 253 460 ls ((.int (nI 1)) :: st) z Q := zw_push rfl
theorem s253_460 {ls : List Value} {a b : Int32} : ZW zG d 253 460 ls (.int b :: .int a :: st) z Q = ZW zG d 253 461 ls (.int (a + b) :: st) z Q := zw_iadd rfl
theorem s253_461 {ls : List Value} {a : Int32} {r : Nat} : ZW zG d 253 461 ls (.int a :: .ref r :: st) z Q = ((zcls z r = 49 ∧ zin a (zlen z r) = true) ∧ ZW zG d 253 462 ls (.int (zia z r (zx a)) :: st) (z) Q) := zw_iald rfl
theorem s253_462 {ls : List Value} {w0 : Int32} {r : Nat} : ZW zG (d + 1) 253 462 ls (.int w0 :: .ref r :: st) z Q = (zcls z r = 0 ∧ zcs st = true ∧ ZC zG d 22 [.ref r, .int w0] z (zk zG (d + 1) 253 (none) 465 ls st Q)) := zc_V1 rfl (Nat.le_of_ble_eq_true rfl)
theorem s253_465 {x0 x1 x2 x3 : Value} : ZW zG d 253 465 [x0, x1, x2, x3] st z Q = (zir x2 = true ∧ ZW zG d 253 466 [x0, x1, x2, x3] (x2 :: st) z Q) := zw_cond (f := z_aload 2 466) rfl rfl
theorem s253_466 {x0 x1 x2 x3 : Value} : ZW zG d 253 466 [x0, x1, x2, x3] st z Q = (zir x0 = true ∧ ZW zG d 253 467 [x0, x1, x2, x3] (x0 :: st) z Q) := zw_cond (f := z_aload 0 467) rfl rfl
theorem s253_467 {x0 x1 x2 : Value} {a : Int32} : ZW zG d 253 467 [x0, x1, x2, .int a] st z Q = ZW zG d 253 468 [x0, x1, x2, .int a] (.int a :: st) z Q := zw_next (f := z_iload 3 468) rfl rfl
theorem s253_468 {ls : List Value}  : ZW zG d 253 468 ls (st) z Q = ZW zG d 253 469 ls ((.int (nI 1)) :: st) z Q := zw_push rfl
theorem s253_469 {ls : List Value} {a b : Int32} : ZW zG d 253 469 ls (.int b :: .int a :: st) z Q = ZW zG d 253 470 ls (.int (a + b) :: st) z Q := zw_iadd rfl
theorem s253_470 {ls : List Value} {a : Int32} {r : Nat} : ZW zG d 253 470 ls (.int a :: .ref r :: st) z Q = ((zcls z r = 49 ∧ zin a (zlen z r) = true) ∧ ZW zG d 253 471 ls (.int (zia z r (zx a)) :: st) (z) Q) := zw_iald rfl
theorem s253_471 {ls : List Value} {w0 : Int32} {r : Nat} : ZW zG (d + 1) 253 471 ls (.int w0 :: .ref r :: st) z Q = (zcls z r = 12 ∧ zcs st = true ∧ ZC zG d 168 [.ref r, .int w0] z (zk zG (d + 1) 253 (none) 474 ls st Q)) := zc_V1 rfl (Nat.le_of_ble_eq_true rfl)
theorem s253_474 {ls : List Value} {a b : Int32} : ZW zG d 253 474 ls (.int b :: .int a :: st) z Q = if a = b then ZW zG d 253 1350 ls st z Q else ZW zG d 253 477 ls st z Q := zw_iceq rfl
theorem s253_477 {ls : List Value}  : ZW zG d 253 477 ls (st) z Q = ZW zG d 253 478 ls ((.int (nI 0)) :: st) z Q := zw_push rfl
theorem s253_478 {ls : List Value} {a : Int32} : ZW zG d 253 478 ls ([.int a]) z Q = ((a = 0 ∨ a = 1) ∧ Q (.inl (some (.int a))) z) := zw_retz rfl
theorem s253_479 {x0 x1 x2 x3 : Value} : ZW zG d 253 479 [x0, x1, x2, x3] st z Q = (zir x1 = true ∧ ZW zG d 253 480 [x0, x1, x2, x3] (x1 :: st) z Q) := zw_cond (f := z_aload 1 480) rfl rfl
theorem s253_480 {x0 x1 x2 x3 : Value} : ZW zG d 253 480 [x0, x1, x2, x3] st z Q = (zir x0 = true ∧ ZW zG d 253 481 [x0, x1, x2, x3] (x0 :: st) z Q) := zw_cond (f := z_aload 0 481) rfl rfl
theorem s253_481 {x0 x1 x2 : Value} {a : Int32} : ZW zG d 253 481 [x0, x1, x2, .int a] st z Q = ZW zG d 253 482 [x0, x1, x2, .int a] (.int a :: st) z Q := zw_next (f := z_iload 3 482) rfl rfl
theorem s253_482 {ls : List Value}  : ZW zG d 253 482 ls (st) z Q = ZW zG d 253 483 ls ((.int (nI 1)) :: st) z Q := zw_push rfl
theorem s253_483 {ls : List Value} {a b : Int32} : ZW zG d 253 483 ls (.int b :: .int a :: st) z Q = ZW zG d 253 484 ls (.int (a + b) :: st) z Q := zw_iadd rfl
theorem s253_484 {ls : List Value} {a : Int32} {r : Nat} : ZW zG d 253 484 ls (.int a :: .ref r :: st) z Q = ((zcls z r = 49 ∧ zin a (zlen z r) = true) ∧ ZW zG d 253 485 ls (.int (zia z r (zx a)) :: st) (z) Q) := zw_iald rfl
theorem s253_485 {x0 x1 x2 x3 : Value} : ZW zG d 253 485 [x0, x1, x2, x3] st z Q = (zir x0 = true ∧ ZW zG d 253 486 [x0, x1, x2, x3] (x0 :: st) z Q) := zw_cond (f := z_aload 0 486) rfl rfl
theorem s253_486 {x0 x1 x2 : Value} {a : Int32} : ZW zG d 253 486 [x0, x1, x2, .int a] st z Q = ZW zG d 253 487 [x0, x1, x2, .int a] (.int a :: st) z Q := zw_next (f := z_iload 3 487) rfl rfl
theorem s253_487 {ls : List Value}  : ZW zG d 253 487 ls (st) z Q = ZW zG d 253 488 ls ((.int (nI 2)) :: st) z Q := zw_push rfl
theorem s253_488 {ls : List Value} {a b : Int32} : ZW zG d 253 488 ls (.int b :: .int a :: st) z Q = ZW zG d 253 489 ls (.int (a + b) :: st) z Q := zw_iadd rfl
theorem s253_489 {ls : List Value} {a : Int32} {r : Nat} : ZW zG d 253 489 ls (.int a :: .ref r :: st) z Q = ((zcls z r = 49 ∧ zin a (zlen z r) = true) ∧ ZW zG d 253 490 ls (.int (zia z r (zx a)) :: st) (z) Q) := zw_iald rfl
theorem s253_490 {ls : List Value} {w0 : Int32} {w1 : Int32} {r : Nat} : ZW zG (d + 1) 253 490 ls (.int w1 :: .int w0 :: .ref r :: st) z Q = (zcls z r = 0 ∧ zcs st = true ∧ ZC zG d 23 [.ref r, .int w0, .int w1] z (zk zG (d + 1) 253 (none) 493 ls st Q)) := zc_V2 rfl (Nat.le_of_ble_eq_true rfl)
theorem s253_493 {x0 x1 x2 x3 : Value} : ZW zG d 253 493 [x0, x1, x2, x3] st z Q = (zir x2 = true ∧ ZW zG d 253 494 [x0, x1, x2, x3] (x2 :: st) z Q) := zw_cond (f := z_aload 2 494) rfl rfl
theorem s253_494 {x0 x1 x2 x3 : Value} : ZW zG d 253 494 [x0, x1, x2, x3] st z Q = (zir x0 = true ∧ ZW zG d 253 495 [x0, x1, x2, x3] (x0 :: st) z Q) := zw_cond (f := z_aload 0 495) rfl rfl
theorem s253_495 {x0 x1 x2 : Value} {a : Int32} : ZW zG d 253 495 [x0, x1, x2, .int a] st z Q = ZW zG d 253 496 [x0, x1, x2, .int a] (.int a :: st) z Q := zw_next (f := z_iload 3 496) rfl rfl
theorem s253_496 {ls : List Value}  : ZW zG d 253 496 ls (st) z Q = ZW zG d 253 497 ls ((.int (nI 1)) :: st) z Q := zw_push rfl
theorem s253_497 {ls : List Value} {a b : Int32} : ZW zG d 253 497 ls (.int b :: .int a :: st) z Q = ZW zG d 253 498 ls (.int (a + b) :: st) z Q := zw_iadd rfl
theorem s253_498 {ls : List Value} {a : Int32} {r : Nat} : ZW zG d 253 498 ls (.int a :: .ref r :: st) z Q = ((zcls z r = 49 ∧ zin a (zlen z r) = true) ∧ ZW zG d 253 499 ls (.int (zia z r (zx a)) :: st) (z) Q) := zw_iald rfl
theorem s253_499 {x0 x1 x2 x3 : Value} : ZW zG d 253 499 [x0, x1, x2, x3] st z Q = (zir x0 = true ∧ ZW zG d 253 500 [x0, x1, x2, x3] (x0 :: st) z Q) := zw_cond (f := z_aload 0 500) rfl rfl
theorem s253_500 {x0 x1 x2 : Value} {a : Int32} : ZW zG d 253 500 [x0, x1, x2, .int a] st z Q = ZW zG d 253 501 [x0, x1, x2, .int a] (.int a :: st) z Q := zw_next (f := z_iload 3 501) rfl rfl
theorem s253_501 {ls : List Value}  : ZW zG d 253 501 ls (st) z Q = ZW zG d 253 502 ls ((.int (nI 2)) :: st) z Q := zw_push rfl
theorem s253_502 {ls : List Value} {a b : Int32} : ZW zG d 253 502 ls (.int b :: .int a :: st) z Q = ZW zG d 253 503 ls (.int (a + b) :: st) z Q := zw_iadd rfl
theorem s253_503 {ls : List Value} {a : Int32} {r : Nat} : ZW zG d 253 503 ls (.int a :: .ref r :: st) z Q = ((zcls z r = 49 ∧ zin a (zlen z r) = true) ∧ ZW zG d 253 504 ls (.int (zia z r (zx a)) :: st) (z) Q) := zw_iald rfl
theorem s253_504 {ls : List Value} {w0 : Int32} {w1 : Int32} {r : Nat} : ZW zG (d + 1) 253 504 ls (.int w1 :: .int w0 :: .ref r :: st) z Q = (zcls z r = 12 ∧ zcs st = true ∧ ZC zG d 153 [.ref r, .int w0, .int w1] z (zk zG (d + 1) 253 (none) 507 ls st Q)) := zc_V2 rfl (Nat.le_of_ble_eq_true rfl)
theorem s253_507 {ls : List Value} {a b : Int32} : ZW zG d 253 507 ls (.int b :: .int a :: st) z Q = if a = b then ZW zG d 253 1350 ls st z Q else ZW zG d 253 510 ls st z Q := zw_iceq rfl
theorem s253_510 {ls : List Value}  : ZW zG d 253 510 ls (st) z Q = ZW zG d 253 511 ls ((.int (nI 0)) :: st) z Q := zw_push rfl
theorem s253_511 {ls : List Value} {a : Int32} : ZW zG d 253 511 ls ([.int a]) z Q = ((a = 0 ∨ a = 1) ∧ Q (.inl (some (.int a))) z) := zw_retz rfl
theorem s253_512 {x0 x1 x2 x3 : Value} : ZW zG d 253 512 [x0, x1, x2, x3] st z Q = (zir x1 = true ∧ ZW zG d 253 513 [x0, x1, x2, x3] (x1 :: st) z Q) := zw_cond (f := z_aload 1 513) rfl rfl
theorem s253_513 {x0 x1 x2 x3 : Value} : ZW zG d 253 513 [x0, x1, x2, x3] st z Q = (zir x0 = true ∧ ZW zG d 253 514 [x0, x1, x2, x3] (x0 :: st) z Q) := zw_cond (f := z_aload 0 514) rfl rfl
theorem s253_514 {x0 x1 x2 : Value} {a : Int32} : ZW zG d 253 514 [x0, x1, x2, .int a] st z Q = ZW zG d 253 515 [x0, x1, x2, .int a] (.int a :: st) z Q := zw_next (f := z_iload 3 515) rfl rfl
theorem s253_515 {ls : List Value}  : ZW zG d 253 515 ls (st) z Q = ZW zG d 253 516 ls ((.int (nI 1)) :: st) z Q := zw_push rfl
theorem s253_516 {ls : List Value} {a b : Int32} : ZW zG d 253 516 ls (.int b :: .int a :: st) z Q = ZW zG d 253 517 ls (.int (a + b) :: st) z Q := zw_iadd rfl
theorem s253_517 {ls : List Value} {a : Int32} {r : Nat} : ZW zG d 253 517 ls (.int a :: .ref r :: st) z Q = ((zcls z r = 49 ∧ zin a (zlen z r) = true) ∧ ZW zG d 253 518 ls (.int (zia z r (zx a)) :: st) (z) Q) := zw_iald rfl
theorem s253_518 {ls : List Value} {w0 : Int32} {r : Nat} : ZW zG (d + 1) 253 518 ls (.int w0 :: .ref r :: st) z Q = (zcls z r = 0 ∧ zcs st = true ∧ ZC zG d 24 [.ref r, .int w0] z (zk zG (d + 1) 253 (none) 521 ls st Q)) := zc_V1 rfl (Nat.le_of_ble_eq_true rfl)
theorem s253_521 {x0 x1 x2 x3 : Value} : ZW zG d 253 521 [x0, x1, x2, x3] st z Q = (zir x2 = true ∧ ZW zG d 253 522 [x0, x1, x2, x3] (x2 :: st) z Q) := zw_cond (f := z_aload 2 522) rfl rfl
theorem s253_522 {x0 x1 x2 x3 : Value} : ZW zG d 253 522 [x0, x1, x2, x3] st z Q = (zir x0 = true ∧ ZW zG d 253 523 [x0, x1, x2, x3] (x0 :: st) z Q) := zw_cond (f := z_aload 0 523) rfl rfl
theorem s253_523 {x0 x1 x2 : Value} {a : Int32} : ZW zG d 253 523 [x0, x1, x2, .int a] st z Q = ZW zG d 253 524 [x0, x1, x2, .int a] (.int a :: st) z Q := zw_next (f := z_iload 3 524) rfl rfl
theorem s253_524 {ls : List Value}  : ZW zG d 253 524 ls (st) z Q = ZW zG d 253 525 ls ((.int (nI 1)) :: st) z Q := zw_push rfl
theorem s253_525 {ls : List Value} {a b : Int32} : ZW zG d 253 525 ls (.int b :: .int a :: st) z Q = ZW zG d 253 526 ls (.int (a + b) :: st) z Q := zw_iadd rfl
theorem s253_526 {ls : List Value} {a : Int32} {r : Nat} : ZW zG d 253 526 ls (.int a :: .ref r :: st) z Q = ((zcls z r = 49 ∧ zin a (zlen z r) = true) ∧ ZW zG d 253 527 ls (.int (zia z r (zx a)) :: st) (z) Q) := zw_iald rfl
theorem s253_527 {ls : List Value} {w0 : Int32} {r : Nat} : ZW zG (d + 1) 253 527 ls (.int w0 :: .ref r :: st) z Q = (zcls z r = 12 ∧ zcs st = true ∧ ZC zG d 170 [.ref r, .int w0] z (zk zG (d + 1) 253 (none) 530 ls st Q)) := zc_V1 rfl (Nat.le_of_ble_eq_true rfl)
theorem s253_530 {ls : List Value} {a b : Int32} : ZW zG d 253 530 ls (.int b :: .int a :: st) z Q = if a = b then ZW zG d 253 1350 ls st z Q else ZW zG d 253 533 ls st z Q := zw_iceq rfl
theorem s253_533 {ls : List Value}  : ZW zG d 253 533 ls (st) z Q = ZW zG d 253 534 ls ((.int (nI 0)) :: st) z Q := zw_push rfl
theorem s253_534 {ls : List Value} {a : Int32} : ZW zG d 253 534 ls ([.int a]) z Q = ((a = 0 ∨ a = 1) ∧ Q (.inl (some (.int a))) z) := zw_retz rfl
theorem s253_535 {x0 x1 x2 x3 : Value} : ZW zG d 253 535 [x0, x1, x2, x3] st z Q = (zir x1 = true ∧ ZW zG d 253 536 [x0, x1, x2, x3] (x1 :: st) z Q) := zw_cond (f := z_aload 1 536) rfl rfl
theorem s253_536 {x0 x1 x2 x3 : Value} : ZW zG d 253 536 [x0, x1, x2, x3] st z Q = (zir x0 = true ∧ ZW zG d 253 537 [x0, x1, x2, x3] (x0 :: st) z Q) := zw_cond (f := z_aload 0 537) rfl rfl
theorem s253_537 {x0 x1 x2 : Value} {a : Int32} : ZW zG d 253 537 [x0, x1, x2, .int a] st z Q = ZW zG d 253 538 [x0, x1, x2, .int a] (.int a :: st) z Q := zw_next (f := z_iload 3 538) rfl rfl
theorem s253_538 {ls : List Value}  : ZW zG d 253 538 ls (st) z Q = ZW zG d 253 539 ls ((.int (nI 1)) :: st) z Q := zw_push rfl
theorem s253_539 {ls : List Value} {a b : Int32} : ZW zG d 253 539 ls (.int b :: .int a :: st) z Q = ZW zG d 253 540 ls (.int (a + b) :: st) z Q := zw_iadd rfl
theorem s253_540 {ls : List Value} {a : Int32} {r : Nat} : ZW zG d 253 540 ls (.int a :: .ref r :: st) z Q = ((zcls z r = 49 ∧ zin a (zlen z r) = true) ∧ ZW zG d 253 541 ls (.int (zia z r (zx a)) :: st) (z) Q) := zw_iald rfl
theorem s253_541 {x0 x1 x2 x3 : Value} : ZW zG d 253 541 [x0, x1, x2, x3] st z Q = (zir x0 = true ∧ ZW zG d 253 542 [x0, x1, x2, x3] (x0 :: st) z Q) := zw_cond (f := z_aload 0 542) rfl rfl
theorem s253_542 {x0 x1 x2 : Value} {a : Int32} : ZW zG d 253 542 [x0, x1, x2, .int a] st z Q = ZW zG d 253 543 [x0, x1, x2, .int a] (.int a :: st) z Q := zw_next (f := z_iload 3 543) rfl rfl
theorem s253_543 {ls : List Value}  : ZW zG d 253 543 ls (st) z Q = ZW zG d 253 544 ls ((.int (nI 2)) :: st) z Q := zw_push rfl
theorem s253_544 {ls : List Value} {a b : Int32} : ZW zG d 253 544 ls (.int b :: .int a :: st) z Q = ZW zG d 253 545 ls (.int (a + b) :: st) z Q := zw_iadd rfl
theorem s253_545 {ls : List Value} {a : Int32} {r : Nat} : ZW zG d 253 545 ls (.int a :: .ref r :: st) z Q = ((zcls z r = 49 ∧ zin a (zlen z r) = true) ∧ ZW zG d 253 546 ls (.int (zia z r (zx a)) :: st) (z) Q) := zw_iald rfl
theorem s253_546 {x0 x1 x2 x3 : Value} : ZW zG d 253 546 [x0, x1, x2, x3] st z Q = (zir x0 = true ∧ ZW zG d 253 547 [x0, x1, x2, x3] (x0 :: st) z Q) := zw_cond (f := z_aload 0 547) rfl rfl
theorem s253_547 {x0 x1 x2 : Value} {a : Int32} : ZW zG d 253 547 [x0, x1, x2, .int a] st z Q = ZW zG d 253 548 [x0, x1, x2, .int a] (.int a :: st) z Q := zw_next (f := z_iload 3 548) rfl rfl
theorem s253_548 {ls : List Value}  : ZW zG d 253 548 ls (st) z Q = ZW zG d 253 549 ls ((.int (nI 3)) :: st) z Q := zw_push rfl
theorem s253_549 {ls : List Value} {a b : Int32} : ZW zG d 253 549 ls (.int b :: .int a :: st) z Q = ZW zG d 253 550 ls (.int (a + b) :: st) z Q := zw_iadd rfl
theorem s253_550 {ls : List Value} {a : Int32} {r : Nat} : ZW zG d 253 550 ls (.int a :: .ref r :: st) z Q = ((zcls z r = 49 ∧ zin a (zlen z r) = true) ∧ ZW zG d 253 551 ls (.int (zia z r (zx a)) :: st) (z) Q) := zw_iald rfl
theorem s253_551 {ls : List Value} {w0 : Int32} {w1 : Int32} {w2 : Int32} {r : Nat} : ZW zG (d + 1) 253 551 ls (.int w2 :: .int w1 :: .int w0 :: .ref r :: st) z Q = (zcls z r = 0 ∧ zcs st = true ∧ ZC zG d 25 [.ref r, .int w0, .int w1, .int w2] z (zk zG (d + 1) 253 (none) 554 ls st Q)) := zc_V3 rfl (Nat.le_of_ble_eq_true rfl)
theorem s253_554 {x0 x1 x2 x3 : Value} : ZW zG d 253 554 [x0, x1, x2, x3] st z Q = (zir x2 = true ∧ ZW zG d 253 555 [x0, x1, x2, x3] (x2 :: st) z Q) := zw_cond (f := z_aload 2 555) rfl rfl
theorem s253_555 {x0 x1 x2 x3 : Value} : ZW zG d 253 555 [x0, x1, x2, x3] st z Q = (zir x0 = true ∧ ZW zG d 253 556 [x0, x1, x2, x3] (x0 :: st) z Q) := zw_cond (f := z_aload 0 556) rfl rfl
theorem s253_556 {x0 x1 x2 : Value} {a : Int32} : ZW zG d 253 556 [x0, x1, x2, .int a] st z Q = ZW zG d 253 557 [x0, x1, x2, .int a] (.int a :: st) z Q := zw_next (f := z_iload 3 557) rfl rfl
theorem s253_557 {ls : List Value}  : ZW zG d 253 557 ls (st) z Q = ZW zG d 253 558 ls ((.int (nI 1)) :: st) z Q := zw_push rfl
theorem s253_558 {ls : List Value} {a b : Int32} : ZW zG d 253 558 ls (.int b :: .int a :: st) z Q = ZW zG d 253 559 ls (.int (a + b) :: st) z Q := zw_iadd rfl
theorem s253_559 {ls : List Value} {a : Int32} {r : Nat} : ZW zG d 253 559 ls (.int a :: .ref r :: st) z Q = ((zcls z r = 49 ∧ zin a (zlen z r) = true) ∧ ZW zG d 253 560 ls (.int (zia z r (zx a)) :: st) (z) Q) := zw_iald rfl
theorem s253_560 {x0 x1 x2 x3 : Value} : ZW zG d 253 560 [x0, x1, x2, x3] st z Q = (zir x0 = true ∧ ZW zG d 253 561 [x0, x1, x2, x3] (x0 :: st) z Q) := zw_cond (f := z_aload 0 561) rfl rfl
theorem s253_561 {x0 x1 x2 : Value} {a : Int32} : ZW zG d 253 561 [x0, x1, x2, .int a] st z Q = ZW zG d 253 562 [x0, x1, x2, .int a] (.int a :: st) z Q := zw_next (f := z_iload 3 562) rfl rfl
theorem s253_562 {ls : List Value}  : ZW zG d 253 562 ls (st) z Q = ZW zG d 253 563 ls ((.int (nI 2)) :: st) z Q := zw_push rfl
theorem s253_563 {ls : List Value} {a b : Int32} : ZW zG d 253 563 ls (.int b :: .int a :: st) z Q = ZW zG d 253 564 ls (.int (a + b) :: st) z Q := zw_iadd rfl
theorem s253_564 {ls : List Value} {a : Int32} {r : Nat} : ZW zG d 253 564 ls (.int a :: .ref r :: st) z Q = ((zcls z r = 49 ∧ zin a (zlen z r) = true) ∧ ZW zG d 253 565 ls (.int (zia z r (zx a)) :: st) (z) Q) := zw_iald rfl
theorem s253_565 {x0 x1 x2 x3 : Value} : ZW zG d 253 565 [x0, x1, x2, x3] st z Q = (zir x0 = true ∧ ZW zG d 253 566 [x0, x1, x2, x3] (x0 :: st) z Q) := zw_cond (f := z_aload 0 566) rfl rfl
theorem s253_566 {x0 x1 x2 : Value} {a : Int32} : ZW zG d 253 566 [x0, x1, x2, .int a] st z Q = ZW zG d 253 567 [x0, x1, x2, .int a] (.int a :: st) z Q := zw_next (f := z_iload 3 567) rfl rfl
theorem s253_567 {ls : List Value}  : ZW zG d 253 567 ls (st) z Q = ZW zG d 253 568 ls ((.int (nI 3)) :: st) z Q := zw_push rfl
theorem s253_568 {ls : List Value} {a b : Int32} : ZW zG d 253 568 ls (.int b :: .int a :: st) z Q = ZW zG d 253 569 ls (.int (a + b) :: st) z Q := zw_iadd rfl
theorem s253_569 {ls : List Value} {a : Int32} {r : Nat} : ZW zG d 253 569 ls (.int a :: .ref r :: st) z Q = ((zcls z r = 49 ∧ zin a (zlen z r) = true) ∧ ZW zG d 253 570 ls (.int (zia z r (zx a)) :: st) (z) Q) := zw_iald rfl
theorem s253_570 {ls : List Value} {w0 : Int32} {w1 : Int32} {w2 : Int32} {r : Nat} : ZW zG (d + 1) 253 570 ls (.int w2 :: .int w1 :: .int w0 :: .ref r :: st) z Q = (zcls z r = 12 ∧ zcs st = true ∧ ZC zG d 171 [.ref r, .int w0, .int w1, .int w2] z (zk zG (d + 1) 253 (none) 573 ls st Q)) := zc_V3 rfl (Nat.le_of_ble_eq_true rfl)
theorem s253_573 {ls : List Value} {a b : Int32} : ZW zG d 253 573 ls (.int b :: .int a :: st) z Q = if a = b then ZW zG d 253 1350 ls st z Q else ZW zG d 253 576 ls st z Q := zw_iceq rfl
theorem s253_576 {ls : List Value}  : ZW zG d 253 576 ls (st) z Q = ZW zG d 253 577 ls ((.int (nI 0)) :: st) z Q := zw_push rfl
theorem s253_577 {ls : List Value} {a : Int32} : ZW zG d 253 577 ls ([.int a]) z Q = ((a = 0 ∨ a = 1) ∧ Q (.inl (some (.int a))) z) := zw_retz rfl
theorem s253_578 {x0 x1 x2 x3 : Value} : ZW zG d 253 578 [x0, x1, x2, x3] st z Q = (zir x1 = true ∧ ZW zG d 253 579 [x0, x1, x2, x3] (x1 :: st) z Q) := zw_cond (f := z_aload 1 579) rfl rfl
theorem s253_579 {x0 x1 x2 x3 : Value} : ZW zG d 253 579 [x0, x1, x2, x3] st z Q = (zir x0 = true ∧ ZW zG d 253 580 [x0, x1, x2, x3] (x0 :: st) z Q) := zw_cond (f := z_aload 0 580) rfl rfl
theorem s253_580 {x0 x1 x2 : Value} {a : Int32} : ZW zG d 253 580 [x0, x1, x2, .int a] st z Q = ZW zG d 253 581 [x0, x1, x2, .int a] (.int a :: st) z Q := zw_next (f := z_iload 3 581) rfl rfl
theorem s253_581 {ls : List Value}  : ZW zG d 253 581 ls (st) z Q = ZW zG d 253 582 ls ((.int (nI 1)) :: st) z Q := zw_push rfl
theorem s253_582 {ls : List Value} {a b : Int32} : ZW zG d 253 582 ls (.int b :: .int a :: st) z Q = ZW zG d 253 583 ls (.int (a + b) :: st) z Q := zw_iadd rfl
theorem s253_583 {ls : List Value} {a : Int32} {r : Nat} : ZW zG d 253 583 ls (.int a :: .ref r :: st) z Q = ((zcls z r = 49 ∧ zin a (zlen z r) = true) ∧ ZW zG d 253 584 ls (.int (zia z r (zx a)) :: st) (z) Q) := zw_iald rfl
theorem s253_584 {ls : List Value} {w0 : Int32} {r : Nat} : ZW zG (d + 1) 253 584 ls (.int w0 :: .ref r :: st) z Q = (zcls z r = 0 ∧ zcs st = true ∧ ZC zG d 26 [.ref r, .int w0] z (zk zG (d + 1) 253 (none) 587 ls st Q)) := zc_V1 rfl (Nat.le_of_ble_eq_true rfl)
theorem s253_587 {x0 x1 x2 x3 : Value} : ZW zG d 253 587 [x0, x1, x2, x3] st z Q = (zir x2 = true ∧ ZW zG d 253 588 [x0, x1, x2, x3] (x2 :: st) z Q) := zw_cond (f := z_aload 2 588) rfl rfl
theorem s253_588 {x0 x1 x2 x3 : Value} : ZW zG d 253 588 [x0, x1, x2, x3] st z Q = (zir x0 = true ∧ ZW zG d 253 589 [x0, x1, x2, x3] (x0 :: st) z Q) := zw_cond (f := z_aload 0 589) rfl rfl
theorem s253_589 {x0 x1 x2 : Value} {a : Int32} : ZW zG d 253 589 [x0, x1, x2, .int a] st z Q = ZW zG d 253 590 [x0, x1, x2, .int a] (.int a :: st) z Q := zw_next (f := z_iload 3 590) rfl rfl
theorem s253_590 {ls : List Value}  : ZW zG d 253 590 ls (st) z Q = ZW zG d 253 591 ls ((.int (nI 1)) :: st) z Q := zw_push rfl
theorem s253_591 {ls : List Value} {a b : Int32} : ZW zG d 253 591 ls (.int b :: .int a :: st) z Q = ZW zG d 253 592 ls (.int (a + b) :: st) z Q := zw_iadd rfl
theorem s253_592 {ls : List Value} {a : Int32} {r : Nat} : ZW zG d 253 592 ls (.int a :: .ref r :: st) z Q = ((zcls z r = 49 ∧ zin a (zlen z r) = true) ∧ ZW zG d 253 593 ls (.int (zia z r (zx a)) :: st) (z) Q) := zw_iald rfl
theorem s253_593 {ls : List Value} {w0 : Int32} {r : Nat} : ZW zG (d + 1) 253 593 ls (.int w0 :: .ref r :: st) z Q = (zcls z r = 12 ∧ zcs st = true ∧ ZC zG d 173 [.ref r, .int w0] z (zk zG (d + 1) 253 (none) 596 ls st Q)) := zc_V1 rfl (Nat.le_of_ble_eq_true rfl)
theorem s253_596 {ls : List Value} {a b : Int32} : ZW zG d 253 596 ls (.int b :: .int a :: st) z Q = if a = b then ZW zG d 253 1350 ls st z Q else ZW zG d 253 599 ls st z Q := zw_iceq rfl
theorem s253_599 {ls : List Value}  : ZW zG d 253 599 ls (st) z Q = ZW zG d 253 600 ls ((.int (nI 0)) :: st) z Q := zw_push rfl
theorem s253_600 {ls : List Value} {a : Int32} : ZW zG d 253 600 ls ([.int a]) z Q = ((a = 0 ∨ a = 1) ∧ Q (.inl (some (.int a))) z) := zw_retz rfl
theorem s253_601 {x0 x1 x2 x3 : Value} : ZW zG d 253 601 [x0, x1, x2, x3] st z Q = (zir x1 = true ∧ ZW zG d 253 602 [x0, x1, x2, x3] (x1 :: st) z Q) := zw_cond (f := z_aload 1 602) rfl rfl
theorem s253_602 {ls : List Value}  {r : Nat} : ZW zG (d + 1) 253 602 ls (.ref r :: st) z Q = (zcls z r = 0 ∧ zcs st = true ∧ ZC zG d 28 [.ref r] z (zk zG (d + 1) 253 (none) 605 ls st Q)) := zc_V0 rfl (Nat.le_of_ble_eq_true rfl)
theorem s253_605 {x0 x1 x2 x3 : Value} : ZW zG d 253 605 [x0, x1, x2, x3] st z Q = (zir x2 = true ∧ ZW zG d 253 606 [x0, x1, x2, x3] (x2 :: st) z Q) := zw_cond (f := z_aload 2 606) rfl rfl
theorem s253_606 {ls : List Value}  {r : Nat} : ZW zG (d + 1) 253 606 ls (.ref r :: st) z Q = (zcls z r = 12 ∧ zcs st = true ∧ ZC zG d 175 [.ref r] z (zk zG (d + 1) 253 (none) 609 ls st Q)) := zc_V0 rfl (Nat.le_of_ble_eq_true rfl)
theorem s253_609 {ls : List Value} {a b : Int32} : ZW zG d 253 609 ls (.int b :: .int a :: st) z Q = if a = b then ZW zG d 253 1350 ls st z Q else ZW zG d 253 612 ls st z Q := zw_iceq rfl
theorem s253_612 {ls : List Value}  : ZW zG d 253 612 ls (st) z Q = ZW zG d 253 613 ls ((.int (nI 0)) :: st) z Q := zw_push rfl
theorem s253_613 {ls : List Value} {a : Int32} : ZW zG d 253 613 ls ([.int a]) z Q = ((a = 0 ∨ a = 1) ∧ Q (.inl (some (.int a))) z) := zw_retz rfl
theorem s253_614 {x0 x1 x2 x3 : Value} : ZW zG d 253 614 [x0, x1, x2, x3] st z Q = (zir x1 = true ∧ ZW zG d 253 615 [x0, x1, x2, x3] (x1 :: st) z Q) := zw_cond (f := z_aload 1 615) rfl rfl
theorem s253_615 {x0 x1 x2 x3 : Value} : ZW zG d 253 615 [x0, x1, x2, x3] st z Q = (zir x0 = true ∧ ZW zG d 253 616 [x0, x1, x2, x3] (x0 :: st) z Q) := zw_cond (f := z_aload 0 616) rfl rfl
theorem s253_616 {x0 x1 x2 : Value} {a : Int32} : ZW zG d 253 616 [x0, x1, x2, .int a] st z Q = ZW zG d 253 617 [x0, x1, x2, .int a] (.int a :: st) z Q := zw_next (f := z_iload 3 617) rfl rfl
theorem s253_617 {ls : List Value}  : ZW zG d 253 617 ls (st) z Q = ZW zG d 253 618 ls ((.int (nI 1)) :: st) z Q := zw_push rfl
theorem s253_618 {ls : List Value} {a b : Int32} : ZW zG d 253 618 ls (.int b :: .int a :: st) z Q = ZW zG d 253 619 ls (.int (a + b) :: st) z Q := zw_iadd rfl
theorem s253_619 {ls : List Value} {a : Int32} {r : Nat} : ZW zG d 253 619 ls (.int a :: .ref r :: st) z Q = ((zcls z r = 49 ∧ zin a (zlen z r) = true) ∧ ZW zG d 253 620 ls (.int (zia z r (zx a)) :: st) (z) Q) := zw_iald rfl
theorem s253_620 {x0 x1 x2 x3 : Value} : ZW zG d 253 620 [x0, x1, x2, x3] st z Q = (zir x0 = true ∧ ZW zG d 253 621 [x0, x1, x2, x3] (x0 :: st) z Q) := zw_cond (f := z_aload 0 621) rfl rfl
theorem s253_621 {x0 x1 x2 : Value} {a : Int32} : ZW zG d 253 621 [x0, x1, x2, .int a] st z Q = ZW zG d 253 622 [x0, x1, x2, .int a] (.int a :: st) z Q := zw_next (f := z_iload 3 622) rfl rfl
theorem s253_622 {ls : List Value}  : ZW zG d 253 622 ls (st) z Q = ZW zG d 253 623 ls ((.int (nI 2)) :: st) z Q := zw_push rfl
theorem s253_623 {ls : List Value} {a b : Int32} : ZW zG d 253 623 ls (.int b :: .int a :: st) z Q = ZW zG d 253 624 ls (.int (a + b) :: st) z Q := zw_iadd rfl
theorem s253_624 {ls : List Value} {a : Int32} {r : Nat} : ZW zG d 253 624 ls (.int a :: .ref r :: st) z Q = ((zcls z r = 49 ∧ zin a (zlen z r) = true) ∧ ZW zG d 253 625 ls (.int (zia z r (zx a)) :: st) (z) Q) := zw_iald rfl
theorem s253_625 {x0 x1 x2 x3 : Value} : ZW zG d 253 625 [x0, x1, x2, x3] st z Q = (zir x0 = true ∧ ZW zG d 253 626 [x0, x1, x2, x3] (x0 :: st) z Q) := zw_cond (f := z_aload 0 626) rfl rfl
theorem s253_626 {x0 x1 x2 : Value} {a : Int32} : ZW zG d 253 626 [x0, x1, x2, .int a] st z Q = ZW zG d 253 627 [x0, x1, x2, .int a] (.int a :: st) z Q := zw_next (f := z_iload 3 627) rfl rfl
theorem s253_627 {ls : List Value}  : ZW zG d 253 627 ls (st) z Q = ZW zG d 253 628 ls ((.int (nI 3)) :: st) z Q := zw_push rfl
theorem s253_628 {ls : List Value} {a b : Int32} : ZW zG d 253 628 ls (.int b :: .int a :: st) z Q = ZW zG d 253 629 ls (.int (a + b) :: st) z Q := zw_iadd rfl
theorem s253_629 {ls : List Value} {a : Int32} {r : Nat} : ZW zG d 253 629 ls (.int a :: .ref r :: st) z Q = ((zcls z r = 49 ∧ zin a (zlen z r) = true) ∧ ZW zG d 253 630 ls (.int (zia z r (zx a)) :: st) (z) Q) := zw_iald rfl
theorem s253_630 {ls : List Value} {w0 : Int32} {w1 : Int32} {w2 : Int32} {r : Nat} : ZW zG (d + 1) 253 630 ls (.int w2 :: .int w1 :: .int w0 :: .ref r :: st) z Q = (zcls z r = 0 ∧ zcs st = true ∧ ZC zG d 29 [.ref r, .int w0, .int w1, .int w2] z (zk zG (d + 1) 253 (none) 633 ls st Q)) := zc_V3 rfl (Nat.le_of_ble_eq_true rfl)
theorem s253_633 {x0 x1 x2 x3 : Value} : ZW zG d 253 633 [x0, x1, x2, x3] st z Q = (zir x2 = true ∧ ZW zG d 253 634 [x0, x1, x2, x3] (x2 :: st) z Q) := zw_cond (f := z_aload 2 634) rfl rfl
theorem s253_634 {x0 x1 x2 x3 : Value} : ZW zG d 253 634 [x0, x1, x2, x3] st z Q = (zir x0 = true ∧ ZW zG d 253 635 [x0, x1, x2, x3] (x0 :: st) z Q) := zw_cond (f := z_aload 0 635) rfl rfl
theorem s253_635 {x0 x1 x2 : Value} {a : Int32} : ZW zG d 253 635 [x0, x1, x2, .int a] st z Q = ZW zG d 253 636 [x0, x1, x2, .int a] (.int a :: st) z Q := zw_next (f := z_iload 3 636) rfl rfl
theorem s253_636 {ls : List Value}  : ZW zG d 253 636 ls (st) z Q = ZW zG d 253 637 ls ((.int (nI 1)) :: st) z Q := zw_push rfl
theorem s253_637 {ls : List Value} {a b : Int32} : ZW zG d 253 637 ls (.int b :: .int a :: st) z Q = ZW zG d 253 638 ls (.int (a + b) :: st) z Q := zw_iadd rfl
theorem s253_638 {ls : List Value} {a : Int32} {r : Nat} : ZW zG d 253 638 ls (.int a :: .ref r :: st) z Q = ((zcls z r = 49 ∧ zin a (zlen z r) = true) ∧ ZW zG d 253 639 ls (.int (zia z r (zx a)) :: st) (z) Q) := zw_iald rfl
theorem s253_639 {x0 x1 x2 x3 : Value} : ZW zG d 253 639 [x0, x1, x2, x3] st z Q = (zir x0 = true ∧ ZW zG d 253 640 [x0, x1, x2, x3] (x0 :: st) z Q) := zw_cond (f := z_aload 0 640) rfl rfl
theorem s253_640 {x0 x1 x2 : Value} {a : Int32} : ZW zG d 253 640 [x0, x1, x2, .int a] st z Q = ZW zG d 253 641 [x0, x1, x2, .int a] (.int a :: st) z Q := zw_next (f := z_iload 3 641) rfl rfl
theorem s253_641 {ls : List Value}  : ZW zG d 253 641 ls (st) z Q = ZW zG d 253 642 ls ((.int (nI 2)) :: st) z Q := zw_push rfl
theorem s253_642 {ls : List Value} {a b : Int32} : ZW zG d 253 642 ls (.int b :: .int a :: st) z Q = ZW zG d 253 643 ls (.int (a + b) :: st) z Q := zw_iadd rfl
theorem s253_643 {ls : List Value} {a : Int32} {r : Nat} : ZW zG d 253 643 ls (.int a :: .ref r :: st) z Q = ((zcls z r = 49 ∧ zin a (zlen z r) = true) ∧ ZW zG d 253 644 ls (.int (zia z r (zx a)) :: st) (z) Q) := zw_iald rfl
theorem s253_644 {x0 x1 x2 x3 : Value} : ZW zG d 253 644 [x0, x1, x2, x3] st z Q = (zir x0 = true ∧ ZW zG d 253 645 [x0, x1, x2, x3] (x0 :: st) z Q) := zw_cond (f := z_aload 0 645) rfl rfl
theorem s253_645 {x0 x1 x2 : Value} {a : Int32} : ZW zG d 253 645 [x0, x1, x2, .int a] st z Q = ZW zG d 253 646 [x0, x1, x2, .int a] (.int a :: st) z Q := zw_next (f := z_iload 3 646) rfl rfl
theorem s253_646 {ls : List Value}  : ZW zG d 253 646 ls (st) z Q = ZW zG d 253 647 ls ((.int (nI 3)) :: st) z Q := zw_push rfl
theorem s253_647 {ls : List Value} {a b : Int32} : ZW zG d 253 647 ls (.int b :: .int a :: st) z Q = ZW zG d 253 648 ls (.int (a + b) :: st) z Q := zw_iadd rfl
theorem s253_648 {ls : List Value} {a : Int32} {r : Nat} : ZW zG d 253 648 ls (.int a :: .ref r :: st) z Q = ((zcls z r = 49 ∧ zin a (zlen z r) = true) ∧ ZW zG d 253 649 ls (.int (zia z r (zx a)) :: st) (z) Q) := zw_iald rfl
theorem s253_649 {ls : List Value} {w0 : Int32} {w1 : Int32} {w2 : Int32} {r : Nat} : ZW zG (d + 1) 253 649 ls (.int w2 :: .int w1 :: .int w0 :: .ref r :: st) z Q = (zcls z r = 12 ∧ zcs st = true ∧ ZC zG d 176 [.ref r, .int w0, .int w1, .int w2] z (zk zG (d + 1) 253 (none) 652 ls st Q)) := zc_V3 rfl (Nat.le_of_ble_eq_true rfl)
theorem s253_652 {ls : List Value} {a b : Int32} : ZW zG d 253 652 ls (.int b :: .int a :: st) z Q = if a = b then ZW zG d 253 1350 ls st z Q else ZW zG d 253 655 ls st z Q := zw_iceq rfl
theorem s253_655 {ls : List Value}  : ZW zG d 253 655 ls (st) z Q = ZW zG d 253 656 ls ((.int (nI 0)) :: st) z Q := zw_push rfl
theorem s253_656 {ls : List Value} {a : Int32} : ZW zG d 253 656 ls ([.int a]) z Q = ((a = 0 ∨ a = 1) ∧ Q (.inl (some (.int a))) z) := zw_retz rfl
theorem s253_657 {x0 x1 x2 x3 : Value} : ZW zG d 253 657 [x0, x1, x2, x3] st z Q = (zir x1 = true ∧ ZW zG d 253 658 [x0, x1, x2, x3] (x1 :: st) z Q) := zw_cond (f := z_aload 1 658) rfl rfl
theorem s253_658 {x0 x1 x2 x3 : Value} : ZW zG d 253 658 [x0, x1, x2, x3] st z Q = (zir x0 = true ∧ ZW zG d 253 659 [x0, x1, x2, x3] (x0 :: st) z Q) := zw_cond (f := z_aload 0 659) rfl rfl
theorem s253_659 {x0 x1 x2 : Value} {a : Int32} : ZW zG d 253 659 [x0, x1, x2, .int a] st z Q = ZW zG d 253 660 [x0, x1, x2, .int a] (.int a :: st) z Q := zw_next (f := z_iload 3 660) rfl rfl
theorem s253_660 {ls : List Value}  : ZW zG d 253 660 ls (st) z Q = ZW zG d 253 661 ls ((.int (nI 1)) :: st) z Q := zw_push rfl
theorem s253_661 {ls : List Value} {a b : Int32} : ZW zG d 253 661 ls (.int b :: .int a :: st) z Q = ZW zG d 253 662 ls (.int (a + b) :: st) z Q := zw_iadd rfl
theorem s253_662 {ls : List Value} {a : Int32} {r : Nat} : ZW zG d 253 662 ls (.int a :: .ref r :: st) z Q = ((zcls z r = 49 ∧ zin a (zlen z r) = true) ∧ ZW zG d 253 663 ls (.int (zia z r (zx a)) :: st) (z) Q) := zw_iald rfl
theorem s253_663 {x0 x1 x2 x3 : Value} : ZW zG d 253 663 [x0, x1, x2, x3] st z Q = (zir x0 = true ∧ ZW zG d 253 664 [x0, x1, x2, x3] (x0 :: st) z Q) := zw_cond (f := z_aload 0 664) rfl rfl
theorem s253_664 {x0 x1 x2 : Value} {a : Int32} : ZW zG d 253 664 [x0, x1, x2, .int a] st z Q = ZW zG d 253 665 [x0, x1, x2, .int a] (.int a :: st) z Q := zw_next (f := z_iload 3 665) rfl rfl
theorem s253_665 {ls : List Value}  : ZW zG d 253 665 ls (st) z Q = ZW zG d 253 666 ls ((.int (nI 2)) :: st) z Q := zw_push rfl
theorem s253_666 {ls : List Value} {a b : Int32} : ZW zG d 253 666 ls (.int b :: .int a :: st) z Q = ZW zG d 253 667 ls (.int (a + b) :: st) z Q := zw_iadd rfl
theorem s253_667 {ls : List Value} {a : Int32} {r : Nat} : ZW zG d 253 667 ls (.int a :: .ref r :: st) z Q = ((zcls z r = 49 ∧ zin a (zlen z r) = true) ∧ ZW zG d 253 668 ls (.int (zia z r (zx a)) :: st) (z) Q) := zw_iald rfl
theorem s253_668 {ls : List Value} {w0 : Int32} {w1 : Int32} {r : Nat} : ZW zG (d + 1) 253 668 ls (.int w1 :: .int w0 :: .ref r :: st) z Q = (zcls z r = 0 ∧ zcs st = true ∧ ZC zG d 30 [.ref r, .int w0, .int w1] z (zk zG (d + 1) 253 (none) 671 ls st Q)) := zc_V2 rfl (Nat.le_of_ble_eq_true rfl)
theorem s253_671 {x0 x1 x2 x3 : Value} : ZW zG d 253 671 [x0, x1, x2, x3] st z Q = (zir x2 = true ∧ ZW zG d 253 672 [x0, x1, x2, x3] (x2 :: st) z Q) := zw_cond (f := z_aload 2 672) rfl rfl
theorem s253_672 {x0 x1 x2 x3 : Value} : ZW zG d 253 672 [x0, x1, x2, x3] st z Q = (zir x0 = true ∧ ZW zG d 253 673 [x0, x1, x2, x3] (x0 :: st) z Q) := zw_cond (f := z_aload 0 673) rfl rfl
theorem s253_673 {x0 x1 x2 : Value} {a : Int32} : ZW zG d 253 673 [x0, x1, x2, .int a] st z Q = ZW zG d 253 674 [x0, x1, x2, .int a] (.int a :: st) z Q := zw_next (f := z_iload 3 674) rfl rfl
theorem s253_674 {ls : List Value}  : ZW zG d 253 674 ls (st) z Q = ZW zG d 253 675 ls ((.int (nI 1)) :: st) z Q := zw_push rfl
theorem s253_675 {ls : List Value} {a b : Int32} : ZW zG d 253 675 ls (.int b :: .int a :: st) z Q = ZW zG d 253 676 ls (.int (a + b) :: st) z Q := zw_iadd rfl
theorem s253_676 {ls : List Value} {a : Int32} {r : Nat} : ZW zG d 253 676 ls (.int a :: .ref r :: st) z Q = ((zcls z r = 49 ∧ zin a (zlen z r) = true) ∧ ZW zG d 253 677 ls (.int (zia z r (zx a)) :: st) (z) Q) := zw_iald rfl
theorem s253_677 {x0 x1 x2 x3 : Value} : ZW zG d 253 677 [x0, x1, x2, x3] st z Q = (zir x0 = true ∧ ZW zG d 253 678 [x0, x1, x2, x3] (x0 :: st) z Q) := zw_cond (f := z_aload 0 678) rfl rfl
theorem s253_678 {x0 x1 x2 : Value} {a : Int32} : ZW zG d 253 678 [x0, x1, x2, .int a] st z Q = ZW zG d 253 679 [x0, x1, x2, .int a] (.int a :: st) z Q := zw_next (f := z_iload 3 679) rfl rfl
theorem s253_679 {ls : List Value}  : ZW zG d 253 679 ls (st) z Q = ZW zG d 253 680 ls ((.int (nI 2)) :: st) z Q := zw_push rfl
theorem s253_680 {ls : List Value} {a b : Int32} : ZW zG d 253 680 ls (.int b :: .int a :: st) z Q = ZW zG d 253 681 ls (.int (a + b) :: st) z Q := zw_iadd rfl
theorem s253_681 {ls : List Value} {a : Int32} {r : Nat} : ZW zG d 253 681 ls (.int a :: .ref r :: st) z Q = ((zcls z r = 49 ∧ zin a (zlen z r) = true) ∧ ZW zG d 253 682 ls (.int (zia z r (zx a)) :: st) (z) Q) := zw_iald rfl
theorem s253_682 {ls : List Value} {w0 : Int32} {w1 : Int32} {r : Nat} : ZW zG (d + 1) 253 682 ls (.int w1 :: .int w0 :: .ref r :: st) z Q = (zcls z r = 12 ∧ zcs st = true ∧ ZC zG d 177 [.ref r, .int w0, .int w1] z (zk zG (d + 1) 253 (none) 685 ls st Q)) := zc_V2 rfl (Nat.le_of_ble_eq_true rfl)
theorem s253_685 {ls : List Value} {a b : Int32} : ZW zG d 253 685 ls (.int b :: .int a :: st) z Q = if a = b then ZW zG d 253 1350 ls st z Q else ZW zG d 253 688 ls st z Q := zw_iceq rfl
theorem s253_688 {ls : List Value}  : ZW zG d 253 688 ls (st) z Q = ZW zG d 253 689 ls ((.int (nI 0)) :: st) z Q := zw_push rfl
theorem s253_689 {ls : List Value} {a : Int32} : ZW zG d 253 689 ls ([.int a]) z Q = ((a = 0 ∨ a = 1) ∧ Q (.inl (some (.int a))) z) := zw_retz rfl
theorem s253_690 {x0 x1 x2 x3 : Value} : ZW zG d 253 690 [x0, x1, x2, x3] st z Q = (zir x1 = true ∧ ZW zG d 253 691 [x0, x1, x2, x3] (x1 :: st) z Q) := zw_cond (f := z_aload 1 691) rfl rfl
theorem s253_691 {x0 x1 x2 x3 : Value} : ZW zG d 253 691 [x0, x1, x2, x3] st z Q = (zir x0 = true ∧ ZW zG d 253 692 [x0, x1, x2, x3] (x0 :: st) z Q) := zw_cond (f := z_aload 0 692) rfl rfl
theorem s253_692 {x0 x1 x2 : Value} {a : Int32} : ZW zG d 253 692 [x0, x1, x2, .int a] st z Q = ZW zG d 253 693 [x0, x1, x2, .int a] (.int a :: st) z Q := zw_next (f := z_iload 3 693) rfl rfl
theorem s253_693 {ls : List Value}  : ZW zG d 253 693 ls (st) z Q = ZW zG d 253 694 ls ((.int (nI 1)) :: st) z Q := zw_push rfl
theorem s253_694 {ls : List Value} {a b : Int32} : ZW zG d 253 694 ls (.int b :: .int a :: st) z Q = ZW zG d 253 695 ls (.int (a + b) :: st) z Q := zw_iadd rfl
theorem s253_695 {ls : List Value} {a : Int32} {r : Nat} : ZW zG d 253 695 ls (.int a :: .ref r :: st) z Q = ((zcls z r = 49 ∧ zin a (zlen z r) = true) ∧ ZW zG d 253 696 ls (.int (zia z r (zx a)) :: st) (z) Q) := zw_iald rfl
theorem s253_696 {x0 x1 x2 x3 : Value} : ZW zG d 253 696 [x0, x1, x2, x3] st z Q = (zir x0 = true ∧ ZW zG d 253 697 [x0, x1, x2, x3] (x0 :: st) z Q) := zw_cond (f := z_aload 0 697) rfl rfl
theorem s253_697 {x0 x1 x2 : Value} {a : Int32} : ZW zG d 253 697 [x0, x1, x2, .int a] st z Q = ZW zG d 253 698 [x0, x1, x2, .int a] (.int a :: st) z Q := zw_next (f := z_iload 3 698) rfl rfl
theorem s253_698 {ls : List Value}  : ZW zG d 253 698 ls (st) z Q = ZW zG d 253 699 ls ((.int (nI 2)) :: st) z Q := zw_push rfl
theorem s253_699 {ls : List Value} {a b : Int32} : ZW zG d 253 699 ls (.int b :: .int a :: st) z Q = ZW zG d 253 700 ls (.int (a + b) :: st) z Q := zw_iadd rfl
theorem s253_700 {ls : List Value} {a : Int32} {r : Nat} : ZW zG d 253 700 ls (.int a :: .ref r :: st) z Q = ((zcls z r = 49 ∧ zin a (zlen z r) = true) ∧ ZW zG d 253 701 ls (.int (zia z r (zx a)) :: st) (z) Q) := zw_iald rfl
theorem s253_701 {x0 x1 x2 x3 : Value} : ZW zG d 253 701 [x0, x1, x2, x3] st z Q = (zir x0 = true ∧ ZW zG d 253 702 [x0, x1, x2, x3] (x0 :: st) z Q) := zw_cond (f := z_aload 0 702) rfl rfl
theorem s253_702 {x0 x1 x2 : Value} {a : Int32} : ZW zG d 253 702 [x0, x1, x2, .int a] st z Q = ZW zG d 253 703 [x0, x1, x2, .int a] (.int a :: st) z Q := zw_next (f := z_iload 3 703) rfl rfl
theorem s253_703 {ls : List Value}  : ZW zG d 253 703 ls (st) z Q = ZW zG d 253 704 ls ((.int (nI 3)) :: st) z Q := zw_push rfl
theorem s253_704 {ls : List Value} {a b : Int32} : ZW zG d 253 704 ls (.int b :: .int a :: st) z Q = ZW zG d 253 705 ls (.int (a + b) :: st) z Q := zw_iadd rfl
theorem s253_705 {ls : List Value} {a : Int32} {r : Nat} : ZW zG d 253 705 ls (.int a :: .ref r :: st) z Q = ((zcls z r = 49 ∧ zin a (zlen z r) = true) ∧ ZW zG d 253 706 ls (.int (zia z r (zx a)) :: st) (z) Q) := zw_iald rfl
theorem s253_706 {ls : List Value} {w0 : Int32} {w1 : Int32} {w2 : Int32} {r : Nat} : ZW zG (d + 1) 253 706 ls (.int w2 :: .int w1 :: .int w0 :: .ref r :: st) z Q = (zcls z r = 0 ∧ zcs st = true ∧ ZC zG d 34 [.ref r, .int w0, .int w1, .int w2] z (zk zG (d + 1) 253 (none) 709 ls st Q)) := zc_V3 rfl (Nat.le_of_ble_eq_true rfl)
theorem s253_709 {x0 x1 x2 x3 : Value} : ZW zG d 253 709 [x0, x1, x2, x3] st z Q = (zir x2 = true ∧ ZW zG d 253 710 [x0, x1, x2, x3] (x2 :: st) z Q) := zw_cond (f := z_aload 2 710) rfl rfl
theorem s253_710 {x0 x1 x2 x3 : Value} : ZW zG d 253 710 [x0, x1, x2, x3] st z Q = (zir x0 = true ∧ ZW zG d 253 711 [x0, x1, x2, x3] (x0 :: st) z Q) := zw_cond (f := z_aload 0 711) rfl rfl
theorem s253_711 {x0 x1 x2 : Value} {a : Int32} : ZW zG d 253 711 [x0, x1, x2, .int a] st z Q = ZW zG d 253 712 [x0, x1, x2, .int a] (.int a :: st) z Q := zw_next (f := z_iload 3 712) rfl rfl
theorem s253_712 {ls : List Value}  : ZW zG d 253 712 ls (st) z Q = ZW zG d 253 713 ls ((.int (nI 1)) :: st) z Q := zw_push rfl
theorem s253_713 {ls : List Value} {a b : Int32} : ZW zG d 253 713 ls (.int b :: .int a :: st) z Q = ZW zG d 253 714 ls (.int (a + b) :: st) z Q := zw_iadd rfl
theorem s253_714 {ls : List Value} {a : Int32} {r : Nat} : ZW zG d 253 714 ls (.int a :: .ref r :: st) z Q = ((zcls z r = 49 ∧ zin a (zlen z r) = true) ∧ ZW zG d 253 715 ls (.int (zia z r (zx a)) :: st) (z) Q) := zw_iald rfl
theorem s253_715 {x0 x1 x2 x3 : Value} : ZW zG d 253 715 [x0, x1, x2, x3] st z Q = (zir x0 = true ∧ ZW zG d 253 716 [x0, x1, x2, x3] (x0 :: st) z Q) := zw_cond (f := z_aload 0 716) rfl rfl
theorem s253_716 {x0 x1 x2 : Value} {a : Int32} : ZW zG d 253 716 [x0, x1, x2, .int a] st z Q = ZW zG d 253 717 [x0, x1, x2, .int a] (.int a :: st) z Q := zw_next (f := z_iload 3 717) rfl rfl
theorem s253_717 {ls : List Value}  : ZW zG d 253 717 ls (st) z Q = ZW zG d 253 718 ls ((.int (nI 2)) :: st) z Q := zw_push rfl
theorem s253_718 {ls : List Value} {a b : Int32} : ZW zG d 253 718 ls (.int b :: .int a :: st) z Q = ZW zG d 253 719 ls (.int (a + b) :: st) z Q := zw_iadd rfl
theorem s253_719 {ls : List Value} {a : Int32} {r : Nat} : ZW zG d 253 719 ls (.int a :: .ref r :: st) z Q = ((zcls z r = 49 ∧ zin a (zlen z r) = true) ∧ ZW zG d 253 720 ls (.int (zia z r (zx a)) :: st) (z) Q) := zw_iald rfl
theorem s253_720 {x0 x1 x2 x3 : Value} : ZW zG d 253 720 [x0, x1, x2, x3] st z Q = (zir x0 = true ∧ ZW zG d 253 721 [x0, x1, x2, x3] (x0 :: st) z Q) := zw_cond (f := z_aload 0 721) rfl rfl
theorem s253_721 {x0 x1 x2 : Value} {a : Int32} : ZW zG d 253 721 [x0, x1, x2, .int a] st z Q = ZW zG d 253 722 [x0, x1, x2, .int a] (.int a :: st) z Q := zw_next (f := z_iload 3 722) rfl rfl
theorem s253_722 {ls : List Value}  : ZW zG d 253 722 ls (st) z Q = ZW zG d 253 723 ls ((.int (nI 3)) :: st) z Q := zw_push rfl
theorem s253_723 {ls : List Value} {a b : Int32} : ZW zG d 253 723 ls (.int b :: .int a :: st) z Q = ZW zG d 253 724 ls (.int (a + b) :: st) z Q := zw_iadd rfl
theorem s253_724 {ls : List Value} {a : Int32} {r : Nat} : ZW zG d 253 724 ls (.int a :: .ref r :: st) z Q = ((zcls z r = 49 ∧ zin a (zlen z r) = true) ∧ ZW zG d 253 725 ls (.int (zia z r (zx a)) :: st) (z) Q) := zw_iald rfl
theorem s253_725 {ls : List Value} {w0 : Int32} {w1 : Int32} {w2 : Int32} {r : Nat} : ZW zG (d + 1) 253 725 ls (.int w2 :: .int w1 :: .int w0 :: .ref r :: st) z Q = (zcls z r = 12 ∧ zcs st = true ∧ ZC zG d 187 [.ref r, .int w0, .int w1, .int w2] z (zk zG (d + 1) 253 (none) 728 ls st Q)) := zc_V3 rfl (Nat.le_of_ble_eq_true rfl)
theorem s253_728 {ls : List Value} {a b : Int32} : ZW zG d 253 728 ls (.int b :: .int a :: st) z Q = if a = b then ZW zG d 253 1350 ls st z Q else ZW zG d 253 731 ls st z Q := zw_iceq rfl
theorem s253_731 {ls : List Value}  : ZW zG d 253 731 ls (st) z Q = ZW zG d 253 732 ls ((.int (nI 0)) :: st) z Q := zw_push rfl
theorem s253_732 {ls : List Value} {a : Int32} : ZW zG d 253 732 ls ([.int a]) z Q = ((a = 0 ∨ a = 1) ∧ Q (.inl (some (.int a))) z) := zw_retz rfl
theorem s253_733 {x0 x1 x2 x3 : Value} : ZW zG d 253 733 [x0, x1, x2, x3] st z Q = (zir x1 = true ∧ ZW zG d 253 734 [x0, x1, x2, x3] (x1 :: st) z Q) := zw_cond (f := z_aload 1 734) rfl rfl
theorem s253_734 {x0 x1 x2 x3 : Value} : ZW zG d 253 734 [x0, x1, x2, x3] st z Q = (zir x0 = true ∧ ZW zG d 253 735 [x0, x1, x2, x3] (x0 :: st) z Q) := zw_cond (f := z_aload 0 735) rfl rfl
theorem s253_735 {x0 x1 x2 : Value} {a : Int32} : ZW zG d 253 735 [x0, x1, x2, .int a] st z Q = ZW zG d 253 736 [x0, x1, x2, .int a] (.int a :: st) z Q := zw_next (f := z_iload 3 736) rfl rfl
theorem s253_736 {ls : List Value}  : ZW zG d 253 736 ls (st) z Q = ZW zG d 253 737 ls ((.int (nI 1)) :: st) z Q := zw_push rfl
theorem s253_737 {ls : List Value} {a b : Int32} : ZW zG d 253 737 ls (.int b :: .int a :: st) z Q = ZW zG d 253 738 ls (.int (a + b) :: st) z Q := zw_iadd rfl
theorem s253_738 {ls : List Value} {a : Int32} {r : Nat} : ZW zG d 253 738 ls (.int a :: .ref r :: st) z Q = ((zcls z r = 49 ∧ zin a (zlen z r) = true) ∧ ZW zG d 253 739 ls (.int (zia z r (zx a)) :: st) (z) Q) := zw_iald rfl
theorem s253_739 {x0 x1 x2 x3 : Value} : ZW zG d 253 739 [x0, x1, x2, x3] st z Q = (zir x0 = true ∧ ZW zG d 253 740 [x0, x1, x2, x3] (x0 :: st) z Q) := zw_cond (f := z_aload 0 740) rfl rfl
theorem s253_740 {x0 x1 x2 : Value} {a : Int32} : ZW zG d 253 740 [x0, x1, x2, .int a] st z Q = ZW zG d 253 741 [x0, x1, x2, .int a] (.int a :: st) z Q := zw_next (f := z_iload 3 741) rfl rfl
theorem s253_741 {ls : List Value}  : ZW zG d 253 741 ls (st) z Q = ZW zG d 253 742 ls ((.int (nI 2)) :: st) z Q := zw_push rfl
theorem s253_742 {ls : List Value} {a b : Int32} : ZW zG d 253 742 ls (.int b :: .int a :: st) z Q = ZW zG d 253 743 ls (.int (a + b) :: st) z Q := zw_iadd rfl
theorem s253_743 {ls : List Value} {a : Int32} {r : Nat} : ZW zG d 253 743 ls (.int a :: .ref r :: st) z Q = ((zcls z r = 49 ∧ zin a (zlen z r) = true) ∧ ZW zG d 253 744 ls (.int (zia z r (zx a)) :: st) (z) Q) := zw_iald rfl
theorem s253_744 {ls : List Value} {w0 : Int32} {w1 : Int32} {r : Nat} : ZW zG (d + 1) 253 744 ls (.int w1 :: .int w0 :: .ref r :: st) z Q = (zcls z r = 0 ∧ zcs st = true ∧ ZC zG d 33 [.ref r, .int w0, .int w1] z (zk zG (d + 1) 253 (none) 747 ls st Q)) := zc_V2 rfl (Nat.le_of_ble_eq_true rfl)
theorem s253_747 {x0 x1 x2 x3 : Value} : ZW zG d 253 747 [x0, x1, x2, x3] st z Q = (zir x2 = true ∧ ZW zG d 253 748 [x0, x1, x2, x3] (x2 :: st) z Q) := zw_cond (f := z_aload 2 748) rfl rfl
theorem s253_748 {x0 x1 x2 x3 : Value} : ZW zG d 253 748 [x0, x1, x2, x3] st z Q = (zir x0 = true ∧ ZW zG d 253 749 [x0, x1, x2, x3] (x0 :: st) z Q) := zw_cond (f := z_aload 0 749) rfl rfl
theorem s253_749 {x0 x1 x2 : Value} {a : Int32} : ZW zG d 253 749 [x0, x1, x2, .int a] st z Q = ZW zG d 253 750 [x0, x1, x2, .int a] (.int a :: st) z Q := zw_next (f := z_iload 3 750) rfl rfl
theorem s253_750 {ls : List Value}  : ZW zG d 253 750 ls (st) z Q = ZW zG d 253 751 ls ((.int (nI 1)) :: st) z Q := zw_push rfl
theorem s253_751 {ls : List Value} {a b : Int32} : ZW zG d 253 751 ls (.int b :: .int a :: st) z Q = ZW zG d 253 752 ls (.int (a + b) :: st) z Q := zw_iadd rfl
theorem s253_752 {ls : List Value} {a : Int32} {r : Nat} : ZW zG d 253 752 ls (.int a :: .ref r :: st) z Q = ((zcls z r = 49 ∧ zin a (zlen z r) = true) ∧ ZW zG d 253 753 ls (.int (zia z r (zx a)) :: st) (z) Q) := zw_iald rfl
theorem s253_753 {x0 x1 x2 x3 : Value} : ZW zG d 253 753 [x0, x1, x2, x3] st z Q = (zir x0 = true ∧ ZW zG d 253 754 [x0, x1, x2, x3] (x0 :: st) z Q) := zw_cond (f := z_aload 0 754) rfl rfl
theorem s253_754 {x0 x1 x2 : Value} {a : Int32} : ZW zG d 253 754 [x0, x1, x2, .int a] st z Q = ZW zG d 253 755 [x0, x1, x2, .int a] (.int a :: st) z Q := zw_next (f := z_iload 3 755) rfl rfl
theorem s253_755 {ls : List Value}  : ZW zG d 253 755 ls (st) z Q = ZW zG d 253 756 ls ((.int (nI 2)) :: st) z Q := zw_push rfl
theorem s253_756 {ls : List Value} {a b : Int32} : ZW zG d 253 756 ls (.int b :: .int a :: st) z Q = ZW zG d 253 757 ls (.int (a + b) :: st) z Q := zw_iadd rfl
theorem s253_757 {ls : List Value} {a : Int32} {r : Nat} : ZW zG d 253 757 ls (.int a :: .ref r :: st) z Q = ((zcls z r = 49 ∧ zin a (zlen z r) = true) ∧ ZW zG d 253 758 ls (.int (zia z r (zx a)) :: st) (z) Q) := zw_iald rfl
theorem s253_758 {ls : List Value} {w0 : Int32} {w1 : Int32} {r : Nat} : ZW zG (d + 1) 253 758 ls (.int w1 :: .int w0 :: .ref r :: st) z Q = (zcls z r = 12 ∧ zcs st = true ∧ ZC zG d 186 [.ref r, .int w0, .int w1] z (zk zG (d + 1) 253 (none) 761 ls st Q)) := zc_V2 rfl (Nat.le_of_ble_eq_true rfl)
theorem s253_761 {ls : List Value} {a b : Int32} : ZW zG d 253 761 ls (.int b :: .int a :: st) z Q = if a = b then ZW zG d 253 1350 ls st z Q else ZW zG d 253 764 ls st z Q := zw_iceq rfl
theorem s253_764 {ls : List Value}  : ZW zG d 253 764 ls (st) z Q = ZW zG d 253 765 ls ((.int (nI 0)) :: st) z Q := zw_push rfl
theorem s253_765 {ls : List Value} {a : Int32} : ZW zG d 253 765 ls ([.int a]) z Q = ((a = 0 ∨ a = 1) ∧ Q (.inl (some (.int a))) z) := zw_retz rfl
theorem s253_766 {x0 x1 x2 x3 : Value} : ZW zG d 253 766 [x0, x1, x2, x3] st z Q = (zir x1 = true ∧ ZW zG d 253 767 [x0, x1, x2, x3] (x1 :: st) z Q) := zw_cond (f := z_aload 1 767) rfl rfl
theorem s253_767 {x0 x1 x2 x3 : Value} : ZW zG d 253 767 [x0, x1, x2, x3] st z Q = (zir x0 = true ∧ ZW zG d 253 768 [x0, x1, x2, x3] (x0 :: st) z Q) := zw_cond (f := z_aload 0 768) rfl rfl
theorem s253_768 {x0 x1 x2 : Value} {a : Int32} : ZW zG d 253 768 [x0, x1, x2, .int a] st z Q = ZW zG d 253 769 [x0, x1, x2, .int a] (.int a :: st) z Q := zw_next (f := z_iload 3 769) rfl rfl
theorem s253_769 {ls : List Value}  : ZW zG d 253 769 ls (st) z Q = ZW zG d 253 770 ls ((.int (nI 1)) :: st) z Q := zw_push rfl
theorem s253_770 {ls : List Value} {a b : Int32} : ZW zG d 253 770 ls (.int b :: .int a :: st) z Q = ZW zG d 253 771 ls (.int (a + b) :: st) z Q := zw_iadd rfl
theorem s253_771 {ls : List Value} {a : Int32} {r : Nat} : ZW zG d 253 771 ls (.int a :: .ref r :: st) z Q = ((zcls z r = 49 ∧ zin a (zlen z r) = true) ∧ ZW zG d 253 772 ls (.int (zia z r (zx a)) :: st) (z) Q) := zw_iald rfl
theorem s253_772 {x0 x1 x2 x3 : Value} : ZW zG d 253 772 [x0, x1, x2, x3] st z Q = (zir x0 = true ∧ ZW zG d 253 773 [x0, x1, x2, x3] (x0 :: st) z Q) := zw_cond (f := z_aload 0 773) rfl rfl
theorem s253_773 {x0 x1 x2 : Value} {a : Int32} : ZW zG d 253 773 [x0, x1, x2, .int a] st z Q = ZW zG d 253 774 [x0, x1, x2, .int a] (.int a :: st) z Q := zw_next (f := z_iload 3 774) rfl rfl
theorem s253_774 {ls : List Value}  : ZW zG d 253 774 ls (st) z Q = ZW zG d 253 775 ls ((.int (nI 2)) :: st) z Q := zw_push rfl
theorem s253_775 {ls : List Value} {a b : Int32} : ZW zG d 253 775 ls (.int b :: .int a :: st) z Q = ZW zG d 253 776 ls (.int (a + b) :: st) z Q := zw_iadd rfl
theorem s253_776 {ls : List Value} {a : Int32} {r : Nat} : ZW zG d 253 776 ls (.int a :: .ref r :: st) z Q = ((zcls z r = 49 ∧ zin a (zlen z r) = true) ∧ ZW zG d 253 777 ls (.int (zia z r (zx a)) :: st) (z) Q) := zw_iald rfl
theorem s253_777 {x0 x1 x2 x3 : Value} : ZW zG d 253 777 [x0, x1, x2, x3] st z Q = (zir x0 = true ∧ ZW zG d 253 778 [x0, x1, x2, x3] (x0 :: st) z Q) := zw_cond (f := z_aload 0 778) rfl rfl
theorem s253_778 {x0 x1 x2 : Value} {a : Int32} : ZW zG d 253 778 [x0, x1, x2, .int a] st z Q = ZW zG d 253 779 [x0, x1, x2, .int a] (.int a :: st) z Q := zw_next (f := z_iload 3 779) rfl rfl
theorem s253_779 {ls : List Value}  : ZW zG d 253 779 ls (st) z Q = ZW zG d 253 780 ls ((.int (nI 3)) :: st) z Q := zw_push rfl
theorem s253_780 {ls : List Value} {a b : Int32} : ZW zG d 253 780 ls (.int b :: .int a :: st) z Q = ZW zG d 253 781 ls (.int (a + b) :: st) z Q := zw_iadd rfl
theorem s253_781 {ls : List Value} {a : Int32} {r : Nat} : ZW zG d 253 781 ls (.int a :: .ref r :: st) z Q = ((zcls z r = 49 ∧ zin a (zlen z r) = true) ∧ ZW zG d 253 782 ls (.int (zia z r (zx a)) :: st) (z) Q) := zw_iald rfl
theorem s253_782 {ls : List Value} {w0 : Int32} {w1 : Int32} {w2 : Int32} {r : Nat} : ZW zG (d + 1) 253 782 ls (.int w2 :: .int w1 :: .int w0 :: .ref r :: st) z Q = (zcls z r = 0 ∧ zcs st = true ∧ ZC zG d 35 [.ref r, .int w0, .int w1, .int w2] z (zk zG (d + 1) 253 (none) 785 ls st Q)) := zc_V3 rfl (Nat.le_of_ble_eq_true rfl)
theorem s253_785 {x0 x1 x2 x3 : Value} : ZW zG d 253 785 [x0, x1, x2, x3] st z Q = (zir x2 = true ∧ ZW zG d 253 786 [x0, x1, x2, x3] (x2 :: st) z Q) := zw_cond (f := z_aload 2 786) rfl rfl
theorem s253_786 {x0 x1 x2 x3 : Value} : ZW zG d 253 786 [x0, x1, x2, x3] st z Q = (zir x0 = true ∧ ZW zG d 253 787 [x0, x1, x2, x3] (x0 :: st) z Q) := zw_cond (f := z_aload 0 787) rfl rfl
theorem s253_787 {x0 x1 x2 : Value} {a : Int32} : ZW zG d 253 787 [x0, x1, x2, .int a] st z Q = ZW zG d 253 788 [x0, x1, x2, .int a] (.int a :: st) z Q := zw_next (f := z_iload 3 788) rfl rfl
theorem s253_788 {ls : List Value}  : ZW zG d 253 788 ls (st) z Q = ZW zG d 253 789 ls ((.int (nI 1)) :: st) z Q := zw_push rfl
theorem s253_789 {ls : List Value} {a b : Int32} : ZW zG d 253 789 ls (.int b :: .int a :: st) z Q = ZW zG d 253 790 ls (.int (a + b) :: st) z Q := zw_iadd rfl
theorem s253_790 {ls : List Value} {a : Int32} {r : Nat} : ZW zG d 253 790 ls (.int a :: .ref r :: st) z Q = ((zcls z r = 49 ∧ zin a (zlen z r) = true) ∧ ZW zG d 253 791 ls (.int (zia z r (zx a)) :: st) (z) Q) := zw_iald rfl
theorem s253_791 {x0 x1 x2 x3 : Value} : ZW zG d 253 791 [x0, x1, x2, x3] st z Q = (zir x0 = true ∧ ZW zG d 253 792 [x0, x1, x2, x3] (x0 :: st) z Q) := zw_cond (f := z_aload 0 792) rfl rfl
theorem s253_792 {x0 x1 x2 : Value} {a : Int32} : ZW zG d 253 792 [x0, x1, x2, .int a] st z Q = ZW zG d 253 793 [x0, x1, x2, .int a] (.int a :: st) z Q := zw_next (f := z_iload 3 793) rfl rfl
theorem s253_793 {ls : List Value}  : ZW zG d 253 793 ls (st) z Q = ZW zG d 253 794 ls ((.int (nI 2)) :: st) z Q := zw_push rfl
theorem s253_794 {ls : List Value} {a b : Int32} : ZW zG d 253 794 ls (.int b :: .int a :: st) z Q = ZW zG d 253 795 ls (.int (a + b) :: st) z Q := zw_iadd rfl
theorem s253_795 {ls : List Value} {a : Int32} {r : Nat} : ZW zG d 253 795 ls (.int a :: .ref r :: st) z Q = ((zcls z r = 49 ∧ zin a (zlen z r) = true) ∧ ZW zG d 253 796 ls (.int (zia z r (zx a)) :: st) (z) Q) := zw_iald rfl
theorem s253_796 {x0 x1 x2 x3 : Value} : ZW zG d 253 796 [x0, x1, x2, x3] st z Q = (zir x0 = true ∧ ZW zG d 253 797 [x0, x1, x2, x3] (x0 :: st) z Q) := zw_cond (f := z_aload 0 797) rfl rfl
theorem s253_797 {x0 x1 x2 : Value} {a : Int32} : ZW zG d 253 797 [x0, x1, x2, .int a] st z Q = ZW zG d 253 798 [x0, x1, x2, .int a] (.int a :: st) z Q := zw_next (f := z_iload 3 798) rfl rfl
theorem s253_798 {ls : List Value}  : ZW zG d 253 798 ls (st) z Q = ZW zG d 253 799 ls ((.int (nI 3)) :: st) z Q := zw_push rfl
theorem s253_799 {ls : List Value} {a b : Int32} : ZW zG d 253 799 ls (.int b :: .int a :: st) z Q = ZW zG d 253 800 ls (.int (a + b) :: st) z Q := zw_iadd rfl
theorem s253_800 {ls : List Value} {a : Int32} {r : Nat} : ZW zG d 253 800 ls (.int a :: .ref r :: st) z Q = ((zcls z r = 49 ∧ zin a (zlen z r) = true) ∧ ZW zG d 253 801 ls (.int (zia z r (zx a)) :: st) (z) Q) := zw_iald rfl
theorem s253_801 {ls : List Value} {w0 : Int32} {w1 : Int32} {w2 : Int32} {r : Nat} : ZW zG (d + 1) 253 801 ls (.int w2 :: .int w1 :: .int w0 :: .ref r :: st) z Q = (zcls z r = 12 ∧ zcs st = true ∧ ZC zG d 189 [.ref r, .int w0, .int w1, .int w2] z (zk zG (d + 1) 253 (none) 804 ls st Q)) := zc_V3 rfl (Nat.le_of_ble_eq_true rfl)
theorem s253_804 {ls : List Value} {a b : Int32} : ZW zG d 253 804 ls (.int b :: .int a :: st) z Q = if a = b then ZW zG d 253 1350 ls st z Q else ZW zG d 253 807 ls st z Q := zw_iceq rfl
theorem s253_807 {ls : List Value}  : ZW zG d 253 807 ls (st) z Q = ZW zG d 253 808 ls ((.int (nI 0)) :: st) z Q := zw_push rfl
theorem s253_808 {ls : List Value} {a : Int32} : ZW zG d 253 808 ls ([.int a]) z Q = ((a = 0 ∨ a = 1) ∧ Q (.inl (some (.int a))) z) := zw_retz rfl
theorem s253_809 {x0 x1 x2 x3 : Value} : ZW zG d 253 809 [x0, x1, x2, x3] st z Q = (zir x1 = true ∧ ZW zG d 253 810 [x0, x1, x2, x3] (x1 :: st) z Q) := zw_cond (f := z_aload 1 810) rfl rfl
theorem s253_810 {x0 x1 x2 x3 : Value} : ZW zG d 253 810 [x0, x1, x2, x3] st z Q = (zir x0 = true ∧ ZW zG d 253 811 [x0, x1, x2, x3] (x0 :: st) z Q) := zw_cond (f := z_aload 0 811) rfl rfl
theorem s253_811 {x0 x1 x2 : Value} {a : Int32} : ZW zG d 253 811 [x0, x1, x2, .int a] st z Q = ZW zG d 253 812 [x0, x1, x2, .int a] (.int a :: st) z Q := zw_next (f := z_iload 3 812) rfl rfl
theorem s253_812 {ls : List Value}  : ZW zG d 253 812 ls (st) z Q = ZW zG d 253 813 ls ((.int (nI 1)) :: st) z Q := zw_push rfl
theorem s253_813 {ls : List Value} {a b : Int32} : ZW zG d 253 813 ls (.int b :: .int a :: st) z Q = ZW zG d 253 814 ls (.int (a + b) :: st) z Q := zw_iadd rfl
theorem s253_814 {ls : List Value} {a : Int32} {r : Nat} : ZW zG d 253 814 ls (.int a :: .ref r :: st) z Q = ((zcls z r = 49 ∧ zin a (zlen z r) = true) ∧ ZW zG d 253 815 ls (.int (zia z r (zx a)) :: st) (z) Q) := zw_iald rfl
theorem s253_815 {ls : List Value} {w0 : Int32} {r : Nat} : ZW zG (d + 1) 253 815 ls (.int w0 :: .ref r :: st) z Q = (zcls z r = 0 ∧ zcs st = true ∧ ZC zG d 36 [.ref r, .int w0] z (zk zG (d + 1) 253 (none) 818 ls st Q)) := zc_V1 rfl (Nat.le_of_ble_eq_true rfl)
theorem s253_818 {x0 x1 x2 x3 : Value} : ZW zG d 253 818 [x0, x1, x2, x3] st z Q = (zir x2 = true ∧ ZW zG d 253 819 [x0, x1, x2, x3] (x2 :: st) z Q) := zw_cond (f := z_aload 2 819) rfl rfl
theorem s253_819 {x0 x1 x2 x3 : Value} : ZW zG d 253 819 [x0, x1, x2, x3] st z Q = (zir x0 = true ∧ ZW zG d 253 820 [x0, x1, x2, x3] (x0 :: st) z Q) := zw_cond (f := z_aload 0 820) rfl rfl
theorem s253_820 {x0 x1 x2 : Value} {a : Int32} : ZW zG d 253 820 [x0, x1, x2, .int a] st z Q = ZW zG d 253 821 [x0, x1, x2, .int a] (.int a :: st) z Q := zw_next (f := z_iload 3 821) rfl rfl
theorem s253_821 {ls : List Value}  : ZW zG d 253 821 ls (st) z Q = ZW zG d 253 822 ls ((.int (nI 1)) :: st) z Q := zw_push rfl
theorem s253_822 {ls : List Value} {a b : Int32} : ZW zG d 253 822 ls (.int b :: .int a :: st) z Q = ZW zG d 253 823 ls (.int (a + b) :: st) z Q := zw_iadd rfl
theorem s253_823 {ls : List Value} {a : Int32} {r : Nat} : ZW zG d 253 823 ls (.int a :: .ref r :: st) z Q = ((zcls z r = 49 ∧ zin a (zlen z r) = true) ∧ ZW zG d 253 824 ls (.int (zia z r (zx a)) :: st) (z) Q) := zw_iald rfl
theorem s253_824 {ls : List Value} {w0 : Int32} {r : Nat} : ZW zG (d + 1) 253 824 ls (.int w0 :: .ref r :: st) z Q = (zcls z r = 12 ∧ zcs st = true ∧ ZC zG d 190 [.ref r, .int w0] z (zk zG (d + 1) 253 (none) 827 ls st Q)) := zc_V1 rfl (Nat.le_of_ble_eq_true rfl)
theorem s253_827 {ls : List Value} {a b : Int32} : ZW zG d 253 827 ls (.int b :: .int a :: st) z Q = if a = b then ZW zG d 253 1350 ls st z Q else ZW zG d 253 830 ls st z Q := zw_iceq rfl
theorem s253_830 {ls : List Value}  : ZW zG d 253 830 ls (st) z Q = ZW zG d 253 831 ls ((.int (nI 0)) :: st) z Q := zw_push rfl
theorem s253_831 {ls : List Value} {a : Int32} : ZW zG d 253 831 ls ([.int a]) z Q = ((a = 0 ∨ a = 1) ∧ Q (.inl (some (.int a))) z) := zw_retz rfl
theorem s253_832 {x0 x1 x2 x3 : Value} : ZW zG d 253 832 [x0, x1, x2, x3] st z Q = (zir x1 = true ∧ ZW zG d 253 833 [x0, x1, x2, x3] (x1 :: st) z Q) := zw_cond (f := z_aload 1 833) rfl rfl
theorem s253_833 {x0 x1 x2 x3 : Value} : ZW zG d 253 833 [x0, x1, x2, x3] st z Q = (zir x0 = true ∧ ZW zG d 253 834 [x0, x1, x2, x3] (x0 :: st) z Q) := zw_cond (f := z_aload 0 834) rfl rfl
theorem s253_834 {x0 x1 x2 : Value} {a : Int32} : ZW zG d 253 834 [x0, x1, x2, .int a] st z Q = ZW zG d 253 835 [x0, x1, x2, .int a] (.int a :: st) z Q := zw_next (f := z_iload 3 835) rfl rfl
theorem s253_835 {ls : List Value}  : ZW zG d 253 835 ls (st) z Q = ZW zG d 253 836 ls ((.int (nI 1)) :: st) z Q := zw_push rfl
theorem s253_836 {ls : List Value} {a b : Int32} : ZW zG d 253 836 ls (.int b :: .int a :: st) z Q = ZW zG d 253 837 ls (.int (a + b) :: st) z Q := zw_iadd rfl
theorem s253_837 {ls : List Value} {a : Int32} {r : Nat} : ZW zG d 253 837 ls (.int a :: .ref r :: st) z Q = ((zcls z r = 49 ∧ zin a (zlen z r) = true) ∧ ZW zG d 253 838 ls (.int (zia z r (zx a)) :: st) (z) Q) := zw_iald rfl
theorem s253_838 {ls : List Value} {w0 : Int32} {r : Nat} : ZW zG (d + 1) 253 838 ls (.int w0 :: .ref r :: st) z Q = (zcls z r = 0 ∧ zcs st = true ∧ ZC zG d 39 [.ref r, .int w0] z (zk zG (d + 1) 253 (none) 841 ls st Q)) := zc_V1 rfl (Nat.le_of_ble_eq_true rfl)
theorem s253_841 {x0 x1 x2 x3 : Value} : ZW zG d 253 841 [x0, x1, x2, x3] st z Q = (zir x2 = true ∧ ZW zG d 253 842 [x0, x1, x2, x3] (x2 :: st) z Q) := zw_cond (f := z_aload 2 842) rfl rfl
theorem s253_842 {x0 x1 x2 x3 : Value} : ZW zG d 253 842 [x0, x1, x2, x3] st z Q = (zir x0 = true ∧ ZW zG d 253 843 [x0, x1, x2, x3] (x0 :: st) z Q) := zw_cond (f := z_aload 0 843) rfl rfl
theorem s253_843 {x0 x1 x2 : Value} {a : Int32} : ZW zG d 253 843 [x0, x1, x2, .int a] st z Q = ZW zG d 253 844 [x0, x1, x2, .int a] (.int a :: st) z Q := zw_next (f := z_iload 3 844) rfl rfl
theorem s253_844 {ls : List Value}  : ZW zG d 253 844 ls (st) z Q = ZW zG d 253 845 ls ((.int (nI 1)) :: st) z Q := zw_push rfl
theorem s253_845 {ls : List Value} {a b : Int32} : ZW zG d 253 845 ls (.int b :: .int a :: st) z Q = ZW zG d 253 846 ls (.int (a + b) :: st) z Q := zw_iadd rfl
theorem s253_846 {ls : List Value} {a : Int32} {r : Nat} : ZW zG d 253 846 ls (.int a :: .ref r :: st) z Q = ((zcls z r = 49 ∧ zin a (zlen z r) = true) ∧ ZW zG d 253 847 ls (.int (zia z r (zx a)) :: st) (z) Q) := zw_iald rfl
theorem s253_847 {ls : List Value} {w0 : Int32} {r : Nat} : ZW zG (d + 1) 253 847 ls (.int w0 :: .ref r :: st) z Q = (zcls z r = 12 ∧ zcs st = true ∧ ZC zG d 193 [.ref r, .int w0] z (zk zG (d + 1) 253 (none) 850 ls st Q)) := zc_V1 rfl (Nat.le_of_ble_eq_true rfl)
theorem s253_850 {ls : List Value} {a b : Int32} : ZW zG d 253 850 ls (.int b :: .int a :: st) z Q = if a = b then ZW zG d 253 1350 ls st z Q else ZW zG d 253 853 ls st z Q := zw_iceq rfl
theorem s253_853 {ls : List Value}  : ZW zG d 253 853 ls (st) z Q = ZW zG d 253 854 ls ((.int (nI 0)) :: st) z Q := zw_push rfl
theorem s253_854 {ls : List Value} {a : Int32} : ZW zG d 253 854 ls ([.int a]) z Q = ((a = 0 ∨ a = 1) ∧ Q (.inl (some (.int a))) z) := zw_retz rfl
theorem s253_855 {x0 x1 x2 x3 : Value} : ZW zG d 253 855 [x0, x1, x2, x3] st z Q = (zir x1 = true ∧ ZW zG d 253 856 [x0, x1, x2, x3] (x1 :: st) z Q) := zw_cond (f := z_aload 1 856) rfl rfl
theorem s253_856 {x0 x1 x2 x3 : Value} : ZW zG d 253 856 [x0, x1, x2, x3] st z Q = (zir x0 = true ∧ ZW zG d 253 857 [x0, x1, x2, x3] (x0 :: st) z Q) := zw_cond (f := z_aload 0 857) rfl rfl
theorem s253_857 {x0 x1 x2 : Value} {a : Int32} : ZW zG d 253 857 [x0, x1, x2, .int a] st z Q = ZW zG d 253 858 [x0, x1, x2, .int a] (.int a :: st) z Q := zw_next (f := z_iload 3 858) rfl rfl
theorem s253_858 {ls : List Value}  : ZW zG d 253 858 ls (st) z Q = ZW zG d 253 859 ls ((.int (nI 1)) :: st) z Q := zw_push rfl
theorem s253_859 {ls : List Value} {a b : Int32} : ZW zG d 253 859 ls (.int b :: .int a :: st) z Q = ZW zG d 253 860 ls (.int (a + b) :: st) z Q := zw_iadd rfl
theorem s253_860 {ls : List Value} {a : Int32} {r : Nat} : ZW zG d 253 860 ls (.int a :: .ref r :: st) z Q = ((zcls z r = 49 ∧ zin a (zlen z r) = true) ∧ ZW zG d 253 861 ls (.int (zia z r (zx a)) :: st) (z) Q) := zw_iald rfl
theorem s253_861 {x0 x1 x2 x3 : Value} : ZW zG d 253 861 [x0, x1, x2, x3] st z Q = (zir x0 = true ∧ ZW zG d 253 862 [x0, x1, x2, x3] (x0 :: st) z Q) := zw_cond (f := z_aload 0 862) rfl rfl
theorem s253_862 {x0 x1 x2 : Value} {a : Int32} : ZW zG d 253 862 [x0, x1, x2, .int a] st z Q = ZW zG d 253 863 [x0, x1, x2, .int a] (.int a :: st) z Q := zw_next (f := z_iload 3 863) rfl rfl
theorem s253_863 {ls : List Value}  : ZW zG d 253 863 ls (st) z Q = ZW zG d 253 864 ls ((.int (nI 2)) :: st) z Q := zw_push rfl
theorem s253_864 {ls : List Value} {a b : Int32} : ZW zG d 253 864 ls (.int b :: .int a :: st) z Q = ZW zG d 253 865 ls (.int (a + b) :: st) z Q := zw_iadd rfl
theorem s253_865 {ls : List Value} {a : Int32} {r : Nat} : ZW zG d 253 865 ls (.int a :: .ref r :: st) z Q = ((zcls z r = 49 ∧ zin a (zlen z r) = true) ∧ ZW zG d 253 866 ls (.int (zia z r (zx a)) :: st) (z) Q) := zw_iald rfl
theorem s253_866 {ls : List Value} {w0 : Int32} {w1 : Int32} {r : Nat} : ZW zG (d + 1) 253 866 ls (.int w1 :: .int w0 :: .ref r :: st) z Q = (zcls z r = 0 ∧ zcs st = true ∧ ZC zG d 40 [.ref r, .int w0, .int w1] z (zk zG (d + 1) 253 (none) 869 ls st Q)) := zc_V2 rfl (Nat.le_of_ble_eq_true rfl)
theorem s253_869 {x0 x1 x2 x3 : Value} : ZW zG d 253 869 [x0, x1, x2, x3] st z Q = (zir x2 = true ∧ ZW zG d 253 870 [x0, x1, x2, x3] (x2 :: st) z Q) := zw_cond (f := z_aload 2 870) rfl rfl
theorem s253_870 {x0 x1 x2 x3 : Value} : ZW zG d 253 870 [x0, x1, x2, x3] st z Q = (zir x0 = true ∧ ZW zG d 253 871 [x0, x1, x2, x3] (x0 :: st) z Q) := zw_cond (f := z_aload 0 871) rfl rfl
theorem s253_871 {x0 x1 x2 : Value} {a : Int32} : ZW zG d 253 871 [x0, x1, x2, .int a] st z Q = ZW zG d 253 872 [x0, x1, x2, .int a] (.int a :: st) z Q := zw_next (f := z_iload 3 872) rfl rfl
theorem s253_872 {ls : List Value}  : ZW zG d 253 872 ls (st) z Q = ZW zG d 253 873 ls ((.int (nI 1)) :: st) z Q := zw_push rfl
theorem s253_873 {ls : List Value} {a b : Int32} : ZW zG d 253 873 ls (.int b :: .int a :: st) z Q = ZW zG d 253 874 ls (.int (a + b) :: st) z Q := zw_iadd rfl
theorem s253_874 {ls : List Value} {a : Int32} {r : Nat} : ZW zG d 253 874 ls (.int a :: .ref r :: st) z Q = ((zcls z r = 49 ∧ zin a (zlen z r) = true) ∧ ZW zG d 253 875 ls (.int (zia z r (zx a)) :: st) (z) Q) := zw_iald rfl
theorem s253_875 {x0 x1 x2 x3 : Value} : ZW zG d 253 875 [x0, x1, x2, x3] st z Q = (zir x0 = true ∧ ZW zG d 253 876 [x0, x1, x2, x3] (x0 :: st) z Q) := zw_cond (f := z_aload 0 876) rfl rfl
theorem s253_876 {x0 x1 x2 : Value} {a : Int32} : ZW zG d 253 876 [x0, x1, x2, .int a] st z Q = ZW zG d 253 877 [x0, x1, x2, .int a] (.int a :: st) z Q := zw_next (f := z_iload 3 877) rfl rfl
theorem s253_877 {ls : List Value}  : ZW zG d 253 877 ls (st) z Q = ZW zG d 253 878 ls ((.int (nI 2)) :: st) z Q := zw_push rfl
theorem s253_878 {ls : List Value} {a b : Int32} : ZW zG d 253 878 ls (.int b :: .int a :: st) z Q = ZW zG d 253 879 ls (.int (a + b) :: st) z Q := zw_iadd rfl
theorem s253_879 {ls : List Value} {a : Int32} {r : Nat} : ZW zG d 253 879 ls (.int a :: .ref r :: st) z Q = ((zcls z r = 49 ∧ zin a (zlen z r) = true) ∧ ZW zG d 253 880 ls (.int (zia z r (zx a)) :: st) (z) Q) := zw_iald rfl
theorem s253_880 {ls : List Value} {w0 : Int32} {w1 : Int32} {r : Nat} : ZW zG (d + 1) 253 880 ls (.int w1 :: .int w0 :: .ref r :: st) z Q = (zcls z r = 12 ∧ zcs st = true ∧ ZC zG d 194 [.ref r, .int w0, .int w1] z (zk zG (d + 1) 253 (none) 883 ls st Q)) := zc_V2 rfl (Nat.le_of_ble_eq_true rfl)
theorem s253_883 {ls : List Value} {a b : Int32} : ZW zG d 253 883 ls (.int b :: .int a :: st) z Q = if a = b then ZW zG d 253 1350 ls st z Q else ZW zG d 253 886 ls st z Q := zw_iceq rfl
theorem s253_886 {ls : List Value}  : ZW zG d 253 886 ls (st) z Q = ZW zG d 253 887 ls ((.int (nI 0)) :: st) z Q := zw_push rfl
theorem s253_887 {ls : List Value} {a : Int32} : ZW zG d 253 887 ls ([.int a]) z Q = ((a = 0 ∨ a = 1) ∧ Q (.inl (some (.int a))) z) := zw_retz rfl
theorem s253_888 {x0 x1 x2 x3 : Value} : ZW zG d 253 888 [x0, x1, x2, x3] st z Q = (zir x1 = true ∧ ZW zG d 253 889 [x0, x1, x2, x3] (x1 :: st) z Q) := zw_cond (f := z_aload 1 889) rfl rfl
theorem s253_889 {x0 x1 x2 x3 : Value} : ZW zG d 253 889 [x0, x1, x2, x3] st z Q = (zir x0 = true ∧ ZW zG d 253 890 [x0, x1, x2, x3] (x0 :: st) z Q) := zw_cond (f := z_aload 0 890) rfl rfl
theorem s253_890 {x0 x1 x2 : Value} {a : Int32} : ZW zG d 253 890 [x0, x1, x2, .int a] st z Q = ZW zG d 253 891 [x0, x1, x2, .int a] (.int a :: st) z Q := zw_next (f := z_iload 3 891) rfl rfl
theorem s253_891 {ls : List Value}  : ZW zG d 253 891 ls (st) z Q = ZW zG d 253 892 ls ((.int (nI 1)) :: st) z Q := zw_push rfl
theorem s253_892 {ls : List Value} {a b : Int32} : ZW zG d 253 892 ls (.int b :: .int a :: st) z Q = ZW zG d 253 893 ls (.int (a + b) :: st) z Q := zw_iadd rfl
theorem s253_893 {ls : List Value} {a : Int32} {r : Nat} : ZW zG d 253 893 ls (.int a :: .ref r :: st) z Q = ((zcls z r = 49 ∧ zin a (zlen z r) = true) ∧ ZW zG d 253 894 ls (.int (zia z r (zx a)) :: st) (z) Q) := zw_iald rfl
theorem s253_894 {x0 x1 x2 x3 : Value} : ZW zG d 253 894 [x0, x1, x2, x3] st z Q = (zir x0 = true ∧ ZW zG d 253 895 [x0, x1, x2, x3] (x0 :: st) z Q) := zw_cond (f := z_aload 0 895) rfl rfl
theorem s253_895 {x0 x1 x2 : Value} {a : Int32} : ZW zG d 253 895 [x0, x1, x2, .int a] st z Q = ZW zG d 253 896 [x0, x1, x2, .int a] (.int a :: st) z Q := zw_next (f := z_iload 3 896) rfl rfl
theorem s253_896 {ls : List Value}  : ZW zG d 253 896 ls (st) z Q = ZW zG d 253 897 ls ((.int (nI 2)) :: st) z Q := zw_push rfl
theorem s253_897 {ls : List Value} {a b : Int32} : ZW zG d 253 897 ls (.int b :: .int a :: st) z Q = ZW zG d 253 898 ls (.int (a + b) :: st) z Q := zw_iadd rfl
theorem s253_898 {ls : List Value} {a : Int32} {r : Nat} : ZW zG d 253 898 ls (.int a :: .ref r :: st) z Q = ((zcls z r = 49 ∧ zin a (zlen z r) = true) ∧ ZW zG d 253 899 ls (.int (zia z r (zx a)) :: st) (z) Q) := zw_iald rfl
theorem s253_899 {x0 x1 x2 x3 : Value} : ZW zG d 253 899 [x0, x1, x2, x3] st z Q = (zir x0 = true ∧ ZW zG d 253 900 [x0, x1, x2, x3] (x0 :: st) z Q) := zw_cond (f := z_aload 0 900) rfl rfl
theorem s253_900 {x0 x1 x2 : Value} {a : Int32} : ZW zG d 253 900 [x0, x1, x2, .int a] st z Q = ZW zG d 253 901 [x0, x1, x2, .int a] (.int a :: st) z Q := zw_next (f := z_iload 3 901) rfl rfl
theorem s253_901 {ls : List Value}  : ZW zG d 253 901 ls (st) z Q = ZW zG d 253 902 ls ((.int (nI 3)) :: st) z Q := zw_push rfl
theorem s253_902 {ls : List Value} {a b : Int32} : ZW zG d 253 902 ls (.int b :: .int a :: st) z Q = ZW zG d 253 903 ls (.int (a + b) :: st) z Q := zw_iadd rfl
theorem s253_903 {ls : List Value} {a : Int32} {r : Nat} : ZW zG d 253 903 ls (.int a :: .ref r :: st) z Q = ((zcls z r = 49 ∧ zin a (zlen z r) = true) ∧ ZW zG d 253 904 ls (.int (zia z r (zx a)) :: st) (z) Q) := zw_iald rfl
theorem s253_904 {ls : List Value} {w0 : Int32} {w1 : Int32} {w2 : Int32} {r : Nat} : ZW zG (d + 1) 253 904 ls (.int w2 :: .int w1 :: .int w0 :: .ref r :: st) z Q = (zcls z r = 0 ∧ zcs st = true ∧ ZC zG d 44 [.ref r, .int w0, .int w1, .int w2] z (zk zG (d + 1) 253 (none) 907 ls st Q)) := zc_V3 rfl (Nat.le_of_ble_eq_true rfl)
theorem s253_907 {x0 x1 x2 x3 : Value} : ZW zG d 253 907 [x0, x1, x2, x3] st z Q = (zir x2 = true ∧ ZW zG d 253 908 [x0, x1, x2, x3] (x2 :: st) z Q) := zw_cond (f := z_aload 2 908) rfl rfl
theorem s253_908 {x0 x1 x2 x3 : Value} : ZW zG d 253 908 [x0, x1, x2, x3] st z Q = (zir x0 = true ∧ ZW zG d 253 909 [x0, x1, x2, x3] (x0 :: st) z Q) := zw_cond (f := z_aload 0 909) rfl rfl
theorem s253_909 {x0 x1 x2 : Value} {a : Int32} : ZW zG d 253 909 [x0, x1, x2, .int a] st z Q = ZW zG d 253 910 [x0, x1, x2, .int a] (.int a :: st) z Q := zw_next (f := z_iload 3 910) rfl rfl
theorem s253_910 {ls : List Value}  : ZW zG d 253 910 ls (st) z Q = ZW zG d 253 911 ls ((.int (nI 1)) :: st) z Q := zw_push rfl
theorem s253_911 {ls : List Value} {a b : Int32} : ZW zG d 253 911 ls (.int b :: .int a :: st) z Q = ZW zG d 253 912 ls (.int (a + b) :: st) z Q := zw_iadd rfl
theorem s253_912 {ls : List Value} {a : Int32} {r : Nat} : ZW zG d 253 912 ls (.int a :: .ref r :: st) z Q = ((zcls z r = 49 ∧ zin a (zlen z r) = true) ∧ ZW zG d 253 913 ls (.int (zia z r (zx a)) :: st) (z) Q) := zw_iald rfl
theorem s253_913 {x0 x1 x2 x3 : Value} : ZW zG d 253 913 [x0, x1, x2, x3] st z Q = (zir x0 = true ∧ ZW zG d 253 914 [x0, x1, x2, x3] (x0 :: st) z Q) := zw_cond (f := z_aload 0 914) rfl rfl
theorem s253_914 {x0 x1 x2 : Value} {a : Int32} : ZW zG d 253 914 [x0, x1, x2, .int a] st z Q = ZW zG d 253 915 [x0, x1, x2, .int a] (.int a :: st) z Q := zw_next (f := z_iload 3 915) rfl rfl
theorem s253_915 {ls : List Value}  : ZW zG d 253 915 ls (st) z Q = ZW zG d 253 916 ls ((.int (nI 2)) :: st) z Q := zw_push rfl
theorem s253_916 {ls : List Value} {a b : Int32} : ZW zG d 253 916 ls (.int b :: .int a :: st) z Q = ZW zG d 253 917 ls (.int (a + b) :: st) z Q := zw_iadd rfl
theorem s253_917 {ls : List Value} {a : Int32} {r : Nat} : ZW zG d 253 917 ls (.int a :: .ref r :: st) z Q = ((zcls z r = 49 ∧ zin a (zlen z r) = true) ∧ ZW zG d 253 918 ls (.int (zia z r (zx a)) :: st) (z) Q) := zw_iald rfl
theorem s253_918 {x0 x1 x2 x3 : Value} : ZW zG d 253 918 [x0, x1, x2, x3] st z Q = (zir x0 = true ∧ ZW zG d 253 919 [x0, x1, x2, x3] (x0 :: st) z Q) := zw_cond (f := z_aload 0 919) rfl rfl
theorem s253_919 {x0 x1 x2 : Value} {a : Int32} : ZW zG d 253 919 [x0, x1, x2, .int a] st z Q = ZW zG d 253 920 [x0, x1, x2, .int a] (.int a :: st) z Q := zw_next (f := z_iload 3 920) rfl rfl
theorem s253_920 {ls : List Value}  : ZW zG d 253 920 ls (st) z Q = ZW zG d 253 921 ls ((.int (nI 3)) :: st) z Q := zw_push rfl
theorem s253_921 {ls : List Value} {a b : Int32} : ZW zG d 253 921 ls (.int b :: .int a :: st) z Q = ZW zG d 253 922 ls (.int (a + b) :: st) z Q := zw_iadd rfl
theorem s253_922 {ls : List Value} {a : Int32} {r : Nat} : ZW zG d 253 922 ls (.int a :: .ref r :: st) z Q = ((zcls z r = 49 ∧ zin a (zlen z r) = true) ∧ ZW zG d 253 923 ls (.int (zia z r (zx a)) :: st) (z) Q) := zw_iald rfl
theorem s253_923 {ls : List Value} {w0 : Int32} {w1 : Int32} {w2 : Int32} {r : Nat} : ZW zG (d + 1) 253 923 ls (.int w2 :: .int w1 :: .int w0 :: .ref r :: st) z Q = (zcls z r = 12 ∧ zcs st = true ∧ ZC zG d 197 [.ref r, .int w0, .int w1, .int w2] z (zk zG (d + 1) 253 (none) 926 ls st Q)) := zc_V3 rfl (Nat.le_of_ble_eq_true rfl)
theorem s253_926 {ls : List Value} {a b : Int32} : ZW zG d 253 926 ls (.int b :: .int a :: st) z Q = if a = b then ZW zG d 253 1350 ls st z Q else ZW zG d 253 929 ls st z Q := zw_iceq rfl
theorem s253_929 {ls : List Value}  : ZW zG d 253 929 ls (st) z Q = ZW zG d 253 930 ls ((.int (nI 0)) :: st) z Q := zw_push rfl
theorem s253_930 {ls : List Value} {a : Int32} : ZW zG d 253 930 ls ([.int a]) z Q = ((a = 0 ∨ a = 1) ∧ Q (.inl (some (.int a))) z) := zw_retz rfl
theorem s253_931 {x0 x1 x2 x3 : Value} : ZW zG d 253 931 [x0, x1, x2, x3] st z Q = (zir x1 = true ∧ ZW zG d 253 932 [x0, x1, x2, x3] (x1 :: st) z Q) := zw_cond (f := z_aload 1 932) rfl rfl
theorem s253_932 {x0 x1 x2 x3 : Value} : ZW zG d 253 932 [x0, x1, x2, x3] st z Q = (zir x0 = true ∧ ZW zG d 253 933 [x0, x1, x2, x3] (x0 :: st) z Q) := zw_cond (f := z_aload 0 933) rfl rfl
theorem s253_933 {x0 x1 x2 : Value} {a : Int32} : ZW zG d 253 933 [x0, x1, x2, .int a] st z Q = ZW zG d 253 934 [x0, x1, x2, .int a] (.int a :: st) z Q := zw_next (f := z_iload 3 934) rfl rfl
theorem s253_934 {ls : List Value}  : ZW zG d 253 934 ls (st) z Q = ZW zG d 253 935 ls ((.int (nI 1)) :: st) z Q := zw_push rfl
theorem s253_935 {ls : List Value} {a b : Int32} : ZW zG d 253 935 ls (.int b :: .int a :: st) z Q = ZW zG d 253 936 ls (.int (a + b) :: st) z Q := zw_iadd rfl
theorem s253_936 {ls : List Value} {a : Int32} {r : Nat} : ZW zG d 253 936 ls (.int a :: .ref r :: st) z Q = ((zcls z r = 49 ∧ zin a (zlen z r) = true) ∧ ZW zG d 253 937 ls (.int (zia z r (zx a)) :: st) (z) Q) := zw_iald rfl
theorem s253_937 {ls : List Value} {w0 : Int32} {r : Nat} : ZW zG (d + 1) 253 937 ls (.int w0 :: .ref r :: st) z Q = (zcls z r = 0 ∧ zcs st = true ∧ ZC zG d 45 [.ref r, .int w0] z (zk zG (d + 1) 253 (none) 940 ls st Q)) := zc_V1 rfl (Nat.le_of_ble_eq_true rfl)
theorem s253_940 {x0 x1 x2 x3 : Value} : ZW zG d 253 940 [x0, x1, x2, x3] st z Q = (zir x2 = true ∧ ZW zG d 253 941 [x0, x1, x2, x3] (x2 :: st) z Q) := zw_cond (f := z_aload 2 941) rfl rfl
theorem s253_941 {x0 x1 x2 x3 : Value} : ZW zG d 253 941 [x0, x1, x2, x3] st z Q = (zir x0 = true ∧ ZW zG d 253 942 [x0, x1, x2, x3] (x0 :: st) z Q) := zw_cond (f := z_aload 0 942) rfl rfl
theorem s253_942 {x0 x1 x2 : Value} {a : Int32} : ZW zG d 253 942 [x0, x1, x2, .int a] st z Q = ZW zG d 253 943 [x0, x1, x2, .int a] (.int a :: st) z Q := zw_next (f := z_iload 3 943) rfl rfl
theorem s253_943 {ls : List Value}  : ZW zG d 253 943 ls (st) z Q = ZW zG d 253 944 ls ((.int (nI 1)) :: st) z Q := zw_push rfl
theorem s253_944 {ls : List Value} {a b : Int32} : ZW zG d 253 944 ls (.int b :: .int a :: st) z Q = ZW zG d 253 945 ls (.int (a + b) :: st) z Q := zw_iadd rfl
theorem s253_945 {ls : List Value} {a : Int32} {r : Nat} : ZW zG d 253 945 ls (.int a :: .ref r :: st) z Q = ((zcls z r = 49 ∧ zin a (zlen z r) = true) ∧ ZW zG d 253 946 ls (.int (zia z r (zx a)) :: st) (z) Q) := zw_iald rfl
theorem s253_946 {ls : List Value} {w0 : Int32} {r : Nat} : ZW zG (d + 1) 253 946 ls (.int w0 :: .ref r :: st) z Q = (zcls z r = 12 ∧ zcs st = true ∧ ZC zG d 198 [.ref r, .int w0] z (zk zG (d + 1) 253 (none) 949 ls st Q)) := zc_V1 rfl (Nat.le_of_ble_eq_true rfl)
theorem s253_949 {ls : List Value} {a b : Int32} : ZW zG d 253 949 ls (.int b :: .int a :: st) z Q = if a = b then ZW zG d 253 1350 ls st z Q else ZW zG d 253 952 ls st z Q := zw_iceq rfl
theorem s253_952 {ls : List Value}  : ZW zG d 253 952 ls (st) z Q = ZW zG d 253 953 ls ((.int (nI 0)) :: st) z Q := zw_push rfl
theorem s253_953 {ls : List Value} {a : Int32} : ZW zG d 253 953 ls ([.int a]) z Q = ((a = 0 ∨ a = 1) ∧ Q (.inl (some (.int a))) z) := zw_retz rfl
theorem s253_954 {x0 x1 x2 x3 : Value} : ZW zG d 253 954 [x0, x1, x2, x3] st z Q = (zir x1 = true ∧ ZW zG d 253 955 [x0, x1, x2, x3] (x1 :: st) z Q) := zw_cond (f := z_aload 1 955) rfl rfl
theorem s253_955 {x0 x1 x2 x3 : Value} : ZW zG d 253 955 [x0, x1, x2, x3] st z Q = (zir x0 = true ∧ ZW zG d 253 956 [x0, x1, x2, x3] (x0 :: st) z Q) := zw_cond (f := z_aload 0 956) rfl rfl
theorem s253_956 {x0 x1 x2 : Value} {a : Int32} : ZW zG d 253 956 [x0, x1, x2, .int a] st z Q = ZW zG d 253 957 [x0, x1, x2, .int a] (.int a :: st) z Q := zw_next (f := z_iload 3 957) rfl rfl
theorem s253_957 {ls : List Value}  : ZW zG d 253 957 ls (st) z Q = ZW zG d 253 958 ls ((.int (nI 1)) :: st) z Q := zw_push rfl
theorem s253_958 {ls : List Value} {a b : Int32} : ZW zG d 253 958 ls (.int b :: .int a :: st) z Q = ZW zG d 253 959 ls (.int (a + b) :: st) z Q := zw_iadd rfl
theorem s253_959 {ls : List Value} {a : Int32} {r : Nat} : ZW zG d 253 959 ls (.int a :: .ref r :: st) z Q = ((zcls z r = 49 ∧ zin a (zlen z r) = true) ∧ ZW zG d 253 960 ls (.int (zia z r (zx a)) :: st) (z) Q) := zw_iald rfl
theorem s253_960 {ls : List Value} {w0 : Int32} {r : Nat} : ZW zG (d + 1) 253 960 ls (.int w0 :: .ref r :: st) z Q = (zcls z r = 0 ∧ zcs st = true ∧ ZC zG d 46 [.ref r, .int w0] z (zk zG (d + 1) 253 (none) 963 ls st Q)) := zc_V1 rfl (Nat.le_of_ble_eq_true rfl)
theorem s253_963 {x0 x1 x2 x3 : Value} : ZW zG d 253 963 [x0, x1, x2, x3] st z Q = (zir x2 = true ∧ ZW zG d 253 964 [x0, x1, x2, x3] (x2 :: st) z Q) := zw_cond (f := z_aload 2 964) rfl rfl
theorem s253_964 {x0 x1 x2 x3 : Value} : ZW zG d 253 964 [x0, x1, x2, x3] st z Q = (zir x0 = true ∧ ZW zG d 253 965 [x0, x1, x2, x3] (x0 :: st) z Q) := zw_cond (f := z_aload 0 965) rfl rfl
theorem s253_965 {x0 x1 x2 : Value} {a : Int32} : ZW zG d 253 965 [x0, x1, x2, .int a] st z Q = ZW zG d 253 966 [x0, x1, x2, .int a] (.int a :: st) z Q := zw_next (f := z_iload 3 966) rfl rfl
theorem s253_966 {ls : List Value}  : ZW zG d 253 966 ls (st) z Q = ZW zG d 253 967 ls ((.int (nI 1)) :: st) z Q := zw_push rfl
theorem s253_967 {ls : List Value} {a b : Int32} : ZW zG d 253 967 ls (.int b :: .int a :: st) z Q = ZW zG d 253 968 ls (.int (a + b) :: st) z Q := zw_iadd rfl
theorem s253_968 {ls : List Value} {a : Int32} {r : Nat} : ZW zG d 253 968 ls (.int a :: .ref r :: st) z Q = ((zcls z r = 49 ∧ zin a (zlen z r) = true) ∧ ZW zG d 253 969 ls (.int (zia z r (zx a)) :: st) (z) Q) := zw_iald rfl
theorem s253_969 {ls : List Value} {w0 : Int32} {r : Nat} : ZW zG (d + 1) 253 969 ls (.int w0 :: .ref r :: st) z Q = (zcls z r = 12 ∧ zcs st = true ∧ ZC zG d 200 [.ref r, .int w0] z (zk zG (d + 1) 253 (none) 972 ls st Q)) := zc_V1 rfl (Nat.le_of_ble_eq_true rfl)
theorem s253_972 {ls : List Value} {a b : Int32} : ZW zG d 253 972 ls (.int b :: .int a :: st) z Q = if a = b then ZW zG d 253 1350 ls st z Q else ZW zG d 253 975 ls st z Q := zw_iceq rfl
theorem s253_975 {ls : List Value}  : ZW zG d 253 975 ls (st) z Q = ZW zG d 253 976 ls ((.int (nI 0)) :: st) z Q := zw_push rfl
theorem s253_976 {ls : List Value} {a : Int32} : ZW zG d 253 976 ls ([.int a]) z Q = ((a = 0 ∨ a = 1) ∧ Q (.inl (some (.int a))) z) := zw_retz rfl
theorem s253_977 {x0 x1 x2 x3 : Value} : ZW zG d 253 977 [x0, x1, x2, x3] st z Q = (zir x1 = true ∧ ZW zG d 253 978 [x0, x1, x2, x3] (x1 :: st) z Q) := zw_cond (f := z_aload 1 978) rfl rfl
theorem s253_978 {x0 x1 x2 x3 : Value} : ZW zG d 253 978 [x0, x1, x2, x3] st z Q = (zir x0 = true ∧ ZW zG d 253 979 [x0, x1, x2, x3] (x0 :: st) z Q) := zw_cond (f := z_aload 0 979) rfl rfl
theorem s253_979 {x0 x1 x2 : Value} {a : Int32} : ZW zG d 253 979 [x0, x1, x2, .int a] st z Q = ZW zG d 253 980 [x0, x1, x2, .int a] (.int a :: st) z Q := zw_next (f := z_iload 3 980) rfl rfl
theorem s253_980 {ls : List Value}  : ZW zG d 253 980 ls (st) z Q = ZW zG d 253 981 ls ((.int (nI 1)) :: st) z Q := zw_push rfl
theorem s253_981 {ls : List Value} {a b : Int32} : ZW zG d 253 981 ls (.int b :: .int a :: st) z Q = ZW zG d 253 982 ls (.int (a + b) :: st) z Q := zw_iadd rfl
theorem s253_982 {ls : List Value} {a : Int32} {r : Nat} : ZW zG d 253 982 ls (.int a :: .ref r :: st) z Q = ((zcls z r = 49 ∧ zin a (zlen z r) = true) ∧ ZW zG d 253 983 ls (.int (zia z r (zx a)) :: st) (z) Q) := zw_iald rfl
theorem s253_983 {x0 x1 x2 x3 : Value} : ZW zG d 253 983 [x0, x1, x2, x3] st z Q = (zir x0 = true ∧ ZW zG d 253 984 [x0, x1, x2, x3] (x0 :: st) z Q) := zw_cond (f := z_aload 0 984) rfl rfl
theorem s253_984 {x0 x1 x2 : Value} {a : Int32} : ZW zG d 253 984 [x0, x1, x2, .int a] st z Q = ZW zG d 253 985 [x0, x1, x2, .int a] (.int a :: st) z Q := zw_next (f := z_iload 3 985) rfl rfl
theorem s253_985 {ls : List Value}  : ZW zG d 253 985 ls (st) z Q = ZW zG d 253 986 ls ((.int (nI 2)) :: st) z Q := zw_push rfl
theorem s253_986 {ls : List Value} {a b : Int32} : ZW zG d 253 986 ls (.int b :: .int a :: st) z Q = ZW zG d 253 987 ls (.int (a + b) :: st) z Q := zw_iadd rfl
theorem s253_987 {ls : List Value} {a : Int32} {r : Nat} : ZW zG d 253 987 ls (.int a :: .ref r :: st) z Q = ((zcls z r = 49 ∧ zin a (zlen z r) = true) ∧ ZW zG d 253 988 ls (.int (zia z r (zx a)) :: st) (z) Q) := zw_iald rfl
theorem s253_988 {ls : List Value} {w0 : Int32} {w1 : Int32} {r : Nat} : ZW zG (d + 1) 253 988 ls (.int w1 :: .int w0 :: .ref r :: st) z Q = (zcls z r = 0 ∧ zcs st = true ∧ ZC zG d 47 [.ref r, .int w0, .int w1] z (zk zG (d + 1) 253 (none) 991 ls st Q)) := zc_V2 rfl (Nat.le_of_ble_eq_true rfl)
theorem s253_991 {x0 x1 x2 x3 : Value} : ZW zG d 253 991 [x0, x1, x2, x3] st z Q = (zir x2 = true ∧ ZW zG d 253 992 [x0, x1, x2, x3] (x2 :: st) z Q) := zw_cond (f := z_aload 2 992) rfl rfl
theorem s253_992 {x0 x1 x2 x3 : Value} : ZW zG d 253 992 [x0, x1, x2, x3] st z Q = (zir x0 = true ∧ ZW zG d 253 993 [x0, x1, x2, x3] (x0 :: st) z Q) := zw_cond (f := z_aload 0 993) rfl rfl
theorem s253_993 {x0 x1 x2 : Value} {a : Int32} : ZW zG d 253 993 [x0, x1, x2, .int a] st z Q = ZW zG d 253 994 [x0, x1, x2, .int a] (.int a :: st) z Q := zw_next (f := z_iload 3 994) rfl rfl
theorem s253_994 {ls : List Value}  : ZW zG d 253 994 ls (st) z Q = ZW zG d 253 995 ls ((.int (nI 1)) :: st) z Q := zw_push rfl
theorem s253_995 {ls : List Value} {a b : Int32} : ZW zG d 253 995 ls (.int b :: .int a :: st) z Q = ZW zG d 253 996 ls (.int (a + b) :: st) z Q := zw_iadd rfl
theorem s253_996 {ls : List Value} {a : Int32} {r : Nat} : ZW zG d 253 996 ls (.int a :: .ref r :: st) z Q = ((zcls z r = 49 ∧ zin a (zlen z r) = true) ∧ ZW zG d 253 997 ls (.int (zia z r (zx a)) :: st) (z) Q) := zw_iald rfl
theorem s253_997 {x0 x1 x2 x3 : Value} : ZW zG d 253 997 [x0, x1, x2, x3] st z Q = (zir x0 = true ∧ ZW zG d 253 998 [x0, x1, x2, x3] (x0 :: st) z Q) := zw_cond (f := z_aload 0 998) rfl rfl
theorem s253_998 {x0 x1 x2 : Value} {a : Int32} : ZW zG d 253 998 [x0, x1, x2, .int a] st z Q = ZW zG d 253 999 [x0, x1, x2, .int a] (.int a :: st) z Q := zw_next (f := z_iload 3 999) rfl rfl
theorem s253_999 {ls : List Value}  : ZW zG d 253 999 ls (st) z Q = ZW zG d 253 1000 ls ((.int (nI 2)) :: st) z Q := zw_push rfl
theorem s253_1000 {ls : List Value} {a b : Int32} : ZW zG d 253 1000 ls (.int b :: .int a :: st) z Q = ZW zG d 253 1001 ls (.int (a + b) :: st) z Q := zw_iadd rfl
theorem s253_1001 {ls : List Value} {a : Int32} {r : Nat} : ZW zG d 253 1001 ls (.int a :: .ref r :: st) z Q = ((zcls z r = 49 ∧ zin a (zlen z r) = true) ∧ ZW zG d 253 1002 ls (.int (zia z r (zx a)) :: st) (z) Q) := zw_iald rfl
theorem s253_1002 {ls : List Value} {w0 : Int32} {w1 : Int32} {r : Nat} : ZW zG (d + 1) 253 1002 ls (.int w1 :: .int w0 :: .ref r :: st) z Q = (zcls z r = 12 ∧ zcs st = true ∧ ZC zG d 201 [.ref r, .int w0, .int w1] z (zk zG (d + 1) 253 (none) 1005 ls st Q)) := zc_V2 rfl (Nat.le_of_ble_eq_true rfl)
theorem s253_1005 {ls : List Value} {a b : Int32} : ZW zG d 253 1005 ls (.int b :: .int a :: st) z Q = if a = b then ZW zG d 253 1350 ls st z Q else ZW zG d 253 1008 ls st z Q := zw_iceq rfl
theorem s253_1008 {ls : List Value}  : ZW zG d 253 1008 ls (st) z Q = ZW zG d 253 1009 ls ((.int (nI 0)) :: st) z Q := zw_push rfl
theorem s253_1009 {ls : List Value} {a : Int32} : ZW zG d 253 1009 ls ([.int a]) z Q = ((a = 0 ∨ a = 1) ∧ Q (.inl (some (.int a))) z) := zw_retz rfl
theorem s253_1010 {x0 x1 x2 x3 : Value} : ZW zG d 253 1010 [x0, x1, x2, x3] st z Q = (zir x1 = true ∧ ZW zG d 253 1011 [x0, x1, x2, x3] (x1 :: st) z Q) := zw_cond (f := z_aload 1 1011) rfl rfl
theorem s253_1011 {ls : List Value}  {r : Nat} : ZW zG (d + 1) 253 1011 ls (.ref r :: st) z Q = (zcls z r = 0 ∧ zcs st = true ∧ ZC zG d 48 [.ref r] z (zk zG (d + 1) 253 (none) 1014 ls st Q)) := zc_V0 rfl (Nat.le_of_ble_eq_true rfl)
theorem s253_1014 {x0 x1 x2 x3 : Value} : ZW zG d 253 1014 [x0, x1, x2, x3] st z Q = (zir x2 = true ∧ ZW zG d 253 1015 [x0, x1, x2, x3] (x2 :: st) z Q) := zw_cond (f := z_aload 2 1015) rfl rfl
theorem s253_1015 {ls : List Value}  {r : Nat} : ZW zG (d + 1) 253 1015 ls (.ref r :: st) z Q = (zcls z r = 12 ∧ zcs st = true ∧ ZC zG d 206 [.ref r] z (zk zG (d + 1) 253 (none) 1018 ls st Q)) := zc_V0 rfl (Nat.le_of_ble_eq_true rfl)
theorem s253_1018 {ls : List Value} {a b : Int32} : ZW zG d 253 1018 ls (.int b :: .int a :: st) z Q = if a = b then ZW zG d 253 1350 ls st z Q else ZW zG d 253 1021 ls st z Q := zw_iceq rfl
theorem s253_1021 {ls : List Value}  : ZW zG d 253 1021 ls (st) z Q = ZW zG d 253 1022 ls ((.int (nI 0)) :: st) z Q := zw_push rfl
theorem s253_1022 {ls : List Value} {a : Int32} : ZW zG d 253 1022 ls ([.int a]) z Q = ((a = 0 ∨ a = 1) ∧ Q (.inl (some (.int a))) z) := zw_retz rfl
theorem s253_1023 {x0 x1 x2 x3 : Value} : ZW zG d 253 1023 [x0, x1, x2, x3] st z Q = (zir x1 = true ∧ ZW zG d 253 1024 [x0, x1, x2, x3] (x1 :: st) z Q) := zw_cond (f := z_aload 1 1024) rfl rfl
theorem s253_1024 {x0 x1 x2 x3 : Value} : ZW zG d 253 1024 [x0, x1, x2, x3] st z Q = (zir x0 = true ∧ ZW zG d 253 1025 [x0, x1, x2, x3] (x0 :: st) z Q) := zw_cond (f := z_aload 0 1025) rfl rfl
theorem s253_1025 {x0 x1 x2 : Value} {a : Int32} : ZW zG d 253 1025 [x0, x1, x2, .int a] st z Q = ZW zG d 253 1026 [x0, x1, x2, .int a] (.int a :: st) z Q := zw_next (f := z_iload 3 1026) rfl rfl
theorem s253_1026 {ls : List Value}  : ZW zG d 253 1026 ls (st) z Q = ZW zG d 253 1027 ls ((.int (nI 1)) :: st) z Q := zw_push rfl
theorem s253_1027 {ls : List Value} {a b : Int32} : ZW zG d 253 1027 ls (.int b :: .int a :: st) z Q = ZW zG d 253 1028 ls (.int (a + b) :: st) z Q := zw_iadd rfl
theorem s253_1028 {ls : List Value} {a : Int32} {r : Nat} : ZW zG d 253 1028 ls (.int a :: .ref r :: st) z Q = ((zcls z r = 49 ∧ zin a (zlen z r) = true) ∧ ZW zG d 253 1029 ls (.int (zia z r (zx a)) :: st) (z) Q) := zw_iald rfl
theorem s253_1029 {ls : List Value} {w0 : Int32} {r : Nat} : ZW zG (d + 1) 253 1029 ls (.int w0 :: .ref r :: st) z Q = (zcls z r = 0 ∧ zcs st = true ∧ ZC zG d 53 [.ref r, .int w0] z (zk zG (d + 1) 253 (none) 1032 ls st Q)) := zc_V1 rfl (Nat.le_of_ble_eq_true rfl)
theorem s253_1032 {x0 x1 x2 x3 : Value} : ZW zG d 253 1032 [x0, x1, x2, x3] st z Q = (zir x2 = true ∧ ZW zG d 253 1033 [x0, x1, x2, x3] (x2 :: st) z Q) := zw_cond (f := z_aload 2 1033) rfl rfl
theorem s253_1033 {x0 x1 x2 x3 : Value} : ZW zG d 253 1033 [x0, x1, x2, x3] st z Q = (zir x0 = true ∧ ZW zG d 253 1034 [x0, x1, x2, x3] (x0 :: st) z Q) := zw_cond (f := z_aload 0 1034) rfl rfl
theorem s253_1034 {x0 x1 x2 : Value} {a : Int32} : ZW zG d 253 1034 [x0, x1, x2, .int a] st z Q = ZW zG d 253 1035 [x0, x1, x2, .int a] (.int a :: st) z Q := zw_next (f := z_iload 3 1035) rfl rfl
theorem s253_1035 {ls : List Value}  : ZW zG d 253 1035 ls (st) z Q = ZW zG d 253 1036 ls ((.int (nI 1)) :: st) z Q := zw_push rfl
theorem s253_1036 {ls : List Value} {a b : Int32} : ZW zG d 253 1036 ls (.int b :: .int a :: st) z Q = ZW zG d 253 1037 ls (.int (a + b) :: st) z Q := zw_iadd rfl
theorem s253_1037 {ls : List Value} {a : Int32} {r : Nat} : ZW zG d 253 1037 ls (.int a :: .ref r :: st) z Q = ((zcls z r = 49 ∧ zin a (zlen z r) = true) ∧ ZW zG d 253 1038 ls (.int (zia z r (zx a)) :: st) (z) Q) := zw_iald rfl
theorem s253_1038 {ls : List Value} {w0 : Int32} {r : Nat} : ZW zG (d + 1) 253 1038 ls (.int w0 :: .ref r :: st) z Q = (zcls z r = 12 ∧ zcs st = true ∧ ZC zG d 202 [.ref r, .int w0] z (zk zG (d + 1) 253 (none) 1041 ls st Q)) := zc_V1 rfl (Nat.le_of_ble_eq_true rfl)
theorem s253_1041 {ls : List Value} {a b : Int32} : ZW zG d 253 1041 ls (.int b :: .int a :: st) z Q = if a = b then ZW zG d 253 1350 ls st z Q else ZW zG d 253 1044 ls st z Q := zw_iceq rfl
theorem s253_1044 {ls : List Value}  : ZW zG d 253 1044 ls (st) z Q = ZW zG d 253 1045 ls ((.int (nI 0)) :: st) z Q := zw_push rfl
theorem s253_1045 {ls : List Value} {a : Int32} : ZW zG d 253 1045 ls ([.int a]) z Q = ((a = 0 ∨ a = 1) ∧ Q (.inl (some (.int a))) z) := zw_retz rfl
theorem s253_1046 {x0 x1 x2 x3 : Value} : ZW zG d 253 1046 [x0, x1, x2, x3] st z Q = (zir x1 = true ∧ ZW zG d 253 1047 [x0, x1, x2, x3] (x1 :: st) z Q) := zw_cond (f := z_aload 1 1047) rfl rfl
theorem s253_1047 {x0 x1 x2 x3 : Value} : ZW zG d 253 1047 [x0, x1, x2, x3] st z Q = (zir x0 = true ∧ ZW zG d 253 1048 [x0, x1, x2, x3] (x0 :: st) z Q) := zw_cond (f := z_aload 0 1048) rfl rfl
theorem s253_1048 {x0 x1 x2 : Value} {a : Int32} : ZW zG d 253 1048 [x0, x1, x2, .int a] st z Q = ZW zG d 253 1049 [x0, x1, x2, .int a] (.int a :: st) z Q := zw_next (f := z_iload 3 1049) rfl rfl
theorem s253_1049 {ls : List Value}  : ZW zG d 253 1049 ls (st) z Q = ZW zG d 253 1050 ls ((.int (nI 1)) :: st) z Q := zw_push rfl
theorem s253_1050 {ls : List Value} {a b : Int32} : ZW zG d 253 1050 ls (.int b :: .int a :: st) z Q = ZW zG d 253 1051 ls (.int (a + b) :: st) z Q := zw_iadd rfl
theorem s253_1051 {ls : List Value} {a : Int32} {r : Nat} : ZW zG d 253 1051 ls (.int a :: .ref r :: st) z Q = ((zcls z r = 49 ∧ zin a (zlen z r) = true) ∧ ZW zG d 253 1052 ls (.int (zia z r (zx a)) :: st) (z) Q) := zw_iald rfl
theorem s253_1052 {x0 x1 x2 x3 : Value} : ZW zG d 253 1052 [x0, x1, x2, x3] st z Q = (zir x0 = true ∧ ZW zG d 253 1053 [x0, x1, x2, x3] (x0 :: st) z Q) := zw_cond (f := z_aload 0 1053) rfl rfl
theorem s253_1053 {x0 x1 x2 : Value} {a : Int32} : ZW zG d 253 1053 [x0, x1, x2, .int a] st z Q = ZW zG d 253 1054 [x0, x1, x2, .int a] (.int a :: st) z Q := zw_next (f := z_iload 3 1054) rfl rfl
theorem s253_1054 {ls : List Value}  : ZW zG d 253 1054 ls (st) z Q = ZW zG d 253 1055 ls ((.int (nI 2)) :: st) z Q := zw_push rfl
theorem s253_1055 {ls : List Value} {a b : Int32} : ZW zG d 253 1055 ls (.int b :: .int a :: st) z Q = ZW zG d 253 1056 ls (.int (a + b) :: st) z Q := zw_iadd rfl
theorem s253_1056 {ls : List Value} {a : Int32} {r : Nat} : ZW zG d 253 1056 ls (.int a :: .ref r :: st) z Q = ((zcls z r = 49 ∧ zin a (zlen z r) = true) ∧ ZW zG d 253 1057 ls (.int (zia z r (zx a)) :: st) (z) Q) := zw_iald rfl
theorem s253_1057 {ls : List Value} {w0 : Int32} {w1 : Int32} {r : Nat} : ZW zG (d + 1) 253 1057 ls (.int w1 :: .int w0 :: .ref r :: st) z Q = (zcls z r = 0 ∧ zcs st = true ∧ ZC zG d 54 [.ref r, .int w0, .int w1] z (zk zG (d + 1) 253 (none) 1060 ls st Q)) := zc_V2 rfl (Nat.le_of_ble_eq_true rfl)
theorem s253_1060 {x0 x1 x2 x3 : Value} : ZW zG d 253 1060 [x0, x1, x2, x3] st z Q = (zir x2 = true ∧ ZW zG d 253 1061 [x0, x1, x2, x3] (x2 :: st) z Q) := zw_cond (f := z_aload 2 1061) rfl rfl
theorem s253_1061 {x0 x1 x2 x3 : Value} : ZW zG d 253 1061 [x0, x1, x2, x3] st z Q = (zir x0 = true ∧ ZW zG d 253 1062 [x0, x1, x2, x3] (x0 :: st) z Q) := zw_cond (f := z_aload 0 1062) rfl rfl
theorem s253_1062 {x0 x1 x2 : Value} {a : Int32} : ZW zG d 253 1062 [x0, x1, x2, .int a] st z Q = ZW zG d 253 1063 [x0, x1, x2, .int a] (.int a :: st) z Q := zw_next (f := z_iload 3 1063) rfl rfl
theorem s253_1063 {ls : List Value}  : ZW zG d 253 1063 ls (st) z Q = ZW zG d 253 1064 ls ((.int (nI 1)) :: st) z Q := zw_push rfl
theorem s253_1064 {ls : List Value} {a b : Int32} : ZW zG d 253 1064 ls (.int b :: .int a :: st) z Q = ZW zG d 253 1065 ls (.int (a + b) :: st) z Q := zw_iadd rfl
theorem s253_1065 {ls : List Value} {a : Int32} {r : Nat} : ZW zG d 253 1065 ls (.int a :: .ref r :: st) z Q = ((zcls z r = 49 ∧ zin a (zlen z r) = true) ∧ ZW zG d 253 1066 ls (.int (zia z r (zx a)) :: st) (z) Q) := zw_iald rfl
theorem s253_1066 {x0 x1 x2 x3 : Value} : ZW zG d 253 1066 [x0, x1, x2, x3] st z Q = (zir x0 = true ∧ ZW zG d 253 1067 [x0, x1, x2, x3] (x0 :: st) z Q) := zw_cond (f := z_aload 0 1067) rfl rfl
theorem s253_1067 {x0 x1 x2 : Value} {a : Int32} : ZW zG d 253 1067 [x0, x1, x2, .int a] st z Q = ZW zG d 253 1068 [x0, x1, x2, .int a] (.int a :: st) z Q := zw_next (f := z_iload 3 1068) rfl rfl
theorem s253_1068 {ls : List Value}  : ZW zG d 253 1068 ls (st) z Q = ZW zG d 253 1069 ls ((.int (nI 2)) :: st) z Q := zw_push rfl
theorem s253_1069 {ls : List Value} {a b : Int32} : ZW zG d 253 1069 ls (.int b :: .int a :: st) z Q = ZW zG d 253 1070 ls (.int (a + b) :: st) z Q := zw_iadd rfl
theorem s253_1070 {ls : List Value} {a : Int32} {r : Nat} : ZW zG d 253 1070 ls (.int a :: .ref r :: st) z Q = ((zcls z r = 49 ∧ zin a (zlen z r) = true) ∧ ZW zG d 253 1071 ls (.int (zia z r (zx a)) :: st) (z) Q) := zw_iald rfl
theorem s253_1071 {ls : List Value} {w0 : Int32} {w1 : Int32} {r : Nat} : ZW zG (d + 1) 253 1071 ls (.int w1 :: .int w0 :: .ref r :: st) z Q = (zcls z r = 12 ∧ zcs st = true ∧ ZC zG d 207 [.ref r, .int w0, .int w1] z (zk zG (d + 1) 253 (none) 1074 ls st Q)) := zc_V2 rfl (Nat.le_of_ble_eq_true rfl)
theorem s253_1074 {ls : List Value} {a b : Int32} : ZW zG d 253 1074 ls (.int b :: .int a :: st) z Q = if a = b then ZW zG d 253 1350 ls st z Q else ZW zG d 253 1077 ls st z Q := zw_iceq rfl
theorem s253_1077 {ls : List Value}  : ZW zG d 253 1077 ls (st) z Q = ZW zG d 253 1078 ls ((.int (nI 0)) :: st) z Q := zw_push rfl
theorem s253_1078 {ls : List Value} {a : Int32} : ZW zG d 253 1078 ls ([.int a]) z Q = ((a = 0 ∨ a = 1) ∧ Q (.inl (some (.int a))) z) := zw_retz rfl
theorem s253_1079 {x0 x1 x2 x3 : Value} : ZW zG d 253 1079 [x0, x1, x2, x3] st z Q = (zir x1 = true ∧ ZW zG d 253 1080 [x0, x1, x2, x3] (x1 :: st) z Q) := zw_cond (f := z_aload 1 1080) rfl rfl
theorem s253_1080 {x0 x1 x2 x3 : Value} : ZW zG d 253 1080 [x0, x1, x2, x3] st z Q = (zir x0 = true ∧ ZW zG d 253 1081 [x0, x1, x2, x3] (x0 :: st) z Q) := zw_cond (f := z_aload 0 1081) rfl rfl
theorem s253_1081 {x0 x1 x2 : Value} {a : Int32} : ZW zG d 253 1081 [x0, x1, x2, .int a] st z Q = ZW zG d 253 1082 [x0, x1, x2, .int a] (.int a :: st) z Q := zw_next (f := z_iload 3 1082) rfl rfl
theorem s253_1082 {ls : List Value}  : ZW zG d 253 1082 ls (st) z Q = ZW zG d 253 1083 ls ((.int (nI 1)) :: st) z Q := zw_push rfl
theorem s253_1083 {ls : List Value} {a b : Int32} : ZW zG d 253 1083 ls (.int b :: .int a :: st) z Q = ZW zG d 253 1084 ls (.int (a + b) :: st) z Q := zw_iadd rfl
theorem s253_1084 {ls : List Value} {a : Int32} {r : Nat} : ZW zG d 253 1084 ls (.int a :: .ref r :: st) z Q = ((zcls z r = 49 ∧ zin a (zlen z r) = true) ∧ ZW zG d 253 1085 ls (.int (zia z r (zx a)) :: st) (z) Q) := zw_iald rfl
theorem s253_1085 {ls : List Value} {w0 : Int32} {r : Nat} : ZW zG (d + 1) 253 1085 ls (.int w0 :: .ref r :: st) z Q = (zcls z r = 0 ∧ zcs st = true ∧ ZC zG d 55 [.ref r, .int w0] z (zk zG (d + 1) 253 (none) 1088 ls st Q)) := zc_V1 rfl (Nat.le_of_ble_eq_true rfl)
theorem s253_1088 {x0 x1 x2 x3 : Value} : ZW zG d 253 1088 [x0, x1, x2, x3] st z Q = (zir x2 = true ∧ ZW zG d 253 1089 [x0, x1, x2, x3] (x2 :: st) z Q) := zw_cond (f := z_aload 2 1089) rfl rfl
theorem s253_1089 {x0 x1 x2 x3 : Value} : ZW zG d 253 1089 [x0, x1, x2, x3] st z Q = (zir x0 = true ∧ ZW zG d 253 1090 [x0, x1, x2, x3] (x0 :: st) z Q) := zw_cond (f := z_aload 0 1090) rfl rfl
theorem s253_1090 {x0 x1 x2 : Value} {a : Int32} : ZW zG d 253 1090 [x0, x1, x2, .int a] st z Q = ZW zG d 253 1091 [x0, x1, x2, .int a] (.int a :: st) z Q := zw_next (f := z_iload 3 1091) rfl rfl
theorem s253_1091 {ls : List Value}  : ZW zG d 253 1091 ls (st) z Q = ZW zG d 253 1092 ls ((.int (nI 1)) :: st) z Q := zw_push rfl
theorem s253_1092 {ls : List Value} {a b : Int32} : ZW zG d 253 1092 ls (.int b :: .int a :: st) z Q = ZW zG d 253 1093 ls (.int (a + b) :: st) z Q := zw_iadd rfl
theorem s253_1093 {ls : List Value} {a : Int32} {r : Nat} : ZW zG d 253 1093 ls (.int a :: .ref r :: st) z Q = ((zcls z r = 49 ∧ zin a (zlen z r) = true) ∧ ZW zG d 253 1094 ls (.int (zia z r (zx a)) :: st) (z) Q) := zw_iald rfl
theorem s253_1094 {ls : List Value} {w0 : Int32} {r : Nat} : ZW zG (d + 1) 253 1094 ls (.int w0 :: .ref r :: st) z Q = (zcls z r = 12 ∧ zcs st = true ∧ ZC zG d 208 [.ref r, .int w0] z (zk zG (d + 1) 253 (none) 1097 ls st Q)) := zc_V1 rfl (Nat.le_of_ble_eq_true rfl)
theorem s253_1097 {ls : List Value} {a b : Int32} : ZW zG d 253 1097 ls (.int b :: .int a :: st) z Q = if a = b then ZW zG d 253 1350 ls st z Q else ZW zG d 253 1100 ls st z Q := zw_iceq rfl
theorem s253_1100 {ls : List Value}  : ZW zG d 253 1100 ls (st) z Q = ZW zG d 253 1101 ls ((.int (nI 0)) :: st) z Q := zw_push rfl
theorem s253_1101 {ls : List Value} {a : Int32} : ZW zG d 253 1101 ls ([.int a]) z Q = ((a = 0 ∨ a = 1) ∧ Q (.inl (some (.int a))) z) := zw_retz rfl
theorem s253_1102 {x0 x1 x2 x3 : Value} : ZW zG d 253 1102 [x0, x1, x2, x3] st z Q = (zir x1 = true ∧ ZW zG d 253 1103 [x0, x1, x2, x3] (x1 :: st) z Q) := zw_cond (f := z_aload 1 1103) rfl rfl
theorem s253_1103 {x0 x1 x2 x3 : Value} : ZW zG d 253 1103 [x0, x1, x2, x3] st z Q = (zir x0 = true ∧ ZW zG d 253 1104 [x0, x1, x2, x3] (x0 :: st) z Q) := zw_cond (f := z_aload 0 1104) rfl rfl
theorem s253_1104 {x0 x1 x2 : Value} {a : Int32} : ZW zG d 253 1104 [x0, x1, x2, .int a] st z Q = ZW zG d 253 1105 [x0, x1, x2, .int a] (.int a :: st) z Q := zw_next (f := z_iload 3 1105) rfl rfl
theorem s253_1105 {ls : List Value}  : ZW zG d 253 1105 ls (st) z Q = ZW zG d 253 1106 ls ((.int (nI 1)) :: st) z Q := zw_push rfl
theorem s253_1106 {ls : List Value} {a b : Int32} : ZW zG d 253 1106 ls (.int b :: .int a :: st) z Q = ZW zG d 253 1107 ls (.int (a + b) :: st) z Q := zw_iadd rfl
theorem s253_1107 {ls : List Value} {a : Int32} {r : Nat} : ZW zG d 253 1107 ls (.int a :: .ref r :: st) z Q = ((zcls z r = 49 ∧ zin a (zlen z r) = true) ∧ ZW zG d 253 1108 ls (.int (zia z r (zx a)) :: st) (z) Q) := zw_iald rfl
theorem s253_1108 {ls : List Value} {w0 : Int32} {r : Nat} : ZW zG (d + 1) 253 1108 ls (.int w0 :: .ref r :: st) z Q = (zcls z r = 0 ∧ zcs st = true ∧ ZC zG d 56 [.ref r, .int w0] z (zk zG (d + 1) 253 (none) 1111 ls st Q)) := zc_V1 rfl (Nat.le_of_ble_eq_true rfl)
theorem s253_1111 {x0 x1 x2 x3 : Value} : ZW zG d 253 1111 [x0, x1, x2, x3] st z Q = (zir x2 = true ∧ ZW zG d 253 1112 [x0, x1, x2, x3] (x2 :: st) z Q) := zw_cond (f := z_aload 2 1112) rfl rfl
theorem s253_1112 {x0 x1 x2 x3 : Value} : ZW zG d 253 1112 [x0, x1, x2, x3] st z Q = (zir x0 = true ∧ ZW zG d 253 1113 [x0, x1, x2, x3] (x0 :: st) z Q) := zw_cond (f := z_aload 0 1113) rfl rfl
theorem s253_1113 {x0 x1 x2 : Value} {a : Int32} : ZW zG d 253 1113 [x0, x1, x2, .int a] st z Q = ZW zG d 253 1114 [x0, x1, x2, .int a] (.int a :: st) z Q := zw_next (f := z_iload 3 1114) rfl rfl
theorem s253_1114 {ls : List Value}  : ZW zG d 253 1114 ls (st) z Q = ZW zG d 253 1115 ls ((.int (nI 1)) :: st) z Q := zw_push rfl
theorem s253_1115 {ls : List Value} {a b : Int32} : ZW zG d 253 1115 ls (.int b :: .int a :: st) z Q = ZW zG d 253 1116 ls (.int (a + b) :: st) z Q := zw_iadd rfl
theorem s253_1116 {ls : List Value} {a : Int32} {r : Nat} : ZW zG d 253 1116 ls (.int a :: .ref r :: st) z Q = ((zcls z r = 49 ∧ zin a (zlen z r) = true) ∧ ZW zG d 253 1117 ls (.int (zia z r (zx a)) :: st) (z) Q) := zw_iald rfl
theorem s253_1117 {ls : List Value} {w0 : Int32} {r : Nat} : ZW zG (d + 1) 253 1117 ls (.int w0 :: .ref r :: st) z Q = (zcls z r = 12 ∧ zcs st = true ∧ ZC zG d 209 [.ref r, .int w0] z (zk zG (d + 1) 253 (none) 1120 ls st Q)) := zc_V1 rfl (Nat.le_of_ble_eq_true rfl)
theorem s253_1120 {ls : List Value} {a b : Int32} : ZW zG d 253 1120 ls (.int b :: .int a :: st) z Q = if a = b then ZW zG d 253 1350 ls st z Q else ZW zG d 253 1123 ls st z Q := zw_iceq rfl
theorem s253_1123 {ls : List Value}  : ZW zG d 253 1123 ls (st) z Q = ZW zG d 253 1124 ls ((.int (nI 0)) :: st) z Q := zw_push rfl
theorem s253_1124 {ls : List Value} {a : Int32} : ZW zG d 253 1124 ls ([.int a]) z Q = ((a = 0 ∨ a = 1) ∧ Q (.inl (some (.int a))) z) := zw_retz rfl
theorem s253_1125 {x0 x1 x2 x3 : Value} : ZW zG d 253 1125 [x0, x1, x2, x3] st z Q = (zir x1 = true ∧ ZW zG d 253 1126 [x0, x1, x2, x3] (x1 :: st) z Q) := zw_cond (f := z_aload 1 1126) rfl rfl
theorem s253_1126 {x0 x1 x2 x3 : Value} : ZW zG d 253 1126 [x0, x1, x2, x3] st z Q = (zir x0 = true ∧ ZW zG d 253 1127 [x0, x1, x2, x3] (x0 :: st) z Q) := zw_cond (f := z_aload 0 1127) rfl rfl
theorem s253_1127 {x0 x1 x2 : Value} {a : Int32} : ZW zG d 253 1127 [x0, x1, x2, .int a] st z Q = ZW zG d 253 1128 [x0, x1, x2, .int a] (.int a :: st) z Q := zw_next (f := z_iload 3 1128) rfl rfl
theorem s253_1128 {ls : List Value}  : ZW zG d 253 1128 ls (st) z Q = ZW zG d 253 1129 ls ((.int (nI 1)) :: st) z Q := zw_push rfl
theorem s253_1129 {ls : List Value} {a b : Int32} : ZW zG d 253 1129 ls (.int b :: .int a :: st) z Q = ZW zG d 253 1130 ls (.int (a + b) :: st) z Q := zw_iadd rfl
theorem s253_1130 {ls : List Value} {a : Int32} {r : Nat} : ZW zG d 253 1130 ls (.int a :: .ref r :: st) z Q = ((zcls z r = 49 ∧ zin a (zlen z r) = true) ∧ ZW zG d 253 1131 ls (.int (zia z r (zx a)) :: st) (z) Q) := zw_iald rfl
theorem s253_1131 {ls : List Value} {w0 : Int32} {r : Nat} : ZW zG (d + 1) 253 1131 ls (.int w0 :: .ref r :: st) z Q = (zcls z r = 0 ∧ zcs st = true ∧ ZC zG d 57 [.ref r, .int w0] z (zk zG (d + 1) 253 (none) 1134 ls st Q)) := zc_V1 rfl (Nat.le_of_ble_eq_true rfl)
theorem s253_1134 {x0 x1 x2 x3 : Value} : ZW zG d 253 1134 [x0, x1, x2, x3] st z Q = (zir x2 = true ∧ ZW zG d 253 1135 [x0, x1, x2, x3] (x2 :: st) z Q) := zw_cond (f := z_aload 2 1135) rfl rfl
theorem s253_1135 {x0 x1 x2 x3 : Value} : ZW zG d 253 1135 [x0, x1, x2, x3] st z Q = (zir x0 = true ∧ ZW zG d 253 1136 [x0, x1, x2, x3] (x0 :: st) z Q) := zw_cond (f := z_aload 0 1136) rfl rfl
theorem s253_1136 {x0 x1 x2 : Value} {a : Int32} : ZW zG d 253 1136 [x0, x1, x2, .int a] st z Q = ZW zG d 253 1137 [x0, x1, x2, .int a] (.int a :: st) z Q := zw_next (f := z_iload 3 1137) rfl rfl
theorem s253_1137 {ls : List Value}  : ZW zG d 253 1137 ls (st) z Q = ZW zG d 253 1138 ls ((.int (nI 1)) :: st) z Q := zw_push rfl
theorem s253_1138 {ls : List Value} {a b : Int32} : ZW zG d 253 1138 ls (.int b :: .int a :: st) z Q = ZW zG d 253 1139 ls (.int (a + b) :: st) z Q := zw_iadd rfl
theorem s253_1139 {ls : List Value} {a : Int32} {r : Nat} : ZW zG d 253 1139 ls (.int a :: .ref r :: st) z Q = ((zcls z r = 49 ∧ zin a (zlen z r) = true) ∧ ZW zG d 253 1140 ls (.int (zia z r (zx a)) :: st) (z) Q) := zw_iald rfl
theorem s253_1140 {ls : List Value} {w0 : Int32} {r : Nat} : ZW zG (d + 1) 253 1140 ls (.int w0 :: .ref r :: st) z Q = (zcls z r = 12 ∧ zcs st = true ∧ ZC zG d 113 [.ref r, .int w0] z (zk zG (d + 1) 253 (none) 1143 ls st Q)) := zc_V1 rfl (Nat.le_of_ble_eq_true rfl)
theorem s253_1143 {ls : List Value} {a b : Int32} : ZW zG d 253 1143 ls (.int b :: .int a :: st) z Q = if a = b then ZW zG d 253 1350 ls st z Q else ZW zG d 253 1146 ls st z Q := zw_iceq rfl
theorem s253_1146 {ls : List Value}  : ZW zG d 253 1146 ls (st) z Q = ZW zG d 253 1147 ls ((.int (nI 0)) :: st) z Q := zw_push rfl
theorem s253_1147 {ls : List Value} {a : Int32} : ZW zG d 253 1147 ls ([.int a]) z Q = ((a = 0 ∨ a = 1) ∧ Q (.inl (some (.int a))) z) := zw_retz rfl
theorem s253_1148 {x0 x1 x2 x3 : Value} : ZW zG d 253 1148 [x0, x1, x2, x3] st z Q = (zir x1 = true ∧ ZW zG d 253 1149 [x0, x1, x2, x3] (x1 :: st) z Q) := zw_cond (f := z_aload 1 1149) rfl rfl
theorem s253_1149 {x0 x1 x2 x3 : Value} : ZW zG d 253 1149 [x0, x1, x2, x3] st z Q = (zir x0 = true ∧ ZW zG d 253 1150 [x0, x1, x2, x3] (x0 :: st) z Q) := zw_cond (f := z_aload 0 1150) rfl rfl
theorem s253_1150 {x0 x1 x2 : Value} {a : Int32} : ZW zG d 253 1150 [x0, x1, x2, .int a] st z Q = ZW zG d 253 1151 [x0, x1, x2, .int a] (.int a :: st) z Q := zw_next (f := z_iload 3 1151) rfl rfl
theorem s253_1151 {ls : List Value}  : ZW zG d 253 1151 ls (st) z Q = ZW zG d 253 1152 ls ((.int (nI 1)) :: st) z Q := zw_push rfl
theorem s253_1152 {ls : List Value} {a b : Int32} : ZW zG d 253 1152 ls (.int b :: .int a :: st) z Q = ZW zG d 253 1153 ls (.int (a + b) :: st) z Q := zw_iadd rfl
theorem s253_1153 {ls : List Value} {a : Int32} {r : Nat} : ZW zG d 253 1153 ls (.int a :: .ref r :: st) z Q = ((zcls z r = 49 ∧ zin a (zlen z r) = true) ∧ ZW zG d 253 1154 ls (.int (zia z r (zx a)) :: st) (z) Q) := zw_iald rfl
theorem s253_1154 {ls : List Value} {w0 : Int32} {r : Nat} : ZW zG (d + 1) 253 1154 ls (.int w0 :: .ref r :: st) z Q = (zcls z r = 0 ∧ zcs st = true ∧ ZC zG d 58 [.ref r, .int w0] z (zk zG (d + 1) 253 (none) 1157 ls st Q)) := zc_V1 rfl (Nat.le_of_ble_eq_true rfl)
theorem s253_1157 {x0 x1 x2 x3 : Value} : ZW zG d 253 1157 [x0, x1, x2, x3] st z Q = (zir x2 = true ∧ ZW zG d 253 1158 [x0, x1, x2, x3] (x2 :: st) z Q) := zw_cond (f := z_aload 2 1158) rfl rfl
theorem s253_1158 {x0 x1 x2 x3 : Value} : ZW zG d 253 1158 [x0, x1, x2, x3] st z Q = (zir x0 = true ∧ ZW zG d 253 1159 [x0, x1, x2, x3] (x0 :: st) z Q) := zw_cond (f := z_aload 0 1159) rfl rfl
theorem s253_1159 {x0 x1 x2 : Value} {a : Int32} : ZW zG d 253 1159 [x0, x1, x2, .int a] st z Q = ZW zG d 253 1160 [x0, x1, x2, .int a] (.int a :: st) z Q := zw_next (f := z_iload 3 1160) rfl rfl
theorem s253_1160 {ls : List Value}  : ZW zG d 253 1160 ls (st) z Q = ZW zG d 253 1161 ls ((.int (nI 1)) :: st) z Q := zw_push rfl
theorem s253_1161 {ls : List Value} {a b : Int32} : ZW zG d 253 1161 ls (.int b :: .int a :: st) z Q = ZW zG d 253 1162 ls (.int (a + b) :: st) z Q := zw_iadd rfl
theorem s253_1162 {ls : List Value} {a : Int32} {r : Nat} : ZW zG d 253 1162 ls (.int a :: .ref r :: st) z Q = ((zcls z r = 49 ∧ zin a (zlen z r) = true) ∧ ZW zG d 253 1163 ls (.int (zia z r (zx a)) :: st) (z) Q) := zw_iald rfl
theorem s253_1163 {ls : List Value} {w0 : Int32} {r : Nat} : ZW zG (d + 1) 253 1163 ls (.int w0 :: .ref r :: st) z Q = (zcls z r = 12 ∧ zcs st = true ∧ ZC zG d 115 [.ref r, .int w0] z (zk zG (d + 1) 253 (none) 1166 ls st Q)) := zc_V1 rfl (Nat.le_of_ble_eq_true rfl)
theorem s253_1166 {ls : List Value} {a b : Int32} : ZW zG d 253 1166 ls (.int b :: .int a :: st) z Q = if a = b then ZW zG d 253 1350 ls st z Q else ZW zG d 253 1169 ls st z Q := zw_iceq rfl
theorem s253_1169 {ls : List Value}  : ZW zG d 253 1169 ls (st) z Q = ZW zG d 253 1170 ls ((.int (nI 0)) :: st) z Q := zw_push rfl
theorem s253_1170 {ls : List Value} {a : Int32} : ZW zG d 253 1170 ls ([.int a]) z Q = ((a = 0 ∨ a = 1) ∧ Q (.inl (some (.int a))) z) := zw_retz rfl
theorem s253_1171 {x0 x1 x2 x3 : Value} : ZW zG d 253 1171 [x0, x1, x2, x3] st z Q = (zir x1 = true ∧ ZW zG d 253 1172 [x0, x1, x2, x3] (x1 :: st) z Q) := zw_cond (f := z_aload 1 1172) rfl rfl
theorem s253_1172 {x0 x1 x2 x3 : Value} : ZW zG d 253 1172 [x0, x1, x2, x3] st z Q = (zir x0 = true ∧ ZW zG d 253 1173 [x0, x1, x2, x3] (x0 :: st) z Q) := zw_cond (f := z_aload 0 1173) rfl rfl
theorem s253_1173 {x0 x1 x2 : Value} {a : Int32} : ZW zG d 253 1173 [x0, x1, x2, .int a] st z Q = ZW zG d 253 1174 [x0, x1, x2, .int a] (.int a :: st) z Q := zw_next (f := z_iload 3 1174) rfl rfl
theorem s253_1174 {ls : List Value}  : ZW zG d 253 1174 ls (st) z Q = ZW zG d 253 1175 ls ((.int (nI 1)) :: st) z Q := zw_push rfl
theorem s253_1175 {ls : List Value} {a b : Int32} : ZW zG d 253 1175 ls (.int b :: .int a :: st) z Q = ZW zG d 253 1176 ls (.int (a + b) :: st) z Q := zw_iadd rfl
theorem s253_1176 {ls : List Value} {a : Int32} {r : Nat} : ZW zG d 253 1176 ls (.int a :: .ref r :: st) z Q = ((zcls z r = 49 ∧ zin a (zlen z r) = true) ∧ ZW zG d 253 1177 ls (.int (zia z r (zx a)) :: st) (z) Q) := zw_iald rfl
theorem s253_1177 {x0 x1 x2 x3 : Value} : ZW zG d 253 1177 [x0, x1, x2, x3] st z Q = (zir x0 = true ∧ ZW zG d 253 1178 [x0, x1, x2, x3] (x0 :: st) z Q) := zw_cond (f := z_aload 0 1178) rfl rfl
theorem s253_1178 {x0 x1 x2 : Value} {a : Int32} : ZW zG d 253 1178 [x0, x1, x2, .int a] st z Q = ZW zG d 253 1179 [x0, x1, x2, .int a] (.int a :: st) z Q := zw_next (f := z_iload 3 1179) rfl rfl
theorem s253_1179 {ls : List Value}  : ZW zG d 253 1179 ls (st) z Q = ZW zG d 253 1180 ls ((.int (nI 2)) :: st) z Q := zw_push rfl
theorem s253_1180 {ls : List Value} {a b : Int32} : ZW zG d 253 1180 ls (.int b :: .int a :: st) z Q = ZW zG d 253 1181 ls (.int (a + b) :: st) z Q := zw_iadd rfl
theorem s253_1181 {ls : List Value} {a : Int32} {r : Nat} : ZW zG d 253 1181 ls (.int a :: .ref r :: st) z Q = ((zcls z r = 49 ∧ zin a (zlen z r) = true) ∧ ZW zG d 253 1182 ls (.int (zia z r (zx a)) :: st) (z) Q) := zw_iald rfl
theorem s253_1182 {x0 x1 x2 x3 : Value} : ZW zG d 253 1182 [x0, x1, x2, x3] st z Q = (zir x0 = true ∧ ZW zG d 253 1183 [x0, x1, x2, x3] (x0 :: st) z Q) := zw_cond (f := z_aload 0 1183) rfl rfl
theorem s253_1183 {x0 x1 x2 : Value} {a : Int32} : ZW zG d 253 1183 [x0, x1, x2, .int a] st z Q = ZW zG d 253 1184 [x0, x1, x2, .int a] (.int a :: st) z Q := zw_next (f := z_iload 3 1184) rfl rfl
theorem s253_1184 {ls : List Value}  : ZW zG d 253 1184 ls (st) z Q = ZW zG d 253 1185 ls ((.int (nI 3)) :: st) z Q := zw_push rfl
theorem s253_1185 {ls : List Value} {a b : Int32} : ZW zG d 253 1185 ls (.int b :: .int a :: st) z Q = ZW zG d 253 1186 ls (.int (a + b) :: st) z Q := zw_iadd rfl
theorem s253_1186 {ls : List Value} {a : Int32} {r : Nat} : ZW zG d 253 1186 ls (.int a :: .ref r :: st) z Q = ((zcls z r = 49 ∧ zin a (zlen z r) = true) ∧ ZW zG d 253 1187 ls (.int (zia z r (zx a)) :: st) (z) Q) := zw_iald rfl
theorem s253_1187 {ls : List Value} {w0 : Int32} {w1 : Int32} {w2 : Int32} {r : Nat} : ZW zG (d + 1) 253 1187 ls (.int w2 :: .int w1 :: .int w0 :: .ref r :: st) z Q = (zcls z r = 0 ∧ zcs st = true ∧ ZC zG d 0 [.ref r, .int w0, .int w1, .int w2] z (zk zG (d + 1) 253 (none) 1190 ls st Q)) := zc_V3 rfl (Nat.le_of_ble_eq_true rfl)
theorem s253_1190 {x0 x1 x2 x3 : Value} : ZW zG d 253 1190 [x0, x1, x2, x3] st z Q = (zir x2 = true ∧ ZW zG d 253 1191 [x0, x1, x2, x3] (x2 :: st) z Q) := zw_cond (f := z_aload 2 1191) rfl rfl
theorem s253_1191 {x0 x1 x2 x3 : Value} : ZW zG d 253 1191 [x0, x1, x2, x3] st z Q = (zir x0 = true ∧ ZW zG d 253 1192 [x0, x1, x2, x3] (x0 :: st) z Q) := zw_cond (f := z_aload 0 1192) rfl rfl
theorem s253_1192 {x0 x1 x2 : Value} {a : Int32} : ZW zG d 253 1192 [x0, x1, x2, .int a] st z Q = ZW zG d 253 1193 [x0, x1, x2, .int a] (.int a :: st) z Q := zw_next (f := z_iload 3 1193) rfl rfl
theorem s253_1193 {ls : List Value}  : ZW zG d 253 1193 ls (st) z Q = ZW zG d 253 1194 ls ((.int (nI 1)) :: st) z Q := zw_push rfl
theorem s253_1194 {ls : List Value} {a b : Int32} : ZW zG d 253 1194 ls (.int b :: .int a :: st) z Q = ZW zG d 253 1195 ls (.int (a + b) :: st) z Q := zw_iadd rfl
theorem s253_1195 {ls : List Value} {a : Int32} {r : Nat} : ZW zG d 253 1195 ls (.int a :: .ref r :: st) z Q = ((zcls z r = 49 ∧ zin a (zlen z r) = true) ∧ ZW zG d 253 1196 ls (.int (zia z r (zx a)) :: st) (z) Q) := zw_iald rfl
theorem s253_1196 {x0 x1 x2 x3 : Value} : ZW zG d 253 1196 [x0, x1, x2, x3] st z Q = (zir x0 = true ∧ ZW zG d 253 1197 [x0, x1, x2, x3] (x0 :: st) z Q) := zw_cond (f := z_aload 0 1197) rfl rfl
theorem s253_1197 {x0 x1 x2 : Value} {a : Int32} : ZW zG d 253 1197 [x0, x1, x2, .int a] st z Q = ZW zG d 253 1198 [x0, x1, x2, .int a] (.int a :: st) z Q := zw_next (f := z_iload 3 1198) rfl rfl
theorem s253_1198 {ls : List Value}  : ZW zG d 253 1198 ls (st) z Q = ZW zG d 253 1199 ls ((.int (nI 2)) :: st) z Q := zw_push rfl
theorem s253_1199 {ls : List Value} {a b : Int32} : ZW zG d 253 1199 ls (.int b :: .int a :: st) z Q = ZW zG d 253 1200 ls (.int (a + b) :: st) z Q := zw_iadd rfl
theorem s253_1200 {ls : List Value} {a : Int32} {r : Nat} : ZW zG d 253 1200 ls (.int a :: .ref r :: st) z Q = ((zcls z r = 49 ∧ zin a (zlen z r) = true) ∧ ZW zG d 253 1201 ls (.int (zia z r (zx a)) :: st) (z) Q) := zw_iald rfl
theorem s253_1201 {x0 x1 x2 x3 : Value} : ZW zG d 253 1201 [x0, x1, x2, x3] st z Q = (zir x0 = true ∧ ZW zG d 253 1202 [x0, x1, x2, x3] (x0 :: st) z Q) := zw_cond (f := z_aload 0 1202) rfl rfl
theorem s253_1202 {x0 x1 x2 : Value} {a : Int32} : ZW zG d 253 1202 [x0, x1, x2, .int a] st z Q = ZW zG d 253 1203 [x0, x1, x2, .int a] (.int a :: st) z Q := zw_next (f := z_iload 3 1203) rfl rfl
theorem s253_1203 {ls : List Value}  : ZW zG d 253 1203 ls (st) z Q = ZW zG d 253 1204 ls ((.int (nI 3)) :: st) z Q := zw_push rfl
theorem s253_1204 {ls : List Value} {a b : Int32} : ZW zG d 253 1204 ls (.int b :: .int a :: st) z Q = ZW zG d 253 1205 ls (.int (a + b) :: st) z Q := zw_iadd rfl
theorem s253_1205 {ls : List Value} {a : Int32} {r : Nat} : ZW zG d 253 1205 ls (.int a :: .ref r :: st) z Q = ((zcls z r = 49 ∧ zin a (zlen z r) = true) ∧ ZW zG d 253 1206 ls (.int (zia z r (zx a)) :: st) (z) Q) := zw_iald rfl
theorem s253_1206 {ls : List Value} {w0 : Int32} {w1 : Int32} {w2 : Int32} {r : Nat} : ZW zG (d + 1) 253 1206 ls (.int w2 :: .int w1 :: .int w0 :: .ref r :: st) z Q = (zcls z r = 12 ∧ zcs st = true ∧ ZC zG d 210 [.ref r, .int w0, .int w1, .int w2] z (zk zG (d + 1) 253 (none) 1209 ls st Q)) := zc_V3 rfl (Nat.le_of_ble_eq_true rfl)
theorem s253_1209 {ls : List Value} {a b : Int32} : ZW zG d 253 1209 ls (.int b :: .int a :: st) z Q = if a = b then ZW zG d 253 1350 ls st z Q else ZW zG d 253 1212 ls st z Q := zw_iceq rfl
theorem s253_1212 {ls : List Value}  : ZW zG d 253 1212 ls (st) z Q = ZW zG d 253 1213 ls ((.int (nI 0)) :: st) z Q := zw_push rfl
theorem s253_1213 {ls : List Value} {a : Int32} : ZW zG d 253 1213 ls ([.int a]) z Q = ((a = 0 ∨ a = 1) ∧ Q (.inl (some (.int a))) z) := zw_retz rfl
theorem s253_1214 {x0 x1 x2 x3 : Value} : ZW zG d 253 1214 [x0, x1, x2, x3] st z Q = (zir x1 = true ∧ ZW zG d 253 1215 [x0, x1, x2, x3] (x1 :: st) z Q) := zw_cond (f := z_aload 1 1215) rfl rfl
theorem s253_1215 {x0 x1 x2 x3 : Value} : ZW zG d 253 1215 [x0, x1, x2, x3] st z Q = (zir x0 = true ∧ ZW zG d 253 1216 [x0, x1, x2, x3] (x0 :: st) z Q) := zw_cond (f := z_aload 0 1216) rfl rfl
theorem s253_1216 {x0 x1 x2 : Value} {a : Int32} : ZW zG d 253 1216 [x0, x1, x2, .int a] st z Q = ZW zG d 253 1217 [x0, x1, x2, .int a] (.int a :: st) z Q := zw_next (f := z_iload 3 1217) rfl rfl
theorem s253_1217 {ls : List Value}  : ZW zG d 253 1217 ls (st) z Q = ZW zG d 253 1218 ls ((.int (nI 1)) :: st) z Q := zw_push rfl
theorem s253_1218 {ls : List Value} {a b : Int32} : ZW zG d 253 1218 ls (.int b :: .int a :: st) z Q = ZW zG d 253 1219 ls (.int (a + b) :: st) z Q := zw_iadd rfl
theorem s253_1219 {ls : List Value} {a : Int32} {r : Nat} : ZW zG d 253 1219 ls (.int a :: .ref r :: st) z Q = ((zcls z r = 49 ∧ zin a (zlen z r) = true) ∧ ZW zG d 253 1220 ls (.int (zia z r (zx a)) :: st) (z) Q) := zw_iald rfl
theorem s253_1220 {x0 x1 x2 x3 : Value} : ZW zG d 253 1220 [x0, x1, x2, x3] st z Q = (zir x0 = true ∧ ZW zG d 253 1221 [x0, x1, x2, x3] (x0 :: st) z Q) := zw_cond (f := z_aload 0 1221) rfl rfl
theorem s253_1221 {x0 x1 x2 : Value} {a : Int32} : ZW zG d 253 1221 [x0, x1, x2, .int a] st z Q = ZW zG d 253 1222 [x0, x1, x2, .int a] (.int a :: st) z Q := zw_next (f := z_iload 3 1222) rfl rfl
theorem s253_1222 {ls : List Value}  : ZW zG d 253 1222 ls (st) z Q = ZW zG d 253 1223 ls ((.int (nI 2)) :: st) z Q := zw_push rfl
theorem s253_1223 {ls : List Value} {a b : Int32} : ZW zG d 253 1223 ls (.int b :: .int a :: st) z Q = ZW zG d 253 1224 ls (.int (a + b) :: st) z Q := zw_iadd rfl
theorem s253_1224 {ls : List Value} {a : Int32} {r : Nat} : ZW zG d 253 1224 ls (.int a :: .ref r :: st) z Q = ((zcls z r = 49 ∧ zin a (zlen z r) = true) ∧ ZW zG d 253 1225 ls (.int (zia z r (zx a)) :: st) (z) Q) := zw_iald rfl
theorem s253_1225 {x0 x1 x2 x3 : Value} : ZW zG d 253 1225 [x0, x1, x2, x3] st z Q = (zir x0 = true ∧ ZW zG d 253 1226 [x0, x1, x2, x3] (x0 :: st) z Q) := zw_cond (f := z_aload 0 1226) rfl rfl
theorem s253_1226 {x0 x1 x2 : Value} {a : Int32} : ZW zG d 253 1226 [x0, x1, x2, .int a] st z Q = ZW zG d 253 1227 [x0, x1, x2, .int a] (.int a :: st) z Q := zw_next (f := z_iload 3 1227) rfl rfl
theorem s253_1227 {ls : List Value}  : ZW zG d 253 1227 ls (st) z Q = ZW zG d 253 1228 ls ((.int (nI 3)) :: st) z Q := zw_push rfl
theorem s253_1228 {ls : List Value} {a b : Int32} : ZW zG d 253 1228 ls (.int b :: .int a :: st) z Q = ZW zG d 253 1229 ls (.int (a + b) :: st) z Q := zw_iadd rfl
theorem s253_1229 {ls : List Value} {a : Int32} {r : Nat} : ZW zG d 253 1229 ls (.int a :: .ref r :: st) z Q = ((zcls z r = 49 ∧ zin a (zlen z r) = true) ∧ ZW zG d 253 1230 ls (.int (zia z r (zx a)) :: st) (z) Q) := zw_iald rfl
theorem s253_1230 {ls : List Value} {a : Int32} : ZW zG d 253 1230 ls (.int a :: st) z Q = ZW zG d 253 1231 ls (.long a.toInt64 :: st) z Q := zw_i2l rfl
theorem s253_1231 {ls : List Value}  : ZW zG d 253 1231 ls (st) z Q = ZW zG d 253 1233 ls ((.int (nI 32)) :: st) z Q := zw_push rfl
theorem s253_1233 {ls : List Value} {b : Int32} {x : Int64} : ZW zG d 253 1233 ls (.int b :: .long x :: st) z Q = ZW zG d 253 1234 ls (.long (x <<< (b.toInt64 &&& 63)) :: st) z Q := zw_lshl rfl
theorem s253_1234 {x0 x1 x2 x3 : Value} : ZW zG d 253 1234 [x0, x1, x2, x3] st z Q = (zir x0 = true ∧ ZW zG d 253 1235 [x0, x1, x2, x3] (x0 :: st) z Q) := zw_cond (f := z_aload 0 1235) rfl rfl
theorem s253_1235 {x0 x1 x2 : Value} {a : Int32} : ZW zG d 253 1235 [x0, x1, x2, .int a] st z Q = ZW zG d 253 1236 [x0, x1, x2, .int a] (.int a :: st) z Q := zw_next (f := z_iload 3 1236) rfl rfl
theorem s253_1236 {ls : List Value}  : ZW zG d 253 1236 ls (st) z Q = ZW zG d 253 1237 ls ((.int (nI 4)) :: st) z Q := zw_push rfl
theorem s253_1237 {ls : List Value} {a b : Int32} : ZW zG d 253 1237 ls (.int b :: .int a :: st) z Q = ZW zG d 253 1238 ls (.int (a + b) :: st) z Q := zw_iadd rfl
theorem s253_1238 {ls : List Value} {a : Int32} {r : Nat} : ZW zG d 253 1238 ls (.int a :: .ref r :: st) z Q = ((zcls z r = 49 ∧ zin a (zlen z r) = true) ∧ ZW zG d 253 1239 ls (.int (zia z r (zx a)) :: st) (z) Q) := zw_iald rfl
theorem s253_1239 {ls : List Value} {a : Int32} : ZW zG d 253 1239 ls (.int a :: st) z Q = ZW zG d 253 1240 ls (.long a.toInt64 :: st) z Q := zw_i2l rfl
theorem s253_1240 {ls : List Value}  : ZW zG d 253 1240 ls (st) z Q = ZW zG d 253 1243 ls ((.long (lN 4294967295)) :: st) z Q := zw_push rfl
theorem s253_1243 {ls : List Value} {x y : Int64} : ZW zG d 253 1243 ls (.long y :: .long x :: st) z Q = ZW zG d 253 1244 ls (.long (x &&& y) :: st) z Q := zw_land rfl
theorem s253_1244 {ls : List Value} {x y : Int64} : ZW zG d 253 1244 ls (.long y :: .long x :: st) z Q = ZW zG d 253 1245 ls (.long (x ||| y) :: st) z Q := zw_lor rfl
theorem s253_1245 {ls : List Value} {w0 : Int32} {w1 : Int32} {w2 : Int64} {r : Nat} : ZW zG (d + 1) 253 1245 ls (.long w2 :: .int w1 :: .int w0 :: .ref r :: st) z Q = (zcls z r = 0 ∧ zcs st = true ∧ ZC zG d 3 [.ref r, .int w0, .int w1, .long w2] z (zk zG (d + 1) 253 (none) 1248 ls st Q)) := zc_V3 rfl (Nat.le_of_ble_eq_true rfl)
theorem s253_1248 {x0 x1 x2 x3 : Value} : ZW zG d 253 1248 [x0, x1, x2, x3] st z Q = (zir x2 = true ∧ ZW zG d 253 1249 [x0, x1, x2, x3] (x2 :: st) z Q) := zw_cond (f := z_aload 2 1249) rfl rfl
theorem s253_1249 {x0 x1 x2 x3 : Value} : ZW zG d 253 1249 [x0, x1, x2, x3] st z Q = (zir x0 = true ∧ ZW zG d 253 1250 [x0, x1, x2, x3] (x0 :: st) z Q) := zw_cond (f := z_aload 0 1250) rfl rfl
theorem s253_1250 {x0 x1 x2 : Value} {a : Int32} : ZW zG d 253 1250 [x0, x1, x2, .int a] st z Q = ZW zG d 253 1251 [x0, x1, x2, .int a] (.int a :: st) z Q := zw_next (f := z_iload 3 1251) rfl rfl
theorem s253_1251 {ls : List Value}  : ZW zG d 253 1251 ls (st) z Q = ZW zG d 253 1252 ls ((.int (nI 1)) :: st) z Q := zw_push rfl
theorem s253_1252 {ls : List Value} {a b : Int32} : ZW zG d 253 1252 ls (.int b :: .int a :: st) z Q = ZW zG d 253 1253 ls (.int (a + b) :: st) z Q := zw_iadd rfl
theorem s253_1253 {ls : List Value} {a : Int32} {r : Nat} : ZW zG d 253 1253 ls (.int a :: .ref r :: st) z Q = ((zcls z r = 49 ∧ zin a (zlen z r) = true) ∧ ZW zG d 253 1254 ls (.int (zia z r (zx a)) :: st) (z) Q) := zw_iald rfl
theorem s253_1254 {x0 x1 x2 x3 : Value} : ZW zG d 253 1254 [x0, x1, x2, x3] st z Q = (zir x0 = true ∧ ZW zG d 253 1255 [x0, x1, x2, x3] (x0 :: st) z Q) := zw_cond (f := z_aload 0 1255) rfl rfl
theorem s253_1255 {x0 x1 x2 : Value} {a : Int32} : ZW zG d 253 1255 [x0, x1, x2, .int a] st z Q = ZW zG d 253 1256 [x0, x1, x2, .int a] (.int a :: st) z Q := zw_next (f := z_iload 3 1256) rfl rfl
theorem s253_1256 {ls : List Value}  : ZW zG d 253 1256 ls (st) z Q = ZW zG d 253 1257 ls ((.int (nI 2)) :: st) z Q := zw_push rfl
theorem s253_1257 {ls : List Value} {a b : Int32} : ZW zG d 253 1257 ls (.int b :: .int a :: st) z Q = ZW zG d 253 1258 ls (.int (a + b) :: st) z Q := zw_iadd rfl
theorem s253_1258 {ls : List Value} {a : Int32} {r : Nat} : ZW zG d 253 1258 ls (.int a :: .ref r :: st) z Q = ((zcls z r = 49 ∧ zin a (zlen z r) = true) ∧ ZW zG d 253 1259 ls (.int (zia z r (zx a)) :: st) (z) Q) := zw_iald rfl
theorem s253_1259 {x0 x1 x2 x3 : Value} : ZW zG d 253 1259 [x0, x1, x2, x3] st z Q = (zir x0 = true ∧ ZW zG d 253 1260 [x0, x1, x2, x3] (x0 :: st) z Q) := zw_cond (f := z_aload 0 1260) rfl rfl
theorem s253_1260 {x0 x1 x2 : Value} {a : Int32} : ZW zG d 253 1260 [x0, x1, x2, .int a] st z Q = ZW zG d 253 1261 [x0, x1, x2, .int a] (.int a :: st) z Q := zw_next (f := z_iload 3 1261) rfl rfl
theorem s253_1261 {ls : List Value}  : ZW zG d 253 1261 ls (st) z Q = ZW zG d 253 1262 ls ((.int (nI 3)) :: st) z Q := zw_push rfl
theorem s253_1262 {ls : List Value} {a b : Int32} : ZW zG d 253 1262 ls (.int b :: .int a :: st) z Q = ZW zG d 253 1263 ls (.int (a + b) :: st) z Q := zw_iadd rfl
theorem s253_1263 {ls : List Value} {a : Int32} {r : Nat} : ZW zG d 253 1263 ls (.int a :: .ref r :: st) z Q = ((zcls z r = 49 ∧ zin a (zlen z r) = true) ∧ ZW zG d 253 1264 ls (.int (zia z r (zx a)) :: st) (z) Q) := zw_iald rfl
theorem s253_1264 {ls : List Value} {a : Int32} : ZW zG d 253 1264 ls (.int a :: st) z Q = ZW zG d 253 1265 ls (.long a.toInt64 :: st) z Q := zw_i2l rfl
theorem s253_1265 {ls : List Value}  : ZW zG d 253 1265 ls (st) z Q = ZW zG d 253 1267 ls ((.int (nI 32)) :: st) z Q := zw_push rfl
theorem s253_1267 {ls : List Value} {b : Int32} {x : Int64} : ZW zG d 253 1267 ls (.int b :: .long x :: st) z Q = ZW zG d 253 1268 ls (.long (x <<< (b.toInt64 &&& 63)) :: st) z Q := zw_lshl rfl
theorem s253_1268 {x0 x1 x2 x3 : Value} : ZW zG d 253 1268 [x0, x1, x2, x3] st z Q = (zir x0 = true ∧ ZW zG d 253 1269 [x0, x1, x2, x3] (x0 :: st) z Q) := zw_cond (f := z_aload 0 1269) rfl rfl
theorem s253_1269 {x0 x1 x2 : Value} {a : Int32} : ZW zG d 253 1269 [x0, x1, x2, .int a] st z Q = ZW zG d 253 1270 [x0, x1, x2, .int a] (.int a :: st) z Q := zw_next (f := z_iload 3 1270) rfl rfl
theorem s253_1270 {ls : List Value}  : ZW zG d 253 1270 ls (st) z Q = ZW zG d 253 1271 ls ((.int (nI 4)) :: st) z Q := zw_push rfl
theorem s253_1271 {ls : List Value} {a b : Int32} : ZW zG d 253 1271 ls (.int b :: .int a :: st) z Q = ZW zG d 253 1272 ls (.int (a + b) :: st) z Q := zw_iadd rfl
theorem s253_1272 {ls : List Value} {a : Int32} {r : Nat} : ZW zG d 253 1272 ls (.int a :: .ref r :: st) z Q = ((zcls z r = 49 ∧ zin a (zlen z r) = true) ∧ ZW zG d 253 1273 ls (.int (zia z r (zx a)) :: st) (z) Q) := zw_iald rfl
theorem s253_1273 {ls : List Value} {a : Int32} : ZW zG d 253 1273 ls (.int a :: st) z Q = ZW zG d 253 1274 ls (.long a.toInt64 :: st) z Q := zw_i2l rfl
theorem s253_1274 {ls : List Value}  : ZW zG d 253 1274 ls (st) z Q = ZW zG d 253 1277 ls ((.long (lN 4294967295)) :: st) z Q := zw_push rfl
theorem s253_1277 {ls : List Value} {x y : Int64} : ZW zG d 253 1277 ls (.long y :: .long x :: st) z Q = ZW zG d 253 1278 ls (.long (x &&& y) :: st) z Q := zw_land rfl
theorem s253_1278 {ls : List Value} {x y : Int64} : ZW zG d 253 1278 ls (.long y :: .long x :: st) z Q = ZW zG d 253 1279 ls (.long (x ||| y) :: st) z Q := zw_lor rfl
theorem s253_1279 {ls : List Value} {w0 : Int32} {w1 : Int32} {w2 : Int64} {r : Nat} : ZW zG (d + 1) 253 1279 ls (.long w2 :: .int w1 :: .int w0 :: .ref r :: st) z Q = (zcls z r = 12 ∧ zcs st = true ∧ ZC zG d 211 [.ref r, .int w0, .int w1, .long w2] z (zk zG (d + 1) 253 (none) 1282 ls st Q)) := zc_V3 rfl (Nat.le_of_ble_eq_true rfl)
theorem s253_1282 {ls : List Value} {a b : Int32} : ZW zG d 253 1282 ls (.int b :: .int a :: st) z Q = if a = b then ZW zG d 253 1350 ls st z Q else ZW zG d 253 1285 ls st z Q := zw_iceq rfl
theorem s253_1285 {ls : List Value}  : ZW zG d 253 1285 ls (st) z Q = ZW zG d 253 1286 ls ((.int (nI 0)) :: st) z Q := zw_push rfl
theorem s253_1286 {ls : List Value} {a : Int32} : ZW zG d 253 1286 ls ([.int a]) z Q = ((a = 0 ∨ a = 1) ∧ Q (.inl (some (.int a))) z) := zw_retz rfl
theorem s253_1287 {x0 x1 x2 x3 : Value} : ZW zG d 253 1287 [x0, x1, x2, x3] st z Q = (zir x1 = true ∧ ZW zG d 253 1288 [x0, x1, x2, x3] (x1 :: st) z Q) := zw_cond (f := z_aload 1 1288) rfl rfl
theorem s253_1288 {x0 x1 x2 x3 : Value} : ZW zG d 253 1288 [x0, x1, x2, x3] st z Q = (zir x0 = true ∧ ZW zG d 253 1289 [x0, x1, x2, x3] (x0 :: st) z Q) := zw_cond (f := z_aload 0 1289) rfl rfl
theorem s253_1289 {x0 x1 x2 : Value} {a : Int32} : ZW zG d 253 1289 [x0, x1, x2, .int a] st z Q = ZW zG d 253 1290 [x0, x1, x2, .int a] (.int a :: st) z Q := zw_next (f := z_iload 3 1290) rfl rfl
theorem s253_1290 {ls : List Value}  : ZW zG d 253 1290 ls (st) z Q = ZW zG d 253 1291 ls ((.int (nI 1)) :: st) z Q := zw_push rfl
theorem s253_1291 {ls : List Value} {a b : Int32} : ZW zG d 253 1291 ls (.int b :: .int a :: st) z Q = ZW zG d 253 1292 ls (.int (a + b) :: st) z Q := zw_iadd rfl
theorem s253_1292 {ls : List Value} {a : Int32} {r : Nat} : ZW zG d 253 1292 ls (.int a :: .ref r :: st) z Q = ((zcls z r = 49 ∧ zin a (zlen z r) = true) ∧ ZW zG d 253 1293 ls (.int (zia z r (zx a)) :: st) (z) Q) := zw_iald rfl
theorem s253_1293 {x0 x1 x2 x3 : Value} : ZW zG d 253 1293 [x0, x1, x2, x3] st z Q = (zir x0 = true ∧ ZW zG d 253 1294 [x0, x1, x2, x3] (x0 :: st) z Q) := zw_cond (f := z_aload 0 1294) rfl rfl
theorem s253_1294 {x0 x1 x2 : Value} {a : Int32} : ZW zG d 253 1294 [x0, x1, x2, .int a] st z Q = ZW zG d 253 1295 [x0, x1, x2, .int a] (.int a :: st) z Q := zw_next (f := z_iload 3 1295) rfl rfl
theorem s253_1295 {ls : List Value}  : ZW zG d 253 1295 ls (st) z Q = ZW zG d 253 1296 ls ((.int (nI 2)) :: st) z Q := zw_push rfl
theorem s253_1296 {ls : List Value} {a b : Int32} : ZW zG d 253 1296 ls (.int b :: .int a :: st) z Q = ZW zG d 253 1297 ls (.int (a + b) :: st) z Q := zw_iadd rfl
theorem s253_1297 {ls : List Value} {a : Int32} {r : Nat} : ZW zG d 253 1297 ls (.int a :: .ref r :: st) z Q = ((zcls z r = 49 ∧ zin a (zlen z r) = true) ∧ ZW zG d 253 1298 ls (.int (zia z r (zx a)) :: st) (z) Q) := zw_iald rfl
theorem s253_1298 {x0 x1 x2 x3 : Value} : ZW zG d 253 1298 [x0, x1, x2, x3] st z Q = (zir x0 = true ∧ ZW zG d 253 1299 [x0, x1, x2, x3] (x0 :: st) z Q) := zw_cond (f := z_aload 0 1299) rfl rfl
theorem s253_1299 {x0 x1 x2 : Value} {a : Int32} : ZW zG d 253 1299 [x0, x1, x2, .int a] st z Q = ZW zG d 253 1300 [x0, x1, x2, .int a] (.int a :: st) z Q := zw_next (f := z_iload 3 1300) rfl rfl
theorem s253_1300 {ls : List Value}  : ZW zG d 253 1300 ls (st) z Q = ZW zG d 253 1301 ls ((.int (nI 3)) :: st) z Q := zw_push rfl
theorem s253_1301 {ls : List Value} {a b : Int32} : ZW zG d 253 1301 ls (.int b :: .int a :: st) z Q = ZW zG d 253 1302 ls (.int (a + b) :: st) z Q := zw_iadd rfl
theorem s253_1302 {ls : List Value} {a : Int32} {r : Nat} : ZW zG d 253 1302 ls (.int a :: .ref r :: st) z Q = ((zcls z r = 49 ∧ zin a (zlen z r) = true) ∧ ZW zG d 253 1303 ls (.int (zia z r (zx a)) :: st) (z) Q) := zw_iald rfl
theorem s253_1303 {x0 x1 x2 x3 : Value} : ZW zG d 253 1303 [x0, x1, x2, x3] st z Q = (zir x0 = true ∧ ZW zG d 253 1304 [x0, x1, x2, x3] (x0 :: st) z Q) := zw_cond (f := z_aload 0 1304) rfl rfl
theorem s253_1304 {x0 x1 x2 : Value} {a : Int32} : ZW zG d 253 1304 [x0, x1, x2, .int a] st z Q = ZW zG d 253 1305 [x0, x1, x2, .int a] (.int a :: st) z Q := zw_next (f := z_iload 3 1305) rfl rfl
theorem s253_1305 {ls : List Value}  : ZW zG d 253 1305 ls (st) z Q = ZW zG d 253 1306 ls ((.int (nI 4)) :: st) z Q := zw_push rfl
theorem s253_1306 {ls : List Value} {a b : Int32} : ZW zG d 253 1306 ls (.int b :: .int a :: st) z Q = ZW zG d 253 1307 ls (.int (a + b) :: st) z Q := zw_iadd rfl
theorem s253_1307 {ls : List Value} {a : Int32} {r : Nat} : ZW zG d 253 1307 ls (.int a :: .ref r :: st) z Q = ((zcls z r = 49 ∧ zin a (zlen z r) = true) ∧ ZW zG d 253 1308 ls (.int (zia z r (zx a)) :: st) (z) Q) := zw_iald rfl
theorem s253_1308 {x0 x1 x2 x3 : Value} : ZW zG d 253 1308 [x0, x1, x2, x3] st z Q = (zir x0 = true ∧ ZW zG d 253 1309 [x0, x1, x2, x3] (x0 :: st) z Q) := zw_cond (f := z_aload 0 1309) rfl rfl
theorem s253_1309 {x0 x1 x2 : Value} {a : Int32} : ZW zG d 253 1309 [x0, x1, x2, .int a] st z Q = ZW zG d 253 1310 [x0, x1, x2, .int a] (.int a :: st) z Q := zw_next (f := z_iload 3 1310) rfl rfl
theorem s253_1310 {ls : List Value}  : ZW zG d 253 1310 ls (st) z Q = ZW zG d 253 1311 ls ((.int (nI 5)) :: st) z Q := zw_push rfl
theorem s253_1311 {ls : List Value} {a b : Int32} : ZW zG d 253 1311 ls (.int b :: .int a :: st) z Q = ZW zG d 253 1312 ls (.int (a + b) :: st) z Q := zw_iadd rfl
theorem s253_1312 {ls : List Value} {a : Int32} {r : Nat} : ZW zG d 253 1312 ls (.int a :: .ref r :: st) z Q = ((zcls z r = 49 ∧ zin a (zlen z r) = true) ∧ ZW zG d 253 1313 ls (.int (zia z r (zx a)) :: st) (z) Q) := zw_iald rfl
theorem s253_1313 {ls : List Value} {w0 : Int32} {w1 : Int32} {w2 : Int32} {w3 : Int32} {w4 : Int32} {r : Nat} : ZW zG (d + 1) 253 1313 ls (.int w4 :: .int w3 :: .int w2 :: .int w1 :: .int w0 :: .ref r :: st) z Q = (zcls z r = 0 ∧ zcs st = true ∧ ZC zG d 4 [.ref r, .int w0, .int w1, .int w2, .int w3, .int w4] z (zk zG (d + 1) 253 (none) 1316 ls st Q)) := zc_V5 rfl (Nat.le_of_ble_eq_true rfl)
theorem s253_1316 {x0 x1 x2 x3 : Value} : ZW zG d 253 1316 [x0, x1, x2, x3] st z Q = (zir x2 = true ∧ ZW zG d 253 1317 [x0, x1, x2, x3] (x2 :: st) z Q) := zw_cond (f := z_aload 2 1317) rfl rfl
theorem s253_1317 {x0 x1 x2 x3 : Value} : ZW zG d 253 1317 [x0, x1, x2, x3] st z Q = (zir x0 = true ∧ ZW zG d 253 1318 [x0, x1, x2, x3] (x0 :: st) z Q) := zw_cond (f := z_aload 0 1318) rfl rfl
theorem s253_1318 {x0 x1 x2 : Value} {a : Int32} : ZW zG d 253 1318 [x0, x1, x2, .int a] st z Q = ZW zG d 253 1319 [x0, x1, x2, .int a] (.int a :: st) z Q := zw_next (f := z_iload 3 1319) rfl rfl
theorem s253_1319 {ls : List Value}  : ZW zG d 253 1319 ls (st) z Q = ZW zG d 253 1320 ls ((.int (nI 1)) :: st) z Q := zw_push rfl
theorem s253_1320 {ls : List Value} {a b : Int32} : ZW zG d 253 1320 ls (.int b :: .int a :: st) z Q = ZW zG d 253 1321 ls (.int (a + b) :: st) z Q := zw_iadd rfl
theorem s253_1321 {ls : List Value} {a : Int32} {r : Nat} : ZW zG d 253 1321 ls (.int a :: .ref r :: st) z Q = ((zcls z r = 49 ∧ zin a (zlen z r) = true) ∧ ZW zG d 253 1322 ls (.int (zia z r (zx a)) :: st) (z) Q) := zw_iald rfl
theorem s253_1322 {x0 x1 x2 x3 : Value} : ZW zG d 253 1322 [x0, x1, x2, x3] st z Q = (zir x0 = true ∧ ZW zG d 253 1323 [x0, x1, x2, x3] (x0 :: st) z Q) := zw_cond (f := z_aload 0 1323) rfl rfl
theorem s253_1323 {x0 x1 x2 : Value} {a : Int32} : ZW zG d 253 1323 [x0, x1, x2, .int a] st z Q = ZW zG d 253 1324 [x0, x1, x2, .int a] (.int a :: st) z Q := zw_next (f := z_iload 3 1324) rfl rfl
theorem s253_1324 {ls : List Value}  : ZW zG d 253 1324 ls (st) z Q = ZW zG d 253 1325 ls ((.int (nI 2)) :: st) z Q := zw_push rfl
theorem s253_1325 {ls : List Value} {a b : Int32} : ZW zG d 253 1325 ls (.int b :: .int a :: st) z Q = ZW zG d 253 1326 ls (.int (a + b) :: st) z Q := zw_iadd rfl
theorem s253_1326 {ls : List Value} {a : Int32} {r : Nat} : ZW zG d 253 1326 ls (.int a :: .ref r :: st) z Q = ((zcls z r = 49 ∧ zin a (zlen z r) = true) ∧ ZW zG d 253 1327 ls (.int (zia z r (zx a)) :: st) (z) Q) := zw_iald rfl
theorem s253_1327 {x0 x1 x2 x3 : Value} : ZW zG d 253 1327 [x0, x1, x2, x3] st z Q = (zir x0 = true ∧ ZW zG d 253 1328 [x0, x1, x2, x3] (x0 :: st) z Q) := zw_cond (f := z_aload 0 1328) rfl rfl
theorem s253_1328 {x0 x1 x2 : Value} {a : Int32} : ZW zG d 253 1328 [x0, x1, x2, .int a] st z Q = ZW zG d 253 1329 [x0, x1, x2, .int a] (.int a :: st) z Q := zw_next (f := z_iload 3 1329) rfl rfl
theorem s253_1329 {ls : List Value}  : ZW zG d 253 1329 ls (st) z Q = ZW zG d 253 1330 ls ((.int (nI 3)) :: st) z Q := zw_push rfl
theorem s253_1330 {ls : List Value} {a b : Int32} : ZW zG d 253 1330 ls (.int b :: .int a :: st) z Q = ZW zG d 253 1331 ls (.int (a + b) :: st) z Q := zw_iadd rfl
theorem s253_1331 {ls : List Value} {a : Int32} {r : Nat} : ZW zG d 253 1331 ls (.int a :: .ref r :: st) z Q = ((zcls z r = 49 ∧ zin a (zlen z r) = true) ∧ ZW zG d 253 1332 ls (.int (zia z r (zx a)) :: st) (z) Q) := zw_iald rfl
theorem s253_1332 {x0 x1 x2 x3 : Value} : ZW zG d 253 1332 [x0, x1, x2, x3] st z Q = (zir x0 = true ∧ ZW zG d 253 1333 [x0, x1, x2, x3] (x0 :: st) z Q) := zw_cond (f := z_aload 0 1333) rfl rfl
theorem s253_1333 {x0 x1 x2 : Value} {a : Int32} : ZW zG d 253 1333 [x0, x1, x2, .int a] st z Q = ZW zG d 253 1334 [x0, x1, x2, .int a] (.int a :: st) z Q := zw_next (f := z_iload 3 1334) rfl rfl
theorem s253_1334 {ls : List Value}  : ZW zG d 253 1334 ls (st) z Q = ZW zG d 253 1335 ls ((.int (nI 4)) :: st) z Q := zw_push rfl
theorem s253_1335 {ls : List Value} {a b : Int32} : ZW zG d 253 1335 ls (.int b :: .int a :: st) z Q = ZW zG d 253 1336 ls (.int (a + b) :: st) z Q := zw_iadd rfl
theorem s253_1336 {ls : List Value} {a : Int32} {r : Nat} : ZW zG d 253 1336 ls (.int a :: .ref r :: st) z Q = ((zcls z r = 49 ∧ zin a (zlen z r) = true) ∧ ZW zG d 253 1337 ls (.int (zia z r (zx a)) :: st) (z) Q) := zw_iald rfl
theorem s253_1337 {x0 x1 x2 x3 : Value} : ZW zG d 253 1337 [x0, x1, x2, x3] st z Q = (zir x0 = true ∧ ZW zG d 253 1338 [x0, x1, x2, x3] (x0 :: st) z Q) := zw_cond (f := z_aload 0 1338) rfl rfl
theorem s253_1338 {x0 x1 x2 : Value} {a : Int32} : ZW zG d 253 1338 [x0, x1, x2, .int a] st z Q = ZW zG d 253 1339 [x0, x1, x2, .int a] (.int a :: st) z Q := zw_next (f := z_iload 3 1339) rfl rfl
theorem s253_1339 {ls : List Value}  : ZW zG d 253 1339 ls (st) z Q = ZW zG d 253 1340 ls ((.int (nI 5)) :: st) z Q := zw_push rfl
theorem s253_1340 {ls : List Value} {a b : Int32} : ZW zG d 253 1340 ls (.int b :: .int a :: st) z Q = ZW zG d 253 1341 ls (.int (a + b) :: st) z Q := zw_iadd rfl
theorem s253_1341 {ls : List Value} {a : Int32} {r : Nat} : ZW zG d 253 1341 ls (.int a :: .ref r :: st) z Q = ((zcls z r = 49 ∧ zin a (zlen z r) = true) ∧ ZW zG d 253 1342 ls (.int (zia z r (zx a)) :: st) (z) Q) := zw_iald rfl
theorem s253_1342 {ls : List Value} {w0 : Int32} {w1 : Int32} {w2 : Int32} {w3 : Int32} {w4 : Int32} {r : Nat} : ZW zG (d + 1) 253 1342 ls (.int w4 :: .int w3 :: .int w2 :: .int w1 :: .int w0 :: .ref r :: st) z Q = (zcls z r = 12 ∧ zcs st = true ∧ ZC zG d 213 [.ref r, .int w0, .int w1, .int w2, .int w3, .int w4] z (zk zG (d + 1) 253 (none) 1345 ls st Q)) := zc_V5 rfl (Nat.le_of_ble_eq_true rfl)
theorem s253_1345 {ls : List Value} {a b : Int32} : ZW zG d 253 1345 ls (.int b :: .int a :: st) z Q = if a = b then ZW zG d 253 1350 ls st z Q else ZW zG d 253 1348 ls st z Q := zw_iceq rfl
theorem s253_1348 {ls : List Value}  : ZW zG d 253 1348 ls (st) z Q = ZW zG d 253 1349 ls ((.int (nI 0)) :: st) z Q := zw_push rfl
theorem s253_1349 {ls : List Value} {a : Int32} : ZW zG d 253 1349 ls ([.int a]) z Q = ((a = 0 ∨ a = 1) ∧ Q (.inl (some (.int a))) z) := zw_retz rfl
theorem s253_1350 {x0 x1 x2 : Value} {a : Int32} : ZW zG d 253 1350 [x0, x1, x2, .int a] st z Q = ZW zG d 253 1353 [x0, x1, zclr x2, .int (a + (nI 6))] st z Q := zw_next (f := z_iinc 3 (nI 6) 1353) rfl rfl
theorem s253_1353 {ls : List Value}  : ZW zG d 253 1353 ls (st) z Q = ZW zG d 253 18 ls st z Q := zw_goto rfl
theorem s253_1356 {ls : List Value}  : ZW zG d 253 1356 ls (st) z Q = ZW zG d 253 1357 ls ((.int (nI 1)) :: st) z Q := zw_push rfl
theorem s253_1357 {ls : List Value} {a : Int32} : ZW zG d 253 1357 ls ([.int a]) z Q = ((a = 0 ∨ a = 1) ∧ Q (.inl (some (.int a))) z) := zw_retz rfl
end ZSITE
